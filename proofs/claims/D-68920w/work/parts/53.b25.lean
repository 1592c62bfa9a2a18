set_option maxRecDepth 100000
set_option maxHeartbeats 4000000
theorem BX3_endWord_b150 {σo : fS} {q : (Unit ⊕ Nat) × fS} {N : Nat} {K46 : Int → fS → Option ((Unit ⊕ Nat) × fS)} (hk46 : ∀ {s : fS} {l1 : Int}, bE 0 σo s → K46 l1 s = some q → bE 0 σo q.2) {s : fS} {l1 : Int} (E : bE 0 σo s) (hF : FX3_endWord_b150 N K46 l1 s = some q) : bE 0 σo q.2 := by
  unfold FX3_endWord_b150 at hF
  exact hk46 E hF
theorem BX3_endWord_b82 {σo : fS} {q : (Unit ⊕ Nat) × fS} {N : Nat} {K46 : Int → fS → Option ((Unit ⊕ Nat) × fS)} (hk46 : ∀ {s : fS} {l1 : Int}, bE 0 σo s → K46 l1 s = some q → bE 0 σo q.2) {s : fS} {l1 : Int} (E : bE 0 σo s) (hF : FX3_endWord_b82 N K46 l1 s = some q) : bE 0 σo q.2 := by
  unfold FX3_endWord_b82 at hF
  refine b_if hF (fun hF => ?_) (fun hF => ?_)
  ·
    exact BX3_endWord_b150 (N := N) (K46 := K46) @hk46 E hF
  ·
    refine b_call E (fun _ hq => (BX34_kind (bE.rf E.S) (E.S.c0 (Nat.le_of_ble_eq_true rfl)) hq)) hF (fun _ hq5 D5 E5 hF => ?_)
    refine b_call E5 (fun _ hq => (BX34_of (bE.rf E5.S) (E5.S.c0 (Nat.le_of_ble_eq_true rfl)) hq)) hF (fun _ hq8 D8 E8 hF => ?_)
    refine b_call E8 (fun _ hq => (BX34_of (bE.rf E8.S) (E8.S.c0 (Nat.le_of_ble_eq_true rfl)) hq)) hF (fun _ hq11 D11 E11 hF => ?_)
    refine b_call E11 (fun _ hq => (BX34_of (bE.rf E11.S) (E11.S.c0 (Nat.le_of_ble_eq_true rfl)) hq)) hF (fun _ hq14 D14 E14 hF => ?_)
    refine b_call E14 (fun _ hq => (BX34_of (bE.rf E14.S) (E14.S.c0 (Nat.le_of_ble_eq_true rfl)) hq)) hF (fun _ hq17 D17 E17 hF => ?_)
    refine b_call E17 (fun _ hq => (BX34_of (bE.rf E17.S) (E17.S.c0 (Nat.le_of_ble_eq_true rfl)) hq)) hF (fun _ hq20 D20 E20 hF => ?_)
    refine b_tB E20 (fun _ hq => BX3_put (bE.rf E20.S) hq) hF (fun _ _ D22 E22 hF => ?_)
    exact BX3_endWord_b150 (N := N) (K46 := K46) @hk46 E22 hF
theorem BX3_endWord_b206 {σo : fS} {q : (Unit ⊕ Nat) × fS} {N : Nat} {s : fS} (E : bE 0 σo s) (hF : FX3_endWord_b206 N s = some q) : bE 0 σo q.2 := by
  unfold FX3_endWord_b206 at hF
  refine b_pI E (E.S.c0 (Nat.le_of_ble_eq_true rfl)) hF (fun _ D1 E1 hF => ?_)
  exact b_ret E1 hF
theorem BX3_endWord_b190 {σo : fS} {q : (Unit ⊕ Nat) × fS} {N : Nat} {s : fS} {s0 : Int} (E : bE 0 σo s) (hF : FX3_endWord_b190 N s0 s = some q) : bE 0 σo q.2 := by
  unfold FX3_endWord_b190 at hF
  refine b_if hF (fun hF => ?_) (fun hF => ?_)
  ·
    exact BX3_endWord_b206 (N := N) E hF
  ·
    refine b_tB E (fun _ hq => BX3_put (bE.rf E.S) hq) hF (fun _ _ D2 E2 hF => ?_)
    exact BX3_endWord_b206 (N := N) E2 hF
theorem BX3_endWord_b189 {σo : fS} {q : (Unit ⊕ Nat) × fS} {N : Nat} {s : fS} (E : bE 0 σo s) (hF : FX3_endWord_b189 N s = some q) : bE 0 σo q.2 := by
  unfold FX3_endWord_b189 at hF
  exact BX3_endWord_b190 (N := N) E hF
theorem BX3_endWord_b46 {σo : fS} {q : (Unit ⊕ Nat) × fS} {N : Nat} : ∀ {n : Nat} {s : fS} {l1 : Int}, bE 0 σo s → FX3_endWord_b46 N n l1 s = some q → bE 0 σo q.2 := by
  intro n
  induction n with
  | zero => intro s l1 E  hF; simp [FX3_endWord_b46] at hF
  | succ n ih =>
    intro s l1 E  hF
    rw [FX3_endWord_b46] at hF
    refine b_if hF (fun hF => ?_) (fun hF => ?_)
    ·
      refine b_rv hF (fun _ hF => ?_)
      refine b_if hF (fun hF => ?_) (fun hF => ?_)
      ·
        exact BX3_endWord_b189 (N := N) E hF
      ·
        refine b_rv hF (fun _ hF => ?_)
        refine b_if hF (fun hF => ?_) (fun hF => ?_)
        ·
          exact BX3_endWord_b189 (N := N) E hF
        ·
          exact BX3_endWord_b190 (N := N) E hF
    ·
      refine b_rv hF (fun _ hF => ?_)
      refine b_if hF (fun hF => ?_) (fun hF => ?_)
      ·
        exact BX3_endWord_b82 (N := N) (K46 := FX3_endWord_b46 N n) @ih E hF
      ·
        refine b_rv hF (fun _ hF => ?_)
        refine b_tB E (fun _ hq => BX3_addHyphen (bE.rf E.S) hq) hF (fun _ _ D15 E15 hF => ?_)
        exact BX3_endWord_b82 (N := N) (K46 := FX3_endWord_b46 N n) @ih E15 hF
theorem BX3_endWord {σo : fS} {q : (Unit ⊕ Nat) × fS} {N : Nat} {s : fS} (E : bE 0 σo s) (hF : FX3_endWord N s = some q) : bE 0 σo q.2 := by
  unfold FX3_endWord at hF
  refine b_if hF (fun hF => ?_) (fun hF => ?_)
  ·
    refine b_pI E (E.S.c0 (Nat.le_of_ble_eq_true rfl)) hF (fun _ D3 E3 hF => ?_)
    refine b_call E3 (fun _ hq => (BX3_setRow (N := N) (bE.rf E3.S) (E3.S.c0 (Nat.le_of_ble_eq_true rfl)) (E3.S.c0 (Nat.le_of_ble_eq_true rfl)) hq)) hF (fun _ hq9 D9 E9 hF => ?_)
    refine b_tB E9 (fun _ hq => BX4_want (bE.rf E9.S) hq) hF (fun _ _ D11 E11 hF => ?_)
    refine b_call E11 (fun _ hq => (BX3_findHyphens (N := N) (bE.rf E11.S) hq)) hF (fun _ hq13 D13 E13 hF => ?_)
    exact BX3_endWord_b46 (N := N) E13 hF
  ·
    exact b_ret E hF
theorem BX3_isVertical_b18 {σo : fS} {q : Int × fS} {s : fS} {s0 : Int} (E : bE 0 σo s) (hF : FX3_isVertical_b18 s0 s = some q) : bE 0 σo q.2 := by
  unfold FX3_isVertical_b18 at hF
  exact b_z E hF
theorem BX3_isVertical {σo : fS} {q : Int × fS} {s : fS} (E : bE 0 σo s) (hF : FX3_isVertical s = some q) : bE 0 σo q.2 := by
  unfold FX3_isVertical at hF
  refine b_rv hF (fun _ hF => ?_)
  refine b_if hF (fun hF => ?_) (fun hF => ?_)
  ·
    exact BX3_isVertical_b18 E hF
  ·
    exact BX3_isVertical_b18 E hF
theorem BX27_grownBytes {σo : fS} {q : Nat × fS} {s : fS} {p0 : Nat} (E : bE 0 σo s) (op0 : bO 0 s p0) (hF : FX27_grownBytes p0 s = some q) : bE 0 σo q.2 ∧ bO 0 q.2 q.1 := by
  unfold FX27_grownBytes at hF
  refine b_KL hF (fun hF => ?_)
  refine b_nA E hF (fun _ D2 E2 o2 hF => ?_)
  refine b_KL hF (fun hF => ?_)
  refine b_KA hF (fun hF => ?_)
  refine b_KA hF (fun hF => ?_)
  refine b_cp E2 o2 hF (fun _ D4 E4 hF => ?_)
  exact ⟨b_ret E4 hF, by cases hF; exact (o2.up D4)⟩
theorem BX27_add_b98 {σo : fS} {q : Unit × fS} {s : fS} {l1 : Int} {l2 : Int} {l3 : Int} {l4 : Int} {l5 : Int} {l6 : Int} (E : bE 0 σo s) (hF : FX27_add_b98 l1 l2 l3 l4 l5 l6 s = some q) : bE 0 σo q.2 := by
  unfold FX27_add_b98 at hF
  refine b_qI E (E.S.c0 (Nat.le_of_ble_eq_true rfl)) hF (fun _ D3 E3 hF => ?_)
  refine b_qI E3 (E3.S.c0 (Nat.le_of_ble_eq_true rfl)) hF (fun _ D6 E6 hF => ?_)
  refine b_qI E6 (E6.S.c0 (Nat.le_of_ble_eq_true rfl)) hF (fun _ D9 E9 hF => ?_)
  refine b_qI E9 (E9.S.c0 (Nat.le_of_ble_eq_true rfl)) hF (fun _ D12 E12 hF => ?_)
  refine b_qI E12 (E12.S.c0 (Nat.le_of_ble_eq_true rfl)) hF (fun _ D15 E15 hF => ?_)
  refine b_qI E15 (E15.S.c0 (Nat.le_of_ble_eq_true rfl)) hF (fun _ D18 E18 hF => ?_)
  refine b_pI E18 (E18.S.c0 (Nat.le_of_ble_eq_true rfl)) hF (fun _ D20 E20 hF => ?_)
  exact b_ret E20 hF
theorem BX27_add {σo : fS} {q : Unit × fS} {s : fS} {p0 : Int} {p1 : Int} {p2 : Int} {p3 : Int} {p4 : Int} {p5 : Int} (E : bE 0 σo s) (hF : FX27_add p0 p1 p2 p3 p4 p5 s = some q) : bE 0 σo q.2 := by
  unfold FX27_add at hF
  refine b_if hF (fun hF => ?_) (fun hF => ?_)
  ·
    exact BX27_add_b98 E hF
  ·
    refine b_call E (fun _ hq => (BX27_grownBytes (bE.rf E.S) (E.S.c0 (Nat.le_of_ble_eq_true rfl)) hq).1) hF (fun _ hq5 D5 E5 hF => ?_)
    refine b_mv E5 (E5.S.c0 (Nat.le_of_ble_eq_true rfl)) (BX27_grownBytes (bE.rf E.S) (E.S.c0 (Nat.le_of_ble_eq_true rfl)) hq5).2 hF (fun _ D6 E6 hF => ?_)
    refine b_call E6 (fun _ hq => (BX27_grownBytes (bE.rf E6.S) (E6.S.c0 (Nat.le_of_ble_eq_true rfl)) hq).1) hF (fun _ hq8 D8 E8 hF => ?_)
    refine b_mv E8 (E8.S.c0 (Nat.le_of_ble_eq_true rfl)) (BX27_grownBytes (bE.rf E6.S) (E6.S.c0 (Nat.le_of_ble_eq_true rfl)) hq8).2 hF (fun _ D9 E9 hF => ?_)
    refine b_call E9 (fun _ hq => (BX1_grown (bE.rf E9.S) (E9.S.c0 (Nat.le_of_ble_eq_true rfl)) hq).1) hF (fun _ hq13 D13 E13 hF => ?_)
    refine b_mv E13 (E13.S.c0 (Nat.le_of_ble_eq_true rfl)) (BX1_grown (bE.rf E9.S) (E9.S.c0 (Nat.le_of_ble_eq_true rfl)) hq13).2 hF (fun _ D14 E14 hF => ?_)
    refine b_call E14 (fun _ hq => (BX1_grown (bE.rf E14.S) (E14.S.c0 (Nat.le_of_ble_eq_true rfl)) hq).1) hF (fun _ hq18 D18 E18 hF => ?_)
    refine b_mv E18 (E18.S.c0 (Nat.le_of_ble_eq_true rfl)) (BX1_grown (bE.rf E14.S) (E14.S.c0 (Nat.le_of_ble_eq_true rfl)) hq18).2 hF (fun _ D19 E19 hF => ?_)
    refine b_call E19 (fun _ hq => (BX1_grown (bE.rf E19.S) (E19.S.c0 (Nat.le_of_ble_eq_true rfl)) hq).1) hF (fun _ hq23 D23 E23 hF => ?_)
    refine b_mv E23 (E23.S.c0 (Nat.le_of_ble_eq_true rfl)) (BX1_grown (bE.rf E19.S) (E19.S.c0 (Nat.le_of_ble_eq_true rfl)) hq23).2 hF (fun _ D24 E24 hF => ?_)
    refine b_call E24 (fun _ hq => (BX1_grown (bE.rf E24.S) (E24.S.c0 (Nat.le_of_ble_eq_true rfl)) hq).1) hF (fun _ hq28 D28 E28 hF => ?_)
    refine b_mv E28 (E28.S.c0 (Nat.le_of_ble_eq_true rfl)) (BX1_grown (bE.rf E24.S) (E24.S.c0 (Nat.le_of_ble_eq_true rfl)) hq28).2 hF (fun _ D29 E29 hF => ?_)
    exact BX27_add_b98 E29 hF
theorem BX27_kind_b22 {σo : fS} {q : Int × fS} {s : fS} {s0 : Int} (E : bE 0 σo s) (hF : FX27_kind_b22 s0 s = some q) : bE 0 σo q.2 := by
  unfold FX27_kind_b22 at hF
  exact b_ret E hF
theorem BX27_kind_b21 {σo : fS} {q : Int × fS} {s : fS} (E : bE 0 σo s) (hF : FX27_kind_b21 s = some q) : bE 0 σo q.2 := by
  unfold FX27_kind_b21 at hF
  exact BX27_kind_b22 E hF
theorem BX27_kind {σo : fS} {q : Int × fS} {s : fS} {p0 : Int} (E : bE 0 σo s) (hF : FX27_kind p0 s = some q) : bE 0 σo q.2 := by
  unfold FX27_kind at hF
  refine b_if hF (fun hF => ?_) (fun hF => ?_)
  ·
    exact BX27_kind_b21 E hF
  ·
    refine b_if hF (fun hF => ?_) (fun hF => ?_)
    ·
      exact BX27_kind_b21 E hF
    ·
      refine b_rv hF (fun _ hF => ?_)
      exact BX27_kind_b22 E hF
theorem BX28_canStep_b61 {σo : fS} {q : Int × fS} {s : fS} {s0 : Int} (E : bE 0 σo s) (hF : FX28_canStep_b61 s0 s = some q) : bE 0 σo q.2 := by
  unfold FX28_canStep_b61 at hF
  exact b_z E hF
theorem BX28_canStep_b56 {σo : fS} {q : Int × fS} {s : fS} (E : bE 0 σo s) (hF : FX28_canStep_b56 s = some q) : bE 0 σo q.2 := by
  unfold FX28_canStep_b56 at hF
  exact BX28_canStep_b61 E hF
theorem BX28_canStep_b60 {σo : fS} {q : Int × fS} {s : fS} (E : bE 0 σo s) (hF : FX28_canStep_b60 s = some q) : bE 0 σo q.2 := by
  unfold FX28_canStep_b60 at hF
  exact BX28_canStep_b61 E hF
theorem BX28_canStep {σo : fS} {q : Int × fS} {s : fS} (E : bE 0 σo s) (hF : FX28_canStep s = some q) : bE 0 σo q.2 := by
  unfold FX28_canStep at hF
  refine b_if hF (fun hF => ?_) (fun hF => ?_)
  ·
    exact BX28_canStep_b60 E hF
  ·
    refine b_call E (fun _ hq => (BX27_kind (bE.rf E.S) hq)) hF (fun _ hq7 D7 E7 hF => ?_)
    refine b_if hF (fun hF => ?_) (fun hF => ?_)
    ·
      exact BX28_canStep_b56 E7 hF
    ·
      refine b_if hF (fun hF => ?_) (fun hF => ?_)
      ·
        exact BX28_canStep_b56 E7 hF
      ·
        refine b_o E7 (E7.S.c0 (Nat.le_of_ble_eq_true rfl)) hF (fun _ o11 hF => ?_)
        refine b_K hF (fun hF => ?_)
        refine b_if hF (fun hF => ?_) (fun hF => ?_)
        ·
          exact BX28_canStep_b60 E7 hF
        ·
          exact BX28_canStep_b56 E7 hF
theorem BX30_crown {σo : fS} {q : Unit × fS} {N : Nat} {s : fS} {this : Nat} {p1 : Nat} (E : bE 0 σo s) (othis : bO 0 s this) (op1 : bO 0 s p1) (hF : FX30_crown N this p1 s = some q) : bE 0 σo q.2 := by
  unfold FX30_crown at hF
  refine b_K hF (fun hF => ?_)
  refine b_call E (fun _ hq => (BX29_clear (N := N) (bE.rf E.S) op1 hq)) hF (fun _ hq2 D2 E2 hF => ?_)
  refine b_K hF (fun hF => ?_)
  refine b_K hF (fun hF => ?_)
  refine b_rv hF (fun _ hF => ?_)
  refine b_K hF (fun hF => ?_)
  refine b_pJ E2 (op1.up D2) hF (fun _ D7 E7 hF => ?_)
  exact b_ret E7 hF
theorem BX28_open {σo : fS} {q : Unit × fS} {N : Nat} {s : fS} {p0 : Int} (E : bE 0 σo s) (hF : FX28_open N p0 s = some q) : bE 0 σo q.2 := by
  unfold FX28_open at hF
  refine b_o E (E.S.c0 (Nat.le_of_ble_eq_true rfl)) hF (fun _ o1 hF => ?_)
  refine b_K hF (fun hF => ?_)
  refine b_pI E o1 hF (fun _ D2 E2 hF => ?_)
  refine b_o E2 (E2.S.c0 (Nat.le_of_ble_eq_true rfl)) hF (fun _ o3 hF => ?_)
  refine b_K hF (fun hF => ?_)
  refine b_pI E2 o3 hF (fun _ D5 E5 hF => ?_)
  refine b_o E5 (E5.S.c0 (Nat.le_of_ble_eq_true rfl)) hF (fun _ o6 hF => ?_)
  refine b_K hF (fun hF => ?_)
  refine b_pI E5 o6 hF (fun _ D8 E8 hF => ?_)
  refine b_o E8 (E8.S.c0 (Nat.le_of_ble_eq_true rfl)) hF (fun _ o9 hF => ?_)
  refine b_K hF (fun hF => ?_)
  refine b_pI E8 o9 hF (fun _ D11 E11 hF => ?_)
  refine b_o E11 (E11.S.c0 (Nat.le_of_ble_eq_true rfl)) hF (fun _ o12 hF => ?_)
  refine b_K hF (fun hF => ?_)
  refine b_call E11 (fun _ hq => (BX30_crown (N := N) (bE.rf E11.S) o12 (E11.S.c0 (Nat.le_of_ble_eq_true rfl)) hq)) hF (fun _ hq16 D16 E16 hF => ?_)
  exact b_ret E16 hF
theorem BX29_space {σo : fS} {q : Unit × fS} {s : fS} {this : Nat} {p0 : Int} (E : bE 0 σo s) (othis : bO 0 s this) (hF : FX29_space this p0 s = some q) : bE 0 σo q.2 := by
  unfold FX29_space at hF
  refine b_K hF (fun hF => ?_)
  refine b_K hF (fun hF => ?_)
  refine b_K hF (fun hF => ?_)
  refine b_pJ E othis hF (fun _ D3 E3 hF => ?_)
  refine b_K hF (fun hF => ?_)
  refine b_pJ E3 (othis.up D3) hF (fun _ D4 E4 hF => ?_)
  exact b_ret E4 hF
theorem BX29_add_b164 {σo : fS} {q : Unit × fS} {s : fS} (E : bE 0 σo s) (hF : FX29_add_b164 s = some q) : bE 0 σo q.2 := by
  unfold FX29_add_b164 at hF
  exact b_ret E hF
theorem BX29_add {σo : fS} {q : Unit × fS} {s : fS} {this : Nat} {p1 : Int} {p2 : Int} (E : bE 0 σo s) (othis : bO 0 s this) (hF : FX29_add this p1 p2 s = some q) : bE 0 σo q.2 := by
  unfold FX29_add at hF
  refine b_rv hF (fun _ hF => ?_)
  refine b_if hF (fun hF => ?_) (fun hF => ?_)
  ·
    refine b_K hF (fun hF => ?_)
    refine b_K hF (fun hF => ?_)
    refine b_rv hF (fun _ hF => ?_)
    refine b_K hF (fun hF => ?_)
    refine b_pJ E othis hF (fun _ D7 E7 hF => ?_)
    refine b_rv hF (fun _ hF => ?_)
    refine b_K hF (fun hF => ?_)
    refine b_pJ E7 (othis.up D7) hF (fun _ D10 E10 hF => ?_)
    refine b_K hF (fun hF => ?_)
    refine b_if hF (fun hF => ?_) (fun hF => ?_)
    ·
      exact BX29_add_b164 E10 hF
    ·
      refine b_K hF (fun hF => ?_)
      refine b_K hF (fun hF => ?_)
      refine b_K hF (fun hF => ?_)
      refine b_pJ E10 ((othis.up D7).up D10) hF (fun _ D14 E14 hF => ?_)
      refine b_K hF (fun hF => ?_)
      refine b_pJ E14 (((othis.up D7).up D10).up D14) hF (fun _ D15 E15 hF => ?_)
      exact BX29_add_b164 E15 hF
  ·
    refine b_if hF (fun hF => ?_) (fun hF => ?_)
    ·
      refine b_K hF (fun hF => ?_)
      refine b_o E othis hF (fun _ o16 hF => ?_)
      refine b_rv hF (fun _ hF => ?_)
      refine b_KA hF (fun hF => ?_)
      refine b_rv hF (fun _ hF => ?_)
      refine b_rv hF (fun _ hF => ?_)
      refine b_KA hF (fun hF => ?_)
      refine b_qJ E o16 hF (fun _ D22 E22 hF => ?_)
      refine b_K hF (fun hF => ?_)
      refine b_rv hF (fun _ hF => ?_)
      refine b_K hF (fun hF => ?_)
      refine b_pJ E22 (othis.up D22) hF (fun _ D26 E26 hF => ?_)
      refine b_rv hF (fun _ hF => ?_)
      refine b_K hF (fun hF => ?_)
      refine b_call E26 (fun _ hq => (BX29_space (bE.rf E26.S) ((othis.up D22).up D26) hq)) hF (fun _ hq30 D30 E30 hF => ?_)
      exact BX29_add_b164 E30 hF
    ·
      refine b_if hF (fun hF => ?_) (fun hF => ?_)
      ·
        refine b_rv hF (fun _ hF => ?_)
        refine b_K hF (fun hF => ?_)
        refine b_call E (fun _ hq => (BX29_space (bE.rf E.S) othis hq)) hF (fun _ hq34 D34 E34 hF => ?_)
        exact BX29_add_b164 E34 hF
      ·
        exact BX29_add_b164 E hF
theorem BX28_penalty_b34 {σo : fS} {q : Int × fS} {s : fS} {s0 : Int} (E : bE 0 σo s) (hF : FX28_penalty_b34 s0 s = some q) : bE 0 σo q.2 := by
  unfold FX28_penalty_b34 at hF
  exact b_ret E hF
theorem BX28_penalty_b61 {σo : fS} {q : Int × fS} {s : fS} {s0 : Int} (E : bE 0 σo s) (hF : FX28_penalty_b61 s0 s = some q) : bE 0 σo q.2 := by
  unfold FX28_penalty_b61 at hF
  exact b_ret E hF
theorem BX28_penalty_b82 {σo : fS} {q : Int × fS} {s : fS} {s0 : Int} (E : bE 0 σo s) (hF : FX28_penalty_b82 s0 s = some q) : bE 0 σo q.2 := by
  unfold FX28_penalty_b82 at hF
  exact b_ret E hF
theorem BX28_penalty {σo : fS} {q : Int × fS} {s : fS} {p0 : Int} (E : bE 0 σo s) (hF : FX28_penalty p0 s = some q) : bE 0 σo q.2 := by
  unfold FX28_penalty at hF
  refine b_call E (fun _ hq => (BX27_kind (bE.rf E.S) hq)) hF (fun _ hq3 D3 E3 hF => ?_)
  refine b_if hF (fun hF => ?_) (fun hF => ?_)
  ·
    refine b_if hF (fun hF => ?_) (fun hF => ?_)
    ·
      refine b_if hF (fun hF => ?_) (fun hF => ?_)
      ·
        exact BX28_penalty_b82 E3 hF
      ·
        refine b_rv hF (fun _ hF => ?_)
        exact BX28_penalty_b82 E3 hF
    ·
      refine b_call E3 (fun _ hq => (BX27_kind (bE.rf E3.S) hq)) hF (fun _ hq9 D9 E9 hF => ?_)
      refine b_if hF (fun hF => ?_) (fun hF => ?_)
      ·
        exact BX28_penalty_b61 E9 hF
      ·
        exact BX28_penalty_b61 E9 hF
  ·
    refine b_call E3 (fun _ hq => (BX27_kind (bE.rf E3.S) hq)) hF (fun _ hq12 D12 E12 hF => ?_)
    refine b_if hF (fun hF => ?_) (fun hF => ?_)
    ·
      exact BX28_penalty_b34 E12 hF
    ·
      exact BX28_penalty_b34 E12 hF
theorem BX29_order_b23 {σo : fS} {q : Int × fS} {N : Nat} {s : fS} {l1 : Int} (E : bE 0 σo s) (hF : FX29_order_b23 N l1 s = some q) : bE 0 σo q.2 := by
  unfold FX29_order_b23 at hF
  exact b_ret E hF
theorem BX29_order_b2 {σo : fS} {q : Int × fS} {N : Nat} : ∀ {n : Nat} {s : fS} {l0 : Nat} {l1 : Int}, bE 0 σo s → bO 0 s l0 → FX29_order_b2 N n l0 l1 s = some q → bE 0 σo q.2 := by
  intro n
  induction n with
  | zero => intro s l0 l1 E ol0 hF; simp [FX29_order_b2] at hF
  | succ n ih =>
    intro s l0 l1 E ol0 hF
    rw [FX29_order_b2] at hF
    refine b_if hF (fun hF => ?_) (fun hF => ?_)
    ·
      exact BX29_order_b23 (N := N) E hF
    ·
      refine b_K hF (fun hF => ?_)
      refine b_o E ol0 hF (fun _ o1 hF => ?_)
      refine b_KA hF (fun hF => ?_)
      refine b_rv hF (fun _ hF => ?_)
      refine b_if hF (fun hF => ?_) (fun hF => ?_)
      ·
        exact BX29_order_b23 (N := N) E hF
      ·
        exact ih E ol0 hF
theorem BX29_order {σo : fS} {q : Int × fS} {N : Nat} {s : fS} {this : Nat} (E : bE 0 σo s) (othis : bO 0 s this) (hF : FX29_order N this s = some q) : bE 0 σo q.2 := by
  unfold FX29_order at hF
  exact BX29_order_b2 (N := N) E othis hF
theorem BX29_badnessOf_b81 {σo : fS} {q : Int × fS} {s : fS} {s0 : Int} (E : bE 0 σo s) (hF : FX29_badnessOf_b81 s0 s = some q) : bE 0 σo q.2 := by
  unfold FX29_badnessOf_b81 at hF
  exact b_ret E hF
theorem BX29_badnessOf_b47 {σo : fS} {q : Int × fS} {s : fS} {s0 : Int} (E : bE 0 σo s) (hF : FX29_badnessOf_b47 s0 s = some q) : bE 0 σo q.2 := by
  unfold FX29_badnessOf_b47 at hF
  refine b_if hF (fun hF => ?_) (fun hF => ?_)
  ·
    exact BX29_badnessOf_b81 E hF
  ·
    exact BX29_badnessOf_b81 E hF
theorem BX29_badnessOf {σo : fS} {q : Int × fS} {s : fS} {p0 : Int} {p1 : Int} (E : bE 0 σo s) (hF : FX29_badnessOf p0 p1 s = some q) : bE 0 σo q.2 := by
  unfold FX29_badnessOf at hF
  refine b_if hF (fun hF => ?_) (fun hF => ?_)
  ·
    refine b_if hF (fun hF => ?_) (fun hF => ?_)
    ·
      refine b_if hF (fun hF => ?_) (fun hF => ?_)
      ·
        exact BX29_badnessOf_b47 E hF
      ·
        refine b_dv hF (fun hF => ?_)
        exact BX29_badnessOf_b47 E hF
    ·
      refine b_dv hF (fun hF => ?_)
      exact BX29_badnessOf_b47 E hF
  ·
    exact b_ret E hF
theorem BX29_badness_b42 {σo : fS} {q : Int × fS} {N : Nat} {s : fS} {s0 : Int} (E : bE 0 σo s) (hF : FX29_badness_b42 N s0 s = some q) : bE 0 σo q.2 := by
  unfold FX29_badness_b42 at hF
  exact b_ret E hF
theorem BX29_badness_b67 {σo : fS} {q : Int × fS} {N : Nat} {s : fS} {s0 : Int} (E : bE 0 σo s) (hF : FX29_badness_b67 N s0 s = some q) : bE 0 σo q.2 := by
  unfold FX29_badness_b67 at hF
  exact b_ret E hF
theorem BX29_badness {σo : fS} {q : Int × fS} {N : Nat} {s : fS} {this : Nat} {p0 : Int} (E : bE 0 σo s) (othis : bO 0 s this) (hF : FX29_badness N this p0 s = some q) : bE 0 σo q.2 := by
  unfold FX29_badness at hF
  refine b_K hF (fun hF => ?_)
  refine b_if hF (fun hF => ?_) (fun hF => ?_)
  ·
    refine b_if hF (fun hF => ?_) (fun hF => ?_)
    ·
      refine b_K hF (fun hF => ?_)
      refine b_if hF (fun hF => ?_) (fun hF => ?_)
      ·
        refine b_K hF (fun hF => ?_)
        refine b_call E (fun _ hq => (BX29_badnessOf (bE.rf E.S) hq)) hF (fun _ hq4 D4 E4 hF => ?_)
        exact BX29_badness_b67 (N := N) E4 hF
      ·
        exact BX29_badness_b67 (N := N) E hF
    ·
      refine b_K hF (fun hF => ?_)
      refine b_call E (fun _ hq => (BX29_order (N := N) (bE.rf E.S) othis hq)) hF (fun _ hq6 D6 E6 hF => ?_)
      refine b_if hF (fun hF => ?_) (fun hF => ?_)
      ·
        refine b_K hF (fun hF => ?_)
        refine b_o E6 (othis.up D6) hF (fun _ o7 hF => ?_)
        refine b_KA hF (fun hF => ?_)
        refine b_rv hF (fun _ hF => ?_)
        refine b_call E6 (fun _ hq => (BX29_badnessOf (bE.rf E6.S) hq)) hF (fun _ hq9 D9 E9 hF => ?_)
        exact BX29_badness_b42 (N := N) E9 hF
      ·
        exact BX29_badness_b42 (N := N) E6 hF
  ·
    exact b_ret E hF
theorem BX28_cost_b49 {σo : fS} {q : Int × fS} {N : Nat} {s : fS} {s0 : Int} (E : bE 0 σo s) (hF : FX28_cost_b49 N s0 s = some q) : bE 0 σo q.2 := by
  unfold FX28_cost_b49 at hF
  exact b_ret E hF
theorem BX28_cost {σo : fS} {q : Int × fS} {N : Nat} {s : fS} {p0 : Int} (E : bE 0 σo s) (hF : FX28_cost N p0 s = some q) : bE 0 σo q.2 := by
  unfold FX28_cost at hF
  refine b_o E (E.S.c0 (Nat.le_of_ble_eq_true rfl)) hF (fun _ o2 hF => ?_)
  refine b_K hF (fun hF => ?_)
  refine b_call E (fun _ hq => (BX29_badness (N := N) (bE.rf E.S) (E.S.c0 (Nat.le_of_ble_eq_true rfl)) hq)) hF (fun _ hq5 D5 E5 hF => ?_)
  refine b_if hF (fun hF => ?_) (fun hF => ?_)
  ·
    refine b_if hF (fun hF => ?_) (fun hF => ?_)
    ·
      refine b_if hF (fun hF => ?_) (fun hF => ?_)
      ·
        exact BX28_cost_b49 (N := N) E5 hF
      ·
        exact BX28_cost_b49 (N := N) E5 hF
    ·
      exact b_ret E5 hF
  ·
    exact b_ret E5 hF
theorem BX29_become_b2 {σo : fS} {q : Unit × fS} {N : Nat} : ∀ {n : Nat} {s : fS} {l0 : Nat} {l1 : Nat} {l2 : Int}, bE 0 σo s → bO 0 s l0 → bO 0 s l1 → FX29_become_b2 N n l0 l1 l2 s = some q → bE 0 σo q.2 := by
  intro n
  induction n with
  | zero => intro s l0 l1 l2 E ol0 ol1 hF; simp [FX29_become_b2] at hF
  | succ n ih =>
    intro s l0 l1 l2 E ol0 ol1 hF
    rw [FX29_become_b2] at hF
    refine b_if hF (fun hF => ?_) (fun hF => ?_)
    ·
      refine b_K hF (fun hF => ?_)
      refine b_K hF (fun hF => ?_)
      refine b_pJ E ol0 hF (fun _ D2 E2 hF => ?_)
      refine b_K hF (fun hF => ?_)
      refine b_K hF (fun hF => ?_)
      refine b_pJ E2 (ol0.up D2) hF (fun _ D4 E4 hF => ?_)
      refine b_K hF (fun hF => ?_)
      refine b_K hF (fun hF => ?_)
      refine b_pJ E4 ((ol0.up D2).up D4) hF (fun _ D6 E6 hF => ?_)
      exact b_ret E6 hF
    ·
      refine b_K hF (fun hF => ?_)
      refine b_o E ol0 hF (fun _ o7 hF => ?_)
      refine b_K hF (fun hF => ?_)
      refine b_o E ol1 hF (fun _ o8 hF => ?_)
      refine b_KA hF (fun hF => ?_)
      refine b_rv hF (fun _ hF => ?_)
      refine b_KA hF (fun hF => ?_)
      refine b_qJ E o7 hF (fun _ D10 E10 hF => ?_)
      exact ih E10 (ol0.up D10) (ol1.up D10) hF
theorem BX29_become {σo : fS} {q : Unit × fS} {N : Nat} {s : fS} {this : Nat} {p0 : Nat} (E : bE 0 σo s) (othis : bO 0 s this) (op0 : bO 0 s p0) (hF : FX29_become N this p0 s = some q) : bE 0 σo q.2 := by
  unfold FX29_become at hF
  exact BX29_become_b2 (N := N) E othis op0 hF
theorem BX28_ends_b53 {σo : fS} {q : Int × fS} {N : Nat} {s : fS} {s0 : Int} (E : bE 0 σo s) (hF : FX28_ends_b53 N s0 s = some q) : bE 0 σo q.2 := by
  unfold FX28_ends_b53 at hF
  exact b_z E hF
theorem BX28_ends_b48 {σo : fS} {q : Int × fS} {N : Nat} {s : fS} (E : bE 0 σo s) (hF : FX28_ends_b48 N s = some q) : bE 0 σo q.2 := by
  unfold FX28_ends_b48 at hF
  exact BX28_ends_b53 (N := N) E hF
theorem BX28_ends_b35 {σo : fS} {q : Int × fS} {N : Nat} {s : fS} {l2 : Int} {l3 : Int} (E : bE 0 σo s) (hF : FX28_ends_b35 N l2 l3 s = some q) : bE 0 σo q.2 := by
  unfold FX28_ends_b35 at hF
  refine b_if hF (fun hF => ?_) (fun hF => ?_)
  ·
    exact BX28_ends_b48 (N := N) E hF
  ·
    refine b_if hF (fun hF => ?_) (fun hF => ?_)
    ·
      exact BX28_ends_b53 (N := N) E hF
    ·
      exact BX28_ends_b48 (N := N) E hF
theorem BX28_ends {σo : fS} {q : Int × fS} {N : Nat} {s : fS} {p0 : Int} {p1 : Int} (E : bE 0 σo s) (hF : FX28_ends N p0 p1 s = some q) : bE 0 σo q.2 := by
  unfold FX28_ends at hF
  refine b_call E (fun _ hq => (BX28_cost (N := N) (bE.rf E.S) hq)) hF (fun _ hq2 D2 E2 hF => ?_)
  refine b_if hF (fun hF => ?_) (fun hF => ?_)
  ·
    exact BX28_ends_b35 (N := N) E2 hF
  ·
    refine b_pI E2 (E2.S.c0 (Nat.le_of_ble_eq_true rfl)) hF (fun _ D4 E4 hF => ?_)
    refine b_pI E4 (E4.S.c0 (Nat.le_of_ble_eq_true rfl)) hF (fun _ D5 E5 hF => ?_)
    refine b_call E5 (fun _ hq => (BX29_become (N := N) (bE.rf E5.S) (E5.S.c0 (Nat.le_of_ble_eq_true rfl)) (E5.S.c0 (Nat.le_of_ble_eq_true rfl)) hq)) hF (fun _ hq9 D9 E9 hF => ?_)
    exact BX28_ends_b35 (N := N) E9 hF
theorem BX30_set_b102 {σo : fS} {q : Unit × fS} {N : Nat} {s : fS} {s0 : Nat} {s1 : Int} (E : bE 0 σo s) (os0 : bO 0 s s0) (hF : FX30_set_b102 N s0 s1 s = some q) : bE 0 σo q.2 := by
  unfold FX30_set_b102 at hF
  refine b_K hF (fun hF => ?_)
  refine b_pJ E os0 hF (fun _ D1 E1 hF => ?_)
  exact b_ret E1 hF
theorem BX30_set_b54 {σo : fS} {q : Unit × fS} {N : Nat} {s : fS} {l0 : Nat} {s0 : Nat} {s1 : Int} (E : bE 0 σo s) (ol0 : bO 0 s l0) (os0 : bO 0 s s0) (hF : FX30_set_b54 N l0 s0 s1 s = some q) : bE 0 σo q.2 := by
  unfold FX30_set_b54 at hF
  refine b_K hF (fun hF => ?_)
  refine b_pI E os0 hF (fun _ D1 E1 hF => ?_)
  refine b_K hF (fun hF => ?_)
  refine b_if hF (fun hF => ?_) (fun hF => ?_)
  ·
    refine b_K hF (fun hF => ?_)
    refine b_if hF (fun hF => ?_) (fun hF => ?_)
    ·
      exact BX30_set_b102 (N := N) E1 (ol0.up D1) hF
    ·
      refine b_K hF (fun hF => ?_)
      refine b_o E1 (ol0.up D1) hF (fun _ o4 hF => ?_)
      refine b_K hF (fun hF => ?_)
      exact BX30_set_b102 (N := N) E1 (ol0.up D1) hF
  ·
    refine b_K hF (fun hF => ?_)
    refine b_o E1 (ol0.up D1) hF (fun _ o6 hF => ?_)
    refine b_K hF (fun hF => ?_)
    refine b_o E1 o6 hF (fun _ o7 hF => ?_)
    refine b_K hF (fun hF => ?_)
    refine b_KA hF (fun hF => ?_)
    refine b_rv hF (fun _ hF => ?_)
    exact BX30_set_b102 (N := N) E1 (ol0.up D1) hF
theorem BX30_set {σo : fS} {q : Unit × fS} {N : Nat} {s : fS} {this : Nat} (E : bE 0 σo s) (othis : bO 0 s this) (hF : FX30_set N this s = some q) : bE 0 σo q.2 := by
  unfold FX30_set at hF
  refine b_K hF (fun hF => ?_)
  refine b_K hF (fun hF => ?_)
  refine b_o E othis hF (fun _ o2 hF => ?_)
  refine b_K hF (fun hF => ?_)
  refine b_K hF (fun hF => ?_)
  refine b_pJ E othis hF (fun _ D4 E4 hF => ?_)
  refine b_K hF (fun hF => ?_)
  refine b_o E4 (othis.up D4) hF (fun _ o5 hF => ?_)
  refine b_K hF (fun hF => ?_)
  refine b_K hF (fun hF => ?_)
  refine b_call E4 (fun _ hq => (BX29_badness (N := N) (bE.rf E4.S) o5 hq)) hF (fun _ hq8 D8 E8 hF => ?_)
  refine b_K hF (fun hF => ?_)
  refine b_pI E8 ((othis.up D4).up D8) hF (fun _ D9 E9 hF => ?_)
  refine b_K hF (fun hF => ?_)
  refine b_if hF (fun hF => ?_) (fun hF => ?_)
  ·
    exact BX30_set_b54 (N := N) E9 (((othis.up D4).up D8).up D9) (((othis.up D4).up D8).up D9) hF
  ·
    refine b_K hF (fun hF => ?_)
    refine b_o E9 (((othis.up D4).up D8).up D9) hF (fun _ o11 hF => ?_)
    refine b_K hF (fun hF => ?_)
    refine b_call E9 (fun _ hq => (BX29_order (N := N) (bE.rf E9.S) o11 hq)) hF (fun _ hq13 D13 E13 hF => ?_)
    exact BX30_set_b54 (N := N) E13 ((((othis.up D4).up D8).up D9).up D13) ((((othis.up D4).up D8).up D9).up D13) hF
theorem BX28_finish {σo : fS} {q : Unit × fS} {N : Nat} {s : fS} {p0 : Int} (E : bE 0 σo s) (hF : FX28_finish N p0 s = some q) : bE 0 σo q.2 := by
  unfold FX28_finish at hF
  refine b_o E (E.S.c0 (Nat.le_of_ble_eq_true rfl)) hF (fun _ o1 hF => ?_)
  refine b_K hF (fun hF => ?_)
  refine b_pI E o1 hF (fun _ D3 E3 hF => ?_)
  refine b_o E3 (E3.S.c0 (Nat.le_of_ble_eq_true rfl)) hF (fun _ o4 hF => ?_)
  refine b_K hF (fun hF => ?_)
  refine b_pI E3 o4 hF (fun _ D6 E6 hF => ?_)
  refine b_o E6 (E6.S.c0 (Nat.le_of_ble_eq_true rfl)) hF (fun _ o7 hF => ?_)
  refine b_K hF (fun hF => ?_)
  refine b_pI E6 o7 hF (fun _ D8 E8 hF => ?_)
  refine b_o E8 (E8.S.c0 (Nat.le_of_ble_eq_true rfl)) hF (fun _ o9 hF => ?_)
  refine b_K hF (fun hF => ?_)
  refine b_o E8 o9 hF (fun _ o10 hF => ?_)
  refine b_K hF (fun hF => ?_)
  refine b_call E8 (fun _ hq => (BX29_become (N := N) (bE.rf E8.S) o10 (E8.S.c0 (Nat.le_of_ble_eq_true rfl)) hq)) hF (fun _ hq13 D13 E13 hF => ?_)
  refine b_o E13 (E13.S.c0 (Nat.le_of_ble_eq_true rfl)) hF (fun _ o14 hF => ?_)
  refine b_K hF (fun hF => ?_)
  refine b_call E13 (fun _ hq => (BX30_set (N := N) (bE.rf E13.S) o14 hq)) hF (fun _ hq16 D16 E16 hF => ?_)
  refine b_o E16 (E16.S.c0 (Nat.le_of_ble_eq_true rfl)) hF (fun _ o17 hF => ?_)
  refine b_o E16 (E16.S.c0 (Nat.le_of_ble_eq_true rfl)) hF (fun _ o18 hF => ?_)
  refine b_K hF (fun hF => ?_)
  refine b_pO E16 (E16.S.c0 (Nat.le_of_ble_eq_true rfl)) o18 hF (fun _ D19 E19 hF => ?_)
  refine b_K hF (fun hF => ?_)
  refine b_pO E19 (E19.S.c0 (Nat.le_of_ble_eq_true rfl)) (o17.up D19) hF (fun _ D20 E20 hF => ?_)
  refine b_pI E20 (E20.S.c0 (Nat.le_of_ble_eq_true rfl)) hF (fun _ D22 E22 hF => ?_)
  refine b_call E22 (fun _ hq => (BX28_begin (N := N) (bE.rf E22.S) hq)) hF (fun _ hq24 D24 E24 hF => ?_)
  exact b_ret E24 hF
theorem BX28_step_b94 {σo : fS} {q : Int × fS} {N : Nat} {s : fS} {l1 : Int} (E : bE 0 σo s) (hF : FX28_step_b94 N l1 s = some q) : bE 0 σo q.2 := by
  unfold FX28_step_b94 at hF
  refine b_o E (E.S.c0 (Nat.le_of_ble_eq_true rfl)) hF (fun _ o3 hF => ?_)
  refine b_K hF (fun hF => ?_)
  refine b_call E (fun _ hq => (BX29_add (bE.rf E.S) (E.S.c0 (Nat.le_of_ble_eq_true rfl)) hq)) hF (fun _ hq6 D6 E6 hF => ?_)
  refine b_pI E6 (E6.S.c0 (Nat.le_of_ble_eq_true rfl)) hF (fun _ D8 E8 hF => ?_)
  exact b_ret E8 hF
theorem BX28_step {σo : fS} {q : Int × fS} {N : Nat} {s : fS} (E : bE 0 σo s) (hF : FX28_step N s = some q) : bE 0 σo q.2 := by
  unfold FX28_step at hF
  refine b_o E (E.S.c0 (Nat.le_of_ble_eq_true rfl)) hF (fun _ o2 hF => ?_)
  refine b_K hF (fun hF => ?_)
  refine b_if hF (fun hF => ?_) (fun hF => ?_)
  ·
    refine b_call E (fun _ hq => (BX28_penalty (bE.rf E.S) hq)) hF (fun _ hq5 D5 E5 hF => ?_)
    refine b_if hF (fun hF => ?_) (fun hF => ?_)
    ·
      exact BX28_step_b94 (N := N) E5 hF
    ·
      refine b_call E5 (fun _ hq => (BX28_ends (N := N) (bE.rf E5.S) hq)) hF (fun _ hq7 D7 E7 hF => ?_)
      refine b_if hF (fun hF => ?_) (fun hF => ?_)
      ·
        exact BX28_step_b94 (N := N) E7 hF
      ·
        refine b_call E7 (fun _ hq => (BX28_finish (N := N) (bE.rf E7.S) hq)) hF (fun _ hq9 D9 E9 hF => ?_)
        exact b_ret E9 hF
  ·
    refine b_pI E (E.S.c0 (Nat.le_of_ble_eq_true rfl)) hF (fun _ D11 E11 hF => ?_)
    refine b_call E11 (fun _ hq => (BX27_kind (bE.rf E11.S) hq)) hF (fun _ hq14 D14 E14 hF => ?_)
    refine b_if hF (fun hF => ?_) (fun hF => ?_)
    ·
      refine b_call E14 (fun _ hq => (BX28_open (N := N) (bE.rf E14.S) hq)) hF (fun _ hq16 D16 E16 hF => ?_)
      refine b_o E16 (E16.S.c0 (Nat.le_of_ble_eq_true rfl)) hF (fun _ o19 hF => ?_)
      refine b_K hF (fun hF => ?_)
      refine b_call E16 (fun _ hq => (BX29_add (bE.rf E16.S) (E16.S.c0 (Nat.le_of_ble_eq_true rfl)) hq)) hF (fun _ hq22 D22 E22 hF => ?_)
      exact b_ret E22 hF
    ·
      exact b_ret E14 hF
theorem BX3_wantFew_b75 {σo : fS} {q : (Unit ⊕ Nat) × fS} {N : Nat} {K17 : Nat → Int → Int → fS → Option ((Unit ⊕ Nat) × fS)} (hk17 : ∀ {s : fS} {l1 : Nat} {l2 : Int} {l4 : Int}, bE 0 σo s → bO 0 s l1 → K17 l1 l2 l4 s = some q → bE 0 σo q.2) {s : fS} {l1 : Nat} {l2 : Int} {l4 : Int} (E : bE 0 σo s) (ol1 : bO 0 s l1) (hF : FX3_wantFew_b75 N K17 l1 l2 l4 s = some q) : bE 0 σo q.2 := by
  unfold FX3_wantFew_b75 at hF
  exact hk17 E ol1 hF
theorem BX3_wantFew_b98 {σo : fS} {q : (Unit ⊕ Nat) × fS} {N : Nat} {s : fS} {s1 : Int} (E : bE 0 σo s) (hF : FX3_wantFew_b98 N s1 s = some q) : bE 0 σo q.2 := by
  unfold FX3_wantFew_b98 at hF
  refine b_tB E (fun _ hq => BX4_want (bE.rf E.S) hq) hF (fun _ _ D2 E2 hF => ?_)
  exact b_ret E2 hF
theorem BX3_wantFew_b17 {σo : fS} {q : (Unit ⊕ Nat) × fS} {N : Nat} : ∀ {n : Nat} {s : fS} {l1 : Nat} {l2 : Int} {l4 : Int}, bE 0 σo s → bO 0 s l1 → FX3_wantFew_b17 N n l1 l2 l4 s = some q → bE 0 σo q.2 := by
  intro n
  induction n with
  | zero => intro s l1 l2 l4 E ol1 hF; simp [FX3_wantFew_b17] at hF
  | succ n ih =>
    intro s l1 l2 l4 E ol1 hF
    rw [FX3_wantFew_b17] at hF
    refine b_K hF (fun hF => ?_)
    refine b_if hF (fun hF => ?_) (fun hF => ?_)
    ·
      refine b_if hF (fun hF => ?_) (fun hF => ?_)
      ·
        exact BX3_wantFew_b98 (N := N) E hF
      ·
        exact BX3_wantFew_b98 (N := N) E hF
    ·
      refine b_rv hF (fun _ hF => ?_)
      refine b_if hF (fun hF => ?_) (fun hF => ?_)
      ·
        exact BX3_wantFew_b75 (N := N) (K17 := FX3_wantFew_b17 N n) @ih E ol1 hF
      ·
        refine b_rv hF (fun _ hF => ?_)
        refine b_if hF (fun hF => ?_) (fun hF => ?_)
        ·
          exact BX3_wantFew_b75 (N := N) (K17 := FX3_wantFew_b17 N n) @ih E ol1 hF
        ·
          refine b_rv hF (fun _ hF => ?_)
          refine b_rO E (E.S.c0 (Nat.le_of_ble_eq_true rfl)) hF (fun _ o13 hF => ?_)
          refine b_K hF (fun hF => ?_)
          exact BX3_wantFew_b75 (N := N) (K17 := FX3_wantFew_b17 N n) @ih E ol1 hF
theorem BX3_wantFew {σo : fS} {q : (Unit ⊕ Nat) × fS} {N : Nat} {s : fS} {p0 : Nat} (E : bE 0 σo s) (op0 : bO 0 s p0) (hF : FX3_wantFew N p0 s = some q) : bE 0 σo q.2 := by
  unfold FX3_wantFew at hF
  refine b_K hF (fun hF => ?_)
  refine b_K hF (fun hF => ?_)
  refine b_K hF (fun hF => ?_)
  exact BX3_wantFew_b17 (N := N) E op0 hF
theorem BX3_widthOf_b102 {σo : fS} {q : Int × fS} {N : Nat} {K8 : Nat → Int → Int → fS → Option (Int × fS)} (hk8 : ∀ {s : fS} {l1 : Nat} {l2 : Int} {l4 : Int}, bE 0 σo s → bO 0 s l1 → K8 l1 l2 l4 s = some q → bE 0 σo q.2) {s : fS} {l1 : Nat} {l2 : Int} {l4 : Int} (E : bE 0 σo s) (ol1 : bO 0 s l1) (hF : FX3_widthOf_b102 N K8 l1 l2 l4 s = some q) : bE 0 σo q.2 := by
  unfold FX3_widthOf_b102 at hF
  exact hk8 E ol1 hF
theorem BX3_widthOf_b8 {σo : fS} {q : Int × fS} {N : Nat} : ∀ {n : Nat} {s : fS} {l1 : Nat} {l2 : Int} {l4 : Int}, bE 0 σo s → bO 0 s l1 → FX3_widthOf_b8 N n l1 l2 l4 s = some q → bE 0 σo q.2 := by
  intro n
  induction n with
  | zero => intro s l1 l2 l4 E ol1 hF; simp [FX3_widthOf_b8] at hF
  | succ n ih =>
    intro s l1 l2 l4 E ol1 hF
    rw [FX3_widthOf_b8] at hF
    refine b_K hF (fun hF => ?_)
    refine b_if hF (fun hF => ?_) (fun hF => ?_)
    ·
      exact b_ret E hF
    ·
      refine b_rv hF (fun _ hF => ?_)
      refine b_if hF (fun hF => ?_) (fun hF => ?_)
      ·
        refine b_rv hF (fun _ hF => ?_)
        refine b_rv hF (fun _ hF => ?_)
        refine b_if hF (fun hF => ?_) (fun hF => ?_)
        ·
          refine b_if hF (fun hF => ?_) (fun hF => ?_)
          ·
            exact BX3_widthOf_b102 (N := N) (K8 := FX3_widthOf_b8 N n) @ih E ol1 hF
          ·
            exact BX3_widthOf_b102 (N := N) (K8 := FX3_widthOf_b8 N n) @ih E ol1 hF
        ·
          refine b_rO E (E.S.c0 (Nat.le_of_ble_eq_true rfl)) hF (fun _ o12 hF => ?_)
          refine b_K hF (fun hF => ?_)
          exact BX3_widthOf_b102 (N := N) (K8 := FX3_widthOf_b8 N n) @ih E ol1 hF
      ·
        exact BX3_widthOf_b102 (N := N) (K8 := FX3_widthOf_b8 N n) @ih E ol1 hF
theorem BX3_widthOf {σo : fS} {q : Int × fS} {N : Nat} {s : fS} {p0 : Nat} (E : bE 0 σo s) (op0 : bO 0 s p0) (hF : FX3_widthOf N p0 s = some q) : bE 0 σo q.2 := by
  unfold FX3_widthOf at hF
  refine b_K hF (fun hF => ?_)
  exact BX3_widthOf_b8 (N := N) E op0 hF
theorem BX30_nearest_b37 {σo : fS} {q : Int × fS} {N : Nat} {K10 : Int → Int → Int → Int → Int → Int → fS → Option (Int × fS)} (hk10 : ∀ {s : fS} {l0 : Int} {l2 : Int} {l4 : Int} {l6 : Int} {l8 : Int} {l10 : Int}, bE 0 σo s → K10 l0 l2 l4 l6 l8 l10 s = some q → bE 0 σo q.2) {s : fS} {l0 : Int} {l2 : Int} {l4 : Int} {l6 : Int} {l10 : Int} {s0 : Int} {s1 : Int} (E : bE 0 σo s) (hF : FX30_nearest_b37 N K10 l0 l2 l4 l6 l10 s0 s1 s = some q) : bE 0 σo q.2 := by
  unfold FX30_nearest_b37 at hF
  refine b_dv hF (fun hF => ?_)
  refine b_dv hF (fun hF => ?_)
  exact hk10 E hF
theorem BX30_nearest_b88 {σo : fS} {q : Int × fS} {N : Nat} {s : fS} {s0 : Int} (E : bE 0 σo s) (hF : FX30_nearest_b88 N s0 s = some q) : bE 0 σo q.2 := by
  unfold FX30_nearest_b88 at hF
  exact b_ret E hF
theorem BX30_nearest_b10 {σo : fS} {q : Int × fS} {N : Nat} : ∀ {n : Nat} {s : fS} {l0 : Int} {l2 : Int} {l4 : Int} {l6 : Int} {l8 : Int} {l10 : Int}, bE 0 σo s → FX30_nearest_b10 N n l0 l2 l4 l6 l8 l10 s = some q → bE 0 σo q.2 := by
  intro n
  induction n with
  | zero => intro s l0 l2 l4 l6 l8 l10 E  hF; simp [FX30_nearest_b10] at hF
  | succ n ih =>
    intro s l0 l2 l4 l6 l8 l10 E  hF
    rw [FX30_nearest_b10] at hF
    refine b_if hF (fun hF => ?_) (fun hF => ?_)
    ·
      refine b_if hF (fun hF => ?_) (fun hF => ?_)
      ·
        exact BX30_nearest_b88 (N := N) E hF
      ·
        exact BX30_nearest_b88 (N := N) E hF
    ·
      refine b_if hF (fun hF => ?_) (fun hF => ?_)
      ·
        exact BX30_nearest_b37 (N := N) (K10 := FX30_nearest_b10 N n) @ih E hF
      ·
        exact BX30_nearest_b37 (N := N) (K10 := FX30_nearest_b10 N n) @ih E hF
theorem BX30_nearest {σo : fS} {q : Int × fS} {N : Nat} {s : fS} {p0 : Int} {p1 : Int} {p2 : Int} (E : bE 0 σo s) (hF : FX30_nearest N p0 p1 p2 s = some q) : bE 0 σo q.2 := by
  unfold FX30_nearest at hF
  exact BX30_nearest_b10 (N := N) E hF
theorem BX30_share {σo : fS} {q : Int × fS} {N : Nat} {s : fS} {this : Nat} (E : bE 0 σo s) (othis : bO 0 s this) (hF : FX30_share N this s = some q) : bE 0 σo q.2 := by
  unfold FX30_share at hF
  refine b_K hF (fun hF => ?_)
  refine b_if hF (fun hF => ?_) (fun hF => ?_)
  ·
    refine b_K hF (fun hF => ?_)
    refine b_if hF (fun hF => ?_) (fun hF => ?_)
    ·
      refine b_K hF (fun hF => ?_)
      refine b_K hF (fun hF => ?_)
      refine b_K hF (fun hF => ?_)
      refine b_call E (fun _ hq => (BX30_nearest (N := N) (bE.rf E.S) hq)) hF (fun _ hq7 D7 E7 hF => ?_)
      exact b_ret E7 hF
    ·
      refine b_K hF (fun hF => ?_)
      refine b_K hF (fun hF => ?_)
      refine b_rv hF (fun _ hF => ?_)
      refine b_K hF (fun hF => ?_)
      refine b_call E (fun _ hq => (BX30_nearest (N := N) (bE.rf E.S) hq)) hF (fun _ hq13 D13 E13 hF => ?_)
      exact b_ret E13 hF
  ·
    exact b_ret E hF
theorem BX20_enter {σo : fS} {q : Unit × fS} {s : fS} {p0 : Nat} {p1 : Int} {p2 : Int} (E : bE 0 σo s) (op0 : bO 0 s p0) (hF : FX20_enter p0 p1 p2 s = some q) : bE 0 σo q.2 := by
  unfold FX20_enter at hF
  refine b_K hF (fun hF => ?_)
  refine b_qO E (E.S.c0 (Nat.le_of_ble_eq_true rfl)) op0 hF (fun _ D3 E3 hF => ?_)
  refine b_qJ E3 (E3.S.c0 (Nat.le_of_ble_eq_true rfl)) hF (fun _ D6 E6 hF => ?_)
  refine b_qJ E6 (E6.S.c0 (Nat.le_of_ble_eq_true rfl)) hF (fun _ D9 E9 hF => ?_)
  refine b_K hF (fun hF => ?_)
  refine b_qI E9 (E9.S.c0 (Nat.le_of_ble_eq_true rfl)) hF (fun _ D13 E13 hF => ?_)
  refine b_pI E13 (E13.S.c0 (Nat.le_of_ble_eq_true rfl)) hF (fun _ D15 E15 hF => ?_)
  exact b_ret E15 hF
theorem BX7_kind {σo : fS} {q : Int × fS} {s : fS} {p0 : Int} (E : bE 0 σo s) (hF : FX7_kind p0 s = some q) : bE 0 σo q.2 := by
  unfold FX7_kind at hF
  refine b_rv hF (fun _ hF => ?_)
  exact b_ret E hF
theorem BX7_of {σo : fS} {q : Int × fS} {s : fS} {p0 : Int} {p1 : Int} (E : bE 0 σo s) (hF : FX7_of p0 p1 s = some q) : bE 0 σo q.2 := by
  unfold FX7_of at hF
  refine b_rv hF (fun _ hF => ?_)
  exact b_ret E hF
theorem BX20_mark {σo : fS} {q : Int × fS} {s : fS} {p0 : Int} {p1 : Int} {p2 : Int} {p3 : Int} {p4 : Int} {p5 : Int} (E : bE 0 σo s) (hF : FX20_mark p0 p1 p2 p3 p4 p5 s = some q) : bE 0 σo q.2 := by
  unfold FX20_mark at hF
  refine b_if hF (fun hF => ?_) (fun hF => ?_)
  ·
    refine b_pI E (E.S.c0 (Nat.le_of_ble_eq_true rfl)) hF (fun _ D3 E3 hF => ?_)
    refine b_qJ E3 (E3.S.c0 (Nat.le_of_ble_eq_true rfl)) hF (fun _ D5 E5 hF => ?_)
    refine b_qJ E5 (E5.S.c0 (Nat.le_of_ble_eq_true rfl)) hF (fun _ D7 E7 hF => ?_)
    refine b_qJ E7 (E7.S.c0 (Nat.le_of_ble_eq_true rfl)) hF (fun _ D9 E9 hF => ?_)
    refine b_qJ E9 (E9.S.c0 (Nat.le_of_ble_eq_true rfl)) hF (fun _ D11 E11 hF => ?_)
    refine b_qJ E11 (E11.S.c0 (Nat.le_of_ble_eq_true rfl)) hF (fun _ D13 E13 hF => ?_)
    refine b_qJ E13 (E13.S.c0 (Nat.le_of_ble_eq_true rfl)) hF (fun _ D15 E15 hF => ?_)
    exact b_ret E15 hF
  ·
    exact b_ret E hF
theorem BX7_isRunning_b16 {σo : fS} {q : Int × fS} {s : fS} {s0 : Int} (E : bE 0 σo s) (hF : FX7_isRunning_b16 s0 s = some q) : bE 0 σo q.2 := by
  unfold FX7_isRunning_b16 at hF
  exact b_z E hF
theorem BX7_isRunning {σo : fS} {q : Int × fS} {s : fS} {p0 : Int} {p1 : Int} (E : bE 0 σo s) (hF : FX7_isRunning p0 p1 s = some q) : bE 0 σo q.2 := by
  unfold FX7_isRunning at hF
  refine b_call E (fun _ hq => (BX7_of (bE.rf E.S) hq)) hF (fun _ hq2 D2 E2 hF => ?_)
  refine b_if hF (fun hF => ?_) (fun hF => ?_)
  ·
    exact BX7_isRunning_b16 E2 hF
  ·
    exact BX7_isRunning_b16 E2 hF
theorem BX7_solid_b18 {σo : fS} {q : Int × fS} {s : fS} {s0 : Int} (E : bE 0 σo s) (hF : FX7_solid_b18 s0 s = some q) : bE 0 σo q.2 := by
  unfold FX7_solid_b18 at hF
  exact b_ret E hF
theorem BX7_solid {σo : fS} {q : Int × fS} {s : fS} {p0 : Int} {p1 : Int} (E : bE 0 σo s) (hF : FX7_solid p0 p1 s = some q) : bE 0 σo q.2 := by
  unfold FX7_solid at hF
  refine b_call E (fun _ hq => (BX7_of (bE.rf E.S) hq)) hF (fun _ hq2 D2 E2 hF => ?_)
  refine b_if hF (fun hF => ?_) (fun hF => ?_)
  ·
    exact BX7_solid_b18 E2 hF
  ·
    exact BX7_solid_b18 E2 hF
theorem BX20_rule_b128 {σo : fS} {q : Int × fS} {s : fS} (E : bE 0 σo s) (hF : FX20_rule_b128 s = some q) : bE 0 σo q.2 := by
  unfold FX20_rule_b128 at hF
  exact b_ret E hF
theorem BX20_rule_b151 {σo : fS} {q : Int × fS} {s : fS} {l7 : Int} {l8 : Int} {l9 : Int} {s1 : Int} {s2 : Int} {s3 : Int} (E : bE 0 σo s) (hF : FX20_rule_b151 l7 l8 l9 s1 s2 s3 s = some q) : bE 0 σo q.2 := by
  unfold FX20_rule_b151 at hF
  refine b_call E (fun _ hq => (BX20_mark (bE.rf E.S) hq)) hF (fun _ hq2 D2 E2 hF => ?_)
  exact b_z E2 hF
theorem BX20_rule_b109 {σo : fS} {q : Int × fS} {s : fS} {l1 : Nat} {l3 : Int} {l5 : Int} {l7 : Int} {l8 : Int} {s0 : Int} (E : bE 0 σo s) (ol1 : bO 0 s l1) (hF : FX20_rule_b109 l1 l3 l5 l7 l8 s0 s = some q) : bE 0 σo q.2 := by
  unfold FX20_rule_b109 at hF
  refine b_if hF (fun hF => ?_) (fun hF => ?_)
  ·
    exact BX20_rule_b128 E hF
  ·
    refine b_if hF (fun hF => ?_) (fun hF => ?_)
    ·
      refine b_K hF (fun hF => ?_)
      refine b_if hF (fun hF => ?_) (fun hF => ?_)
      ·
        exact BX20_rule_b151 E hF
      ·
        exact BX20_rule_b151 E hF
    ·
      exact BX20_rule_b128 E hF
theorem BX20_rule_b100 {σo : fS} {q : Int × fS} {s : fS} {l1 : Nat} {l2 : Int} {l3 : Int} {l5 : Int} {l7 : Int} {l8 : Int} (E : bE 0 σo s) (ol1 : bO 0 s l1) (hF : FX20_rule_b100 l1 l2 l3 l5 l7 l8 s = some q) : bE 0 σo q.2 := by
  unfold FX20_rule_b100 at hF
  refine b_call E (fun _ hq => (BX7_solid (bE.rf E.S) hq)) hF (fun _ hq3 D3 E3 hF => ?_)
  exact BX20_rule_b109 E3 (ol1.up D3) hF
theorem BX20_rule_b72 {σo : fS} {q : Int × fS} {s : fS} {l1 : Nat} {l2 : Int} {l3 : Int} {l5 : Int} {l7 : Int} {s0 : Int} (E : bE 0 σo s) (ol1 : bO 0 s l1) (hF : FX20_rule_b72 l1 l2 l3 l5 l7 s0 s = some q) : bE 0 σo q.2 := by
  unfold FX20_rule_b72 at hF
  refine b_call E (fun _ hq => (BX7_isRunning (bE.rf E.S) hq)) hF (fun _ hq3 D3 E3 hF => ?_)
  refine b_if hF (fun hF => ?_) (fun hF => ?_)
  ·
    exact BX20_rule_b100 E3 (ol1.up D3) hF
  ·
    refine b_K hF (fun hF => ?_)
    refine b_if hF (fun hF => ?_) (fun hF => ?_)
    ·
      exact BX20_rule_b100 E3 (ol1.up D3) hF
    ·
      refine b_K hF (fun hF => ?_)
      exact BX20_rule_b109 E3 (ol1.up D3) hF
theorem BX20_rule_b63 {σo : fS} {q : Int × fS} {s : fS} {l1 : Nat} {l2 : Int} {l3 : Int} {l5 : Int} {l7 : Int} (E : bE 0 σo s) (ol1 : bO 0 s l1) (hF : FX20_rule_b63 l1 l2 l3 l5 l7 s = some q) : bE 0 σo q.2 := by
  unfold FX20_rule_b63 at hF
  refine b_call E (fun _ hq => (BX7_solid (bE.rf E.S) hq)) hF (fun _ hq3 D3 E3 hF => ?_)
  exact BX20_rule_b72 E3 (ol1.up D3) hF
theorem BX20_rule_b35 {σo : fS} {q : Int × fS} {s : fS} {l1 : Nat} {l2 : Int} {l3 : Int} {l5 : Int} {s0 : Int} (E : bE 0 σo s) (ol1 : bO 0 s l1) (hF : FX20_rule_b35 l1 l2 l3 l5 s0 s = some q) : bE 0 σo q.2 := by
  unfold FX20_rule_b35 at hF
  refine b_call E (fun _ hq => (BX7_isRunning (bE.rf E.S) hq)) hF (fun _ hq3 D3 E3 hF => ?_)
  refine b_if hF (fun hF => ?_) (fun hF => ?_)
  ·
    exact BX20_rule_b63 E3 (ol1.up D3) hF
  ·
    refine b_K hF (fun hF => ?_)
    refine b_if hF (fun hF => ?_) (fun hF => ?_)
    ·
      exact BX20_rule_b63 E3 (ol1.up D3) hF
    ·
      refine b_K hF (fun hF => ?_)
      exact BX20_rule_b72 E3 (ol1.up D3) hF
theorem BX20_rule_b26 {σo : fS} {q : Int × fS} {s : fS} {l1 : Nat} {l2 : Int} {l3 : Int} {l5 : Int} (E : bE 0 σo s) (ol1 : bO 0 s l1) (hF : FX20_rule_b26 l1 l2 l3 l5 s = some q) : bE 0 σo q.2 := by
  unfold FX20_rule_b26 at hF
  refine b_call E (fun _ hq => (BX7_solid (bE.rf E.S) hq)) hF (fun _ hq3 D3 E3 hF => ?_)
  exact BX20_rule_b35 E3 (ol1.up D3) hF
theorem BX20_rule {σo : fS} {q : Int × fS} {s : fS} {p0 : Nat} {p1 : Int} {p2 : Int} {p3 : Int} (E : bE 0 σo s) (op0 : bO 0 s p0) (hF : FX20_rule p0 p1 p2 p3 s = some q) : bE 0 σo q.2 := by
  unfold FX20_rule at hF
  refine b_call E (fun _ hq => (BX7_isRunning (bE.rf E.S) hq)) hF (fun _ hq3 D3 E3 hF => ?_)
  refine b_if hF (fun hF => ?_) (fun hF => ?_)
  ·
    exact BX20_rule_b26 E3 (op0.up D3) hF
  ·
    refine b_K hF (fun hF => ?_)
    refine b_if hF (fun hF => ?_) (fun hF => ?_)
    ·
      exact BX20_rule_b26 E3 (op0.up D3) hF
    ·
      refine b_K hF (fun hF => ?_)
      exact BX20_rule_b35 E3 (op0.up D3) hF
theorem BX20_item_b164 {σo : fS} {q : Int × fS} {s : fS} {l1 : Int} {s1 : Int} {s2 : Int} {s3 : Int} (E : bE 0 σo s) (hF : FX20_item_b164 l1 s1 s2 s3 s = some q) : bE 0 σo q.2 := by
  unfold FX20_item_b164 at hF
  refine b_call E (fun _ hq => (BX7_of (bE.rf E.S) hq)) hF (fun _ hq3 D3 E3 hF => ?_)
  refine b_call E3 (fun _ hq => (BX7_of (bE.rf E3.S) hq)) hF (fun _ hq6 D6 E6 hF => ?_)
  refine b_call E6 (fun _ hq => (BX7_of (bE.rf E6.S) hq)) hF (fun _ hq9 D9 E9 hF => ?_)
  refine b_call E9 (fun _ hq => (BX20_mark (bE.rf E9.S) hq)) hF (fun _ hq11 D11 E11 hF => ?_)
  exact b_z E11 hF
theorem BX20_item_b276 {σo : fS} {q : Int × fS} {s : fS} {s1 : Nat} {s2 : Int} {s3 : Int} (E : bE 0 σo s) (os1 : bO 0 s s1) (hF : FX20_item_b276 s1 s2 s3 s = some q) : bE 0 σo q.2 := by
  unfold FX20_item_b276 at hF
  refine b_call E (fun _ hq => (BX20_enter (bE.rf E.S) os1 hq)) hF (fun _ hq2 D2 E2 hF => ?_)
  exact b_ret E2 hF
theorem BX20_item_b251 {σo : fS} {q : Int × fS} {s : fS} {l2 : Nat} {l5 : Int} {l7 : Nat} {l8 : Int} {s1 : Nat} {s2 : Int} (E : bE 0 σo s) (ol2 : bO 0 s l2) (ol7 : bO 0 s l7) (os1 : bO 0 s s1) (hF : FX20_item_b251 l2 l5 l7 l8 s1 s2 s = some q) : bE 0 σo q.2 := by
  unfold FX20_item_b251 at hF
  refine b_K hF (fun hF => ?_)
  refine b_if hF (fun hF => ?_) (fun hF => ?_)
  ·
    exact BX20_item_b276 E os1 hF
  ·
    refine b_K hF (fun hF => ?_)
    exact BX20_item_b276 E os1 hF
theorem BX20_item_b84 {σo : fS} {q : Int × fS} {s : fS} {l1 : Int} {l2 : Nat} {l3 : Int} {s0 : Int} {s1 : Int} (E : bE 0 σo s) (ol2 : bO 0 s l2) (hF : FX20_item_b84 l1 l2 l3 s0 s1 s = some q) : bE 0 σo q.2 := by
  unfold FX20_item_b84 at hF
  refine b_call E (fun _ hq => (BX7_kind (bE.rf E.S) hq)) hF (fun _ hq3 D3 E3 hF => ?_)
  refine b_if hF (fun hF => ?_) (fun hF => ?_)
  ·
    refine b_call E3 (fun _ hq => (BX7_of (bE.rf E3.S) hq)) hF (fun _ hq6 D6 E6 hF => ?_)
    refine b_K hF (fun hF => ?_)
    refine b_if hF (fun hF => ?_) (fun hF => ?_)
    ·
      exact BX20_item_b164 E6 hF
    ·
      refine b_call E6 (fun _ hq => (BX7_of (bE.rf E6.S) hq)) hF (fun _ hq10 D10 E10 hF => ?_)
      exact BX20_item_b164 E10 hF
  ·
    refine b_if hF (fun hF => ?_) (fun hF => ?_)
    ·
      refine b_call E3 (fun _ hq => (BX20_rule (bE.rf E3.S) (ol2.up D3) hq)) hF (fun _ hq12 D12 E12 hF => ?_)
      exact b_z E12 hF
    ·
      refine b_if hF (fun hF => ?_) (fun hF => ?_)
      ·
        exact b_ret E3 hF
      ·
        refine b_if hF (fun hF => ?_) (fun hF => ?_)
        ·
          exact b_ret E3 hF
        ·
          refine b_if hF (fun hF => ?_) (fun hF => ?_)
          ·
            refine b_call E3 (fun _ hq => (BX7_of (bE.rf E3.S) hq)) hF (fun _ hq16 D16 E16 hF => ?_)
            refine b_rO E16 (E16.S.c0 (Nat.le_of_ble_eq_true rfl)) hF (fun _ o17 hF => ?_)
            refine b_call E16 (fun _ hq => (BX7_of (bE.rf E16.S) hq)) hF (fun _ hq20 D20 E20 hF => ?_)
            refine b_K hF (fun hF => ?_)
            refine b_if hF (fun hF => ?_) (fun hF => ?_)
            ·
              exact BX20_item_b251 E20 (((ol2.up D3).up D16).up D20) (o17.up D20) (o17.up D20) hF
            ·
              exact BX20_item_b251 E20 (((ol2.up D3).up D16).up D20) (o17.up D20) (o17.up D20) hF
          ·
            exact b_ret E3 hF
theorem BX20_item_b43 {σo : fS} {q : Int × fS} {s : fS} {l1 : Int} {l2 : Nat} {s0 : Int} {s1 : Int} (E : bE 0 σo s) (ol2 : bO 0 s l2) (hF : FX20_item_b43 l1 l2 s0 s1 s = some q) : bE 0 σo q.2 := by
  unfold FX20_item_b43 at hF
  refine b_rv hF (fun _ hF => ?_)
  refine b_K hF (fun hF => ?_)
  refine b_if hF (fun hF => ?_) (fun hF => ?_)
  ·
    exact BX20_item_b84 E ol2 hF
  ·
    refine b_rv hF (fun _ hF => ?_)
    refine b_K hF (fun hF => ?_)
    exact BX20_item_b84 E ol2 hF
theorem BX20_item {σo : fS} {q : Int × fS} {s : fS} {p0 : Int} (E : bE 0 σo s) (hF : FX20_item p0 s = some q) : bE 0 σo q.2 := by
  unfold FX20_item at hF
  refine b_rO E (E.S.c0 (Nat.le_of_ble_eq_true rfl)) hF (fun _ o3 hF => ?_)
  refine b_rv hF (fun _ hF => ?_)
  refine b_K hF (fun hF => ?_)
  refine b_if hF (fun hF => ?_) (fun hF => ?_)
  ·
    refine b_rv hF (fun _ hF => ?_)
    exact BX20_item_b43 E o3 hF
  ·
    exact BX20_item_b43 E o3 hF
theorem BX20_lay_b87 {σo : fS} {q : Int × fS} {N : Nat} {K16 : Int → fS → Option (Int × fS)} (hk16 : ∀ {s : fS} {l6 : Int}, bE 0 σo s → K16 l6 s = some q → bE 0 σo q.2) {s : fS} {l6 : Int} (E : bE 0 σo s) (hF : FX20_lay_b87 N K16 l6 s = some q) : bE 0 σo q.2 := by
  unfold FX20_lay_b87 at hF
  exact hk16 E hF
theorem BX20_lay_b90 {σo : fS} {q : Int × fS} {N : Nat} {s : fS} {l6 : Int} (E : bE 0 σo s) (hF : FX20_lay_b90 N l6 s = some q) : bE 0 σo q.2 := by
  unfold FX20_lay_b90 at hF
  exact b_z E hF
theorem BX20_lay_b16 {σo : fS} {q : Int × fS} {N : Nat} : ∀ {n : Nat} {s : fS} {l6 : Int}, bE 0 σo s → FX20_lay_b16 N n l6 s = some q → bE 0 σo q.2 := by
  intro n
  induction n with
  | zero => intro s l6 E  hF; simp [FX20_lay_b16] at hF
  | succ n ih =>
    intro s l6 E  hF
    rw [FX20_lay_b16] at hF
    refine b_if hF (fun hF => ?_) (fun hF => ?_)
    ·
      exact BX20_lay_b90 (N := N) E hF
    ·
      refine b_if hF (fun hF => ?_) (fun hF => ?_)
      ·
        exact BX20_lay_b90 (N := N) E hF
      ·
        refine b_rv hF (fun _ hF => ?_)
        refine b_rO E (E.S.c0 (Nat.le_of_ble_eq_true rfl)) hF (fun _ o6 hF => ?_)
        refine b_K hF (fun hF => ?_)
        refine b_if hF (fun hF => ?_) (fun hF => ?_)
        ·
          refine b_rv hF (fun _ hF => ?_)
          refine b_qI E (E.S.c0 (Nat.le_of_ble_eq_true rfl)) hF (fun _ D10 E10 hF => ?_)
          refine b_call E10 (fun _ hq => (BX20_item (bE.rf E10.S) hq)) hF (fun _ hq12 D12 E12 hF => ?_)
          exact BX20_lay_b87 (N := N) (K16 := FX20_lay_b16 N n) @ih E12 hF
        ·
          refine b_pI E (E.S.c0 (Nat.le_of_ble_eq_true rfl)) hF (fun _ D14 E14 hF => ?_)
          exact BX20_lay_b87 (N := N) (K16 := FX20_lay_b16 N n) @ih E14 hF
theorem BX20_lay {σo : fS} {q : Int × fS} {N : Nat} {s : fS} {p0 : Nat} {p1 : Int} {p2 : Int} (E : bE 0 σo s) (op0 : bO 0 s p0) (hF : FX20_lay N p0 p1 p2 s = some q) : bE 0 σo q.2 := by
  unfold FX20_lay at hF
  refine b_pI E (E.S.c0 (Nat.le_of_ble_eq_true rfl)) hF (fun _ D1 E1 hF => ?_)
  refine b_call E1 (fun _ hq => (BX20_enter (bE.rf E1.S) (op0.up D1) hq)) hF (fun _ hq3 D3 E3 hF => ?_)
  exact BX20_lay_b16 (N := N) E3 hF
theorem BX20_line_b17 {σo : fS} {q : Int × fS} {s : fS} (E : bE 0 σo s) (hF : FX20_line_b17 s = some q) : bE 0 σo q.2 := by
  unfold FX20_line_b17 at hF
  exact b_ret E hF
theorem BX20_line {σo : fS} {q : Int × fS} {s : fS} {p0 : Int} {p1 : Int} {p2 : Int} {p3 : Int} {p4 : Int} (E : bE 0 σo s) (hF : FX20_line p0 p1 p2 p3 p4 s = some q) : bE 0 σo q.2 := by
  unfold FX20_line at hF
  refine b_if hF (fun hF => ?_) (fun hF => ?_)
  ·
    exact BX20_line_b17 E hF
  ·
    refine b_if hF (fun hF => ?_) (fun hF => ?_)
    ·
      refine b_call E (fun _ hq => (BX20_mark (bE.rf E.S) hq)) hF (fun _ hq2 D2 E2 hF => ?_)
      exact b_z E2 hF
    ·
      exact BX20_line_b17 E hF
