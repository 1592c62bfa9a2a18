set_option maxRecDepth 100000
set_option maxHeartbeats 4000000
theorem BX8_get {σo : fS} {q : (Int ⊕ Nat) × fS} {N : Nat} {s : fS} (E : bE 0 σo s) (hF : FX8_get N s = some q) : bE 0 σo q.2 := by
  unfold FX8_get at hF
  refine b_tB E (fun _ hq => BX13_get (N := N) (bE.rf E.S) hq) hF (fun _ _ D3 E3 hF => ?_)
  refine b_call E3 (fun _ hq => (BX9_reach (bE.rf E3.S) hq)) hF (fun _ hq8 D8 E8 hF => ?_)
  exact b_ret E8 hF
theorem BX8_isMarked_b11 {σo : fS} {q : Int × fS} {s : fS} {s0 : Int} (E : bE 0 σo s) (hF : FX8_isMarked_b11 s0 s = some q) : bE 0 σo q.2 := by
  unfold FX8_isMarked_b11 at hF
  exact b_z E hF
theorem BX8_isMarked {σo : fS} {q : Int × fS} {s : fS} {p0 : Int} (E : bE 0 σo s) (hF : FX8_isMarked p0 s = some q) : bE 0 σo q.2 := by
  unfold FX8_isMarked at hF
  refine b_if hF (fun hF => ?_) (fun hF => ?_)
  ·
    exact BX8_isMarked_b11 E hF
  ·
    exact BX8_isMarked_b11 E hF
theorem BX1_isCharacter_b16 {σo : fS} {q : Int × fS} {s : fS} {s0 : Int} (E : bE 0 σo s) (hF : FX1_isCharacter_b16 s0 s = some q) : bE 0 σo q.2 := by
  unfold FX1_isCharacter_b16 at hF
  exact b_z E hF
theorem BX1_isCharacter_b15 {σo : fS} {q : Int × fS} {s : fS} (E : bE 0 σo s) (hF : FX1_isCharacter_b15 s = some q) : bE 0 σo q.2 := by
  unfold FX1_isCharacter_b15 at hF
  exact BX1_isCharacter_b16 E hF
theorem BX1_isCharacter {σo : fS} {q : Int × fS} {s : fS} {p0 : Int} (E : bE 0 σo s) (hF : FX1_isCharacter p0 s = some q) : bE 0 σo q.2 := by
  unfold FX1_isCharacter at hF
  refine b_if hF (fun hF => ?_) (fun hF => ?_)
  ·
    exact BX1_isCharacter_b15 E hF
  ·
    refine b_if hF (fun hF => ?_) (fun hF => ?_)
    ·
      exact BX1_isCharacter_b15 E hF
    ·
      exact BX1_isCharacter_b16 E hF
theorem BX8_kind_b35 {σo : fS} {q : Int × fS} {s : fS} {s0 : Int} (E : bE 0 σo s) (hF : FX8_kind_b35 s0 s = some q) : bE 0 σo q.2 := by
  unfold FX8_kind_b35 at hF
  exact b_ret E hF
theorem BX8_kind {σo : fS} {q : Int × fS} {s : fS} {p0 : Int} (E : bE 0 σo s) (hF : FX8_kind p0 s = some q) : bE 0 σo q.2 := by
  unfold FX8_kind at hF
  refine b_call E (fun _ hq => (BX8_isMarked (bE.rf E.S) hq)) hF (fun _ hq1 D1 E1 hF => ?_)
  refine b_if hF (fun hF => ?_) (fun hF => ?_)
  ·
    refine b_call E1 (fun _ hq => (BX1_isCharacter (bE.rf E1.S) hq)) hF (fun _ hq2 D2 E2 hF => ?_)
    refine b_if hF (fun hF => ?_) (fun hF => ?_)
    ·
      refine b_rv hF (fun _ hF => ?_)
      exact BX8_kind_b35 E2 hF
    ·
      exact BX8_kind_b35 E2 hF
  ·
    exact BX8_kind_b35 E1 hF
theorem BX8_value_b36 {σo : fS} {q : Int × fS} {s : fS} {s0 : Int} (E : bE 0 σo s) (hF : FX8_value_b36 s0 s = some q) : bE 0 σo q.2 := by
  unfold FX8_value_b36 at hF
  exact b_ret E hF
theorem BX8_value {σo : fS} {q : Int × fS} {s : fS} {p0 : Int} (E : bE 0 σo s) (hF : FX8_value p0 s = some q) : bE 0 σo q.2 := by
  unfold FX8_value at hF
  refine b_call E (fun _ hq => (BX8_isMarked (bE.rf E.S) hq)) hF (fun _ hq1 D1 E1 hF => ?_)
  refine b_if hF (fun hF => ?_) (fun hF => ?_)
  ·
    refine b_call E1 (fun _ hq => (BX1_isCharacter (bE.rf E1.S) hq)) hF (fun _ hq2 D2 E2 hF => ?_)
    refine b_if hF (fun hF => ?_) (fun hF => ?_)
    ·
      refine b_rv hF (fun _ hF => ?_)
      exact BX8_value_b36 E2 hF
    ·
      exact BX8_value_b36 E2 hF
  ·
    exact BX8_value_b36 E1 hF
theorem BX8_isExpandable_b38 {σo : fS} {q : Int × fS} {s : fS} {s0 : Int} (E : bE 0 σo s) (hF : FX8_isExpandable_b38 s0 s = some q) : bE 0 σo q.2 := by
  unfold FX8_isExpandable_b38 at hF
  exact b_z E hF
theorem BX8_isExpandable_b33 {σo : fS} {q : Int × fS} {s : fS} (E : bE 0 σo s) (hF : FX8_isExpandable_b33 s = some q) : bE 0 σo q.2 := by
  unfold FX8_isExpandable_b33 at hF
  exact BX8_isExpandable_b38 E hF
theorem BX8_isExpandable_b37 {σo : fS} {q : Int × fS} {s : fS} (E : bE 0 σo s) (hF : FX8_isExpandable_b37 s = some q) : bE 0 σo q.2 := by
  unfold FX8_isExpandable_b37 at hF
  exact BX8_isExpandable_b38 E hF
theorem BX8_isExpandable {σo : fS} {q : Int × fS} {s : fS} {p0 : Int} (E : bE 0 σo s) (hF : FX8_isExpandable p0 s = some q) : bE 0 σo q.2 := by
  unfold FX8_isExpandable at hF
  refine b_if hF (fun hF => ?_) (fun hF => ?_)
  ·
    refine b_call E (fun _ hq => (BX8_kind (bE.rf E.S) hq)) hF (fun _ hq2 D2 E2 hF => ?_)
    refine b_if hF (fun hF => ?_) (fun hF => ?_)
    ·
      exact BX8_isExpandable_b33 E2 hF
    ·
      refine b_if hF (fun hF => ?_) (fun hF => ?_)
      ·
        exact BX8_isExpandable_b37 E2 hF
      ·
        refine b_call E2 (fun _ hq => (BX8_value (bE.rf E2.S) hq)) hF (fun _ hq4 D4 E4 hF => ?_)
        refine b_if hF (fun hF => ?_) (fun hF => ?_)
        ·
          exact BX8_isExpandable_b37 E4 hF
        ·
          exact BX8_isExpandable_b33 E4 hF
  ·
    exact b_ret E hF
theorem BX8_getExpanded_b5 {σo : fS} {q : (Int ⊕ Nat) × fS} {N : Nat} {RE : Int → fS → Option ((Unit ⊕ Nat) × fS)} (hrE : ∀ {s : fS} {x1 : Int} {q}, bS 0 s → RE x1 s = some q → bE 0 s q.2) : ∀ {n : Nat} {s : fS} {l1 : Int}, bE 0 σo s → FX8_getExpanded_b5 N RE n l1 s = some q → bE 0 σo q.2 := by
  intro n
  induction n with
  | zero => intro s l1 E  hF; simp [FX8_getExpanded_b5] at hF
  | succ n ih =>
    intro s l1 E  hF
    rw [FX8_getExpanded_b5] at hF
    refine b_call E (fun _ hq => (BX8_isExpandable (bE.rf E.S) hq)) hF (fun _ hq2 D2 E2 hF => ?_)
    refine b_if hF (fun hF => ?_) (fun hF => ?_)
    ·
      exact b_ret E2 hF
    ·
      refine b_tB E2 (fun _ hq => hrE E2.S hq) hF (fun _ _ D4 E4 hF => ?_)
      refine b_tB E4 (fun _ hq => BX8_get (N := N) (bE.rf E4.S) hq) hF (fun _ _ D6 E6 hF => ?_)
      exact ih E6 hF
theorem BX8_getExpanded {σo : fS} {q : (Int ⊕ Nat) × fS} {N : Nat} {RE : Int → fS → Option ((Unit ⊕ Nat) × fS)} (hrE : ∀ {s : fS} {x1 : Int} {q}, bS 0 s → RE x1 s = some q → bE 0 s q.2) {s : fS} (E : bE 0 σo s) (hF : FX8_getExpanded N RE s = some q) : bE 0 σo q.2 := by
  unfold FX8_getExpanded at hF
  refine b_tB E (fun _ hq => BX8_get (N := N) (bE.rf E.S) hq) hF (fun _ _ D2 E2 hF => ?_)
  exact BX8_getExpanded_b5 (N := N) (RE := RE) @hrE E2 hF
theorem BX8_tick_b30 {σo : fS} {q : (Unit ⊕ Nat) × fS} {s : fS} {s1 : Int} (E : bE 0 σo s) (hF : FX8_tick_b30 s1 s = some q) : bE 0 σo q.2 := by
  unfold FX8_tick_b30 at hF
  refine b_tB E (fun _ hq => BX4_want (bE.rf E.S) hq) hF (fun _ _ D2 E2 hF => ?_)
  exact b_ret E2 hF
theorem BX8_tick {σo : fS} {q : (Unit ⊕ Nat) × fS} {s : fS} (E : bE 0 σo s) (hF : FX8_tick s = some q) : bE 0 σo q.2 := by
  unfold FX8_tick at hF
  refine b_pI E (E.S.c0 (Nat.le_of_ble_eq_true rfl)) hF (fun _ D2 E2 hF => ?_)
  refine b_if hF (fun hF => ?_) (fun hF => ?_)
  ·
    exact BX8_tick_b30 E2 hF
  ·
    exact BX8_tick_b30 E2 hF
theorem BX18_link_b50 {σo : fS} {q : Int × fS} {s : fS} {l3 : Int} (E : bE 0 σo s) (hF : FX18_link_b50 l3 s = some q) : bE 0 σo q.2 := by
  unfold FX18_link_b50 at hF
  exact b_ret E hF
theorem BX18_link {σo : fS} {q : Int × fS} {s : fS} {p0 : Int} {p1 : Int} (E : bE 0 σo s) (hF : FX18_link p0 p1 s = some q) : bE 0 σo q.2 := by
  unfold FX18_link at hF
  refine b_pI E (E.S.c0 (Nat.le_of_ble_eq_true rfl)) hF (fun _ D2 E2 hF => ?_)
  refine b_qI E2 (E2.S.c0 (Nat.le_of_ble_eq_true rfl)) hF (fun _ D4 E4 hF => ?_)
  refine b_qI E4 (E4.S.c0 (Nat.le_of_ble_eq_true rfl)) hF (fun _ D6 E6 hF => ?_)
  refine b_if hF (fun hF => ?_) (fun hF => ?_)
  ·
    exact BX18_link_b50 E6 hF
  ·
    refine b_rv hF (fun _ hF => ?_)
    refine b_qI E6 (E6.S.c0 (Nat.le_of_ble_eq_true rfl)) hF (fun _ D10 E10 hF => ?_)
    refine b_qI E10 (E10.S.c0 (Nat.le_of_ble_eq_true rfl)) hF (fun _ D12 E12 hF => ?_)
    exact BX18_link_b50 E12 hF
theorem BX6_begin_b30 {σo : fS} {q : Int × fS} {s : fS} {s0 : Int} (E : bE 0 σo s) (hF : FX6_begin_b30 s0 s = some q) : bE 0 σo q.2 := by
  unfold FX6_begin_b30 at hF
  exact b_ret E hF
theorem BX6_begin {σo : fS} {q : Int × fS} {s : fS} {this : Nat} {p0 : Int} (E : bE 0 σo s) (othis : bO 0 s this) (hF : FX6_begin this p0 s = some q) : bE 0 σo q.2 := by
  unfold FX6_begin at hF
  refine b_K hF (fun hF => ?_)
  refine b_call E (fun _ hq => (BX6_word (bE.rf E.S) othis hq)) hF (fun _ hq2 D2 E2 hF => ?_)
  refine b_call E2 (fun _ hq => (BX6_a (bE.rf E2.S) hq)) hF (fun _ hq3 D3 E3 hF => ?_)
  refine b_if hF (fun hF => ?_) (fun hF => ?_)
  ·
    exact BX6_begin_b30 E3 hF
  ·
    refine b_K hF (fun hF => ?_)
    refine b_call E3 (fun _ hq => (BX6_word (bE.rf E3.S) ((othis.up D2).up D3) hq)) hF (fun _ hq5 D5 E5 hF => ?_)
    refine b_call E5 (fun _ hq => (BX6_far (bE.rf E5.S) hq)) hF (fun _ hq6 D6 E6 hF => ?_)
    exact BX6_begin_b30 E6 hF
theorem BX6_find_b61 {σo : fS} {q : Int × fS} {N : Nat} {s : fS} (E : bE 0 σo s) (hF : FX6_find_b61 N s = some q) : bE 0 σo q.2 := by
  unfold FX6_find_b61 at hF
  exact b_ret E hF
theorem BX6_find_b70 {σo : fS} {q : Int × fS} {N : Nat} : ∀ {n : Nat} {s : fS} {l0 : Nat} {l4 : Int} {l5 : Int}, bE 0 σo s → bO 0 s l0 → FX6_find_b70 N n l0 l4 l5 s = some q → bE 0 σo q.2 := by
  intro n
  induction n with
  | zero => intro s l0 l4 l5 E ol0 hF; simp [FX6_find_b70] at hF
  | succ n ih =>
    intro s l0 l4 l5 E ol0 hF
    rw [FX6_find_b70] at hF
    refine b_K hF (fun hF => ?_)
    refine b_call E (fun _ hq => (BX6_word (bE.rf E.S) ol0 hq)) hF (fun _ hq2 D2 E2 hF => ?_)
    refine b_call E2 (fun _ hq => (BX6_a (bE.rf E2.S) hq)) hF (fun _ hq3 D3 E3 hF => ?_)
    refine b_if hF (fun hF => ?_) (fun hF => ?_)
    ·
      refine b_call E3 (fun _ hq => (BX6_b (bE.rf E3.S) hq)) hF (fun _ hq4 D4 E4 hF => ?_)
      refine b_if hF (fun hF => ?_) (fun hF => ?_)
      ·
        refine b_call E4 (fun _ hq => (BX6_a (bE.rf E4.S) hq)) hF (fun _ hq5 D5 E5 hF => ?_)
        refine b_if hF (fun hF => ?_) (fun hF => ?_)
        ·
          refine b_call E5 (fun _ hq => (BX6_a (bE.rf E5.S) hq)) hF (fun _ hq6 D6 E6 hF => ?_)
          exact ih E6 (((((ol0.up D2).up D3).up D4).up D5).up D6) hF
        ·
          exact b_ret E5 hF
      ·
        exact b_ret E4 hF
    ·
      exact b_ret E3 hF
theorem BX6_find_b48 {σo : fS} {q : Int × fS} {N : Nat} {s : fS} {l0 : Nat} {l3 : Int} {s0 : Int} (E : bE 0 σo s) (ol0 : bO 0 s l0) (hF : FX6_find_b48 N l0 l3 s0 s = some q) : bE 0 σo q.2 := by
  unfold FX6_find_b48 at hF
  refine b_if hF (fun hF => ?_) (fun hF => ?_)
  ·
    exact BX6_find_b61 (N := N) E hF
  ·
    refine b_if hF (fun hF => ?_) (fun hF => ?_)
    ·
      refine b_K hF (fun hF => ?_)
      refine b_call E (fun _ hq => (BX6_begin (bE.rf E.S) ol0 hq)) hF (fun _ hq2 D2 E2 hF => ?_)
      exact BX6_find_b70 (N := N) E2 (ol0.up D2) hF
    ·
      exact BX6_find_b61 (N := N) E hF
theorem BX6_find_b32 {σo : fS} {q : Int × fS} {N : Nat} {s : fS} {l0 : Nat} {l2 : Int} {s0 : Int} (E : bE 0 σo s) (ol0 : bO 0 s l0) (hF : FX6_find_b32 N l0 l2 s0 s = some q) : bE 0 σo q.2 := by
  unfold FX6_find_b32 at hF
  refine b_if hF (fun hF => ?_) (fun hF => ?_)
  ·
    exact BX6_find_b48 (N := N) E ol0 hF
  ·
    refine b_K hF (fun hF => ?_)
    exact BX6_find_b48 (N := N) E ol0 hF
theorem BX6_find {σo : fS} {q : Int × fS} {N : Nat} {s : fS} {this : Nat} {p0 : Int} {p1 : Int} (E : bE 0 σo s) (othis : bO 0 s this) (hF : FX6_find N this p0 p1 s = some q) : bE 0 σo q.2 := by
  unfold FX6_find at hF
  refine b_if hF (fun hF => ?_) (fun hF => ?_)
  ·
    refine b_K hF (fun hF => ?_)
    refine b_call E (fun _ hq => (BX6_tag (bE.rf E.S) othis hq)) hF (fun _ hq2 D2 E2 hF => ?_)
    refine b_if hF (fun hF => ?_) (fun hF => ?_)
    ·
      exact BX6_find_b32 (N := N) E2 (othis.up D2) hF
    ·
      refine b_K hF (fun hF => ?_)
      refine b_call E2 (fun _ hq => (BX6_rest (bE.rf E2.S) (othis.up D2) hq)) hF (fun _ hq4 D4 E4 hF => ?_)
      exact BX6_find_b32 (N := N) E4 ((othis.up D2).up D4) hF
  ·
    refine b_K hF (fun hF => ?_)
    exact BX6_find_b32 (N := N) E othis hF
theorem BX6_kern {σo : fS} {q : Int × fS} {s : fS} {this : Nat} {p0 : Int} (E : bE 0 σo s) (othis : bO 0 s this) (hF : FX6_kern this p0 s = some q) : bE 0 σo q.2 := by
  unfold FX6_kern at hF
  refine b_K hF (fun hF => ?_)
  refine b_o E othis hF (fun _ o1 hF => ?_)
  refine b_K hF (fun hF => ?_)
  refine b_o E othis hF (fun _ o2 hF => ?_)
  refine b_KA hF (fun hF => ?_)
  refine b_rv hF (fun _ hF => ?_)
  refine b_KA hF (fun hF => ?_)
  refine b_rv hF (fun _ hF => ?_)
  exact b_ret E hF
theorem BX18_join_b104 {σo : fS} {q : Int × fS} {N : Nat} {s : fS} {l7 : Int} (E : bE 0 σo s) (hF : FX18_join_b104 N l7 s = some q) : bE 0 σo q.2 := by
  unfold FX18_join_b104 at hF
  exact b_ret E hF
theorem BX18_join_b68 {σo : fS} {q : Int × fS} {N : Nat} : ∀ {n : Nat} {s : fS} {l7 : Int} {l8 : Int}, bE 0 σo s → FX18_join_b68 N n l7 l8 s = some q → bE 0 σo q.2 := by
  intro n
  induction n with
  | zero => intro s l7 l8 E  hF; simp [FX18_join_b68] at hF
  | succ n ih =>
    intro s l7 l8 E  hF
    rw [FX18_join_b68] at hF
    refine b_if hF (fun hF => ?_) (fun hF => ?_)
    ·
      exact BX18_join_b104 (N := N) E hF
    ·
      refine b_rv hF (fun _ hF => ?_)
      refine b_rv hF (fun _ hF => ?_)
      refine b_if hF (fun hF => ?_) (fun hF => ?_)
      ·
        exact BX18_join_b104 (N := N) E hF
      ·
        refine b_rv hF (fun _ hF => ?_)
        exact ih E hF
theorem BX18_join_b60 {σo : fS} {q : Int × fS} {N : Nat} {s : fS} {l1 : Int} {l2 : Int} (E : bE 0 σo s) (hF : FX18_join_b60 N l1 l2 s = some q) : bE 0 σo q.2 := by
  unfold FX18_join_b60 at hF
  exact BX18_join_b68 (N := N) E hF
theorem BX18_join_b40 {σo : fS} {q : Int × fS} {N : Nat} {s : fS} {l1 : Int} {l2 : Int} {l5 : Int} {l6 : Int} (E : bE 0 σo s) (hF : FX18_join_b40 N l1 l2 l5 l6 s = some q) : bE 0 σo q.2 := by
  unfold FX18_join_b40 at hF
  refine b_if hF (fun hF => ?_) (fun hF => ?_)
  ·
    exact BX18_join_b60 (N := N) E hF
  ·
    refine b_rv hF (fun _ hF => ?_)
    refine b_qI E (E.S.c0 (Nat.le_of_ble_eq_true rfl)) hF (fun _ D4 E4 hF => ?_)
    exact BX18_join_b60 (N := N) E4 hF
theorem BX18_join {σo : fS} {q : Int × fS} {N : Nat} {s : fS} {p0 : Int} {p1 : Int} {p2 : Int} (E : bE 0 σo s) (hF : FX18_join N p0 p1 p2 s = some q) : bE 0 σo q.2 := by
  unfold FX18_join at hF
  refine b_rv hF (fun _ hF => ?_)
  refine b_rv hF (fun _ hF => ?_)
  refine b_call E (fun _ hq => (BX18_link (bE.rf E.S) hq)) hF (fun _ hq6 D6 E6 hF => ?_)
  refine b_if hF (fun hF => ?_) (fun hF => ?_)
  ·
    exact BX18_join_b40 (N := N) E6 hF
  ·
    refine b_qI E6 (E6.S.c0 (Nat.le_of_ble_eq_true rfl)) hF (fun _ D8 E8 hF => ?_)
    exact BX18_join_b40 (N := N) E8 hF
theorem BX18_gather_b39 {σo : fS} {q : Int × fS} {N : Nat} {K9 : Int → Int → fS → Option (Int × fS)} (hk9 : ∀ {s : fS} {l1 : Int} {l2 : Int}, bE 0 σo s → K9 l1 l2 s = some q → bE 0 σo q.2) {s : fS} {l1 : Int} {l2 : Int} (E : bE 0 σo s) (hF : FX18_gather_b39 N K9 l1 l2 s = some q) : bE 0 σo q.2 := by
  unfold FX18_gather_b39 at hF
  refine b_rv hF (fun _ hF => ?_)
  exact hk9 E hF
theorem BX18_gather_b9 {σo : fS} {q : Int × fS} {N : Nat} : ∀ {n : Nat} {s : fS} {l1 : Int} {l2 : Int}, bE 0 σo s → FX18_gather_b9 N n l1 l2 s = some q → bE 0 σo q.2 := by
  intro n
  induction n with
  | zero => intro s l1 l2 E  hF; simp [FX18_gather_b9] at hF
  | succ n ih =>
    intro s l1 l2 E  hF
    rw [FX18_gather_b9] at hF
    refine b_if hF (fun hF => ?_) (fun hF => ?_)
    ·
      exact b_ret E hF
    ·
      refine b_rv hF (fun _ hF => ?_)
      refine b_if hF (fun hF => ?_) (fun hF => ?_)
      ·
        refine b_qI E (E.S.c0 (Nat.le_of_ble_eq_true rfl)) hF (fun _ D4 E4 hF => ?_)
        exact BX18_gather_b39 (N := N) (K9 := FX18_gather_b9 N n) @ih E4 hF
      ·
        exact BX18_gather_b39 (N := N) (K9 := FX18_gather_b9 N n) @ih E hF
theorem BX18_gather {σo : fS} {q : Int × fS} {N : Nat} {s : fS} (E : bE 0 σo s) (hF : FX18_gather N s = some q) : bE 0 σo q.2 := by
  unfold FX18_gather at hF
  refine b_rv hF (fun _ hF => ?_)
  exact BX18_gather_b9 (N := N) E hF
theorem BX18_set_b243 {σo : fS} {q : Int × fS} {N : Nat} {K95 : Nat → Int → Int → fS → Option (Int × fS)} (hk95 : ∀ {s : fS} {l1 : Nat} {l5 : Int} {l6 : Int}, bE 0 σo s → bO 0 s l1 → K95 l1 l5 l6 s = some q → bE 0 σo q.2) {s : fS} {l1 : Nat} {l5 : Int} {l6 : Int} (E : bE 0 σo s) (ol1 : bO 0 s l1) (hF : FX18_set_b243 N K95 l1 l5 l6 s = some q) : bE 0 σo q.2 := by
  unfold FX18_set_b243 at hF
  exact hk95 E ol1 hF
theorem BX18_set_b246 {σo : fS} {q : Int × fS} {N : Nat} {s : fS} (E : bE 0 σo s) (hF : FX18_set_b246 N s = some q) : bE 0 σo q.2 := by
  unfold FX18_set_b246 at hF
  refine b_call E (fun _ hq => (BX18_gather (N := N) (bE.rf E.S) hq)) hF (fun _ hq2 D2 E2 hF => ?_)
  refine b_pI E2 (E2.S.c0 (Nat.le_of_ble_eq_true rfl)) hF (fun _ D3 E3 hF => ?_)
  exact b_ret E3 hF
theorem BX18_set_b95 {σo : fS} {q : Int × fS} {N : Nat} : ∀ {n : Nat} {s : fS} {l1 : Nat} {l5 : Int} {l6 : Int}, bE 0 σo s → bO 0 s l1 → FX18_set_b95 N n l1 l5 l6 s = some q → bE 0 σo q.2 := by
  intro n
  induction n with
  | zero => intro s l1 l5 l6 E ol1 hF; simp [FX18_set_b95] at hF
  | succ n ih =>
    intro s l1 l5 l6 E ol1 hF
    rw [FX18_set_b95] at hF
    refine b_rv hF (fun _ hF => ?_)
    refine b_if hF (fun hF => ?_) (fun hF => ?_)
    ·
      exact BX18_set_b246 (N := N) E hF
    ·
      refine b_rv hF (fun _ hF => ?_)
      refine b_rv hF (fun _ hF => ?_)
      refine b_if hF (fun hF => ?_) (fun hF => ?_)
      ·
        exact BX18_set_b246 (N := N) E hF
      ·
        refine b_if hF (fun hF => ?_) (fun hF => ?_)
        ·
          refine b_rv hF (fun _ hF => ?_)
          refine b_rv hF (fun _ hF => ?_)
          refine b_rv hF (fun _ hF => ?_)
          refine b_rv hF (fun _ hF => ?_)
          refine b_K hF (fun hF => ?_)
          refine b_call E (fun _ hq => (BX6_find (N := N) (bE.rf E.S) ol1 hq)) hF (fun _ hq16 D16 E16 hF => ?_)
          refine b_if hF (fun hF => ?_) (fun hF => ?_)
          ·
            refine b_if hF (fun hF => ?_) (fun hF => ?_)
            ·
              refine b_call E16 (fun _ hq => (BX18_join (N := N) (bE.rf E16.S) hq)) hF (fun _ hq18 D18 E18 hF => ?_)
              exact BX18_set_b243 (N := N) (K95 := FX18_set_b95 N n) @ih E18 ((ol1.up D16).up D18) hF
            ·
              refine b_call E16 (fun _ hq => (BX18_link (bE.rf E16.S) hq)) hF (fun _ hq20 D20 E20 hF => ?_)
              refine b_K hF (fun hF => ?_)
              refine b_call E20 (fun _ hq => (BX6_kern (bE.rf E20.S) ((ol1.up D16).up D20) hq)) hF (fun _ hq23 D23 E23 hF => ?_)
              refine b_qI E23 (E23.S.c0 (Nat.le_of_ble_eq_true rfl)) hF (fun _ D24 E24 hF => ?_)
              exact BX18_set_b243 (N := N) (K95 := FX18_set_b95 N n) @ih E24 ((((ol1.up D16).up D20).up D23).up D24) hF
          ·
            exact BX18_set_b243 (N := N) (K95 := FX18_set_b95 N n) @ih E16 (ol1.up D16) hF
        ·
          exact b_ret E hF
theorem BX18_set_b89 {σo : fS} {q : Int × fS} {N : Nat} {s : fS} {l1 : Nat} (E : bE 0 σo s) (ol1 : bO 0 s l1) (hF : FX18_set_b89 N l1 s = some q) : bE 0 σo q.2 := by
  unfold FX18_set_b89 at hF
  exact BX18_set_b95 (N := N) E ol1 hF
theorem BX18_set_b42 {σo : fS} {q : Int × fS} {N : Nat} : ∀ {n : Nat} {s : fS} {l1 : Nat} {l2 : Nat} {l3 : Int} {l4 : Int} {l5 : Int}, bE 0 σo s → bO 0 s l1 → bO 0 s l2 → FX18_set_b42 N n l1 l2 l3 l4 l5 s = some q → bE 0 σo q.2 := by
  intro n
  induction n with
  | zero => intro s l1 l2 l3 l4 l5 E ol1 ol2 hF; simp [FX18_set_b42] at hF
  | succ n ih =>
    intro s l1 l2 l3 l4 l5 E ol1 ol2 hF
    rw [FX18_set_b42] at hF
    refine b_if hF (fun hF => ?_) (fun hF => ?_)
    ·
      refine b_K hF (fun hF => ?_)
      refine b_if hF (fun hF => ?_) (fun hF => ?_)
      ·
        exact BX18_set_b89 (N := N) E ol1 hF
      ·
        refine b_call E (fun _ hq => (BX18_link (bE.rf E.S) hq)) hF (fun _ hq3 D3 E3 hF => ?_)
        exact BX18_set_b89 (N := N) E3 (ol1.up D3) hF
    ·
      refine b_KA hF (fun hF => ?_)
      refine b_rv hF (fun _ hF => ?_)
      refine b_call E (fun _ hq => (BX18_link (bE.rf E.S) hq)) hF (fun _ hq6 D6 E6 hF => ?_)
      exact ih E6 (ol1.up D6) (ol2.up D6) hF
theorem BX18_set_b39 {σo : fS} {q : Int × fS} {N : Nat} {s : fS} {l1 : Nat} {l2 : Nat} {l3 : Int} {l4 : Int} (E : bE 0 σo s) (ol1 : bO 0 s l1) (ol2 : bO 0 s l2) (hF : FX18_set_b39 N l1 l2 l3 l4 s = some q) : bE 0 σo q.2 := by
  unfold FX18_set_b39 at hF
  exact BX18_set_b42 (N := N) E ol1 ol2 hF
theorem BX18_set {σo : fS} {q : Int × fS} {N : Nat} {s : fS} {p0 : Nat} {p1 : Nat} {p2 : Int} (E : bE 0 σo s) (op0 : bO 0 s p0) (op1 : bO 0 s p1) (hF : FX18_set N p0 p1 p2 s = some q) : bE 0 σo q.2 := by
  unfold FX18_set at hF
  refine b_pI E (E.S.c0 (Nat.le_of_ble_eq_true rfl)) hF (fun _ D1 E1 hF => ?_)
  refine b_pI E1 (E1.S.c0 (Nat.le_of_ble_eq_true rfl)) hF (fun _ D2 E2 hF => ?_)
  refine b_call E2 (fun _ hq => (BX18_link (bE.rf E2.S) hq)) hF (fun _ hq4 D4 E4 hF => ?_)
  refine b_K hF (fun hF => ?_)
  refine b_if hF (fun hF => ?_) (fun hF => ?_)
  ·
    exact BX18_set_b39 (N := N) E4 (((op0.up D1).up D2).up D4) (((op1.up D1).up D2).up D4) hF
  ·
    refine b_call E4 (fun _ hq => (BX18_link (bE.rf E4.S) hq)) hF (fun _ hq7 D7 E7 hF => ?_)
    exact BX18_set_b39 (N := N) E7 ((((op0.up D1).up D2).up D4).up D7) ((((op1.up D1).up D2).up D4).up D7) hF
theorem BX18_item_b34 {σo : fS} {q : Int × fS} {s : fS} {s0 : Int} (E : bE 0 σo s) (hF : FX18_item_b34 s0 s = some q) : bE 0 σo q.2 := by
  unfold FX18_item_b34 at hF
  exact b_ret E hF
theorem BX18_item {σo : fS} {q : Int × fS} {s : fS} {p0 : Int} (E : bE 0 σo s) (hF : FX18_item p0 s = some q) : bE 0 σo q.2 := by
  unfold FX18_item at hF
  refine b_rv hF (fun _ hF => ?_)
  refine b_rv hF (fun _ hF => ?_)
  refine b_if hF (fun hF => ?_) (fun hF => ?_)
  ·
    refine b_rv hF (fun _ hF => ?_)
    exact BX18_item_b34 E hF
  ·
    refine b_rv hF (fun _ hF => ?_)
    exact BX18_item_b34 E hF
theorem BX18_isKern_b22 {σo : fS} {q : Int × fS} {s : fS} {s0 : Int} (E : bE 0 σo s) (hF : FX18_isKern_b22 s0 s = some q) : bE 0 σo q.2 := by
  unfold FX18_isKern_b22 at hF
  exact b_z E hF
theorem BX18_isKern {σo : fS} {q : Int × fS} {s : fS} {p0 : Int} (E : bE 0 σo s) (hF : FX18_isKern p0 s = some q) : bE 0 σo q.2 := by
  unfold FX18_isKern at hF
  refine b_rv hF (fun _ hF => ?_)
  refine b_rv hF (fun _ hF => ?_)
  refine b_if hF (fun hF => ?_) (fun hF => ?_)
  ·
    exact BX18_isKern_b22 E hF
  ·
    exact BX18_isKern_b22 E hF
theorem BX34_add {σo : fS} {q : Unit × fS} {s : fS} {this : Nat} {p0 : Int} {p1 : Int} {p2 : Int} {p3 : Int} {p4 : Int} {p5 : Int} (E : bE 0 σo s) (othis : bO 0 s this) (hF : FX34_add this p0 p1 p2 p3 p4 p5 s = some q) : bE 0 σo q.2 := by
  unfold FX34_add at hF
  refine b_K hF (fun hF => ?_)
  refine b_o E othis hF (fun _ o1 hF => ?_)
  refine b_K hF (fun hF => ?_)
  refine b_call E (fun _ hq => (BX1_grown (bE.rf E.S) o1 hq).1) hF (fun _ hq3 D3 E3 hF => ?_)
  refine b_K hF (fun hF => ?_)
  refine b_o E3 (othis.up D3) hF (fun _ o4 hF => ?_)
  refine b_mv E3 o4 (BX1_grown (bE.rf E.S) o1 hq3).2 hF (fun _ D4 E4 hF => ?_)
  refine b_K hF (fun hF => ?_)
  refine b_K hF (fun hF => ?_)
  refine b_pI E4 ((othis.up D3).up D4) hF (fun _ D6 E6 hF => ?_)
  refine b_K hF (fun hF => ?_)
  refine b_o E6 (((othis.up D3).up D4).up D6) hF (fun _ o7 hF => ?_)
  refine b_KA hF (fun hF => ?_)
  refine b_qI E6 o7 hF (fun _ D8 E8 hF => ?_)
  refine b_K hF (fun hF => ?_)
  refine b_o E8 ((((othis.up D3).up D4).up D6).up D8) hF (fun _ o9 hF => ?_)
  refine b_KA hF (fun hF => ?_)
  refine b_qI E8 o9 hF (fun _ D10 E10 hF => ?_)
  refine b_K hF (fun hF => ?_)
  refine b_o E10 (((((othis.up D3).up D4).up D6).up D8).up D10) hF (fun _ o11 hF => ?_)
  refine b_KA hF (fun hF => ?_)
  refine b_qI E10 o11 hF (fun _ D12 E12 hF => ?_)
  refine b_K hF (fun hF => ?_)
  refine b_o E12 ((((((othis.up D3).up D4).up D6).up D8).up D10).up D12) hF (fun _ o13 hF => ?_)
  refine b_KA hF (fun hF => ?_)
  refine b_qI E12 o13 hF (fun _ D14 E14 hF => ?_)
  refine b_K hF (fun hF => ?_)
  refine b_o E14 (((((((othis.up D3).up D4).up D6).up D8).up D10).up D12).up D14) hF (fun _ o15 hF => ?_)
  refine b_KA hF (fun hF => ?_)
  refine b_qI E14 o15 hF (fun _ D16 E16 hF => ?_)
  refine b_K hF (fun hF => ?_)
  refine b_o E16 ((((((((othis.up D3).up D4).up D6).up D8).up D10).up D12).up D14).up D16) hF (fun _ o17 hF => ?_)
  refine b_KA hF (fun hF => ?_)
  refine b_qI E16 o17 hF (fun _ D18 E18 hF => ?_)
  exact b_ret E18 hF
theorem BX6_of {σo : fS} {q : Int × fS} {s : fS} {this : Nat} {p0 : Int} {p1 : Int} (E : bE 0 σo s) (othis : bO 0 s this) (hF : FX6_of this p0 p1 s = some q) : bE 0 σo q.2 := by
  unfold FX6_of at hF
  refine b_K hF (fun hF => ?_)
  refine b_K hF (fun hF => ?_)
  refine b_call E (fun _ hq => (BX6_word (bE.rf E.S) othis hq)) hF (fun _ hq3 D3 E3 hF => ?_)
  refine b_if hF (fun hF => ?_) (fun hF => ?_)
  ·
    refine b_K hF (fun hF => ?_)
    refine b_o E3 (othis.up D3) hF (fun _ o4 hF => ?_)
    refine b_K hF (fun hF => ?_)
    refine b_o E3 (othis.up D3) hF (fun _ o5 hF => ?_)
    refine b_KA hF (fun hF => ?_)
    refine b_rv hF (fun _ hF => ?_)
    refine b_call E3 (fun _ hq => (BX6_a (bE.rf E3.S) hq)) hF (fun _ hq7 D7 E7 hF => ?_)
    refine b_KA hF (fun hF => ?_)
    refine b_rv hF (fun _ hF => ?_)
    exact b_ret E7 hF
  ·
    refine b_if hF (fun hF => ?_) (fun hF => ?_)
    ·
      refine b_K hF (fun hF => ?_)
      refine b_o E3 (othis.up D3) hF (fun _ o9 hF => ?_)
      refine b_K hF (fun hF => ?_)
      refine b_o E3 (othis.up D3) hF (fun _ o10 hF => ?_)
      refine b_KA hF (fun hF => ?_)
      refine b_rv hF (fun _ hF => ?_)
      refine b_call E3 (fun _ hq => (BX6_b (bE.rf E3.S) hq)) hF (fun _ hq12 D12 E12 hF => ?_)
      refine b_KA hF (fun hF => ?_)
      refine b_rv hF (fun _ hF => ?_)
      exact b_ret E12 hF
    ·
      refine b_if hF (fun hF => ?_) (fun hF => ?_)
      ·
        refine b_K hF (fun hF => ?_)
        refine b_o E3 (othis.up D3) hF (fun _ o14 hF => ?_)
        refine b_K hF (fun hF => ?_)
        refine b_o E3 (othis.up D3) hF (fun _ o15 hF => ?_)
        refine b_KA hF (fun hF => ?_)
        refine b_rv hF (fun _ hF => ?_)
        refine b_call E3 (fun _ hq => (BX6_b (bE.rf E3.S) hq)) hF (fun _ hq17 D17 E17 hF => ?_)
        refine b_KA hF (fun hF => ?_)
        refine b_rv hF (fun _ hF => ?_)
        exact b_ret E17 hF
      ·
        refine b_if hF (fun hF => ?_) (fun hF => ?_)
        ·
          refine b_K hF (fun hF => ?_)
          refine b_o E3 (othis.up D3) hF (fun _ o19 hF => ?_)
          refine b_K hF (fun hF => ?_)
          refine b_o E3 (othis.up D3) hF (fun _ o20 hF => ?_)
          refine b_KA hF (fun hF => ?_)
          refine b_rv hF (fun _ hF => ?_)
          refine b_call E3 (fun _ hq => (BX6_c (bE.rf E3.S) hq)) hF (fun _ hq22 D22 E22 hF => ?_)
          refine b_KA hF (fun hF => ?_)
          refine b_rv hF (fun _ hF => ?_)
          exact b_ret E22 hF
        ·
          refine b_if hF (fun hF => ?_) (fun hF => ?_)
          ·
            refine b_K hF (fun hF => ?_)
            refine b_call E3 (fun _ hq => (BX6_tag (bE.rf E3.S) (othis.up D3) hq)) hF (fun _ hq25 D25 E25 hF => ?_)
            exact b_ret E25 hF
          ·
            refine b_K hF (fun hF => ?_)
            refine b_call E3 (fun _ hq => (BX6_rest (bE.rf E3.S) (othis.up D3) hq)) hF (fun _ hq27 D27 E27 hF => ?_)
            exact b_ret E27 hF
theorem BX3_setRow_b122 {σo : fS} {q : Int × fS} {N : Nat} {K33 : Nat → Nat → Int → fS → Option (Int × fS)} (hk33 : ∀ {s : fS} {l3 : Nat} {l4 : Nat} {l5 : Int}, bE 0 σo s → bO 0 s l3 → bO 0 s l4 → K33 l3 l4 l5 s = some q → bE 0 σo q.2) {s : fS} {l3 : Nat} {l4 : Nat} {l5 : Int} (E : bE 0 σo s) (ol3 : bO 0 s l3) (ol4 : bO 0 s l4) (hF : FX3_setRow_b122 N K33 l3 l4 l5 s = some q) : bE 0 σo q.2 := by
  unfold FX3_setRow_b122 at hF
  exact hk33 E ol3 ol4 hF
theorem BX3_setRow_b33 {σo : fS} {q : Int × fS} {N : Nat} : ∀ {n : Nat} {s : fS} {l3 : Nat} {l4 : Nat} {l5 : Int}, bE 0 σo s → bO 0 s l3 → bO 0 s l4 → FX3_setRow_b33 N n l3 l4 l5 s = some q → bE 0 σo q.2 := by
  intro n
  induction n with
  | zero => intro s l3 l4 l5 E ol3 ol4 hF; simp [FX3_setRow_b33] at hF
  | succ n ih =>
    intro s l3 l4 l5 E ol3 ol4 hF
    rw [FX3_setRow_b33] at hF
    refine b_if hF (fun hF => ?_) (fun hF => ?_)
    ·
      exact b_ret E hF
    ·
      refine b_call E (fun _ hq => (BX18_item (bE.rf E.S) hq)) hF (fun _ hq5 D5 E5 hF => ?_)
      refine b_call E5 (fun _ hq => (BX18_isKern (bE.rf E5.S) hq)) hF (fun _ hq8 D8 E8 hF => ?_)
      refine b_if hF (fun hF => ?_) (fun hF => ?_)
      ·
        refine b_K hF (fun hF => ?_)
        refine b_call E8 (fun _ hq => (BX6_of (bE.rf E8.S) ((ol4.up D5).up D8) hq)) hF (fun _ hq11 D11 E11 hF => ?_)
        refine b_K hF (fun hF => ?_)
        refine b_call E11 (fun _ hq => (BX6_of (bE.rf E11.S) (((ol4.up D5).up D8).up D11) hq)) hF (fun _ hq13 D13 E13 hF => ?_)
        refine b_K hF (fun hF => ?_)
        refine b_call E13 (fun _ hq => (BX6_of (bE.rf E13.S) ((((ol4.up D5).up D8).up D11).up D13) hq)) hF (fun _ hq15 D15 E15 hF => ?_)
        refine b_K hF (fun hF => ?_)
        refine b_call E15 (fun _ hq => (BX34_add (bE.rf E15.S) (((((ol3.up D5).up D8).up D11).up D13).up D15) hq)) hF (fun _ hq17 D17 E17 hF => ?_)
        exact BX3_setRow_b122 (N := N) (K33 := FX3_setRow_b33 N n) @ih E17 ((((((ol3.up D5).up D8).up D11).up D13).up D15).up D17) ((((((ol4.up D5).up D8).up D11).up D13).up D15).up D17) hF
      ·
        refine b_K hF (fun hF => ?_)
        refine b_call E8 (fun _ hq => (BX34_add (bE.rf E8.S) ((ol3.up D5).up D8) hq)) hF (fun _ hq19 D19 E19 hF => ?_)
        exact BX3_setRow_b122 (N := N) (K33 := FX3_setRow_b33 N n) @ih E19 (((ol3.up D5).up D8).up D19) (((ol4.up D5).up D8).up D19) hF
theorem BX3_setRow {σo : fS} {q : Int × fS} {N : Nat} {s : fS} {p0 : Nat} {p1 : Int} {p2 : Nat} (E : bE 0 σo s) (op0 : bO 0 s p0) (op2 : bO 0 s p2) (hF : FX3_setRow N p0 p1 p2 s = some q) : bE 0 σo q.2 := by
  unfold FX3_setRow at hF
  refine b_rO E (E.S.c0 (Nat.le_of_ble_eq_true rfl)) hF (fun _ o4 hF => ?_)
  refine b_call E (fun _ hq => (BX18_set (N := N) (bE.rf E.S) o4 op0 hq)) hF (fun _ hq7 D7 E7 hF => ?_)
  refine b_if hF (fun hF => ?_) (fun hF => ?_)
  ·
    exact BX3_setRow_b33 (N := N) E7 (op2.up D7) (o4.up D7) hF
  ·
    exact b_ret E7 hF
theorem BX15_widen_b59 {σo : fS} {q : Unit × fS} {s : fS} (E : bE 0 σo s) (hF : FX15_widen_b59 s = some q) : bE 0 σo q.2 := by
  unfold FX15_widen_b59 at hF
  exact b_ret E hF
theorem BX15_widen {σo : fS} {q : Unit × fS} {s : fS} {p0 : Int} (E : bE 0 σo s) (hF : FX15_widen p0 s = some q) : bE 0 σo q.2 := by
  unfold FX15_widen at hF
  refine b_call E (fun _ hq => (BX1_grown (bE.rf E.S) (E.S.c0 (Nat.le_of_ble_eq_true rfl)) hq).1) hF (fun _ hq2 D2 E2 hF => ?_)
  refine b_mv E2 (E2.S.c0 (Nat.le_of_ble_eq_true rfl)) (BX1_grown (bE.rf E.S) (E.S.c0 (Nat.le_of_ble_eq_true rfl)) hq2).2 hF (fun _ D3 E3 hF => ?_)
  refine b_call E3 (fun _ hq => (BX1_grown (bE.rf E3.S) (E3.S.c0 (Nat.le_of_ble_eq_true rfl)) hq).1) hF (fun _ hq5 D5 E5 hF => ?_)
  refine b_mv E5 (E5.S.c0 (Nat.le_of_ble_eq_true rfl)) (BX1_grown (bE.rf E3.S) (E3.S.c0 (Nat.le_of_ble_eq_true rfl)) hq5).2 hF (fun _ D6 E6 hF => ?_)
  refine b_if hF (fun hF => ?_) (fun hF => ?_)
  ·
    exact BX15_widen_b59 E6 hF
  ·
    refine b_nA E6 hF (fun _ D9 E9 o9 hF => ?_)
    refine b_KA hF (fun hF => ?_)
    refine b_cp E9 o9 hF (fun _ D13 E13 hF => ?_)
    refine b_mv E13 (E13.S.c0 (Nat.le_of_ble_eq_true rfl)) (o9.up D13) hF (fun _ D14 E14 hF => ?_)
    exact BX15_widen_b59 E14 hF
theorem BX15_fits_b55 {σo : fS} {q : Int × fS} {N : Nat} {K23 : Int → Int → Int → fS → Option (Int × fS)} (hk23 : ∀ {s : fS} {l2 : Int} {l3 : Int} {l4 : Int}, bE 0 σo s → K23 l2 l3 l4 s = some q → bE 0 σo q.2) {s : fS} {l2 : Int} {l4 : Int} {s0 : Int} (E : bE 0 σo s) (hF : FX15_fits_b55 N K23 l2 l4 s0 s = some q) : bE 0 σo q.2 := by
  unfold FX15_fits_b55 at hF
  refine b_rv hF (fun _ hF => ?_)
  exact hk23 E hF
theorem BX15_fits_b68 {σo : fS} {q : Int × fS} {N : Nat} {s : fS} {l3 : Int} (E : bE 0 σo s) (hF : FX15_fits_b68 N l3 s = some q) : bE 0 σo q.2 := by
  unfold FX15_fits_b68 at hF
  exact b_z E hF
theorem BX15_fits_b23 {σo : fS} {q : Int × fS} {N : Nat} : ∀ {n : Nat} {s : fS} {l2 : Int} {l3 : Int} {l4 : Int}, bE 0 σo s → FX15_fits_b23 N n l2 l3 l4 s = some q → bE 0 σo q.2 := by
  intro n
  induction n with
  | zero => intro s l2 l3 l4 E  hF; simp [FX15_fits_b23] at hF
  | succ n ih =>
    intro s l2 l3 l4 E  hF
    rw [FX15_fits_b23] at hF
    refine b_if hF (fun hF => ?_) (fun hF => ?_)
    ·
      exact BX15_fits_b68 (N := N) E hF
    ·
      refine b_if hF (fun hF => ?_) (fun hF => ?_)
      ·
        exact BX15_fits_b68 (N := N) E hF
      ·
        refine b_rv hF (fun _ hF => ?_)
        refine b_rv hF (fun _ hF => ?_)
        refine b_if hF (fun hF => ?_) (fun hF => ?_)
        ·
          exact BX15_fits_b55 (N := N) (K23 := FX15_fits_b23 N n) @ih E hF
        ·
          exact BX15_fits_b55 (N := N) (K23 := FX15_fits_b23 N n) @ih E hF
theorem BX15_fits_b14 {σo : fS} {q : Int × fS} {N : Nat} {s : fS} {l1 : Int} {l2 : Int} {s0 : Int} (E : bE 0 σo s) (hF : FX15_fits_b14 N l1 l2 s0 s = some q) : bE 0 σo q.2 := by
  unfold FX15_fits_b14 at hF
  refine b_rv hF (fun _ hF => ?_)
  exact BX15_fits_b23 (N := N) E hF
theorem BX15_fits {σo : fS} {q : Int × fS} {N : Nat} {s : fS} {p0 : Int} {p1 : Int} (E : bE 0 σo s) (hF : FX15_fits N p0 p1 s = some q) : bE 0 σo q.2 := by
  unfold FX15_fits at hF
  refine b_rv hF (fun _ hF => ?_)
  refine b_if hF (fun hF => ?_) (fun hF => ?_)
  ·
    exact BX15_fits_b14 (N := N) E hF
  ·
    exact BX15_fits_b14 (N := N) E hF
theorem BX15_lay_b75 {σo : fS} {q : Unit × fS} {N : Nat} : ∀ {n : Nat} {s : fS} {l2 : Int} {l3 : Int}, bE 0 σo s → FX15_lay_b75 N n l2 l3 s = some q → bE 0 σo q.2 := by
  intro n
  induction n with
  | zero => intro s l2 l3 E  hF; simp [FX15_lay_b75] at hF
  | succ n ih =>
    intro s l2 l3 E  hF
    rw [FX15_lay_b75] at hF
    refine b_if hF (fun hF => ?_) (fun hF => ?_)
    ·
      exact b_ret E hF
    ·
      refine b_rv hF (fun _ hF => ?_)
      refine b_rv hF (fun _ hF => ?_)
      refine b_qI E (E.S.c0 (Nat.le_of_ble_eq_true rfl)) hF (fun _ D6 E6 hF => ?_)
      refine b_rv hF (fun _ hF => ?_)
      refine b_qI E6 (E6.S.c0 (Nat.le_of_ble_eq_true rfl)) hF (fun _ D10 E10 hF => ?_)
      refine b_rv hF (fun _ hF => ?_)
      exact ih E10 hF
theorem BX15_lay_b12 {σo : fS} {q : Unit × fS} {N : Nat} : ∀ {n : Nat} {s : fS} {l1 : Int} {l2 : Int}, bE 0 σo s → FX15_lay_b12 N n l1 l2 s = some q → bE 0 σo q.2 := by
  intro n
  induction n with
  | zero => intro s l1 l2 E  hF; simp [FX15_lay_b12] at hF
  | succ n ih =>
    intro s l1 l2 E  hF
    rw [FX15_lay_b12] at hF
    refine b_call E (fun _ hq => (BX15_fits (N := N) (bE.rf E.S) hq)) hF (fun _ hq2 D2 E2 hF => ?_)
    refine b_if hF (fun hF => ?_) (fun hF => ?_)
    ·
      refine b_qI E2 (E2.S.c0 (Nat.le_of_ble_eq_true rfl)) hF (fun _ D4 E4 hF => ?_)
      refine b_qI E4 (E4.S.c0 (Nat.le_of_ble_eq_true rfl)) hF (fun _ D6 E6 hF => ?_)
      refine b_pI E6 (E6.S.c0 (Nat.le_of_ble_eq_true rfl)) hF (fun _ D8 E8 hF => ?_)
      refine b_rv hF (fun _ hF => ?_)
      exact BX15_lay_b75 (N := N) E8 hF
    ·
      refine b_call E2 (fun _ hq => (BX15_widen (bE.rf E2.S) hq)) hF (fun _ hq12 D12 E12 hF => ?_)
      exact ih E12 hF
theorem BX15_lay {σo : fS} {q : Unit × fS} {N : Nat} {s : fS} {p0 : Int} (E : bE 0 σo s) (hF : FX15_lay N p0 s = some q) : bE 0 σo q.2 := by
  unfold FX15_lay at hF
  refine b_call E (fun _ hq => (BX15_widen (bE.rf E.S) hq)) hF (fun _ hq2 D2 E2 hF => ?_)
  exact BX15_lay_b12 (N := N) E2 hF
theorem BX15_pack_b60 {σo : fS} {q : Unit × fS} {N : Nat} {K37 : Int → fS → Option (Unit × fS)} (hk37 : ∀ {s : fS} {l1 : Int}, bE 0 σo s → K37 l1 s = some q → bE 0 σo q.2) {s : fS} {l1 : Int} (E : bE 0 σo s) (hF : FX15_pack_b60 N K37 l1 s = some q) : bE 0 σo q.2 := by
  unfold FX15_pack_b60 at hF
  exact hk37 E hF
theorem BX15_pack_b37 {σo : fS} {q : Unit × fS} {N : Nat} : ∀ {n : Nat} {s : fS} {l1 : Int}, bE 0 σo s → FX15_pack_b37 N n l1 s = some q → bE 0 σo q.2 := by
  intro n
  induction n with
  | zero => intro s l1 E  hF; simp [FX15_pack_b37] at hF
  | succ n ih =>
    intro s l1 E  hF
    rw [FX15_pack_b37] at hF
    refine b_if hF (fun hF => ?_) (fun hF => ?_)
    ·
      refine b_pZ E (E.S.c0 (Nat.le_of_ble_eq_true rfl)) hF (fun _ D2 E2 hF => ?_)
      exact b_ret E2 hF
    ·
      refine b_rv hF (fun _ hF => ?_)
      refine b_if hF (fun hF => ?_) (fun hF => ?_)
      ·
        exact BX15_pack_b60 (N := N) (K37 := FX15_pack_b37 N n) @ih E hF
      ·
        refine b_call E (fun _ hq => (BX15_lay (N := N) (bE.rf E.S) hq)) hF (fun _ hq6 D6 E6 hF => ?_)
        exact BX15_pack_b60 (N := N) (K37 := FX15_pack_b37 N n) @ih E6 hF
theorem BX15_pack_b2 {σo : fS} {q : Unit × fS} {N : Nat} : ∀ {n : Nat} {s : fS} {l1 : Int}, bE 0 σo s → FX15_pack_b2 N n l1 s = some q → bE 0 σo q.2 := by
  intro n
  induction n with
  | zero => intro s l1 E  hF; simp [FX15_pack_b2] at hF
  | succ n ih =>
    intro s l1 E  hF
    rw [FX15_pack_b2] at hF
    refine b_if hF (fun hF => ?_) (fun hF => ?_)
    ·
      refine b_pI E (E.S.c0 (Nat.le_of_ble_eq_true rfl)) hF (fun _ D2 E2 hF => ?_)
      exact BX15_pack_b37 (N := N) E2 hF
    ·
      refine b_qI E (E.S.c0 (Nat.le_of_ble_eq_true rfl)) hF (fun _ D4 E4 hF => ?_)
      refine b_qI E4 (E4.S.c0 (Nat.le_of_ble_eq_true rfl)) hF (fun _ D6 E6 hF => ?_)
      exact ih E6 hF
theorem BX15_pack {σo : fS} {q : Unit × fS} {N : Nat} {s : fS} (E : bE 0 σo s) (hF : FX15_pack N s = some q) : bE 0 σo q.2 := by
  unfold FX15_pack at hF
  exact BX15_pack_b2 (N := N) E hF
theorem BX15_say_b12 {σo : fS} {q : Unit × fS} {N : Nat} : ∀ {n : Nat} {s : fS} {l2 : Int} {l4 : Int}, bE 0 σo s → FX15_say_b12 N n l2 l4 s = some q → bE 0 σo q.2 := by
  intro n
  induction n with
  | zero => intro s l2 l4 E  hF; simp [FX15_say_b12] at hF
  | succ n ih =>
    intro s l2 l4 E  hF
    rw [FX15_say_b12] at hF
    refine b_if hF (fun hF => ?_) (fun hF => ?_)
    ·
      exact b_ret E hF
    ·
      refine b_rv hF (fun _ hF => ?_)
      refine b_rv hF (fun _ hF => ?_)
      refine b_rv hF (fun _ hF => ?_)
      refine b_qI E (E.S.c0 (Nat.le_of_ble_eq_true rfl)) hF (fun _ D8 E8 hF => ?_)
      refine b_rv hF (fun _ hF => ?_)
      exact ih E8 hF
theorem BX15_say {σo : fS} {q : Unit × fS} {N : Nat} {s : fS} {p0 : Int} {p1 : Int} (E : bE 0 σo s) (hF : FX15_say N p0 p1 s = some q) : bE 0 σo q.2 := by
  unfold FX15_say at hF
  refine b_rv hF (fun _ hF => ?_)
  exact BX15_say_b12 (N := N) E hF
theorem BX15_raise_b140 {σo : fS} {q : Unit × fS} {N : Nat} {K43 : Int → Int → Int → Int → fS → Option (Unit × fS)} (hk43 : ∀ {s : fS} {l2 : Int} {l3 : Int} {l4 : Int} {l5 : Int}, bE 0 σo s → K43 l2 l3 l4 l5 s = some q → bE 0 σo q.2) {s : fS} {l2 : Int} {l3 : Int} {l4 : Int} {l5 : Int} (E : bE 0 σo s) (hF : FX15_raise_b140 N K43 l2 l3 l4 l5 s = some q) : bE 0 σo q.2 := by
  unfold FX15_raise_b140 at hF
  exact hk43 E hF
theorem BX15_raise_b138 {σo : fS} {q : Unit × fS} {N : Nat} {K43 : Int → Int → Int → Int → fS → Option (Unit × fS)} (hk43 : ∀ {s : fS} {l2 : Int} {l3 : Int} {l4 : Int} {l5 : Int}, bE 0 σo s → K43 l2 l3 l4 l5 s = some q → bE 0 σo q.2) {s : fS} {l2 : Int} {l3 : Int} {l4 : Int} {s0 : Int} (E : bE 0 σo s) (hF : FX15_raise_b138 N K43 l2 l3 l4 s0 s = some q) : bE 0 σo q.2 := by
  unfold FX15_raise_b138 at hF
  exact BX15_raise_b140 (N := N) (K43 := K43) @hk43 E hF
theorem BX15_raise_b97 {σo : fS} {q : Unit × fS} {N : Nat} {K43 : Int → Int → Int → Int → fS → Option (Unit × fS)} (hk43 : ∀ {s : fS} {l2 : Int} {l3 : Int} {l4 : Int} {l5 : Int}, bE 0 σo s → K43 l2 l3 l4 l5 s = some q → bE 0 σo q.2) {s : fS} {l2 : Int} {l3 : Int} {l4 : Int} {l6 : Int} {s0 : Int} (E : bE 0 σo s) (hF : FX15_raise_b97 N K43 l2 l3 l4 l6 s0 s = some q) : bE 0 σo q.2 := by
  unfold FX15_raise_b97 at hF
  refine b_if hF (fun hF => ?_) (fun hF => ?_)
  ·
    exact BX15_raise_b140 (N := N) (K43 := K43) @hk43 E hF
  ·
    refine b_rv hF (fun _ hF => ?_)
    refine b_call E (fun _ hq => (BX15_say (N := N) (bE.rf E.S) hq)) hF (fun _ hq4 D4 E4 hF => ?_)
    refine b_rv hF (fun _ hF => ?_)
    refine b_if hF (fun hF => ?_) (fun hF => ?_)
    ·
      exact BX15_raise_b138 (N := N) (K43 := K43) @hk43 E4 hF
    ·
      exact BX15_raise_b138 (N := N) (K43 := K43) @hk43 E4 hF
theorem BX15_raise_b143 {σo : fS} {q : Unit × fS} {N : Nat} {K13 : Int → fS → Option (Unit × fS)} (hk13 : ∀ {s : fS} {l2 : Int}, bE 0 σo s → K13 l2 s = some q → bE 0 σo q.2) {s : fS} {l2 : Int} (E : bE 0 σo s) (hF : FX15_raise_b143 N K13 l2 s = some q) : bE 0 σo q.2 := by
  unfold FX15_raise_b143 at hF
  exact hk13 E hF
theorem BX15_raise_b43 {σo : fS} {q : Unit × fS} {N : Nat} {K13 : Int → fS → Option (Unit × fS)} (hk13 : ∀ {s : fS} {l2 : Int}, bE 0 σo s → K13 l2 s = some q → bE 0 σo q.2) : ∀ {n : Nat} {s : fS} {l2 : Int} {l3 : Int} {l4 : Int} {l5 : Int}, bE 0 σo s → FX15_raise_b43 N K13 n l2 l3 l4 l5 s = some q → bE 0 σo q.2 := by
  intro n
  induction n with
  | zero => intro s l2 l3 l4 l5 E  hF; simp [FX15_raise_b43] at hF
  | succ n ih =>
    intro s l2 l3 l4 l5 E  hF
    rw [FX15_raise_b43] at hF
    refine b_if hF (fun hF => ?_) (fun hF => ?_)
    ·
      exact BX15_raise_b143 (N := N) (K13 := K13) @hk13 E hF
    ·
      refine b_if hF (fun hF => ?_) (fun hF => ?_)
      ·
        exact BX15_raise_b143 (N := N) (K13 := K13) @hk13 E hF
      ·
        refine b_rv hF (fun _ hF => ?_)
        refine b_rv hF (fun _ hF => ?_)
        refine b_rv hF (fun _ hF => ?_)
        refine b_rv hF (fun _ hF => ?_)
        refine b_if hF (fun hF => ?_) (fun hF => ?_)
        ·
          exact BX15_raise_b97 (N := N) (K43 := FX15_raise_b43 N K13 n) @ih E hF
        ·
          exact BX15_raise_b97 (N := N) (K43 := FX15_raise_b43 N K13 n) @ih E hF
theorem BX15_raise_b41 {σo : fS} {q : Unit × fS} {N : Nat} {K13 : Int → fS → Option (Unit × fS)} (hk13 : ∀ {s : fS} {l2 : Int}, bE 0 σo s → K13 l2 s = some q → bE 0 σo q.2) {s : fS} {l2 : Int} {l3 : Int} {l4 : Int} {s0 : Int} (E : bE 0 σo s) (hF : FX15_raise_b41 N K13 l2 l3 l4 s0 s = some q) : bE 0 σo q.2 := by
  unfold FX15_raise_b41 at hF
  exact BX15_raise_b43 (N := N) (K13 := K13) @hk13 E hF
theorem BX15_raise_b13 {σo : fS} {q : Unit × fS} {N : Nat} : ∀ {n : Nat} {s : fS} {l2 : Int}, bE 0 σo s → FX15_raise_b13 N n l2 s = some q → bE 0 σo q.2 := by
  intro n
  induction n with
  | zero => intro s l2 E  hF; simp [FX15_raise_b13] at hF
  | succ n ih =>
    intro s l2 E  hF
    rw [FX15_raise_b13] at hF
    refine b_if hF (fun hF => ?_) (fun hF => ?_)
    ·
      exact b_ret E hF
    ·
      refine b_rv hF (fun _ hF => ?_)
      refine b_if hF (fun hF => ?_) (fun hF => ?_)
      ·
        exact BX15_raise_b41 (N := N) (K13 := FX15_raise_b13 N n) @ih E hF
      ·
        exact BX15_raise_b41 (N := N) (K13 := FX15_raise_b13 N n) @ih E hF
theorem BX15_raise_b11 {σo : fS} {q : Unit × fS} {N : Nat} {s : fS} (E : bE 0 σo s) (hF : FX15_raise_b11 N s = some q) : bE 0 σo q.2 := by
  unfold FX15_raise_b11 at hF
  exact BX15_raise_b13 (N := N) E hF
theorem BX15_raise {σo : fS} {q : Unit × fS} {N : Nat} {s : fS} (E : bE 0 σo s) (hF : FX15_raise N s = some q) : bE 0 σo q.2 := by
  unfold FX15_raise at hF
  refine b_if hF (fun hF => ?_) (fun hF => ?_)
  ·
    exact BX15_raise_b11 (N := N) E hF
  ·
    refine b_call E (fun _ hq => (BX15_pack (N := N) (bE.rf E.S) hq)) hF (fun _ hq3 D3 E3 hF => ?_)
    exact BX15_raise_b11 (N := N) E3 hF
theorem BX16_hasHyphen_b20 {σo : fS} {q : Int × fS} {s : fS} {s0 : Int} (E : bE 0 σo s) (hF : FX16_hasHyphen_b20 s0 s = some q) : bE 0 σo q.2 := by
  unfold FX16_hasHyphen_b20 at hF
  exact b_z E hF
theorem BX16_hasHyphen {σo : fS} {q : Int × fS} {s : fS} {p0 : Int} {p1 : Int} (E : bE 0 σo s) (hF : FX16_hasHyphen p0 p1 s = some q) : bE 0 σo q.2 := by
  unfold FX16_hasHyphen at hF
  refine b_rv hF (fun _ hF => ?_)
  refine b_if hF (fun hF => ?_) (fun hF => ?_)
  ·
    exact BX16_hasHyphen_b20 E hF
  ·
    exact BX16_hasHyphen_b20 E hF
theorem BX14_look_b136 {σo : fS} {q : Unit × fS} {N : Nat} {K101 : Int → Int → Int → fS → Option (Unit × fS)} (hk101 : ∀ {s : fS} {l2 : Int} {l3 : Int} {l4 : Int}, bE 0 σo s → K101 l2 l3 l4 s = some q → bE 0 σo q.2) {s : fS} {l2 : Int} {l3 : Int} {l4 : Int} {s1 : Int} {s2 : Int} (E : bE 0 σo s) (hF : FX14_look_b136 N K101 l2 l3 l4 s1 s2 s = some q) : bE 0 σo q.2 := by
  unfold FX14_look_b136 at hF
  refine b_qI E (E.S.c0 (Nat.le_of_ble_eq_true rfl)) hF (fun _ D1 E1 hF => ?_)
  exact hk101 E1 hF
theorem BX14_look_b101 {σo : fS} {q : Unit × fS} {N : Nat} : ∀ {n : Nat} {s : fS} {l2 : Int} {l3 : Int} {l4 : Int}, bE 0 σo s → FX14_look_b101 N n l2 l3 l4 s = some q → bE 0 σo q.2 := by
  intro n
  induction n with
  | zero => intro s l2 l3 l4 E  hF; simp [FX14_look_b101] at hF
  | succ n ih =>
    intro s l2 l3 l4 E  hF
    rw [FX14_look_b101] at hF
    refine b_if hF (fun hF => ?_) (fun hF => ?_)
    ·
      exact b_ret E hF
    ·
      refine b_call E (fun _ hq => (BX16_hasHyphen (bE.rf E.S) hq)) hF (fun _ hq5 D5 E5 hF => ?_)
      refine b_if hF (fun hF => ?_) (fun hF => ?_)
      ·
        exact BX14_look_b136 (N := N) (K101 := FX14_look_b101 N n) @ih E5 hF
      ·
        exact BX14_look_b136 (N := N) (K101 := FX14_look_b101 N n) @ih E5 hF
theorem BX14_look_b24 {σo : fS} {q : Unit × fS} {N : Nat} : ∀ {n : Nat} {s : fS} {l2 : Int} {l3 : Int}, bE 0 σo s → FX14_look_b24 N n l2 l3 s = some q → bE 0 σo q.2 := by
  intro n
  induction n with
  | zero => intro s l2 l3 E  hF; simp [FX14_look_b24] at hF
  | succ n ih =>
    intro s l2 l3 E  hF
    rw [FX14_look_b24] at hF
    refine b_if hF (fun hF => ?_) (fun hF => ?_)
    ·
      refine b_call E (fun _ hq => (BX17_add (bE.rf E.S) (E.S.c0 (Nat.le_of_ble_eq_true rfl)) hq)) hF (fun _ hq3 D3 E3 hF => ?_)
      refine b_call E3 (fun _ hq => (BX16_find (N := N) (bE.rf E3.S) hq)) hF (fun _ hq7 D7 E7 hF => ?_)
      refine b_if hF (fun hF => ?_) (fun hF => ?_)
      ·
        exact BX14_look_b101 (N := N) E7 hF
      ·
        refine b_call E7 (fun _ hq => (BX15_raise (N := N) (bE.rf E7.S) hq)) hF (fun _ hq11 D11 E11 hF => ?_)
        exact b_ret E11 hF
    ·
      refine b_rv hF (fun _ hF => ?_)
      refine b_call E (fun _ hq => (BX14_letter (bE.rf E.S) hq)) hF (fun _ hq14 D14 E14 hF => ?_)
      refine b_call E14 (fun _ hq => (BX17_add (bE.rf E14.S) (E14.S.c0 (Nat.le_of_ble_eq_true rfl)) hq)) hF (fun _ hq16 D16 E16 hF => ?_)
      refine b_rv hF (fun _ hF => ?_)
      refine b_call E16 (fun _ hq => (BX14_letter (bE.rf E16.S) hq)) hF (fun _ hq19 D19 E19 hF => ?_)
      refine b_call E19 (fun _ hq => (BX17_add (bE.rf E19.S) (E19.S.c0 (Nat.le_of_ble_eq_true rfl)) hq)) hF (fun _ hq21 D21 E21 hF => ?_)
      exact ih E21 hF
theorem BX14_look {σo : fS} {q : Unit × fS} {N : Nat} {s : fS} {p1 : Int} (E : bE 0 σo s) (hF : FX14_look N p1 s = some q) : bE 0 σo q.2 := by
  unfold FX14_look at hF
  refine b_call E (fun _ hq => (BX17_clear (bE.rf E.S) (E.S.c0 (Nat.le_of_ble_eq_true rfl)) hq)) hF (fun _ hq3 D3 E3 hF => ?_)
  refine b_call E3 (fun _ hq => (BX17_clear (bE.rf E3.S) (E3.S.c0 (Nat.le_of_ble_eq_true rfl)) hq)) hF (fun _ hq6 D6 E6 hF => ?_)
  refine b_call E6 (fun _ hq => (BX17_add (bE.rf E6.S) (E6.S.c0 (Nat.le_of_ble_eq_true rfl)) hq)) hF (fun _ hq9 D9 E9 hF => ?_)
  exact BX14_look_b24 (N := N) E9 hF
theorem BX14_isBroken_b40 {σo : fS} {q : Int × fS} {s : fS} {s0 : Int} (E : bE 0 σo s) (hF : FX14_isBroken_b40 s0 s = some q) : bE 0 σo q.2 := by
  unfold FX14_isBroken_b40 at hF
  exact b_z E hF
theorem BX14_isBroken_b39 {σo : fS} {q : Int × fS} {s : fS} (E : bE 0 σo s) (hF : FX14_isBroken_b39 s = some q) : bE 0 σo q.2 := by
  unfold FX14_isBroken_b39 at hF
  exact BX14_isBroken_b40 E hF
theorem BX14_isBroken {σo : fS} {q : Int × fS} {s : fS} {p0 : Int} (E : bE 0 σo s) (hF : FX14_isBroken p0 s = some q) : bE 0 σo q.2 := by
  unfold FX14_isBroken at hF
  refine b_rv hF (fun _ hF => ?_)
  refine b_if hF (fun hF => ?_) (fun hF => ?_)
  ·
    exact BX14_isBroken_b39 E hF
  ·
    refine b_if hF (fun hF => ?_) (fun hF => ?_)
    ·
      exact BX14_isBroken_b39 E hF
    ·
      refine b_if hF (fun hF => ?_) (fun hF => ?_)
      ·
        exact BX14_isBroken_b39 E hF
      ·
        exact BX14_isBroken_b40 E hF
theorem BX34_kind {σo : fS} {q : Int × fS} {s : fS} {this : Nat} {p0 : Int} (E : bE 0 σo s) (othis : bO 0 s this) (hF : FX34_kind this p0 s = some q) : bE 0 σo q.2 := by
  unfold FX34_kind at hF
  refine b_K hF (fun hF => ?_)
  refine b_o E othis hF (fun _ o1 hF => ?_)
  refine b_KA hF (fun hF => ?_)
  refine b_rv hF (fun _ hF => ?_)
  exact b_ret E hF
theorem BX34_of {σo : fS} {q : Int × fS} {s : fS} {this : Nat} {p0 : Int} {p1 : Int} (E : bE 0 σo s) (othis : bO 0 s this) (hF : FX34_of this p0 p1 s = some q) : bE 0 σo q.2 := by
  unfold FX34_of at hF
  refine b_K hF (fun hF => ?_)
  refine b_o E othis hF (fun _ o1 hF => ?_)
  refine b_KA hF (fun hF => ?_)
  refine b_rv hF (fun _ hF => ?_)
  exact b_ret E hF
theorem BX3_areSame_b33 {σo : fS} {q : Int × fS} {s : fS} {s0 : Int} (E : bE 0 σo s) (hF : FX3_areSame_b33 s0 s = some q) : bE 0 σo q.2 := by
  unfold FX3_areSame_b33 at hF
  exact b_z E hF
theorem BX3_areSame_b32 {σo : fS} {q : Int × fS} {s : fS} (E : bE 0 σo s) (hF : FX3_areSame_b32 s = some q) : bE 0 σo q.2 := by
  unfold FX3_areSame_b32 at hF
  exact BX3_areSame_b33 E hF
theorem BX3_areSame {σo : fS} {q : Int × fS} {s : fS} {p1 : Int} {p3 : Int} (E : bE 0 σo s) (hF : FX3_areSame p1 p3 s = some q) : bE 0 σo q.2 := by
  unfold FX3_areSame at hF
  refine b_call E (fun _ hq => (BX34_kind (bE.rf E.S) (E.S.c0 (Nat.le_of_ble_eq_true rfl)) hq)) hF (fun _ hq2 D2 E2 hF => ?_)
  refine b_call E2 (fun _ hq => (BX34_kind (bE.rf E2.S) (E2.S.c0 (Nat.le_of_ble_eq_true rfl)) hq)) hF (fun _ hq4 D4 E4 hF => ?_)
  refine b_if hF (fun hF => ?_) (fun hF => ?_)
  ·
    exact BX3_areSame_b32 E4 hF
  ·
    refine b_call E4 (fun _ hq => (BX34_of (bE.rf E4.S) (E4.S.c0 (Nat.le_of_ble_eq_true rfl)) hq)) hF (fun _ hq6 D6 E6 hF => ?_)
    refine b_call E6 (fun _ hq => (BX34_of (bE.rf E6.S) (E6.S.c0 (Nat.le_of_ble_eq_true rfl)) hq)) hF (fun _ hq8 D8 E8 hF => ?_)
    refine b_if hF (fun hF => ?_) (fun hF => ?_)
    ·
      exact BX3_areSame_b32 E8 hF
    ·
      exact BX3_areSame_b33 E8 hF
theorem BX3_ends_b60 {σo : fS} {q : Int × fS} {N : Nat} {s : fS} {l4 : Int} (E : bE 0 σo s) (hF : FX3_ends_b60 N l4 s = some q) : bE 0 σo q.2 := by
  unfold FX3_ends_b60 at hF
  exact b_z E hF
theorem BX3_ends_b25 {σo : fS} {q : Int × fS} {N : Nat} : ∀ {n : Nat} {s : fS} {l1 : Int} {l3 : Int} {l4 : Int} {l5 : Int}, bE 0 σo s → FX3_ends_b25 N n l1 l3 l4 l5 s = some q → bE 0 σo q.2 := by
  intro n
  induction n with
  | zero => intro s l1 l3 l4 l5 E  hF; simp [FX3_ends_b25] at hF
  | succ n ih =>
    intro s l1 l3 l4 l5 E  hF
    rw [FX3_ends_b25] at hF
    refine b_if hF (fun hF => ?_) (fun hF => ?_)
    ·
      exact BX3_ends_b60 (N := N) E hF
    ·
      refine b_if hF (fun hF => ?_) (fun hF => ?_)
      ·
        exact BX3_ends_b60 (N := N) E hF
      ·
        refine b_call E (fun _ hq => (BX3_areSame (bE.rf E.S) hq)) hF (fun _ hq2 D2 E2 hF => ?_)
        exact ih E2 hF
theorem BX3_ends_b20 {σo : fS} {q : Int × fS} {N : Nat} {s : fS} {l1 : Int} {l3 : Int} {s0 : Int} (E : bE 0 σo s) (hF : FX3_ends_b20 N l1 l3 s0 s = some q) : bE 0 σo q.2 := by
  unfold FX3_ends_b20 at hF
  exact BX3_ends_b25 (N := N) E hF
theorem BX3_ends {σo : fS} {q : Int × fS} {N : Nat} {s : fS} {p1 : Int} {p3 : Int} (E : bE 0 σo s) (hF : FX3_ends N p1 p3 s = some q) : bE 0 σo q.2 := by
  unfold FX3_ends at hF
  refine b_if hF (fun hF => ?_) (fun hF => ?_)
  ·
    exact BX3_ends_b20 (N := N) E hF
  ·
    exact BX3_ends_b20 (N := N) E hF
theorem BX3_noteHyphen_b215 {σo : fS} {q : Unit × fS} {N : Nat} {s : fS} (E : bE 0 σo s) (hF : FX3_noteHyphen_b215 N s = some q) : bE 0 σo q.2 := by
  unfold FX3_noteHyphen_b215 at hF
  exact b_ret E hF
theorem BX3_noteHyphen_b241 {σo : fS} {q : Unit × fS} {N : Nat} {s : fS} (E : bE 0 σo s) (hF : FX3_noteHyphen_b241 N s = some q) : bE 0 σo q.2 := by
  unfold FX3_noteHyphen_b241 at hF
  exact b_ret E hF
theorem BX3_noteHyphen_b240 {σo : fS} {q : Unit × fS} {N : Nat} {s : fS} {s1 : Int} {s2 : Int} (E : bE 0 σo s) (hF : FX3_noteHyphen_b240 N s1 s2 s = some q) : bE 0 σo q.2 := by
  unfold FX3_noteHyphen_b240 at hF
  refine b_qI E (E.S.c0 (Nat.le_of_ble_eq_true rfl)) hF (fun _ D1 E1 hF => ?_)
  exact BX3_noteHyphen_b241 (N := N) E1 hF
theorem BX3_noteHyphen_b216 {σo : fS} {q : Unit × fS} {N : Nat} {s : fS} {l2 : Int} {l5 : Int} (E : bE 0 σo s) (hF : FX3_noteHyphen_b216 N l2 l5 s = some q) : bE 0 σo q.2 := by
  unfold FX3_noteHyphen_b216 at hF
  refine b_rv hF (fun _ hF => ?_)
  refine b_if hF (fun hF => ?_) (fun hF => ?_)
  ·
    exact BX3_noteHyphen_b241 (N := N) E hF
  ·
    refine b_if hF (fun hF => ?_) (fun hF => ?_)
    ·
      exact BX3_noteHyphen_b240 (N := N) E hF
    ·
      exact BX3_noteHyphen_b240 (N := N) E hF
theorem BX3_noteHyphen_b170 {σo : fS} {q : Unit × fS} {N : Nat} {s : fS} {l2 : Int} {s0 : Int} (E : bE 0 σo s) (hF : FX3_noteHyphen_b170 N l2 s0 s = some q) : bE 0 σo q.2 := by
  unfold FX3_noteHyphen_b170 at hF
  refine b_call E (fun _ hq => (BX3_ends (N := N) (bE.rf E.S) hq)) hF (fun _ hq3 D3 E3 hF => ?_)
  refine b_if hF (fun hF => ?_) (fun hF => ?_)
  ·
    exact BX3_noteHyphen_b216 (N := N) E3 hF
  ·
    refine b_if hF (fun hF => ?_) (fun hF => ?_)
    ·
      exact BX3_noteHyphen_b215 (N := N) E3 hF
    ·
      refine b_call E3 (fun _ hq => (BX3_ends (N := N) (bE.rf E3.S) hq)) hF (fun _ hq6 D6 E6 hF => ?_)
      refine b_if hF (fun hF => ?_) (fun hF => ?_)
      ·
        exact BX3_noteHyphen_b216 (N := N) E6 hF
      ·
        exact BX3_noteHyphen_b215 (N := N) E6 hF
theorem BX3_noteHyphen_b169 {σo : fS} {q : Unit × fS} {N : Nat} {s : fS} {l2 : Int} (E : bE 0 σo s) (hF : FX3_noteHyphen_b169 N l2 s = some q) : bE 0 σo q.2 := by
  unfold FX3_noteHyphen_b169 at hF
  exact BX3_noteHyphen_b170 (N := N) E hF
theorem BX3_noteHyphen_b137 {σo : fS} {q : Unit × fS} {N : Nat} {s : fS} {l2 : Int} {l3 : Int} (E : bE 0 σo s) (hF : FX3_noteHyphen_b137 N l2 l3 s = some q) : bE 0 σo q.2 := by
  unfold FX3_noteHyphen_b137 at hF
  refine b_if hF (fun hF => ?_) (fun hF => ?_)
  ·
    refine b_if hF (fun hF => ?_) (fun hF => ?_)
    ·
      exact BX3_noteHyphen_b169 (N := N) E hF
    ·
      refine b_call E (fun _ hq => (BX34_kind (bE.rf E.S) (E.S.c0 (Nat.le_of_ble_eq_true rfl)) hq)) hF (fun _ hq5 D5 E5 hF => ?_)
      refine b_if hF (fun hF => ?_) (fun hF => ?_)
      ·
        exact BX3_noteHyphen_b169 (N := N) E5 hF
      ·
        exact BX3_noteHyphen_b170 (N := N) E5 hF
  ·
    exact b_ret E hF
theorem BX3_noteHyphen_b105 {σo : fS} {q : Unit × fS} {N : Nat} : ∀ {n : Nat} {s : fS} {l2 : Int} {l3 : Int} {l4 : Int}, bE 0 σo s → FX3_noteHyphen_b105 N n l2 l3 l4 s = some q → bE 0 σo q.2 := by
  intro n
  induction n with
  | zero => intro s l2 l3 l4 E  hF; simp [FX3_noteHyphen_b105] at hF
  | succ n ih =>
    intro s l2 l3 l4 E  hF
    rw [FX3_noteHyphen_b105] at hF
    refine b_if hF (fun hF => ?_) (fun hF => ?_)
    ·
      exact BX3_noteHyphen_b137 (N := N) E hF
    ·
      refine b_if hF (fun hF => ?_) (fun hF => ?_)
      ·
        exact BX3_noteHyphen_b137 (N := N) E hF
      ·
        refine b_call E (fun _ hq => (BX3_areSame (bE.rf E.S) hq)) hF (fun _ hq3 D3 E3 hF => ?_)
        exact ih E3 hF
theorem BX3_noteHyphen_b101 {σo : fS} {q : Unit × fS} {N : Nat} {s : fS} {l2 : Int} {s0 : Int} (E : bE 0 σo s) (hF : FX3_noteHyphen_b101 N l2 s0 s = some q) : bE 0 σo q.2 := by
  unfold FX3_noteHyphen_b101 at hF
  exact BX3_noteHyphen_b105 (N := N) E hF
theorem BX3_noteHyphen_b35 {σo : fS} {q : Unit × fS} {N : Nat} : ∀ {n : Nat} {s : fS} {l1 : Int} {l2 : Int} {l3 : Int}, bE 0 σo s → FX3_noteHyphen_b35 N n l1 l2 l3 s = some q → bE 0 σo q.2 := by
  intro n
  induction n with
  | zero => intro s l1 l2 l3 E  hF; simp [FX3_noteHyphen_b35] at hF
  | succ n ih =>
    intro s l1 l2 l3 E  hF
    rw [FX3_noteHyphen_b35] at hF
    refine b_if hF (fun hF => ?_) (fun hF => ?_)
    ·
      refine b_call E (fun _ hq => (BX3_setRow (N := N) (bE.rf E.S) (E.S.c0 (Nat.le_of_ble_eq_true rfl)) (E.S.c0 (Nat.le_of_ble_eq_true rfl)) hq)) hF (fun _ hq6 D6 E6 hF => ?_)
      refine b_if hF (fun hF => ?_) (fun hF => ?_)
      ·
        refine b_if hF (fun hF => ?_) (fun hF => ?_)
        ·
          exact BX3_noteHyphen_b101 (N := N) E6 hF
        ·
          exact BX3_noteHyphen_b101 (N := N) E6 hF
      ·
        exact b_ret E6 hF
    ·
      refine b_rv hF (fun _ hF => ?_)
      refine b_qI E (E.S.c0 (Nat.le_of_ble_eq_true rfl)) hF (fun _ D12 E12 hF => ?_)
      exact ih E12 hF
theorem BX3_noteHyphen {σo : fS} {q : Unit × fS} {N : Nat} {s : fS} {p0 : Int} (E : bE 0 σo s) (hF : FX3_noteHyphen N p0 s = some q) : bE 0 σo q.2 := by
  unfold FX3_noteHyphen at hF
  refine b_pI E (E.S.c0 (Nat.le_of_ble_eq_true rfl)) hF (fun _ D2 E2 hF => ?_)
  refine b_call E2 (fun _ hq => (BX3_setRow (N := N) (bE.rf E2.S) (E2.S.c0 (Nat.le_of_ble_eq_true rfl)) (E2.S.c0 (Nat.le_of_ble_eq_true rfl)) hq)) hF (fun _ hq6 D6 E6 hF => ?_)
  refine b_if hF (fun hF => ?_) (fun hF => ?_)
  ·
    exact BX3_noteHyphen_b35 (N := N) E6 hF
  ·
    exact b_ret E6 hF
theorem BX3_findHyphens_b94 {σo : fS} {q : Unit × fS} {N : Nat} {K68 : Int → Int → fS → Option (Unit × fS)} (hk68 : ∀ {s : fS} {l1 : Int} {l2 : Int}, bE 0 σo s → K68 l1 l2 s = some q → bE 0 σo q.2) {s : fS} {l2 : Int} {s0 : Int} {s1 : Int} (E : bE 0 σo s) (hF : FX3_findHyphens_b94 N K68 l2 s0 s1 s = some q) : bE 0 σo q.2 := by
  unfold FX3_findHyphens_b94 at hF
  exact hk68 E hF
theorem BX3_findHyphens_b148 {σo : fS} {q : Unit × fS} {N : Nat} {K124 : Int → fS → Option (Unit × fS)} (hk124 : ∀ {s : fS} {l2 : Int}, bE 0 σo s → K124 l2 s = some q → bE 0 σo q.2) {s : fS} {l2 : Int} (E : bE 0 σo s) (hF : FX3_findHyphens_b148 N K124 l2 s = some q) : bE 0 σo q.2 := by
  unfold FX3_findHyphens_b148 at hF
  exact hk124 E hF
theorem BX3_findHyphens_b124 {σo : fS} {q : Unit × fS} {N : Nat} : ∀ {n : Nat} {s : fS} {l2 : Int}, bE 0 σo s → FX3_findHyphens_b124 N n l2 s = some q → bE 0 σo q.2 := by
  intro n
  induction n with
  | zero => intro s l2 E  hF; simp [FX3_findHyphens_b124] at hF
  | succ n ih =>
    intro s l2 E  hF
    rw [FX3_findHyphens_b124] at hF
    refine b_if hF (fun hF => ?_) (fun hF => ?_)
    ·
      exact b_ret E hF
    ·
      refine b_call E (fun _ hq => (BX14_isBroken (bE.rf E.S) hq)) hF (fun _ hq4 D4 E4 hF => ?_)
      refine b_if hF (fun hF => ?_) (fun hF => ?_)
      ·
        exact BX3_findHyphens_b148 (N := N) (K124 := FX3_findHyphens_b124 N n) @ih E4 hF
      ·
        refine b_call E4 (fun _ hq => (BX3_noteHyphen (N := N) (bE.rf E4.S) hq)) hF (fun _ hq6 D6 E6 hF => ?_)
        exact BX3_findHyphens_b148 (N := N) (K124 := FX3_findHyphens_b124 N n) @ih E6 hF
theorem BX3_findHyphens_b68 {σo : fS} {q : Unit × fS} {N : Nat} : ∀ {n : Nat} {s : fS} {l1 : Int} {l2 : Int}, bE 0 σo s → FX3_findHyphens_b68 N n l1 l2 s = some q → bE 0 σo q.2 := by
  intro n
  induction n with
  | zero => intro s l1 l2 E  hF; simp [FX3_findHyphens_b68] at hF
  | succ n ih =>
    intro s l1 l2 E  hF
    rw [FX3_findHyphens_b68] at hF
    refine b_if hF (fun hF => ?_) (fun hF => ?_)
    ·
      refine b_if hF (fun hF => ?_) (fun hF => ?_)
      ·
        refine b_call E (fun _ hq => (BX14_look (N := N) (bE.rf E.S) hq)) hF (fun _ hq6 D6 E6 hF => ?_)
        exact BX3_findHyphens_b124 (N := N) E6 hF
      ·
        exact b_ret E hF
    ·
      refine b_rv hF (fun _ hF => ?_)
      refine b_call E (fun _ hq => (BX14_letter (bE.rf E.S) hq)) hF (fun _ hq9 D9 E9 hF => ?_)
      refine b_if hF (fun hF => ?_) (fun hF => ?_)
      ·
        exact BX3_findHyphens_b94 (N := N) (K68 := FX3_findHyphens_b68 N n) @ih E9 hF
      ·
        exact BX3_findHyphens_b94 (N := N) (K68 := FX3_findHyphens_b68 N n) @ih E9 hF
theorem BX3_findHyphens_b65 {σo : fS} {q : Unit × fS} {N : Nat} {s : fS} {s0 : Int} (E : bE 0 σo s) (hF : FX3_findHyphens_b65 N s0 s = some q) : bE 0 σo q.2 := by
  unfold FX3_findHyphens_b65 at hF
  exact BX3_findHyphens_b68 (N := N) E hF
theorem BX3_findHyphens_b64 {σo : fS} {q : Unit × fS} {N : Nat} {s : fS} (E : bE 0 σo s) (hF : FX3_findHyphens_b64 N s = some q) : bE 0 σo q.2 := by
  unfold FX3_findHyphens_b64 at hF
  exact BX3_findHyphens_b65 (N := N) E hF
theorem BX3_findHyphens {σo : fS} {q : Unit × fS} {N : Nat} {s : fS} (E : bE 0 σo s) (hF : FX3_findHyphens N s = some q) : bE 0 σo q.2 := by
  unfold FX3_findHyphens at hF
  refine b_call E (fun _ hq => (BJ0_fill_3 (N := N) (bE.rf E.S) hq)) hF (fun _ hq4 D4 E4 hF => ?_)
  refine b_rv hF (fun _ hF => ?_)
  refine b_if hF (fun hF => ?_) (fun hF => ?_)
  ·
    exact BX3_findHyphens_b64 (N := N) E4 hF
  ·
    refine b_if hF (fun hF => ?_) (fun hF => ?_)
    ·
      exact BX3_findHyphens_b64 (N := N) E4 hF
    ·
      refine b_rO E4 (E4.S.c0 (Nat.le_of_ble_eq_true rfl)) hF (fun _ o12 hF => ?_)
      refine b_K hF (fun hF => ?_)
      refine b_call E4 (fun _ hq => (BX6_has (bE.rf E4.S) o12 hq)) hF (fun _ hq14 D14 E14 hF => ?_)
      refine b_if hF (fun hF => ?_) (fun hF => ?_)
      ·
        exact BX3_findHyphens_b64 (N := N) E14 hF
      ·
        exact BX3_findHyphens_b65 (N := N) E14 hF
theorem BX5_width {σo : fS} {q : Int × fS} {s : fS} {p0 : Int} {p1 : Int} (E : bE 0 σo s) (hF : FX5_width p0 p1 s = some q) : bE 0 σo q.2 := by
  unfold FX5_width at hF
  refine b_rO E (E.S.c0 (Nat.le_of_ble_eq_true rfl)) hF (fun _ o2 hF => ?_)
  refine b_K hF (fun hF => ?_)
  refine b_call E (fun _ hq => (BX6_of (bE.rf E.S) o2 hq)) hF (fun _ hq4 D4 E4 hF => ?_)
  exact b_ret E4 hF
theorem BX3_put_b22 {σo : fS} {q : (Unit ⊕ Nat) × fS} {s : fS} {l1 : Int} {l2 : Int} {l3 : Int} {l4 : Int} {l5 : Int} {l6 : Int} {s1 : Int} (E : bE 0 σo s) (hF : FX3_put_b22 l1 l2 l3 l4 l5 l6 s1 s = some q) : bE 0 σo q.2 := by
  unfold FX3_put_b22 at hF
  refine b_tB E (fun _ hq => BX4_want (bE.rf E.S) hq) hF (fun _ _ D2 E2 hF => ?_)
  refine b_call E2 (fun _ hq => (BX34_add (bE.rf E2.S) (E2.S.c0 (Nat.le_of_ble_eq_true rfl)) hq)) hF (fun _ hq5 D5 E5 hF => ?_)
  exact b_ret E5 hF
theorem BX3_put {σo : fS} {q : (Unit ⊕ Nat) × fS} {s : fS} {p0 : Int} {p1 : Int} {p2 : Int} {p3 : Int} {p4 : Int} {p5 : Int} (E : bE 0 σo s) (hF : FX3_put p0 p1 p2 p3 p4 p5 s = some q) : bE 0 σo q.2 := by
  unfold FX3_put at hF
  refine b_if hF (fun hF => ?_) (fun hF => ?_)
  ·
    exact BX3_put_b22 E hF
  ·
    exact BX3_put_b22 E hF
theorem BX3_addHyphen {σo : fS} {q : (Unit ⊕ Nat) × fS} {s : fS} {p0 : Int} {p1 : Int} (E : bE 0 σo s) (hF : FX3_addHyphen p0 p1 s = some q) : bE 0 σo q.2 := by
  unfold FX3_addHyphen at hF
  refine b_call E (fun _ hq => (BX5_width (bE.rf E.S) hq)) hF (fun _ hq3 D3 E3 hF => ?_)
  refine b_tB E3 (fun _ hq => BX3_put (bE.rf E3.S) hq) hF (fun _ _ D5 E5 hF => ?_)
  exact b_ret E5 hF
