set_option maxRecDepth 100000
set_option maxHeartbeats 4000000
theorem BX10_matches_b60 {σo : fS} {q : Int × fS} {N : Nat} {K21 : Int → Int → Int → fS → Option (Int × fS)} (hk21 : ∀ {s : fS} {l1 : Int} {l2 : Int} {l3 : Int}, bE 0 σo s → K21 l1 l2 l3 s = some q → bE 0 σo q.2) {s : fS} {l1 : Int} {l3 : Int} {s0 : Int} (E : bE 0 σo s) (hF : FX10_matches_b60 N K21 l1 l3 s0 s = some q) : bE 0 σo q.2 := by
  unfold FX10_matches_b60 at hF
  exact hk21 E hF
theorem BX10_matches_b67 {σo : fS} {q : Int × fS} {N : Nat} {s : fS} {l2 : Int} (E : bE 0 σo s) (hF : FX10_matches_b67 N l2 s = some q) : bE 0 σo q.2 := by
  unfold FX10_matches_b67 at hF
  exact b_z E hF
theorem BX10_matches_b21 {σo : fS} {q : Int × fS} {N : Nat} : ∀ {n : Nat} {s : fS} {l1 : Int} {l2 : Int} {l3 : Int}, bE 0 σo s → FX10_matches_b21 N n l1 l2 l3 s = some q → bE 0 σo q.2 := by
  intro n
  induction n with
  | zero => intro s l1 l2 l3 E  hF; simp [FX10_matches_b21] at hF
  | succ n ih =>
    intro s l1 l2 l3 E  hF
    rw [FX10_matches_b21] at hF
    refine b_if hF (fun hF => ?_) (fun hF => ?_)
    ·
      exact BX10_matches_b67 (N := N) E hF
    ·
      refine b_if hF (fun hF => ?_) (fun hF => ?_)
      ·
        exact BX10_matches_b67 (N := N) E hF
      ·
        refine b_rv hF (fun _ hF => ?_)
        refine b_rv hF (fun _ hF => ?_)
        refine b_rv hF (fun _ hF => ?_)
        refine b_if hF (fun hF => ?_) (fun hF => ?_)
        ·
          exact BX10_matches_b60 (N := N) (K21 := FX10_matches_b21 N n) @ih E hF
        ·
          exact BX10_matches_b60 (N := N) (K21 := FX10_matches_b21 N n) @ih E hF
theorem BX10_matches_b18 {σo : fS} {q : Int × fS} {N : Nat} {s : fS} {l1 : Int} {s0 : Int} (E : bE 0 σo s) (hF : FX10_matches_b18 N l1 s0 s = some q) : bE 0 σo q.2 := by
  unfold FX10_matches_b18 at hF
  exact BX10_matches_b21 (N := N) E hF
theorem BX10_matches {σo : fS} {q : Int × fS} {N : Nat} {s : fS} {p0 : Int} (E : bE 0 σo s) (hF : FX10_matches N p0 s = some q) : bE 0 σo q.2 := by
  unfold FX10_matches at hF
  refine b_rv hF (fun _ hF => ?_)
  refine b_if hF (fun hF => ?_) (fun hF => ?_)
  ·
    exact BX10_matches_b18 (N := N) E hF
  ·
    exact BX10_matches_b18 (N := N) E hF
theorem BX10_seek_b77 {σo : fS} {q : Int × fS} {N : Nat} {s : fS} {l2 : Int} (E : bE 0 σo s) (hF : FX10_seek_b77 N l2 s = some q) : bE 0 σo q.2 := by
  unfold FX10_seek_b77 at hF
  exact b_ret E hF
theorem BX10_seek_b44 {σo : fS} {q : Int × fS} {N : Nat} : ∀ {n : Nat} {s : fS} {l2 : Int}, bE 0 σo s → FX10_seek_b44 N n l2 s = some q → bE 0 σo q.2 := by
  intro n
  induction n with
  | zero => intro s l2 E  hF; simp [FX10_seek_b44] at hF
  | succ n ih =>
    intro s l2 E  hF
    rw [FX10_seek_b44] at hF
    refine b_rv hF (fun _ hF => ?_)
    refine b_if hF (fun hF => ?_) (fun hF => ?_)
    ·
      exact BX10_seek_b77 (N := N) E hF
    ·
      refine b_rv hF (fun _ hF => ?_)
      refine b_call E (fun _ hq => (BX10_matches (N := N) (bE.rf E.S) hq)) hF (fun _ hq6 D6 E6 hF => ?_)
      refine b_if hF (fun hF => ?_) (fun hF => ?_)
      ·
        exact BX10_seek_b77 (N := N) E6 hF
      ·
        exact ih E6 hF
theorem BX10_seek_b7 {σo : fS} {q : Int × fS} {N : Nat} : ∀ {n : Nat} {s : fS} {l1 : Int} {l2 : Int}, bE 0 σo s → FX10_seek_b7 N n l1 l2 s = some q → bE 0 σo q.2 := by
  intro n
  induction n with
  | zero => intro s l1 l2 E  hF; simp [FX10_seek_b7] at hF
  | succ n ih =>
    intro s l1 l2 E  hF
    rw [FX10_seek_b7] at hF
    refine b_if hF (fun hF => ?_) (fun hF => ?_)
    ·
      exact BX10_seek_b44 (N := N) E hF
    ·
      refine b_rv hF (fun _ hF => ?_)
      exact ih E hF
theorem BX10_seek {σo : fS} {q : Int × fS} {N : Nat} {s : fS} (E : bE 0 σo s) (hF : FX10_seek N s = some q) : bE 0 σo q.2 := by
  unfold FX10_seek at hF
  exact BX10_seek_b7 (N := N) E hF
theorem BX10_make_b84 {σo : fS} {q : Unit × fS} {s : fS} {l1 : Int} (E : bE 0 σo s) (hF : FX10_make_b84 l1 s = some q) : bE 0 σo q.2 := by
  unfold FX10_make_b84 at hF
  refine b_qI E (E.S.c0 (Nat.le_of_ble_eq_true rfl)) hF (fun _ D4 E4 hF => ?_)
  refine b_qI E4 (E4.S.c0 (Nat.le_of_ble_eq_true rfl)) hF (fun _ D8 E8 hF => ?_)
  refine b_cp E8 (E8.S.c0 (Nat.le_of_ble_eq_true rfl)) hF (fun _ D13 E13 hF => ?_)
  refine b_pI E13 (E13.S.c0 (Nat.le_of_ble_eq_true rfl)) hF (fun _ D16 E16 hF => ?_)
  refine b_pI E16 (E16.S.c0 (Nat.le_of_ble_eq_true rfl)) hF (fun _ D19 E19 hF => ?_)
  refine b_qI E19 (E19.S.c0 (Nat.le_of_ble_eq_true rfl)) hF (fun _ D20 E20 hF => ?_)
  exact b_ret E20 hF
theorem BX10_make {σo : fS} {q : Unit × fS} {s : fS} {p0 : Int} (E : bE 0 σo s) (hF : FX10_make p0 s = some q) : bE 0 σo q.2 := by
  unfold FX10_make at hF
  refine b_call E (fun _ hq => (BX1_grown (bE.rf E.S) (E.S.c0 (Nat.le_of_ble_eq_true rfl)) hq).1) hF (fun _ hq3 D3 E3 hF => ?_)
  refine b_mv E3 (E3.S.c0 (Nat.le_of_ble_eq_true rfl)) (BX1_grown (bE.rf E.S) (E.S.c0 (Nat.le_of_ble_eq_true rfl)) hq3).2 hF (fun _ D4 E4 hF => ?_)
  refine b_call E4 (fun _ hq => (BX1_grown (bE.rf E4.S) (E4.S.c0 (Nat.le_of_ble_eq_true rfl)) hq).1) hF (fun _ hq7 D7 E7 hF => ?_)
  refine b_mv E7 (E7.S.c0 (Nat.le_of_ble_eq_true rfl)) (BX1_grown (bE.rf E4.S) (E4.S.c0 (Nat.le_of_ble_eq_true rfl)) hq7).2 hF (fun _ D8 E8 hF => ?_)
  refine b_if hF (fun hF => ?_) (fun hF => ?_)
  ·
    exact BX10_make_b84 E8 hF
  ·
    refine b_nA E8 hF (fun _ D15 E15 o15 hF => ?_)
    refine b_KA hF (fun hF => ?_)
    refine b_cp E15 o15 hF (fun _ D18 E18 hF => ?_)
    refine b_mv E18 (E18.S.c0 (Nat.le_of_ble_eq_true rfl)) (o15.up D18) hF (fun _ D19 E19 hF => ?_)
    exact BX10_make_b84 E19 hF
theorem BX10_enter_b61 {σo : fS} {q : Unit × fS} {N : Nat} {K6 : Int → fS → Option (Unit × fS)} (hk6 : ∀ {s : fS} {l2 : Int}, bE 0 σo s → K6 l2 s = some q → bE 0 σo q.2) {s : fS} {l2 : Int} (E : bE 0 σo s) (hF : FX10_enter_b61 N K6 l2 s = some q) : bE 0 σo q.2 := by
  unfold FX10_enter_b61 at hF
  exact hk6 E hF
theorem BX10_enter_b6 {σo : fS} {q : Unit × fS} {N : Nat} : ∀ {n : Nat} {s : fS} {l2 : Int}, bE 0 σo s → FX10_enter_b6 N n l2 s = some q → bE 0 σo q.2 := by
  intro n
  induction n with
  | zero => intro s l2 E  hF; simp [FX10_enter_b6] at hF
  | succ n ih =>
    intro s l2 E  hF
    rw [FX10_enter_b6] at hF
    refine b_rv hF (fun _ hF => ?_)
    refine b_call E (fun _ hq => (BJ1_length (d := 0) (bE.rf E.S) hq)) hF (fun _ hq2 D2 E2 hF => ?_)
    refine b_if hF (fun hF => ?_) (fun hF => ?_)
    ·
      exact b_ret E2 hF
    ·
      refine b_rv hF (fun _ hF => ?_)
      refine b_call E2 (fun _ hq => (BJ1_charAt (d := 0) (bE.rf E2.S) hq)) hF (fun _ hq4 D4 E4 hF => ?_)
      refine b_if hF (fun hF => ?_) (fun hF => ?_)
      ·
        refine b_call E4 (fun _ hq => (BX10_seek (N := N) (bE.rf E4.S) hq)) hF (fun _ hq6 D6 E6 hF => ?_)
        refine b_call E6 (fun _ hq => (BX10_make (bE.rf E6.S) hq)) hF (fun _ hq8 D8 E8 hF => ?_)
        refine b_call E8 (fun _ hq => (BX10_open (bE.rf E8.S) hq)) hF (fun _ hq10 D10 E10 hF => ?_)
        exact BX10_enter_b61 (N := N) (K6 := FX10_enter_b6 N n) @ih E10 hF
      ·
        refine b_pI E4 (E4.S.c0 (Nat.le_of_ble_eq_true rfl)) hF (fun _ D13 E13 hF => ?_)
        refine b_rv hF (fun _ hF => ?_)
        refine b_call E13 (fun _ hq => (BJ1_charAt (d := 0) (bE.rf E13.S) hq)) hF (fun _ hq15 D15 E15 hF => ?_)
        refine b_qI E15 (E15.S.c0 (Nat.le_of_ble_eq_true rfl)) hF (fun _ D16 E16 hF => ?_)
        exact BX10_enter_b61 (N := N) (K6 := FX10_enter_b6 N n) @ih E16 hF
theorem BX10_enter {σo : fS} {q : Unit × fS} {N : Nat} {s : fS} (E : bE 0 σo s) (hF : FX10_enter N s = some q) : bE 0 σo q.2 := by
  unfold FX10_enter at hF
  refine b_call E (fun _ hq => (BX10_open (bE.rf E.S) hq)) hF (fun _ hq2 D2 E2 hF => ?_)
  exact BX10_enter_b6 (N := N) E2 hF
theorem BX9_isOf_b24 {σo : fS} {q : Int × fS} {s : fS} {s0 : Int} (E : bE 0 σo s) (hF : FX9_isOf_b24 s0 s = some q) : bE 0 σo q.2 := by
  unfold FX9_isOf_b24 at hF
  exact b_z E hF
theorem BX9_isOf {σo : fS} {q : Int × fS} {s : fS} {p0 : Int} {p1 : Int} (E : bE 0 σo s) (hF : FX9_isOf p0 p1 s = some q) : bE 0 σo q.2 := by
  unfold FX9_isOf at hF
  refine b_rv hF (fun _ hF => ?_)
  refine b_if hF (fun hF => ?_) (fun hF => ?_)
  ·
    exact BX9_isOf_b24 E hF
  ·
    exact BX9_isOf_b24 E hF
theorem BX9_place_b69 {σo : fS} {q : Int × fS} {N : Nat} {s : fS} {l3 : Int} (E : bE 0 σo s) (hF : FX9_place_b69 N l3 s = some q) : bE 0 σo q.2 := by
  unfold FX9_place_b69 at hF
  exact b_ret E hF
theorem BX9_place_b46 {σo : fS} {q : Int × fS} {N : Nat} : ∀ {n : Nat} {s : fS} {l1 : Int} {l3 : Int}, bE 0 σo s → FX9_place_b46 N n l1 l3 s = some q → bE 0 σo q.2 := by
  intro n
  induction n with
  | zero => intro s l1 l3 E  hF; simp [FX9_place_b46] at hF
  | succ n ih =>
    intro s l1 l3 E  hF
    rw [FX9_place_b46] at hF
    refine b_if hF (fun hF => ?_) (fun hF => ?_)
    ·
      exact BX9_place_b69 (N := N) E hF
    ·
      refine b_call E (fun _ hq => (BX9_isOf (bE.rf E.S) hq)) hF (fun _ hq3 D3 E3 hF => ?_)
      refine b_if hF (fun hF => ?_) (fun hF => ?_)
      ·
        exact BX9_place_b69 (N := N) E3 hF
      ·
        exact ih E3 hF
theorem BX9_place_b34 {σo : fS} {q : Int × fS} {N : Nat} {s : fS} {l1 : Int} (E : bE 0 σo s) (hF : FX9_place_b34 N l1 s = some q) : bE 0 σo q.2 := by
  unfold FX9_place_b34 at hF
  refine b_rv hF (fun _ hF => ?_)
  exact BX9_place_b46 (N := N) E hF
theorem BX9_place {σo : fS} {q : Int × fS} {N : Nat} {s : fS} {p0 : Int} {p1 : Int} (E : bE 0 σo s) (hF : FX9_place N p0 p1 s = some q) : bE 0 σo q.2 := by
  unfold FX9_place at hF
  refine b_rv hF (fun _ hF => ?_)
  refine b_if hF (fun hF => ?_) (fun hF => ?_)
  ·
    exact BX9_place_b34 (N := N) E hF
  ·
    refine b_if hF (fun hF => ?_) (fun hF => ?_)
    ·
      exact BX9_place_b34 (N := N) E hF
    ·
      refine b_call E (fun _ hq => (BX9_isOf (bE.rf E.S) hq)) hF (fun _ hq6 D6 E6 hF => ?_)
      refine b_if hF (fun hF => ?_) (fun hF => ?_)
      ·
        exact BX9_place_b34 (N := N) E6 hF
      ·
        exact b_ret E6 hF
theorem BX9_save_b46 {σo : fS} {q : Int × fS} {N : Nat} {s : fS} {l1 : Int} {l3 : Int} {l4 : Int} {l5 : Int} {l6 : Int} (E : bE 0 σo s) (hF : FX9_save_b46 N l1 l3 l4 l5 l6 s = some q) : bE 0 σo q.2 := by
  unfold FX9_save_b46 at hF
  refine b_qI E (E.S.c0 (Nat.le_of_ble_eq_true rfl)) hF (fun _ D2 E2 hF => ?_)
  refine b_qI E2 (E2.S.c0 (Nat.le_of_ble_eq_true rfl)) hF (fun _ D4 E4 hF => ?_)
  exact b_ret E4 hF
theorem BX9_save {σo : fS} {q : Int × fS} {N : Nat} {s : fS} {p0 : Int} {p1 : Int} {p2 : Int} {p3 : Int} {p4 : Int} (E : bE 0 σo s) (hF : FX9_save N p0 p1 p2 p3 p4 s = some q) : bE 0 σo q.2 := by
  unfold FX9_save at hF
  refine b_call E (fun _ hq => (BX9_place (N := N) (bE.rf E.S) hq)) hF (fun _ hq2 D2 E2 hF => ?_)
  refine b_if hF (fun hF => ?_) (fun hF => ?_)
  ·
    exact BX9_save_b46 (N := N) E2 hF
  ·
    refine b_call E2 (fun _ hq => (BX1_grown (bE.rf E2.S) (E2.S.c0 (Nat.le_of_ble_eq_true rfl)) hq).1) hF (fun _ hq6 D6 E6 hF => ?_)
    refine b_mv E6 (E6.S.c0 (Nat.le_of_ble_eq_true rfl)) (BX1_grown (bE.rf E2.S) (E2.S.c0 (Nat.le_of_ble_eq_true rfl)) hq6).2 hF (fun _ D7 E7 hF => ?_)
    refine b_pI E7 (E7.S.c0 (Nat.le_of_ble_eq_true rfl)) hF (fun _ D9 E9 hF => ?_)
    exact BX9_save_b46 (N := N) E9 hF
theorem BX9_mean_b85 {σo : fS} {q : Unit × fS} {N : Nat} {s : fS} {s1 : Int} {s2 : Int} (E : bE 0 σo s) (hF : FX9_mean_b85 N s1 s2 s = some q) : bE 0 σo q.2 := by
  unfold FX9_mean_b85 at hF
  refine b_qI E (E.S.c0 (Nat.le_of_ble_eq_true rfl)) hF (fun _ D1 E1 hF => ?_)
  exact b_ret E1 hF
theorem BX9_mean_b53 {σo : fS} {q : Unit × fS} {N : Nat} {s : fS} {l1 : Int} {l2 : Int} {l3 : Int} {l4 : Int} (E : bE 0 σo s) (hF : FX9_mean_b53 N l1 l2 l3 l4 s = some q) : bE 0 σo q.2 := by
  unfold FX9_mean_b53 at hF
  refine b_qI E (E.S.c0 (Nat.le_of_ble_eq_true rfl)) hF (fun _ D2 E2 hF => ?_)
  refine b_qI E2 (E2.S.c0 (Nat.le_of_ble_eq_true rfl)) hF (fun _ D4 E4 hF => ?_)
  refine b_if hF (fun hF => ?_) (fun hF => ?_)
  ·
    exact BX9_mean_b85 (N := N) E4 hF
  ·
    exact BX9_mean_b85 (N := N) E4 hF
theorem BX9_mean {σo : fS} {q : Unit × fS} {N : Nat} {s : fS} {p0 : Int} {p1 : Int} {p2 : Int} {p3 : Int} (E : bE 0 σo s) (hF : FX9_mean N p0 p1 p2 p3 s = some q) : bE 0 σo q.2 := by
  unfold FX9_mean at hF
  refine b_if hF (fun hF => ?_) (fun hF => ?_)
  ·
    exact BX9_mean_b53 (N := N) E hF
  ·
    refine b_rv hF (fun _ hF => ?_)
    refine b_if hF (fun hF => ?_) (fun hF => ?_)
    ·
      exact BX9_mean_b53 (N := N) E hF
    ·
      refine b_rv hF (fun _ hF => ?_)
      refine b_rv hF (fun _ hF => ?_)
      refine b_rv hF (fun _ hF => ?_)
      refine b_rv hF (fun _ hF => ?_)
      refine b_call E (fun _ hq => (BX9_save (N := N) (bE.rf E.S) hq)) hF (fun _ hq14 D14 E14 hF => ?_)
      refine b_qI E14 (E14.S.c0 (Nat.le_of_ble_eq_true rfl)) hF (fun _ D15 E15 hF => ?_)
      exact BX9_mean_b53 (N := N) E15 hF
theorem BX11_begin {σo : fS} {q : Unit × fS} {s : fS} (E : bE 0 σo s) (hF : FX11_begin s = some q) : bE 0 σo q.2 := by
  unfold FX11_begin at hF
  refine b_pI E (E.S.c0 (Nat.le_of_ble_eq_true rfl)) hF (fun _ D1 E1 hF => ?_)
  refine b_pI E1 (E1.S.c0 (Nat.le_of_ble_eq_true rfl)) hF (fun _ D2 E2 hF => ?_)
  refine b_pI E2 (E2.S.c0 (Nat.le_of_ble_eq_true rfl)) hF (fun _ D3 E3 hF => ?_)
  refine b_pI E3 (E3.S.c0 (Nat.le_of_ble_eq_true rfl)) hF (fun _ D4 E4 hF => ?_)
  exact b_ret E4 hF
theorem BX13_clear {σo : fS} {q : Unit × fS} {s : fS} (E : bE 0 σo s) (hF : FX13_clear s = some q) : bE 0 σo q.2 := by
  unfold FX13_clear at hF
  refine b_pI E (E.S.c0 (Nat.le_of_ble_eq_true rfl)) hF (fun _ D1 E1 hF => ?_)
  exact b_ret E1 hF
theorem BX8_begin_b25 {σo : fS} {q : Unit × fS} {N : Nat} : ∀ {n : Nat} {s : fS} {l1 : Int}, bE 0 σo s → FX8_begin_b25 N n l1 s = some q → bE 0 σo q.2 := by
  intro n
  induction n with
  | zero => intro s l1 E  hF; simp [FX8_begin_b25] at hF
  | succ n ih =>
    intro s l1 E  hF
    rw [FX8_begin_b25] at hF
    refine b_if hF (fun hF => ?_) (fun hF => ?_)
    ·
      refine b_call E (fun _ hq => (BX11_begin (bE.rf E.S) hq)) hF (fun _ hq3 D3 E3 hF => ?_)
      refine b_pI E3 (E3.S.c0 (Nat.le_of_ble_eq_true rfl)) hF (fun _ D5 E5 hF => ?_)
      refine b_pI E5 (E5.S.c0 (Nat.le_of_ble_eq_true rfl)) hF (fun _ D7 E7 hF => ?_)
      refine b_call E7 (fun _ hq => (BX13_clear (bE.rf E7.S) hq)) hF (fun _ hq10 D10 E10 hF => ?_)
      refine b_pI E10 (E10.S.c0 (Nat.le_of_ble_eq_true rfl)) hF (fun _ D11 E11 hF => ?_)
      refine b_pI E11 (E11.S.c0 (Nat.le_of_ble_eq_true rfl)) hF (fun _ D12 E12 hF => ?_)
      refine b_pI E12 (E12.S.c0 (Nat.le_of_ble_eq_true rfl)) hF (fun _ D13 E13 hF => ?_)
      refine b_pI E13 (E13.S.c0 (Nat.le_of_ble_eq_true rfl)) hF (fun _ D14 E14 hF => ?_)
      refine b_pI E14 (E14.S.c0 (Nat.le_of_ble_eq_true rfl)) hF (fun _ D15 E15 hF => ?_)
      refine b_pI E15 (E15.S.c0 (Nat.le_of_ble_eq_true rfl)) hF (fun _ D17 E17 hF => ?_)
      exact b_ret E17 hF
    ·
      refine b_call E (fun _ hq => (BX9_mean (N := N) (bE.rf E.S) hq)) hF (fun _ hq20 D20 E20 hF => ?_)
      exact ih E20 hF
theorem BX8_begin {σo : fS} {q : Unit × fS} {N : Nat} {s : fS} (E : bE 0 σo s) (hF : FX8_begin N s = some q) : bE 0 σo q.2 := by
  unfold FX8_begin at hF
  refine b_call E (fun _ hq => (BX10_clear (N := N) (bE.rf E.S) hq)) hF (fun _ hq3 D3 E3 hF => ?_)
  refine b_call E3 (fun _ hq => (BX9_clear (N := N) (bE.rf E3.S) hq)) hF (fun _ hq6 D6 E6 hF => ?_)
  refine b_call E6 (fun _ hq => (BX10_enter (N := N) (bE.rf E6.S) hq)) hF (fun _ hq9 D9 E9 hF => ?_)
  exact BX8_begin_b25 (N := N) E9 hF
theorem BX5_clear {σo : fS} {q : Unit × fS} {N : Nat} {s : fS} (E : bE 0 σo s) (hF : FX5_clear N s = some q) : bE 0 σo q.2 := by
  unfold FX5_clear at hF
  refine b_pI E (E.S.c0 (Nat.le_of_ble_eq_true rfl)) hF (fun _ D1 E1 hF => ?_)
  refine b_pI E1 (E1.S.c0 (Nat.le_of_ble_eq_true rfl)) hF (fun _ D2 E2 hF => ?_)
  refine b_call E2 (fun _ hq => (BJ0_fill_2 (N := N) (bE.rf E2.S) hq)) hF (fun _ hq4 D4 E4 hF => ?_)
  exact b_ret E4 hF
theorem BX28_restart {σo : fS} {q : Unit × fS} {N : Nat} {s : fS} (E : bE 0 σo s) (hF : FX28_restart N s = some q) : bE 0 σo q.2 := by
  unfold FX28_restart at hF
  refine b_pI E (E.S.c0 (Nat.le_of_ble_eq_true rfl)) hF (fun _ D1 E1 hF => ?_)
  refine b_call E1 (fun _ hq => (BX28_begin (N := N) (bE.rf E1.S) hq)) hF (fun _ hq3 D3 E3 hF => ?_)
  exact b_ret E3 hF
theorem BX31_begin {σo : fS} {q : Unit × fS} {N : Nat} {s : fS} {p0 : Int} {p1 : Int} (E : bE 0 σo s) (hF : FX31_begin N p0 p1 s = some q) : bE 0 σo q.2 := by
  unfold FX31_begin at hF
  refine b_pI E (E.S.c0 (Nat.le_of_ble_eq_true rfl)) hF (fun _ D1 E1 hF => ?_)
  refine b_pI E1 (E1.S.c0 (Nat.le_of_ble_eq_true rfl)) hF (fun _ D2 E2 hF => ?_)
  refine b_pI E2 (E2.S.c0 (Nat.le_of_ble_eq_true rfl)) hF (fun _ D4 E4 hF => ?_)
  refine b_pI E4 (E4.S.c0 (Nat.le_of_ble_eq_true rfl)) hF (fun _ D5 E5 hF => ?_)
  refine b_pI E5 (E5.S.c0 (Nat.le_of_ble_eq_true rfl)) hF (fun _ D6 E6 hF => ?_)
  refine b_pI E6 (E6.S.c0 (Nat.le_of_ble_eq_true rfl)) hF (fun _ D7 E7 hF => ?_)
  refine b_pI E7 (E7.S.c0 (Nat.le_of_ble_eq_true rfl)) hF (fun _ D8 E8 hF => ?_)
  refine b_pI E8 (E8.S.c0 (Nat.le_of_ble_eq_true rfl)) hF (fun _ D9 E9 hF => ?_)
  refine b_pZ E9 (E9.S.c0 (Nat.le_of_ble_eq_true rfl)) hF (fun _ D10 E10 hF => ?_)
  refine b_call E10 (fun _ hq => (BX5_clear (N := N) (bE.rf E10.S) hq)) hF (fun _ hq13 D13 E13 hF => ?_)
  exact b_ret E13 hF
theorem BX3_begin {σo : fS} {q : Unit × fS} {N : Nat} {s : fS} (E : bE 0 σo s) (hF : FX3_begin N s = some q) : bE 0 σo q.2 := by
  unfold FX3_begin at hF
  refine b_call E (fun _ hq => (BX8_begin (N := N) (bE.rf E.S) hq)) hF (fun _ hq3 D3 E3 hF => ?_)
  refine b_call E3 (fun _ hq => (BX5_clear (N := N) (bE.rf E3.S) hq)) hF (fun _ hq6 D6 E6 hF => ?_)
  refine b_pI E6 (E6.S.c0 (Nat.le_of_ble_eq_true rfl)) hF (fun _ D8 E8 hF => ?_)
  refine b_pI E8 (E8.S.c0 (Nat.le_of_ble_eq_true rfl)) hF (fun _ D9 E9 hF => ?_)
  refine b_pI E9 (E9.S.c0 (Nat.le_of_ble_eq_true rfl)) hF (fun _ D11 E11 hF => ?_)
  refine b_call E11 (fun _ hq => (BX28_restart (N := N) (bE.rf E11.S) hq)) hF (fun _ hq14 D14 E14 hF => ?_)
  refine b_pI E14 (E14.S.c0 (Nat.le_of_ble_eq_true rfl)) hF (fun _ D17 E17 hF => ?_)
  refine b_call E17 (fun _ hq => (BX31_begin (N := N) (bE.rf E17.S) hq)) hF (fun _ hq20 D20 E20 hF => ?_)
  refine b_pI E20 (E20.S.c0 (Nat.le_of_ble_eq_true rfl)) hF (fun _ D22 E22 hF => ?_)
  refine b_pI E22 (E22.S.c0 (Nat.le_of_ble_eq_true rfl)) hF (fun _ D23 E23 hF => ?_)
  refine b_qI E23 (E23.S.c0 (Nat.le_of_ble_eq_true rfl)) hF (fun _ D25 E25 hF => ?_)
  refine b_qI E25 (E25.S.c0 (Nat.le_of_ble_eq_true rfl)) hF (fun _ D27 E27 hF => ?_)
  refine b_qI E27 (E27.S.c0 (Nat.le_of_ble_eq_true rfl)) hF (fun _ D29 E29 hF => ?_)
  refine b_pZ E29 (E29.S.c0 (Nat.le_of_ble_eq_true rfl)) hF (fun _ D31 E31 hF => ?_)
  refine b_pI E31 (E31.S.c0 (Nat.le_of_ble_eq_true rfl)) hF (fun _ D32 E32 hF => ?_)
  refine b_pZ E32 (E32.S.c0 (Nat.le_of_ble_eq_true rfl)) hF (fun _ D33 E33 hF => ?_)
  refine b_call E33 (fun _ hq => (BJ0_fill (d := 0) (N := N) (bE.rf E33.S) (E33.S.c0 (Nat.le_of_ble_eq_true rfl)) hq)) hF (fun _ hq35 D35 E35 hF => ?_)
  exact b_ret E35 hF
theorem BX1_about_b10 {σo : fS} {q : (Int ⊕ Nat) × fS} {s : fS} (E : bE 0 σo s) (hF : FX1_about_b10 s = some q) : bE 0 σo q.2 := by
  unfold FX1_about_b10 at hF
  exact b_exc E hF
theorem BX1_about {σo : fS} {q : (Int ⊕ Nat) × fS} {s : fS} {p0 : Int} (E : bE 0 σo s) (hF : FX1_about p0 s = some q) : bE 0 σo q.2 := by
  unfold FX1_about at hF
  refine b_if hF (fun hF => ?_) (fun hF => ?_)
  ·
    exact BX1_about_b10 E hF
  ·
    refine b_if hF (fun hF => ?_) (fun hF => ?_)
    ·
      refine b_rv hF (fun _ hF => ?_)
      exact b_ret E hF
    ·
      exact BX1_about_b10 E hF
theorem BX1_category {σo : fS} {q : Int × fS} {s : fS} {p0 : Int} (E : bE 0 σo s) (hF : FX1_category p0 s = some q) : bE 0 σo q.2 := by
  unfold FX1_category at hF
  exact b_ret E hF
theorem BX16_clear_b12 {σo : fS} {q : Unit × fS} {N : Nat} : ∀ {n : Nat} {s : fS} {l1 : Int}, bE 0 σo s → FX16_clear_b12 N n l1 s = some q → bE 0 σo q.2 := by
  intro n
  induction n with
  | zero => intro s l1 E  hF; simp [FX16_clear_b12] at hF
  | succ n ih =>
    intro s l1 E  hF
    rw [FX16_clear_b12] at hF
    refine b_if hF (fun hF => ?_) (fun hF => ?_)
    ·
      exact b_ret E hF
    ·
      refine b_qI E (E.S.c0 (Nat.le_of_ble_eq_true rfl)) hF (fun _ D2 E2 hF => ?_)
      exact ih E2 hF
theorem BX16_clear {σo : fS} {q : Unit × fS} {N : Nat} {s : fS} (E : bE 0 σo s) (hF : FX16_clear N s = some q) : bE 0 σo q.2 := by
  unfold FX16_clear at hF
  refine b_pI E (E.S.c0 (Nat.le_of_ble_eq_true rfl)) hF (fun _ D1 E1 hF => ?_)
  refine b_pI E1 (E1.S.c0 (Nat.le_of_ble_eq_true rfl)) hF (fun _ D2 E2 hF => ?_)
  exact BX16_clear_b12 (N := N) E2 hF
theorem BX14_clear_b43 {σo : fS} {q : Int × fS} {N : Nat} {s : fS} {l2 : Int} (E : bE 0 σo s) (hF : FX14_clear_b43 N l2 s = some q) : bE 0 σo q.2 := by
  unfold FX14_clear_b43 at hF
  exact b_ret E hF
theorem BX14_clear_b21 {σo : fS} {q : Int × fS} {N : Nat} {s : fS} {l1 : Int} {s0 : Int} (E : bE 0 σo s) (hF : FX14_clear_b21 N l1 s0 s = some q) : bE 0 σo q.2 := by
  unfold FX14_clear_b21 at hF
  refine b_if hF (fun hF => ?_) (fun hF => ?_)
  ·
    refine b_call E (fun _ hq => (BX15_clear (bE.rf E.S) hq)) hF (fun _ hq3 D3 E3 hF => ?_)
    exact BX14_clear_b43 (N := N) E3 hF
  ·
    refine b_call E (fun _ hq => (BX16_clear (N := N) (bE.rf E.S) hq)) hF (fun _ hq6 D6 E6 hF => ?_)
    exact BX14_clear_b43 (N := N) E6 hF
theorem BX14_clear {σo : fS} {q : Int × fS} {N : Nat} {s : fS} {p0 : Int} (E : bE 0 σo s) (hF : FX14_clear N p0 s = some q) : bE 0 σo q.2 := by
  unfold FX14_clear at hF
  refine b_if hF (fun hF => ?_) (fun hF => ?_)
  ·
    exact BX14_clear_b21 (N := N) E hF
  ·
    exact BX14_clear_b21 (N := N) E hF
theorem BX1_clear {σo : fS} {q : Int × fS} {N : Nat} {s : fS} {p0 : Int} (E : bE 0 σo s) (hF : FX1_clear N p0 s = some q) : bE 0 σo q.2 := by
  unfold FX1_clear at hF
  refine b_call E (fun _ hq => (BX14_clear (N := N) (bE.rf E.S) hq)) hF (fun _ hq4 D4 E4 hF => ?_)
  exact b_ret E4 hF
theorem BX1_count_b11 {σo : fS} {q : (Int ⊕ Nat) × fS} {s : fS} (E : bE 0 σo s) (hF : FX1_count_b11 s = some q) : bE 0 σo q.2 := by
  unfold FX1_count_b11 at hF
  exact b_exc E hF
theorem BX1_count {σo : fS} {q : (Int ⊕ Nat) × fS} {s : fS} {p0 : Int} (E : bE 0 σo s) (hF : FX1_count p0 s = some q) : bE 0 σo q.2 := by
  unfold FX1_count at hF
  refine b_if hF (fun hF => ?_) (fun hF => ?_)
  ·
    exact BX1_count_b11 E hF
  ·
    refine b_if hF (fun hF => ?_) (fun hF => ?_)
    ·
      refine b_rv hF (fun _ hF => ?_)
      exact b_ret E hF
    ·
      exact BX1_count_b11 E hF
theorem BX2_take {σo : fS} {q : Int × fS} {s : fS} {p1 : Int} (E : bE 0 σo s) (hF : FX2_take p1 s = some q) : bE 0 σo q.2 := by
  unfold FX2_take at hF
  refine b_if hF (fun hF => ?_) (fun hF => ?_)
  ·
    refine b_cp E (E.S.c0 (Nat.le_of_ble_eq_true rfl)) hF (fun _ D2 E2 hF => ?_)
    refine b_pI E2 (E2.S.c0 (Nat.le_of_ble_eq_true rfl)) hF (fun _ D3 E3 hF => ?_)
    exact b_ret E3 hF
  ·
    exact b_ret E hF
theorem BX2_at {σo : fS} {q : Int × fS} {s : fS} {this : Nat} {p0 : Int} {p1 : Int} (E : bE 0 σo s) (othis : bO 0 s this) (hF : FX2_at this p0 p1 s = some q) : bE 0 σo q.2 := by
  unfold FX2_at at hF
  refine b_K hF (fun hF => ?_)
  refine b_o E othis hF (fun _ o1 hF => ?_)
  refine b_KA hF (fun hF => ?_)
  refine b_rv hF (fun _ hF => ?_)
  exact b_ret E hF
theorem BX2_half {σo : fS} {q : Int × fS} {s : fS} {this : Nat} {p0 : Int} (E : bE 0 σo s) (othis : bO 0 s this) (hF : FX2_half this p0 s = some q) : bE 0 σo q.2 := by
  unfold FX2_half at hF
  refine b_K hF (fun hF => ?_)
  refine b_call E (fun _ hq => (BX2_at (bE.rf E.S) othis hq)) hF (fun _ hq2 D2 E2 hF => ?_)
  refine b_K hF (fun hF => ?_)
  refine b_call E2 (fun _ hq => (BX2_at (bE.rf E2.S) (othis.up D2) hq)) hF (fun _ hq4 D4 E4 hF => ?_)
  exact b_ret E4 hF
theorem BX2_whole {σo : fS} {q : Int × fS} {s : fS} {this : Nat} {p0 : Int} (E : bE 0 σo s) (othis : bO 0 s this) (hF : FX2_whole this p0 s = some q) : bE 0 σo q.2 := by
  unfold FX2_whole at hF
  refine b_K hF (fun hF => ?_)
  refine b_call E (fun _ hq => (BX2_at (bE.rf E.S) othis hq)) hF (fun _ hq2 D2 E2 hF => ?_)
  refine b_K hF (fun hF => ?_)
  refine b_call E2 (fun _ hq => (BX2_at (bE.rf E2.S) (othis.up D2) hq)) hF (fun _ hq4 D4 E4 hF => ?_)
  refine b_K hF (fun hF => ?_)
  refine b_call E4 (fun _ hq => (BX2_at (bE.rf E4.S) ((othis.up D2).up D4) hq)) hF (fun _ hq6 D6 E6 hF => ?_)
  refine b_K hF (fun hF => ?_)
  refine b_call E6 (fun _ hq => (BX2_at (bE.rf E6.S) (((othis.up D2).up D4).up D6) hq)) hF (fun _ hq8 D8 E8 hF => ?_)
  exact b_ret E8 hF
theorem BX6_word {σo : fS} {q : Int × fS} {s : fS} {this : Nat} {p0 : Int} {p1 : Int} (E : bE 0 σo s) (othis : bO 0 s this) (hF : FX6_word this p0 p1 s = some q) : bE 0 σo q.2 := by
  unfold FX6_word at hF
  refine b_K hF (fun hF => ?_)
  refine b_o E othis hF (fun _ o1 hF => ?_)
  refine b_K hF (fun hF => ?_)
  refine b_o E othis hF (fun _ o2 hF => ?_)
  refine b_KA hF (fun hF => ?_)
  refine b_rv hF (fun _ hF => ?_)
  refine b_KA hF (fun hF => ?_)
  refine b_rv hF (fun _ hF => ?_)
  exact b_ret E hF
theorem BX6_layOut_b42 {σo : fS} {q : Int × fS} {N : Nat} {K17 : Nat → Nat → Int → Int → fS → Option (Int × fS)} (hk17 : ∀ {s : fS} {l0 : Nat} {l1 : Nat} {l2 : Int} {l3 : Int}, bE 0 σo s → bO 0 s l0 → bO 0 s l1 → K17 l0 l1 l2 l3 s = some q → bE 0 σo q.2) {s : fS} {l0 : Nat} {l1 : Nat} {l3 : Int} {s0 : Int} (E : bE 0 σo s) (ol0 : bO 0 s l0) (ol1 : bO 0 s l1) (hF : FX6_layOut_b42 N K17 l0 l1 l3 s0 s = some q) : bE 0 σo q.2 := by
  unfold FX6_layOut_b42 at hF
  exact hk17 E ol0 ol1 hF
theorem BX6_layOut_b96 {σo : fS} {q : Int × fS} {N : Nat} {s : fS} (E : bE 0 σo s) (hF : FX6_layOut_b96 N s = some q) : bE 0 σo q.2 := by
  unfold FX6_layOut_b96 at hF
  exact b_ret E hF
theorem BX6_layOut_b152 {σo : fS} {q : Int × fS} {N : Nat} {K104 : Nat → Nat → Int → Int → fS → Option (Int × fS)} (hk104 : ∀ {s : fS} {l0 : Nat} {l1 : Nat} {l3 : Int} {l4 : Int}, bE 0 σo s → bO 0 s l0 → bO 0 s l1 → K104 l0 l1 l3 l4 s = some q → bE 0 σo q.2) {s : fS} {l0 : Nat} {l1 : Nat} {l3 : Int} {l4 : Int} {s0 : Int} (E : bE 0 σo s) (ol0 : bO 0 s l0) (ol1 : bO 0 s l1) (hF : FX6_layOut_b152 N K104 l0 l1 l3 l4 s0 s = some q) : bE 0 σo q.2 := by
  unfold FX6_layOut_b152 at hF
  refine b_K hF (fun hF => ?_)
  refine b_o E ol0 hF (fun _ o1 hF => ?_)
  refine b_KA hF (fun hF => ?_)
  refine b_qI E o1 hF (fun _ D2 E2 hF => ?_)
  refine b_K hF (fun hF => ?_)
  refine b_o E2 (ol0.up D2) hF (fun _ o3 hF => ?_)
  refine b_KA hF (fun hF => ?_)
  refine b_qI E2 o3 hF (fun _ D4 E4 hF => ?_)
  exact hk104 E4 ((ol0.up D2).up D4) ((ol1.up D2).up D4) hF
theorem BX6_layOut_b238 {σo : fS} {q : Int × fS} {N : Nat} {K215 : Nat → Nat → Int → Int → Int → fS → Option (Int × fS)} (hk215 : ∀ {s : fS} {l0 : Nat} {l1 : Nat} {l3 : Int} {l4 : Int} {l5 : Int}, bE 0 σo s → bO 0 s l0 → bO 0 s l1 → K215 l0 l1 l3 l4 l5 s = some q → bE 0 σo q.2) {s : fS} {l0 : Nat} {l1 : Nat} {l3 : Int} {l5 : Int} {s0 : Int} {s1 : Int} (E : bE 0 σo s) (ol0 : bO 0 s l0) (ol1 : bO 0 s l1) (hF : FX6_layOut_b238 N K215 l0 l1 l3 l5 s0 s1 s = some q) : bE 0 σo q.2 := by
  unfold FX6_layOut_b238 at hF
  exact hk215 E ol0 ol1 hF
theorem BX6_layOut_b273 {σo : fS} {q : Int × fS} {N : Nat} {s : fS} (E : bE 0 σo s) (hF : FX6_layOut_b273 N s = some q) : bE 0 σo q.2 := by
  unfold FX6_layOut_b273 at hF
  exact b_ret E hF
theorem BX6_layOut_b319 {σo : fS} {q : Int × fS} {N : Nat} {s : fS} {s0 : Int} (E : bE 0 σo s) (hF : FX6_layOut_b319 N s0 s = some q) : bE 0 σo q.2 := by
  unfold FX6_layOut_b319 at hF
  exact b_ret E hF
theorem BX6_layOut_b278 {σo : fS} {q : Int × fS} {N : Nat} : ∀ {n : Nat} {s : fS} {l0 : Nat} {l1 : Nat} {l3 : Int} {l5 : Int}, bE 0 σo s → bO 0 s l0 → bO 0 s l1 → FX6_layOut_b278 N n l0 l1 l3 l5 s = some q → bE 0 σo q.2 := by
  intro n
  induction n with
  | zero => intro s l0 l1 l3 l5 E ol0 ol1 hF; simp [FX6_layOut_b278] at hF
  | succ n ih =>
    intro s l0 l1 l3 l5 E ol0 ol1 hF
    rw [FX6_layOut_b278] at hF
    refine b_if hF (fun hF => ?_) (fun hF => ?_)
    ·
      refine b_K hF (fun hF => ?_)
      refine b_call E (fun _ hq => (BX6_word (bE.rf E.S) ol0 hq)) hF (fun _ hq2 D2 E2 hF => ?_)
      refine b_if hF (fun hF => ?_) (fun hF => ?_)
      ·
        exact BX6_layOut_b319 (N := N) E2 hF
      ·
        exact BX6_layOut_b319 (N := N) E2 hF
    ·
      refine b_K hF (fun hF => ?_)
      refine b_o E ol0 hF (fun _ o3 hF => ?_)
      refine b_K hF (fun hF => ?_)
      refine b_call E (fun _ hq => (BX2_whole (bE.rf E.S) ol1 hq)) hF (fun _ hq5 D5 E5 hF => ?_)
      refine b_KA hF (fun hF => ?_)
      refine b_qI E5 (o3.up D5) hF (fun _ D6 E6 hF => ?_)
      exact ih E6 ((ol0.up D5).up D6) ((ol1.up D5).up D6) hF
theorem BX6_layOut_b215 {σo : fS} {q : Int × fS} {N : Nat} : ∀ {n : Nat} {s : fS} {l0 : Nat} {l1 : Nat} {l3 : Int} {l4 : Int} {l5 : Int}, bE 0 σo s → bO 0 s l0 → bO 0 s l1 → FX6_layOut_b215 N n l0 l1 l3 l4 l5 s = some q → bE 0 σo q.2 := by
  intro n
  induction n with
  | zero => intro s l0 l1 l3 l4 l5 E ol0 ol1 hF; simp [FX6_layOut_b215] at hF
  | succ n ih =>
    intro s l0 l1 l3 l4 l5 E ol0 ol1 hF
    rw [FX6_layOut_b215] at hF
    refine b_if hF (fun hF => ?_) (fun hF => ?_)
    ·
      refine b_if hF (fun hF => ?_) (fun hF => ?_)
      ·
        refine b_K hF (fun hF => ?_)
        refine b_call E (fun _ hq => (BX2_half (bE.rf E.S) ol1 hq)) hF (fun _ hq2 D2 E2 hF => ?_)
        refine b_if hF (fun hF => ?_) (fun hF => ?_)
        ·
          exact BX6_layOut_b273 (N := N) E2 hF
        ·
          refine b_K hF (fun hF => ?_)
          refine b_if hF (fun hF => ?_) (fun hF => ?_)
          ·
            exact BX6_layOut_b278 (N := N) E2 (ol0.up D2) (ol1.up D2) hF
          ·
            exact BX6_layOut_b273 (N := N) E2 hF
      ·
        exact b_ret E hF
    ·
      refine b_K hF (fun hF => ?_)
      refine b_o E ol0 hF (fun _ o4 hF => ?_)
      refine b_KA hF (fun hF => ?_)
      refine b_rv hF (fun _ hF => ?_)
      refine b_if hF (fun hF => ?_) (fun hF => ?_)
      ·
        exact BX6_layOut_b238 (N := N) (K215 := FX6_layOut_b215 N n) @ih E ol0 ol1 hF
      ·
        exact BX6_layOut_b238 (N := N) (K215 := FX6_layOut_b215 N n) @ih E ol0 ol1 hF
theorem BX6_layOut_b210 {σo : fS} {q : Int × fS} {N : Nat} {s : fS} {l0 : Nat} {l1 : Nat} {l3 : Int} {s0 : Int} (E : bE 0 σo s) (ol0 : bO 0 s l0) (ol1 : bO 0 s l1) (hF : FX6_layOut_b210 N l0 l1 l3 s0 s = some q) : bE 0 σo q.2 := by
  unfold FX6_layOut_b210 at hF
  exact BX6_layOut_b215 (N := N) E ol0 ol1 hF
theorem BX6_layOut_b209 {σo : fS} {q : Int × fS} {N : Nat} {s : fS} {l0 : Nat} {l1 : Nat} {l3 : Int} (E : bE 0 σo s) (ol0 : bO 0 s l0) (ol1 : bO 0 s l1) (hF : FX6_layOut_b209 N l0 l1 l3 s = some q) : bE 0 σo q.2 := by
  unfold FX6_layOut_b209 at hF
  exact BX6_layOut_b210 (N := N) E ol0 ol1 hF
theorem BX6_layOut_b104 {σo : fS} {q : Int × fS} {N : Nat} : ∀ {n : Nat} {s : fS} {l0 : Nat} {l1 : Nat} {l3 : Int} {l4 : Int}, bE 0 σo s → bO 0 s l0 → bO 0 s l1 → FX6_layOut_b104 N n l0 l1 l3 l4 s = some q → bE 0 σo q.2 := by
  intro n
  induction n with
  | zero => intro s l0 l1 l3 l4 E ol0 ol1 hF; simp [FX6_layOut_b104] at hF
  | succ n ih =>
    intro s l0 l1 l3 l4 E ol0 ol1 hF
    rw [FX6_layOut_b104] at hF
    refine b_if hF (fun hF => ?_) (fun hF => ?_)
    ·
      refine b_K hF (fun hF => ?_)
      refine b_o E ol0 hF (fun _ o1 hF => ?_)
      refine b_KA hF (fun hF => ?_)
      refine b_rv hF (fun _ hF => ?_)
      refine b_if hF (fun hF => ?_) (fun hF => ?_)
      ·
        exact BX6_layOut_b209 (N := N) E ol0 ol1 hF
      ·
        refine b_K hF (fun hF => ?_)
        refine b_o E ol0 hF (fun _ o3 hF => ?_)
        refine b_KA hF (fun hF => ?_)
        refine b_rv hF (fun _ hF => ?_)
        refine b_if hF (fun hF => ?_) (fun hF => ?_)
        ·
          exact BX6_layOut_b209 (N := N) E ol0 ol1 hF
        ·
          exact BX6_layOut_b210 (N := N) E ol0 ol1 hF
    ·
      refine b_if hF (fun hF => ?_) (fun hF => ?_)
      ·
        refine b_if hF (fun hF => ?_) (fun hF => ?_)
        ·
          refine b_K hF (fun hF => ?_)
          refine b_call E (fun _ hq => (BX2_half (bE.rf E.S) ol1 hq)) hF (fun _ hq6 D6 E6 hF => ?_)
          exact BX6_layOut_b152 (N := N) (K104 := FX6_layOut_b104 N n) @ih E6 (ol0.up D6) (ol1.up D6) hF
        ·
          refine b_K hF (fun hF => ?_)
          refine b_K hF (fun hF => ?_)
          exact BX6_layOut_b152 (N := N) (K104 := FX6_layOut_b104 N n) @ih E ol0 ol1 hF
      ·
        refine b_K hF (fun hF => ?_)
        refine b_call E (fun _ hq => (BX2_half (bE.rf E.S) ol1 hq)) hF (fun _ hq10 D10 E10 hF => ?_)
        exact BX6_layOut_b152 (N := N) (K104 := FX6_layOut_b104 N n) @ih E10 (ol0.up D10) (ol1.up D10) hF
theorem BX6_layOut_b49 {σo : fS} {q : Int × fS} {N : Nat} {s : fS} {l0 : Nat} {l1 : Nat} {l2 : Int} (E : bE 0 σo s) (ol0 : bO 0 s l0) (ol1 : bO 0 s l1) (hF : FX6_layOut_b49 N l0 l1 l2 s = some q) : bE 0 σo q.2 := by
  unfold FX6_layOut_b49 at hF
  refine b_if hF (fun hF => ?_) (fun hF => ?_)
  ·
    refine b_K hF (fun hF => ?_)
    refine b_call E (fun _ hq => (BX2_half (bE.rf E.S) ol1 hq)) hF (fun _ hq2 D2 E2 hF => ?_)
    refine b_K hF (fun hF => ?_)
    refine b_pI E2 (ol0.up D2) hF (fun _ D3 E3 hF => ?_)
    refine b_K hF (fun hF => ?_)
    refine b_call E3 (fun _ hq => (BX2_half (bE.rf E3.S) ((ol1.up D2).up D3) hq)) hF (fun _ hq5 D5 E5 hF => ?_)
    refine b_K hF (fun hF => ?_)
    refine b_pI E5 (((ol0.up D2).up D3).up D5) hF (fun _ D6 E6 hF => ?_)
    refine b_K hF (fun hF => ?_)
    refine b_K hF (fun hF => ?_)
    refine b_if hF (fun hF => ?_) (fun hF => ?_)
    ·
      exact BX6_layOut_b96 (N := N) E6 hF
    ·
      refine b_K hF (fun hF => ?_)
      refine b_if hF (fun hF => ?_) (fun hF => ?_)
      ·
        exact BX6_layOut_b104 (N := N) E6 ((((ol0.up D2).up D3).up D5).up D6) ((((ol1.up D2).up D3).up D5).up D6) hF
      ·
        exact BX6_layOut_b96 (N := N) E6 hF
  ·
    exact b_ret E hF
theorem BX6_layOut_b17 {σo : fS} {q : Int × fS} {N : Nat} : ∀ {n : Nat} {s : fS} {l0 : Nat} {l1 : Nat} {l2 : Int} {l3 : Int}, bE 0 σo s → bO 0 s l0 → bO 0 s l1 → FX6_layOut_b17 N n l0 l1 l2 l3 s = some q → bE 0 σo q.2 := by
  intro n
  induction n with
  | zero => intro s l0 l1 l2 l3 E ol0 ol1 hF; simp [FX6_layOut_b17] at hF
  | succ n ih =>
    intro s l0 l1 l2 l3 E ol0 ol1 hF
    rw [FX6_layOut_b17] at hF
    refine b_if hF (fun hF => ?_) (fun hF => ?_)
    ·
      exact BX6_layOut_b49 (N := N) E ol0 ol1 hF
    ·
      refine b_if hF (fun hF => ?_) (fun hF => ?_)
      ·
        exact BX6_layOut_b49 (N := N) E ol0 ol1 hF
      ·
        refine b_K hF (fun hF => ?_)
        refine b_call E (fun _ hq => (BX2_half (bE.rf E.S) ol1 hq)) hF (fun _ hq2 D2 E2 hF => ?_)
        refine b_if hF (fun hF => ?_) (fun hF => ?_)
        ·
          exact BX6_layOut_b42 (N := N) (K17 := FX6_layOut_b17 N n) @ih E2 (ol0.up D2) (ol1.up D2) hF
        ·
          exact BX6_layOut_b42 (N := N) (K17 := FX6_layOut_b17 N n) @ih E2 (ol0.up D2) (ol1.up D2) hF
theorem BX6_layOut_b14 {σo : fS} {q : Int × fS} {N : Nat} {s : fS} {l0 : Nat} {l1 : Nat} {s0 : Int} (E : bE 0 σo s) (ol0 : bO 0 s l0) (ol1 : bO 0 s l1) (hF : FX6_layOut_b14 N l0 l1 s0 s = some q) : bE 0 σo q.2 := by
  unfold FX6_layOut_b14 at hF
  exact BX6_layOut_b17 (N := N) E ol0 ol1 hF
theorem BX6_layOut {σo : fS} {q : Int × fS} {N : Nat} {s : fS} {this : Nat} {p0 : Nat} (E : bE 0 σo s) (othis : bO 0 s this) (op0 : bO 0 s p0) (hF : FX6_layOut N this p0 s = some q) : bE 0 σo q.2 := by
  unfold FX6_layOut at hF
  refine b_K hF (fun hF => ?_)
  refine b_if hF (fun hF => ?_) (fun hF => ?_)
  ·
    exact BX6_layOut_b14 (N := N) E othis op0 hF
  ·
    exact BX6_layOut_b14 (N := N) E othis op0 hF
theorem BX6_a {σo : fS} {q : Int × fS} {s : fS} {p0 : Int} (E : bE 0 σo s) (hF : FX6_a p0 s = some q) : bE 0 σo q.2 := by
  unfold FX6_a at hF
  exact b_ret E hF
theorem BX6_b {σo : fS} {q : Int × fS} {s : fS} {p0 : Int} (E : bE 0 σo s) (hF : FX6_b p0 s = some q) : bE 0 σo q.2 := by
  unfold FX6_b at hF
  exact b_ret E hF
theorem BX6_c {σo : fS} {q : Int × fS} {s : fS} {p0 : Int} (E : bE 0 σo s) (hF : FX6_c p0 s = some q) : bE 0 σo q.2 := by
  unfold FX6_c at hF
  exact b_ret E hF
theorem BX6_areSizesRight_b93 {σo : fS} {q : Int × fS} {N : Nat} {K7 : Nat → Int → Int → fS → Option (Int × fS)} (hk7 : ∀ {s : fS} {l0 : Nat} {l1 : Int} {l2 : Int}, bE 0 σo s → bO 0 s l0 → K7 l0 l1 l2 s = some q → bE 0 σo q.2) {s : fS} {l0 : Nat} {l2 : Int} {s0 : Int} {s1 : Int} (E : bE 0 σo s) (ol0 : bO 0 s l0) (hF : FX6_areSizesRight_b93 N K7 l0 l2 s0 s1 s = some q) : bE 0 σo q.2 := by
  unfold FX6_areSizesRight_b93 at hF
  exact hk7 E ol0 hF
theorem BX6_areSizesRight_b92 {σo : fS} {q : Int × fS} {N : Nat} {K7 : Nat → Int → Int → fS → Option (Int × fS)} (hk7 : ∀ {s : fS} {l0 : Nat} {l1 : Int} {l2 : Int}, bE 0 σo s → bO 0 s l0 → K7 l0 l1 l2 s = some q → bE 0 σo q.2) {s : fS} {l0 : Nat} {l2 : Int} {s0 : Int} (E : bE 0 σo s) (ol0 : bO 0 s l0) (hF : FX6_areSizesRight_b92 N K7 l0 l2 s0 s = some q) : bE 0 σo q.2 := by
  unfold FX6_areSizesRight_b92 at hF
  exact BX6_areSizesRight_b93 (N := N) (K7 := K7) @hk7 E ol0 hF
theorem BX6_areSizesRight_b7 {σo : fS} {q : Int × fS} {N : Nat} : ∀ {n : Nat} {s : fS} {l0 : Nat} {l1 : Int} {l2 : Int}, bE 0 σo s → bO 0 s l0 → FX6_areSizesRight_b7 N n l0 l1 l2 s = some q → bE 0 σo q.2 := by
  intro n
  induction n with
  | zero => intro s l0 l1 l2 E ol0 hF; simp [FX6_areSizesRight_b7] at hF
  | succ n ih =>
    intro s l0 l1 l2 E ol0 hF
    rw [FX6_areSizesRight_b7] at hF
    refine b_K hF (fun hF => ?_)
    refine b_if hF (fun hF => ?_) (fun hF => ?_)
    ·
      exact b_z E hF
    ·
      refine b_K hF (fun hF => ?_)
      refine b_K hF (fun hF => ?_)
      refine b_call E (fun _ hq => (BX6_word (bE.rf E.S) ol0 hq)) hF (fun _ hq4 D4 E4 hF => ?_)
      refine b_call E4 (fun _ hq => (BX6_a (bE.rf E4.S) hq)) hF (fun _ hq5 D5 E5 hF => ?_)
      refine b_K hF (fun hF => ?_)
      refine b_o E5 ((ol0.up D4).up D5) hF (fun _ o6 hF => ?_)
      refine b_KA hF (fun hF => ?_)
      refine b_rv hF (fun _ hF => ?_)
      refine b_if hF (fun hF => ?_) (fun hF => ?_)
      ·
        exact BX6_areSizesRight_b92 (N := N) (K7 := FX6_areSizesRight_b7 N n) @ih E5 ((ol0.up D4).up D5) hF
      ·
        refine b_call E5 (fun _ hq => (BX6_b (bE.rf E5.S) hq)) hF (fun _ hq8 D8 E8 hF => ?_)
        refine b_K hF (fun hF => ?_)
        refine b_o E8 (((ol0.up D4).up D5).up D8) hF (fun _ o9 hF => ?_)
        refine b_KA hF (fun hF => ?_)
        refine b_rv hF (fun _ hF => ?_)
        refine b_if hF (fun hF => ?_) (fun hF => ?_)
        ·
          exact BX6_areSizesRight_b92 (N := N) (K7 := FX6_areSizesRight_b7 N n) @ih E8 (((ol0.up D4).up D5).up D8) hF
        ·
          refine b_call E8 (fun _ hq => (BX6_b (bE.rf E8.S) hq)) hF (fun _ hq11 D11 E11 hF => ?_)
          refine b_K hF (fun hF => ?_)
          refine b_o E11 ((((ol0.up D4).up D5).up D8).up D11) hF (fun _ o12 hF => ?_)
          refine b_KA hF (fun hF => ?_)
          refine b_rv hF (fun _ hF => ?_)
          refine b_if hF (fun hF => ?_) (fun hF => ?_)
          ·
            exact BX6_areSizesRight_b92 (N := N) (K7 := FX6_areSizesRight_b7 N n) @ih E11 ((((ol0.up D4).up D5).up D8).up D11) hF
          ·
            refine b_call E11 (fun _ hq => (BX6_c (bE.rf E11.S) hq)) hF (fun _ hq14 D14 E14 hF => ?_)
            refine b_K hF (fun hF => ?_)
            refine b_o E14 (((((ol0.up D4).up D5).up D8).up D11).up D14) hF (fun _ o15 hF => ?_)
            refine b_KA hF (fun hF => ?_)
            refine b_rv hF (fun _ hF => ?_)
            refine b_if hF (fun hF => ?_) (fun hF => ?_)
            ·
              exact BX6_areSizesRight_b92 (N := N) (K7 := FX6_areSizesRight_b7 N n) @ih E14 (((((ol0.up D4).up D5).up D8).up D11).up D14) hF
            ·
              exact BX6_areSizesRight_b93 (N := N) (K7 := FX6_areSizesRight_b7 N n) @ih E14 (((((ol0.up D4).up D5).up D8).up D11).up D14) hF
theorem BX6_areSizesRight {σo : fS} {q : Int × fS} {N : Nat} {s : fS} {this : Nat} (E : bE 0 σo s) (othis : bO 0 s this) (hF : FX6_areSizesRight N this s = some q) : bE 0 σo q.2 := by
  unfold FX6_areSizesRight at hF
  refine b_K hF (fun hF => ?_)
  exact BX6_areSizesRight_b7 (N := N) E othis hF
theorem BX6_has_b38 {σo : fS} {q : Int × fS} {s : fS} {s0 : Int} (E : bE 0 σo s) (hF : FX6_has_b38 s0 s = some q) : bE 0 σo q.2 := by
  unfold FX6_has_b38 at hF
  exact b_z E hF
theorem BX6_has_b37 {σo : fS} {q : Int × fS} {s : fS} (E : bE 0 σo s) (hF : FX6_has_b37 s = some q) : bE 0 σo q.2 := by
  unfold FX6_has_b37 at hF
  exact BX6_has_b38 E hF
theorem BX6_has {σo : fS} {q : Int × fS} {s : fS} {this : Nat} {p0 : Int} (E : bE 0 σo s) (othis : bO 0 s this) (hF : FX6_has this p0 s = some q) : bE 0 σo q.2 := by
  unfold FX6_has at hF
  refine b_K hF (fun hF => ?_)
  refine b_if hF (fun hF => ?_) (fun hF => ?_)
  ·
    exact BX6_has_b37 E hF
  ·
    refine b_K hF (fun hF => ?_)
    refine b_if hF (fun hF => ?_) (fun hF => ?_)
    ·
      exact BX6_has_b37 E hF
    ·
      refine b_K hF (fun hF => ?_)
      refine b_K hF (fun hF => ?_)
      refine b_call E (fun _ hq => (BX6_word (bE.rf E.S) othis hq)) hF (fun _ hq5 D5 E5 hF => ?_)
      refine b_call E5 (fun _ hq => (BX6_a (bE.rf E5.S) hq)) hF (fun _ hq6 D6 E6 hF => ?_)
      refine b_if hF (fun hF => ?_) (fun hF => ?_)
      ·
        exact BX6_has_b37 E6 hF
      ·
        exact BX6_has_b38 E6 hF
theorem BX6_tag {σo : fS} {q : Int × fS} {s : fS} {this : Nat} {p0 : Int} (E : bE 0 σo s) (othis : bO 0 s this) (hF : FX6_tag this p0 s = some q) : bE 0 σo q.2 := by
  unfold FX6_tag at hF
  refine b_K hF (fun hF => ?_)
  refine b_K hF (fun hF => ?_)
  refine b_call E (fun _ hq => (BX6_word (bE.rf E.S) othis hq)) hF (fun _ hq3 D3 E3 hF => ?_)
  refine b_call E3 (fun _ hq => (BX6_c (bE.rf E3.S) hq)) hF (fun _ hq4 D4 E4 hF => ?_)
  exact b_ret E4 hF
theorem BX6_d {σo : fS} {q : Int × fS} {s : fS} {p0 : Int} (E : bE 0 σo s) (hF : FX6_d p0 s = some q) : bE 0 σo q.2 := by
  unfold FX6_d at hF
  exact b_ret E hF
theorem BX6_rest {σo : fS} {q : Int × fS} {s : fS} {this : Nat} {p0 : Int} (E : bE 0 σo s) (othis : bO 0 s this) (hF : FX6_rest this p0 s = some q) : bE 0 σo q.2 := by
  unfold FX6_rest at hF
  refine b_K hF (fun hF => ?_)
  refine b_K hF (fun hF => ?_)
  refine b_call E (fun _ hq => (BX6_word (bE.rf E.S) othis hq)) hF (fun _ hq3 D3 E3 hF => ?_)
  refine b_call E3 (fun _ hq => (BX6_d (bE.rf E3.S) hq)) hF (fun _ hq4 D4 E4 hF => ?_)
  exact b_ret E4 hF
theorem BX6_isChainRight_b71 {σo : fS} {q : Int × fS} {N : Nat} {s : fS} {s0 : Int} (E : bE 0 σo s) (hF : FX6_isChainRight_b71 N s0 s = some q) : bE 0 σo q.2 := by
  unfold FX6_isChainRight_b71 at hF
  exact b_z E hF
theorem BX6_isChainRight_b70 {σo : fS} {q : Int × fS} {N : Nat} {s : fS} (E : bE 0 σo s) (hF : FX6_isChainRight_b70 N s = some q) : bE 0 σo q.2 := by
  unfold FX6_isChainRight_b70 at hF
  exact BX6_isChainRight_b71 (N := N) E hF
theorem BX6_isChainRight_b49 {σo : fS} {q : Int × fS} {N : Nat} {s : fS} {l0 : Nat} {l1 : Int} {l2 : Int} (E : bE 0 σo s) (ol0 : bO 0 s l0) (hF : FX6_isChainRight_b49 N l0 l1 l2 s = some q) : bE 0 σo q.2 := by
  unfold FX6_isChainRight_b49 at hF
  refine b_K hF (fun hF => ?_)
  refine b_call E (fun _ hq => (BX6_rest (bE.rf E.S) ol0 hq)) hF (fun _ hq2 D2 E2 hF => ?_)
  refine b_K hF (fun hF => ?_)
  refine b_call E2 (fun _ hq => (BX6_has (bE.rf E2.S) (ol0.up D2) hq)) hF (fun _ hq4 D4 E4 hF => ?_)
  refine b_if hF (fun hF => ?_) (fun hF => ?_)
  ·
    exact BX6_isChainRight_b70 (N := N) E4 hF
  ·
    refine b_if hF (fun hF => ?_) (fun hF => ?_)
    ·
      exact BX6_isChainRight_b70 (N := N) E4 hF
    ·
      exact BX6_isChainRight_b71 (N := N) E4 hF
theorem BX6_isChainRight_b8 {σo : fS} {q : Int × fS} {N : Nat} : ∀ {n : Nat} {s : fS} {l0 : Nat} {l1 : Int} {l2 : Int} {l3 : Int}, bE 0 σo s → bO 0 s l0 → FX6_isChainRight_b8 N n l0 l1 l2 l3 s = some q → bE 0 σo q.2 := by
  intro n
  induction n with
  | zero => intro s l0 l1 l2 l3 E ol0 hF; simp [FX6_isChainRight_b8] at hF
  | succ n ih =>
    intro s l0 l1 l2 l3 E ol0 hF
    rw [FX6_isChainRight_b8] at hF
    refine b_K hF (fun hF => ?_)
    refine b_call E (fun _ hq => (BX6_has (bE.rf E.S) ol0 hq)) hF (fun _ hq2 D2 E2 hF => ?_)
    refine b_if hF (fun hF => ?_) (fun hF => ?_)
    ·
      exact BX6_isChainRight_b49 (N := N) E2 (ol0.up D2) hF
    ·
      refine b_if hF (fun hF => ?_) (fun hF => ?_)
      ·
        exact BX6_isChainRight_b49 (N := N) E2 (ol0.up D2) hF
      ·
        refine b_K hF (fun hF => ?_)
        refine b_call E2 (fun _ hq => (BX6_tag (bE.rf E2.S) (ol0.up D2) hq)) hF (fun _ hq4 D4 E4 hF => ?_)
        refine b_if hF (fun hF => ?_) (fun hF => ?_)
        ·
          exact BX6_isChainRight_b49 (N := N) E4 ((ol0.up D2).up D4) hF
        ·
          refine b_if hF (fun hF => ?_) (fun hF => ?_)
          ·
            exact BX6_isChainRight_b49 (N := N) E4 ((ol0.up D2).up D4) hF
          ·
            refine b_K hF (fun hF => ?_)
            refine b_call E4 (fun _ hq => (BX6_rest (bE.rf E4.S) ((ol0.up D2).up D4) hq)) hF (fun _ hq6 D6 E6 hF => ?_)
            exact ih E6 (((ol0.up D2).up D4).up D6) hF
theorem BX6_isChainRight {σo : fS} {q : Int × fS} {N : Nat} {s : fS} {this : Nat} {p0 : Int} (E : bE 0 σo s) (othis : bO 0 s this) (hF : FX6_isChainRight N this p0 s = some q) : bE 0 σo q.2 := by
  unfold FX6_isChainRight at hF
  refine b_K hF (fun hF => ?_)
  refine b_call E (fun _ hq => (BX6_rest (bE.rf E.S) othis hq)) hF (fun _ hq2 D2 E2 hF => ?_)
  exact BX6_isChainRight_b8 (N := N) E2 (othis.up D2) hF
theorem BX6_areTagsRight_b97 {σo : fS} {q : Int × fS} {N : Nat} {K7 : Nat → Int → Int → fS → Option (Int × fS)} (hk7 : ∀ {s : fS} {l0 : Nat} {l1 : Int} {l2 : Int}, bE 0 σo s → bO 0 s l0 → K7 l0 l1 l2 s = some q → bE 0 σo q.2) {s : fS} {l0 : Nat} {l1 : Int} {l2 : Int} (E : bE 0 σo s) (ol0 : bO 0 s l0) (hF : FX6_areTagsRight_b97 N K7 l0 l1 l2 s = some q) : bE 0 σo q.2 := by
  unfold FX6_areTagsRight_b97 at hF
  exact hk7 E ol0 hF
theorem BX6_areTagsRight_b95 {σo : fS} {q : Int × fS} {N : Nat} {K7 : Nat → Int → Int → fS → Option (Int × fS)} (hk7 : ∀ {s : fS} {l0 : Nat} {l1 : Int} {l2 : Int}, bE 0 σo s → bO 0 s l0 → K7 l0 l1 l2 s = some q → bE 0 σo q.2) {s : fS} {l0 : Nat} {l2 : Int} {s0 : Int} {s1 : Int} (E : bE 0 σo s) (ol0 : bO 0 s l0) (hF : FX6_areTagsRight_b95 N K7 l0 l2 s0 s1 s = some q) : bE 0 σo q.2 := by
  unfold FX6_areTagsRight_b95 at hF
  exact BX6_areTagsRight_b97 (N := N) (K7 := K7) @hk7 E ol0 hF
theorem BX6_areTagsRight_b90 {σo : fS} {q : Int × fS} {N : Nat} {K7 : Nat → Int → Int → fS → Option (Int × fS)} (hk7 : ∀ {s : fS} {l0 : Nat} {l1 : Int} {l2 : Int}, bE 0 σo s → bO 0 s l0 → K7 l0 l1 l2 s = some q → bE 0 σo q.2) {s : fS} {l0 : Nat} {l2 : Int} {s0 : Int} (E : bE 0 σo s) (ol0 : bO 0 s l0) (hF : FX6_areTagsRight_b90 N K7 l0 l2 s0 s = some q) : bE 0 σo q.2 := by
  unfold FX6_areTagsRight_b90 at hF
  exact BX6_areTagsRight_b95 (N := N) (K7 := K7) @hk7 E ol0 hF
theorem BX6_areTagsRight_b94 {σo : fS} {q : Int × fS} {N : Nat} {K7 : Nat → Int → Int → fS → Option (Int × fS)} (hk7 : ∀ {s : fS} {l0 : Nat} {l1 : Int} {l2 : Int}, bE 0 σo s → bO 0 s l0 → K7 l0 l1 l2 s = some q → bE 0 σo q.2) {s : fS} {l0 : Nat} {l2 : Int} {s0 : Int} (E : bE 0 σo s) (ol0 : bO 0 s l0) (hF : FX6_areTagsRight_b94 N K7 l0 l2 s0 s = some q) : bE 0 σo q.2 := by
  unfold FX6_areTagsRight_b94 at hF
  exact BX6_areTagsRight_b95 (N := N) (K7 := K7) @hk7 E ol0 hF
theorem BX6_areTagsRight_b70 {σo : fS} {q : Int × fS} {N : Nat} {K7 : Nat → Int → Int → fS → Option (Int × fS)} (hk7 : ∀ {s : fS} {l0 : Nat} {l1 : Int} {l2 : Int}, bE 0 σo s → bO 0 s l0 → K7 l0 l1 l2 s = some q → bE 0 σo q.2) {s : fS} {l0 : Nat} {l2 : Int} {l3 : Int} {s0 : Int} (E : bE 0 σo s) (ol0 : bO 0 s l0) (hF : FX6_areTagsRight_b70 N K7 l0 l2 l3 s0 s = some q) : bE 0 σo q.2 := by
  unfold FX6_areTagsRight_b70 at hF
  refine b_if hF (fun hF => ?_) (fun hF => ?_)
  ·
    exact BX6_areTagsRight_b94 (N := N) (K7 := K7) @hk7 E ol0 hF
  ·
    refine b_K hF (fun hF => ?_)
    refine b_call E (fun _ hq => (BX6_rest (bE.rf E.S) ol0 hq)) hF (fun _ hq2 D2 E2 hF => ?_)
    refine b_K hF (fun hF => ?_)
    refine b_o E2 (ol0.up D2) hF (fun _ o3 hF => ?_)
    refine b_KA hF (fun hF => ?_)
    refine b_rv hF (fun _ hF => ?_)
    refine b_if hF (fun hF => ?_) (fun hF => ?_)
    ·
      exact BX6_areTagsRight_b94 (N := N) (K7 := K7) @hk7 E2 (ol0.up D2) hF
    ·
      exact BX6_areTagsRight_b90 (N := N) (K7 := K7) @hk7 E2 (ol0.up D2) hF
theorem BX6_areTagsRight_b57 {σo : fS} {q : Int × fS} {N : Nat} {K7 : Nat → Int → Int → fS → Option (Int × fS)} (hk7 : ∀ {s : fS} {l0 : Nat} {l1 : Int} {l2 : Int}, bE 0 σo s → bO 0 s l0 → K7 l0 l1 l2 s = some q → bE 0 σo q.2) {s : fS} {l0 : Nat} {l2 : Int} {l3 : Int} {s0 : Int} (E : bE 0 σo s) (ol0 : bO 0 s l0) (hF : FX6_areTagsRight_b57 N K7 l0 l2 l3 s0 s = some q) : bE 0 σo q.2 := by
  unfold FX6_areTagsRight_b57 at hF
  refine b_if hF (fun hF => ?_) (fun hF => ?_)
  ·
    exact BX6_areTagsRight_b70 (N := N) (K7 := K7) @hk7 E ol0 hF
  ·
    refine b_K hF (fun hF => ?_)
    refine b_call E (fun _ hq => (BX6_isChainRight (N := N) (bE.rf E.S) ol0 hq)) hF (fun _ hq2 D2 E2 hF => ?_)
    refine b_if hF (fun hF => ?_) (fun hF => ?_)
    ·
      exact BX6_areTagsRight_b90 (N := N) (K7 := K7) @hk7 E2 (ol0.up D2) hF
    ·
      exact BX6_areTagsRight_b70 (N := N) (K7 := K7) @hk7 E2 (ol0.up D2) hF
theorem BX6_areTagsRight_b7 {σo : fS} {q : Int × fS} {N : Nat} : ∀ {n : Nat} {s : fS} {l0 : Nat} {l1 : Int} {l2 : Int}, bE 0 σo s → bO 0 s l0 → FX6_areTagsRight_b7 N n l0 l1 l2 s = some q → bE 0 σo q.2 := by
  intro n
  induction n with
  | zero => intro s l0 l1 l2 E ol0 hF; simp [FX6_areTagsRight_b7] at hF
  | succ n ih =>
    intro s l0 l1 l2 E ol0 hF
    rw [FX6_areTagsRight_b7] at hF
    refine b_K hF (fun hF => ?_)
    refine b_if hF (fun hF => ?_) (fun hF => ?_)
    ·
      exact b_z E hF
    ·
      refine b_K hF (fun hF => ?_)
      refine b_call E (fun _ hq => (BX6_has (bE.rf E.S) ol0 hq)) hF (fun _ hq3 D3 E3 hF => ?_)
      refine b_if hF (fun hF => ?_) (fun hF => ?_)
      ·
        refine b_K hF (fun hF => ?_)
        refine b_call E3 (fun _ hq => (BX6_tag (bE.rf E3.S) (ol0.up D3) hq)) hF (fun _ hq5 D5 E5 hF => ?_)
        refine b_if hF (fun hF => ?_) (fun hF => ?_)
        ·
          exact BX6_areTagsRight_b90 (N := N) (K7 := FX6_areTagsRight_b7 N n) @ih E5 ((ol0.up D3).up D5) hF
        ·
          refine b_if hF (fun hF => ?_) (fun hF => ?_)
          ·
            exact BX6_areTagsRight_b57 (N := N) (K7 := FX6_areTagsRight_b7 N n) @ih E5 ((ol0.up D3).up D5) hF
          ·
            refine b_K hF (fun hF => ?_)
            refine b_call E5 (fun _ hq => (BX6_rest (bE.rf E5.S) ((ol0.up D3).up D5) hq)) hF (fun _ hq7 D7 E7 hF => ?_)
            refine b_K hF (fun hF => ?_)
            refine b_o E7 (((ol0.up D3).up D5).up D7) hF (fun _ o8 hF => ?_)
            refine b_KA hF (fun hF => ?_)
            refine b_rv hF (fun _ hF => ?_)
            refine b_if hF (fun hF => ?_) (fun hF => ?_)
            ·
              exact BX6_areTagsRight_b90 (N := N) (K7 := FX6_areTagsRight_b7 N n) @ih E7 (((ol0.up D3).up D5).up D7) hF
            ·
              exact BX6_areTagsRight_b57 (N := N) (K7 := FX6_areTagsRight_b7 N n) @ih E7 (((ol0.up D3).up D5).up D7) hF
      ·
        exact BX6_areTagsRight_b97 (N := N) (K7 := FX6_areTagsRight_b7 N n) @ih E3 (ol0.up D3) hF
theorem BX6_areTagsRight {σo : fS} {q : Int × fS} {N : Nat} {s : fS} {this : Nat} (E : bE 0 σo s) (othis : bO 0 s this) (hF : FX6_areTagsRight N this s = some q) : bE 0 σo q.2 := by
  unfold FX6_areTagsRight at hF
  refine b_K hF (fun hF => ?_)
  exact BX6_areTagsRight_b7 (N := N) E othis hF
theorem BX6_isFraction_b22 {σo : fS} {q : Int × fS} {s : fS} {s0 : Int} (E : bE 0 σo s) (hF : FX6_isFraction_b22 s0 s = some q) : bE 0 σo q.2 := by
  unfold FX6_isFraction_b22 at hF
  exact b_z E hF
theorem BX6_isFraction_b17 {σo : fS} {q : Int × fS} {s : fS} (E : bE 0 σo s) (hF : FX6_isFraction_b17 s = some q) : bE 0 σo q.2 := by
  unfold FX6_isFraction_b17 at hF
  exact BX6_isFraction_b22 E hF
theorem BX6_isFraction {σo : fS} {q : Int × fS} {s : fS} {this : Nat} {p0 : Int} (E : bE 0 σo s) (hF : FX6_isFraction this p0 s = some q) : bE 0 σo q.2 := by
  unfold FX6_isFraction at hF
  refine b_call E (fun _ hq => (BX6_a (bE.rf E.S) hq)) hF (fun _ hq1 D1 E1 hF => ?_)
  refine b_if hF (fun hF => ?_) (fun hF => ?_)
  ·
    exact BX6_isFraction_b17 E1 hF
  ·
    refine b_call E1 (fun _ hq => (BX6_a (bE.rf E1.S) hq)) hF (fun _ hq2 D2 E2 hF => ?_)
    refine b_if hF (fun hF => ?_) (fun hF => ?_)
    ·
      exact BX6_isFraction_b22 E2 hF
    ·
      exact BX6_isFraction_b17 E2 hF
theorem BX6_areFractions_b73 {σo : fS} {q : Int × fS} {N : Nat} {K4 : Nat → Int → Int → fS → Option (Int × fS)} (hk4 : ∀ {s : fS} {l0 : Nat} {l1 : Int} {l2 : Int}, bE 0 σo s → bO 0 s l0 → K4 l0 l1 l2 s = some q → bE 0 σo q.2) {s : fS} {l0 : Nat} {l1 : Int} {l2 : Int} (E : bE 0 σo s) (ol0 : bO 0 s l0) (hF : FX6_areFractions_b73 N K4 l0 l1 l2 s = some q) : bE 0 σo q.2 := by
  unfold FX6_areFractions_b73 at hF
  exact hk4 E ol0 hF
theorem BX6_areFractions_b71 {σo : fS} {q : Int × fS} {N : Nat} {K4 : Nat → Int → Int → fS → Option (Int × fS)} (hk4 : ∀ {s : fS} {l0 : Nat} {l1 : Int} {l2 : Int}, bE 0 σo s → bO 0 s l0 → K4 l0 l1 l2 s = some q → bE 0 σo q.2) {s : fS} {l0 : Nat} {l2 : Int} {s0 : Int} {s1 : Int} (E : bE 0 σo s) (ol0 : bO 0 s l0) (hF : FX6_areFractions_b71 N K4 l0 l2 s0 s1 s = some q) : bE 0 σo q.2 := by
  unfold FX6_areFractions_b71 at hF
  exact BX6_areFractions_b73 (N := N) (K4 := K4) @hk4 E ol0 hF
theorem BX6_areFractions_b66 {σo : fS} {q : Int × fS} {N : Nat} {K4 : Nat → Int → Int → fS → Option (Int × fS)} (hk4 : ∀ {s : fS} {l0 : Nat} {l1 : Int} {l2 : Int}, bE 0 σo s → bO 0 s l0 → K4 l0 l1 l2 s = some q → bE 0 σo q.2) {s : fS} {l0 : Nat} {l2 : Int} {s0 : Int} (E : bE 0 σo s) (ol0 : bO 0 s l0) (hF : FX6_areFractions_b66 N K4 l0 l2 s0 s = some q) : bE 0 σo q.2 := by
  unfold FX6_areFractions_b66 at hF
  exact BX6_areFractions_b71 (N := N) (K4 := K4) @hk4 E ol0 hF
theorem BX6_areFractions_b21 {σo : fS} {q : Int × fS} {N : Nat} {K4 : Nat → Int → Int → fS → Option (Int × fS)} (hk4 : ∀ {s : fS} {l0 : Nat} {l1 : Int} {l2 : Int}, bE 0 σo s → bO 0 s l0 → K4 l0 l1 l2 s = some q → bE 0 σo q.2) : ∀ {n : Nat} {s : fS} {l0 : Nat} {l1 : Int} {l2 : Int} {l3 : Int}, bE 0 σo s → bO 0 s l0 → FX6_areFractions_b21 N K4 n l0 l1 l2 l3 s = some q → bE 0 σo q.2 := by
  intro n
  induction n with
  | zero => intro s l0 l1 l2 l3 E ol0 hF; simp [FX6_areFractions_b21] at hF
  | succ n ih =>
    intro s l0 l1 l2 l3 E ol0 hF
    rw [FX6_areFractions_b21] at hF
    refine b_K hF (fun hF => ?_)
    refine b_o E ol0 hF (fun _ o1 hF => ?_)
    refine b_KA hF (fun hF => ?_)
    refine b_rv hF (fun _ hF => ?_)
    refine b_if hF (fun hF => ?_) (fun hF => ?_)
    ·
      refine b_if hF (fun hF => ?_) (fun hF => ?_)
      ·
        exact BX6_areFractions_b66 (N := N) (K4 := K4) @hk4 E ol0 hF
      ·
        refine b_K hF (fun hF => ?_)
        refine b_call E (fun _ hq => (BX6_word (bE.rf E.S) ol0 hq)) hF (fun _ hq4 D4 E4 hF => ?_)
        refine b_if hF (fun hF => ?_) (fun hF => ?_)
        ·
          exact BX6_areFractions_b71 (N := N) (K4 := K4) @hk4 E4 (ol0.up D4) hF
        ·
          exact BX6_areFractions_b66 (N := N) (K4 := K4) @hk4 E4 (ol0.up D4) hF
    ·
      refine b_K hF (fun hF => ?_)
      refine b_call E (fun _ hq => (BX6_word (bE.rf E.S) ol0 hq)) hF (fun _ hq6 D6 E6 hF => ?_)
      refine b_K hF (fun hF => ?_)
      refine b_call E6 (fun _ hq => (BX6_isFraction (bE.rf E6.S) hq)) hF (fun _ hq8 D8 E8 hF => ?_)
      exact ih E8 ((ol0.up D6).up D8) hF
theorem BX6_areFractions_b4 {σo : fS} {q : Int × fS} {N : Nat} : ∀ {n : Nat} {s : fS} {l0 : Nat} {l1 : Int} {l2 : Int}, bE 0 σo s → bO 0 s l0 → FX6_areFractions_b4 N n l0 l1 l2 s = some q → bE 0 σo q.2 := by
  intro n
  induction n with
  | zero => intro s l0 l1 l2 E ol0 hF; simp [FX6_areFractions_b4] at hF
  | succ n ih =>
    intro s l0 l1 l2 E ol0 hF
    rw [FX6_areFractions_b4] at hF
    refine b_if hF (fun hF => ?_) (fun hF => ?_)
    ·
      exact b_z E hF
    ·
      refine b_if hF (fun hF => ?_) (fun hF => ?_)
      ·
        exact BX6_areFractions_b21 (N := N) (K4 := FX6_areFractions_b4 N n) @ih E ol0 hF
      ·
        exact BX6_areFractions_b73 (N := N) (K4 := FX6_areFractions_b4 N n) @ih E ol0 hF
theorem BX6_areFractions {σo : fS} {q : Int × fS} {N : Nat} {s : fS} {this : Nat} (E : bE 0 σo s) (othis : bO 0 s this) (hF : FX6_areFractions N this s = some q) : bE 0 σo q.2 := by
  unfold FX6_areFractions at hF
  exact BX6_areFractions_b4 (N := N) E othis hF
theorem BX6_far {σo : fS} {q : Int × fS} {s : fS} {p0 : Int} (E : bE 0 σo s) (hF : FX6_far p0 s = some q) : bE 0 σo q.2 := by
  unfold FX6_far at hF
  exact b_ret E hF
theorem BX6_isStepRight_b37 {σo : fS} {q : Int × fS} {s : fS} {s0 : Int} (E : bE 0 σo s) (hF : FX6_isStepRight_b37 s0 s = some q) : bE 0 σo q.2 := by
  unfold FX6_isStepRight_b37 at hF
  exact b_z E hF
theorem BX6_isStepRight_b173 {σo : fS} {q : Int × fS} {s : fS} {s0 : Int} (E : bE 0 σo s) (hF : FX6_isStepRight_b173 s0 s = some q) : bE 0 σo q.2 := by
  unfold FX6_isStepRight_b173 at hF
  exact b_z E hF
theorem BX6_isStepRight_b168 {σo : fS} {q : Int × fS} {s : fS} (E : bE 0 σo s) (hF : FX6_isStepRight_b168 s = some q) : bE 0 σo q.2 := by
  unfold FX6_isStepRight_b168 at hF
  exact BX6_isStepRight_b173 E hF
theorem BX6_isStepRight_b172 {σo : fS} {q : Int × fS} {s : fS} (E : bE 0 σo s) (hF : FX6_isStepRight_b172 s = some q) : bE 0 σo q.2 := by
  unfold FX6_isStepRight_b172 at hF
  exact BX6_isStepRight_b173 E hF
theorem BX6_isStepRight_b132 {σo : fS} {q : Int × fS} {s : fS} {l0 : Nat} {l1 : Int} {l2 : Int} {s0 : Int} {s1 : Int} (E : bE 0 σo s) (ol0 : bO 0 s l0) (hF : FX6_isStepRight_b132 l0 l1 l2 s0 s1 s = some q) : bE 0 σo q.2 := by
  unfold FX6_isStepRight_b132 at hF
  refine b_if hF (fun hF => ?_) (fun hF => ?_)
  ·
    exact BX6_isStepRight_b172 E hF
  ·
    refine b_call E (fun _ hq => (BX6_a (bE.rf E.S) hq)) hF (fun _ hq1 D1 E1 hF => ?_)
    refine b_if hF (fun hF => ?_) (fun hF => ?_)
    ·
      exact BX6_isStepRight_b168 E1 hF
    ·
      refine b_call E1 (fun _ hq => (BX6_a (bE.rf E1.S) hq)) hF (fun _ hq2 D2 E2 hF => ?_)
      refine b_K hF (fun hF => ?_)
      refine b_o E2 ((ol0.up D1).up D2) hF (fun _ o3 hF => ?_)
      refine b_KA hF (fun hF => ?_)
      refine b_rv hF (fun _ hF => ?_)
      refine b_if hF (fun hF => ?_) (fun hF => ?_)
      ·
        exact BX6_isStepRight_b172 E2 hF
      ·
        exact BX6_isStepRight_b168 E2 hF
theorem BX6_isStepRight_b81 {σo : fS} {q : Int × fS} {s : fS} {l0 : Nat} {l1 : Int} {l2 : Int} {l3 : Int} {s0 : Int} (E : bE 0 σo s) (ol0 : bO 0 s l0) (hF : FX6_isStepRight_b81 l0 l1 l2 l3 s0 s = some q) : bE 0 σo q.2 := by
  unfold FX6_isStepRight_b81 at hF
  refine b_if hF (fun hF => ?_) (fun hF => ?_)
  ·
    refine b_call E (fun _ hq => (BX6_d (bE.rf E.S) hq)) hF (fun _ hq1 D1 E1 hF => ?_)
    refine b_K hF (fun hF => ?_)
    refine b_call E1 (fun _ hq => (BX6_has (bE.rf E1.S) (ol0.up D1) hq)) hF (fun _ hq3 D3 E3 hF => ?_)
    exact BX6_isStepRight_b132 E3 ((ol0.up D1).up D3) hF
  ·
    refine b_call E (fun _ hq => (BX6_c (bE.rf E.S) hq)) hF (fun _ hq4 D4 E4 hF => ?_)
    refine b_call E4 (fun _ hq => (BX6_d (bE.rf E4.S) hq)) hF (fun _ hq5 D5 E5 hF => ?_)
    refine b_K hF (fun hF => ?_)
    refine b_o E5 ((ol0.up D4).up D5) hF (fun _ o6 hF => ?_)
    refine b_KA hF (fun hF => ?_)
    refine b_rv hF (fun _ hF => ?_)
    refine b_if hF (fun hF => ?_) (fun hF => ?_)
    ·
      exact BX6_isStepRight_b132 E5 ((ol0.up D4).up D5) hF
    ·
      exact BX6_isStepRight_b132 E5 ((ol0.up D4).up D5) hF
theorem BX6_isStepRight_b76 {σo : fS} {q : Int × fS} {s : fS} {l0 : Nat} {l1 : Int} {l2 : Int} {l3 : Int} (E : bE 0 σo s) (ol0 : bO 0 s l0) (hF : FX6_isStepRight_b76 l0 l1 l2 l3 s = some q) : bE 0 σo q.2 := by
  unfold FX6_isStepRight_b76 at hF
  exact BX6_isStepRight_b81 E ol0 hF
theorem BX6_isStepRight_b53 {σo : fS} {q : Int × fS} {s : fS} {l0 : Nat} {l1 : Int} {l2 : Int} {s0 : Int} (E : bE 0 σo s) (ol0 : bO 0 s l0) (hF : FX6_isStepRight_b53 l0 l1 l2 s0 s = some q) : bE 0 σo q.2 := by
  unfold FX6_isStepRight_b53 at hF
  refine b_call E (fun _ hq => (BX6_b (bE.rf E.S) hq)) hF (fun _ hq1 D1 E1 hF => ?_)
  refine b_K hF (fun hF => ?_)
  refine b_call E1 (fun _ hq => (BX6_has (bE.rf E1.S) (ol0.up D1) hq)) hF (fun _ hq3 D3 E3 hF => ?_)
  refine b_if hF (fun hF => ?_) (fun hF => ?_)
  ·
    exact BX6_isStepRight_b76 E3 ((ol0.up D1).up D3) hF
  ·
    refine b_call E3 (fun _ hq => (BX6_b (bE.rf E3.S) hq)) hF (fun _ hq4 D4 E4 hF => ?_)
    refine b_K hF (fun hF => ?_)
    refine b_if hF (fun hF => ?_) (fun hF => ?_)
    ·
      exact BX6_isStepRight_b81 E4 (((ol0.up D1).up D3).up D4) hF
    ·
      exact BX6_isStepRight_b76 E4 (((ol0.up D1).up D3).up D4) hF
theorem BX6_isStepRight {σo : fS} {q : Int × fS} {s : fS} {this : Nat} {p0 : Int} (E : bE 0 σo s) (othis : bO 0 s this) (hF : FX6_isStepRight this p0 s = some q) : bE 0 σo q.2 := by
  unfold FX6_isStepRight at hF
  refine b_K hF (fun hF => ?_)
  refine b_call E (fun _ hq => (BX6_word (bE.rf E.S) othis hq)) hF (fun _ hq2 D2 E2 hF => ?_)
  refine b_call E2 (fun _ hq => (BX6_a (bE.rf E2.S) hq)) hF (fun _ hq3 D3 E3 hF => ?_)
  refine b_if hF (fun hF => ?_) (fun hF => ?_)
  ·
    refine b_call E3 (fun _ hq => (BX6_c (bE.rf E3.S) hq)) hF (fun _ hq4 D4 E4 hF => ?_)
    refine b_if hF (fun hF => ?_) (fun hF => ?_)
    ·
      exact BX6_isStepRight_b53 E4 (((othis.up D2).up D3).up D4) hF
    ·
      exact BX6_isStepRight_b53 E4 (((othis.up D2).up D3).up D4) hF
  ·
    refine b_call E3 (fun _ hq => (BX6_far (bE.rf E3.S) hq)) hF (fun _ hq5 D5 E5 hF => ?_)
    refine b_K hF (fun hF => ?_)
    refine b_o E5 (((othis.up D2).up D3).up D5) hF (fun _ o6 hF => ?_)
    refine b_KA hF (fun hF => ?_)
    refine b_rv hF (fun _ hF => ?_)
    refine b_if hF (fun hF => ?_) (fun hF => ?_)
    ·
      exact BX6_isStepRight_b37 E5 hF
    ·
      exact BX6_isStepRight_b37 E5 hF
theorem BX6_isProgramRight_b92 {σo : fS} {q : Int × fS} {N : Nat} : ∀ {n : Nat} {s : fS} {l0 : Nat} {l1 : Int} {l2 : Int} {l3 : Int}, bE 0 σo s → bO 0 s l0 → FX6_isProgramRight_b92 N n l0 l1 l2 l3 s = some q → bE 0 σo q.2 := by
  intro n
  induction n with
  | zero => intro s l0 l1 l2 l3 E ol0 hF; simp [FX6_isProgramRight_b92] at hF
  | succ n ih =>
    intro s l0 l1 l2 l3 E ol0 hF
    rw [FX6_isProgramRight_b92] at hF
    refine b_if hF (fun hF => ?_) (fun hF => ?_)
    ·
      exact b_z E hF
    ·
      refine b_K hF (fun hF => ?_)
      refine b_call E (fun _ hq => (BX6_isStepRight (bE.rf E.S) ol0 hq)) hF (fun _ hq2 D2 E2 hF => ?_)
      exact ih E2 (ol0.up D2) hF
theorem BX6_isProgramRight_b85 {σo : fS} {q : Int × fS} {N : Nat} {s : fS} {l0 : Nat} {l1 : Int} {s0 : Nat} {s1 : Int} (E : bE 0 σo s) (ol0 : bO 0 s l0) (os0 : bO 0 s s0) (hF : FX6_isProgramRight_b85 N l0 l1 s0 s1 s = some q) : bE 0 σo q.2 := by
  unfold FX6_isProgramRight_b85 at hF
  refine b_K hF (fun hF => ?_)
  refine b_pI E os0 hF (fun _ D1 E1 hF => ?_)
  exact BX6_isProgramRight_b92 (N := N) E1 (ol0.up D1) hF
theorem BX6_isProgramRight_b84 {σo : fS} {q : Int × fS} {N : Nat} {s : fS} {l0 : Nat} {l1 : Int} {s0 : Nat} (E : bE 0 σo s) (ol0 : bO 0 s l0) (os0 : bO 0 s s0) (hF : FX6_isProgramRight_b84 N l0 l1 s0 s = some q) : bE 0 σo q.2 := by
  unfold FX6_isProgramRight_b84 at hF
  exact BX6_isProgramRight_b85 (N := N) E ol0 os0 hF
theorem BX6_isProgramRight_b43 {σo : fS} {q : Int × fS} {N : Nat} {s : fS} {l0 : Nat} {l1 : Int} {s0 : Nat} {s1 : Int} (E : bE 0 σo s) (ol0 : bO 0 s l0) (os0 : bO 0 s s0) (hF : FX6_isProgramRight_b43 N l0 l1 s0 s1 s = some q) : bE 0 σo q.2 := by
  unfold FX6_isProgramRight_b43 at hF
  refine b_K hF (fun hF => ?_)
  refine b_pI E os0 hF (fun _ D1 E1 hF => ?_)
  refine b_if hF (fun hF => ?_) (fun hF => ?_)
  ·
    exact BX6_isProgramRight_b84 (N := N) E1 (ol0.up D1) (ol0.up D1) hF
  ·
    refine b_K hF (fun hF => ?_)
    refine b_call E1 (fun _ hq => (BX6_word (bE.rf E1.S) (ol0.up D1) hq)) hF (fun _ hq3 D3 E3 hF => ?_)
    refine b_call E3 (fun _ hq => (BX6_a (bE.rf E3.S) hq)) hF (fun _ hq4 D4 E4 hF => ?_)
    refine b_if hF (fun hF => ?_) (fun hF => ?_)
    ·
      exact BX6_isProgramRight_b84 (N := N) E4 (((ol0.up D1).up D3).up D4) (((ol0.up D1).up D3).up D4) hF
    ·
      refine b_K hF (fun hF => ?_)
      refine b_call E4 (fun _ hq => (BX6_word (bE.rf E4.S) (((ol0.up D1).up D3).up D4) hq)) hF (fun _ hq6 D6 E6 hF => ?_)
      refine b_call E6 (fun _ hq => (BX6_far (bE.rf E6.S) hq)) hF (fun _ hq7 D7 E7 hF => ?_)
      exact BX6_isProgramRight_b85 (N := N) E7 (((((ol0.up D1).up D3).up D4).up D6).up D7) (((((ol0.up D1).up D3).up D4).up D6).up D7) hF
theorem BX6_isProgramRight_b42 {σo : fS} {q : Int × fS} {N : Nat} {s : fS} {l0 : Nat} {l1 : Int} {s0 : Nat} (E : bE 0 σo s) (ol0 : bO 0 s l0) (os0 : bO 0 s s0) (hF : FX6_isProgramRight_b42 N l0 l1 s0 s = some q) : bE 0 σo q.2 := by
  unfold FX6_isProgramRight_b42 at hF
  exact BX6_isProgramRight_b43 (N := N) E ol0 os0 hF
theorem BX6_isProgramRight {σo : fS} {q : Int × fS} {N : Nat} {s : fS} {this : Nat} (E : bE 0 σo s) (othis : bO 0 s this) (hF : FX6_isProgramRight N this s = some q) : bE 0 σo q.2 := by
  unfold FX6_isProgramRight at hF
  refine b_K hF (fun hF => ?_)
  refine b_o E othis hF (fun _ o1 hF => ?_)
  refine b_KA hF (fun hF => ?_)
  refine b_rv hF (fun _ hF => ?_)
  refine b_if hF (fun hF => ?_) (fun hF => ?_)
  ·
    exact BX6_isProgramRight_b42 (N := N) E othis othis hF
  ·
    refine b_K hF (fun hF => ?_)
    refine b_call E (fun _ hq => (BX6_word (bE.rf E.S) othis hq)) hF (fun _ hq4 D4 E4 hF => ?_)
    refine b_call E4 (fun _ hq => (BX6_a (bE.rf E4.S) hq)) hF (fun _ hq5 D5 E5 hF => ?_)
    refine b_if hF (fun hF => ?_) (fun hF => ?_)
    ·
      exact BX6_isProgramRight_b42 (N := N) E5 ((othis.up D4).up D5) ((othis.up D4).up D5) hF
    ·
      refine b_K hF (fun hF => ?_)
      refine b_call E5 (fun _ hq => (BX6_word (bE.rf E5.S) ((othis.up D4).up D5) hq)) hF (fun _ hq7 D7 E7 hF => ?_)
      refine b_call E7 (fun _ hq => (BX6_b (bE.rf E7.S) hq)) hF (fun _ hq8 D8 E8 hF => ?_)
      exact BX6_isProgramRight_b43 (N := N) E8 ((((othis.up D4).up D5).up D7).up D8) ((((othis.up D4).up D5).up D7).up D8) hF
theorem BX6_areRecipesRight_b94 {σo : fS} {q : Int × fS} {N : Nat} {K4 : Nat → Int → Int → fS → Option (Int × fS)} (hk4 : ∀ {s : fS} {l0 : Nat} {l1 : Int} {l2 : Int}, bE 0 σo s → bO 0 s l0 → K4 l0 l1 l2 s = some q → bE 0 σo q.2) {s : fS} {l0 : Nat} {l2 : Int} {s0 : Int} {s1 : Int} (E : bE 0 σo s) (ol0 : bO 0 s l0) (hF : FX6_areRecipesRight_b94 N K4 l0 l2 s0 s1 s = some q) : bE 0 σo q.2 := by
  unfold FX6_areRecipesRight_b94 at hF
  exact hk4 E ol0 hF
theorem BX6_areRecipesRight_b89 {σo : fS} {q : Int × fS} {N : Nat} {K4 : Nat → Int → Int → fS → Option (Int × fS)} (hk4 : ∀ {s : fS} {l0 : Nat} {l1 : Int} {l2 : Int}, bE 0 σo s → bO 0 s l0 → K4 l0 l1 l2 s = some q → bE 0 σo q.2) {s : fS} {l0 : Nat} {l2 : Int} {s0 : Int} (E : bE 0 σo s) (ol0 : bO 0 s l0) (hF : FX6_areRecipesRight_b89 N K4 l0 l2 s0 s = some q) : bE 0 σo q.2 := by
  unfold FX6_areRecipesRight_b89 at hF
  exact BX6_areRecipesRight_b94 (N := N) (K4 := K4) @hk4 E ol0 hF
theorem BX6_areRecipesRight_b93 {σo : fS} {q : Int × fS} {N : Nat} {K4 : Nat → Int → Int → fS → Option (Int × fS)} (hk4 : ∀ {s : fS} {l0 : Nat} {l1 : Int} {l2 : Int}, bE 0 σo s → bO 0 s l0 → K4 l0 l1 l2 s = some q → bE 0 σo q.2) {s : fS} {l0 : Nat} {l2 : Int} {s0 : Int} (E : bE 0 σo s) (ol0 : bO 0 s l0) (hF : FX6_areRecipesRight_b93 N K4 l0 l2 s0 s = some q) : bE 0 σo q.2 := by
  unfold FX6_areRecipesRight_b93 at hF
  exact BX6_areRecipesRight_b94 (N := N) (K4 := K4) @hk4 E ol0 hF
theorem BX6_areRecipesRight_b71 {σo : fS} {q : Int × fS} {N : Nat} {K4 : Nat → Int → Int → fS → Option (Int × fS)} (hk4 : ∀ {s : fS} {l0 : Nat} {l1 : Int} {l2 : Int}, bE 0 σo s → bO 0 s l0 → K4 l0 l1 l2 s = some q → bE 0 σo q.2) {s : fS} {l0 : Nat} {l2 : Int} {l3 : Int} {s0 : Int} (E : bE 0 σo s) (ol0 : bO 0 s l0) (hF : FX6_areRecipesRight_b71 N K4 l0 l2 l3 s0 s = some q) : bE 0 σo q.2 := by
  unfold FX6_areRecipesRight_b71 at hF
  refine b_call E (fun _ hq => (BX6_c (bE.rf E.S) hq)) hF (fun _ hq1 D1 E1 hF => ?_)
  refine b_if hF (fun hF => ?_) (fun hF => ?_)
  ·
    exact BX6_areRecipesRight_b89 (N := N) (K4 := K4) @hk4 E1 (ol0.up D1) hF
  ·
    refine b_call E1 (fun _ hq => (BX6_c (bE.rf E1.S) hq)) hF (fun _ hq2 D2 E2 hF => ?_)
    refine b_K hF (fun hF => ?_)
    refine b_call E2 (fun _ hq => (BX6_has (bE.rf E2.S) ((ol0.up D1).up D2) hq)) hF (fun _ hq4 D4 E4 hF => ?_)
    refine b_if hF (fun hF => ?_) (fun hF => ?_)
    ·
      exact BX6_areRecipesRight_b93 (N := N) (K4 := K4) @hk4 E4 (((ol0.up D1).up D2).up D4) hF
    ·
      exact BX6_areRecipesRight_b89 (N := N) (K4 := K4) @hk4 E4 (((ol0.up D1).up D2).up D4) hF
theorem BX6_areRecipesRight_b53 {σo : fS} {q : Int × fS} {N : Nat} {K4 : Nat → Int → Int → fS → Option (Int × fS)} (hk4 : ∀ {s : fS} {l0 : Nat} {l1 : Int} {l2 : Int}, bE 0 σo s → bO 0 s l0 → K4 l0 l1 l2 s = some q → bE 0 σo q.2) {s : fS} {l0 : Nat} {l2 : Int} {l3 : Int} {s0 : Int} (E : bE 0 σo s) (ol0 : bO 0 s l0) (hF : FX6_areRecipesRight_b53 N K4 l0 l2 l3 s0 s = some q) : bE 0 σo q.2 := by
  unfold FX6_areRecipesRight_b53 at hF
  refine b_call E (fun _ hq => (BX6_b (bE.rf E.S) hq)) hF (fun _ hq1 D1 E1 hF => ?_)
  refine b_if hF (fun hF => ?_) (fun hF => ?_)
  ·
    exact BX6_areRecipesRight_b71 (N := N) (K4 := K4) @hk4 E1 (ol0.up D1) hF
  ·
    refine b_call E1 (fun _ hq => (BX6_b (bE.rf E1.S) hq)) hF (fun _ hq2 D2 E2 hF => ?_)
    refine b_K hF (fun hF => ?_)
    refine b_call E2 (fun _ hq => (BX6_has (bE.rf E2.S) ((ol0.up D1).up D2) hq)) hF (fun _ hq4 D4 E4 hF => ?_)
    refine b_if hF (fun hF => ?_) (fun hF => ?_)
    ·
      exact BX6_areRecipesRight_b93 (N := N) (K4 := K4) @hk4 E4 (((ol0.up D1).up D2).up D4) hF
    ·
      exact BX6_areRecipesRight_b71 (N := N) (K4 := K4) @hk4 E4 (((ol0.up D1).up D2).up D4) hF
theorem BX6_areRecipesRight_b4 {σo : fS} {q : Int × fS} {N : Nat} : ∀ {n : Nat} {s : fS} {l0 : Nat} {l1 : Int} {l2 : Int}, bE 0 σo s → bO 0 s l0 → FX6_areRecipesRight_b4 N n l0 l1 l2 s = some q → bE 0 σo q.2 := by
  intro n
  induction n with
  | zero => intro s l0 l1 l2 E ol0 hF; simp [FX6_areRecipesRight_b4] at hF
  | succ n ih =>
    intro s l0 l1 l2 E ol0 hF
    rw [FX6_areRecipesRight_b4] at hF
    refine b_K hF (fun hF => ?_)
    refine b_o E ol0 hF (fun _ o1 hF => ?_)
    refine b_KA hF (fun hF => ?_)
    refine b_rv hF (fun _ hF => ?_)
    refine b_if hF (fun hF => ?_) (fun hF => ?_)
    ·
      exact b_z E hF
    ·
      refine b_K hF (fun hF => ?_)
      refine b_call E (fun _ hq => (BX6_word (bE.rf E.S) ol0 hq)) hF (fun _ hq4 D4 E4 hF => ?_)
      refine b_call E4 (fun _ hq => (BX6_d (bE.rf E4.S) hq)) hF (fun _ hq5 D5 E5 hF => ?_)
      refine b_K hF (fun hF => ?_)
      refine b_call E5 (fun _ hq => (BX6_has (bE.rf E5.S) ((ol0.up D4).up D5) hq)) hF (fun _ hq7 D7 E7 hF => ?_)
      refine b_if hF (fun hF => ?_) (fun hF => ?_)
      ·
        exact BX6_areRecipesRight_b93 (N := N) (K4 := FX6_areRecipesRight_b4 N n) @ih E7 (((ol0.up D4).up D5).up D7) hF
      ·
        refine b_call E7 (fun _ hq => (BX6_a (bE.rf E7.S) hq)) hF (fun _ hq8 D8 E8 hF => ?_)
        refine b_if hF (fun hF => ?_) (fun hF => ?_)
        ·
          exact BX6_areRecipesRight_b53 (N := N) (K4 := FX6_areRecipesRight_b4 N n) @ih E8 ((((ol0.up D4).up D5).up D7).up D8) hF
        ·
          refine b_call E8 (fun _ hq => (BX6_a (bE.rf E8.S) hq)) hF (fun _ hq9 D9 E9 hF => ?_)
          refine b_K hF (fun hF => ?_)
          refine b_call E9 (fun _ hq => (BX6_has (bE.rf E9.S) (((((ol0.up D4).up D5).up D7).up D8).up D9) hq)) hF (fun _ hq11 D11 E11 hF => ?_)
          refine b_if hF (fun hF => ?_) (fun hF => ?_)
          ·
            exact BX6_areRecipesRight_b93 (N := N) (K4 := FX6_areRecipesRight_b4 N n) @ih E11 ((((((ol0.up D4).up D5).up D7).up D8).up D9).up D11) hF
          ·
            exact BX6_areRecipesRight_b53 (N := N) (K4 := FX6_areRecipesRight_b4 N n) @ih E11 ((((((ol0.up D4).up D5).up D7).up D8).up D9).up D11) hF
theorem BX6_areRecipesRight {σo : fS} {q : Int × fS} {N : Nat} {s : fS} {this : Nat} (E : bE 0 σo s) (othis : bO 0 s this) (hF : FX6_areRecipesRight N this s = some q) : bE 0 σo q.2 := by
  unfold FX6_areRecipesRight at hF
  exact BX6_areRecipesRight_b4 (N := N) E othis hF
theorem BX6_areParametersRight_b4 {σo : fS} {q : Int × fS} {N : Nat} : ∀ {n : Nat} {s : fS} {l0 : Nat} {l1 : Int} {l2 : Int}, bE 0 σo s → bO 0 s l0 → FX6_areParametersRight_b4 N n l0 l1 l2 s = some q → bE 0 σo q.2 := by
  intro n
  induction n with
  | zero => intro s l0 l1 l2 E ol0 hF; simp [FX6_areParametersRight_b4] at hF
  | succ n ih =>
    intro s l0 l1 l2 E ol0 hF
    rw [FX6_areParametersRight_b4] at hF
    refine b_K hF (fun hF => ?_)
    refine b_o E ol0 hF (fun _ o1 hF => ?_)
    refine b_KA hF (fun hF => ?_)
    refine b_rv hF (fun _ hF => ?_)
    refine b_if hF (fun hF => ?_) (fun hF => ?_)
    ·
      exact b_z E hF
    ·
      refine b_K hF (fun hF => ?_)
      refine b_call E (fun _ hq => (BX6_word (bE.rf E.S) ol0 hq)) hF (fun _ hq4 D4 E4 hF => ?_)
      refine b_K hF (fun hF => ?_)
      refine b_call E4 (fun _ hq => (BX6_isFraction (bE.rf E4.S) hq)) hF (fun _ hq6 D6 E6 hF => ?_)
      exact ih E6 ((ol0.up D4).up D6) hF
theorem BX6_areParametersRight {σo : fS} {q : Int × fS} {N : Nat} {s : fS} {this : Nat} (E : bE 0 σo s) (othis : bO 0 s this) (hF : FX6_areParametersRight N this s = some q) : bE 0 σo q.2 := by
  unfold FX6_areParametersRight at hF
  exact BX6_areParametersRight_b4 (N := N) E othis hF
theorem BX6_check_b75 {σo : fS} {q : Int × fS} {N : Nat} {s : fS} {s0 : Int} (E : bE 0 σo s) (hF : FX6_check_b75 N s0 s = some q) : bE 0 σo q.2 := by
  unfold FX6_check_b75 at hF
  exact b_ret E hF
theorem BX6_check {σo : fS} {q : Int × fS} {N : Nat} {s : fS} {this : Nat} {p0 : Nat} (E : bE 0 σo s) (othis : bO 0 s this) (op0 : bO 0 s p0) (hF : FX6_check N this p0 s = some q) : bE 0 σo q.2 := by
  unfold FX6_check at hF
  refine b_K hF (fun hF => ?_)
  refine b_call E (fun _ hq => (BX6_layOut (N := N) (bE.rf E.S) othis op0 hq)) hF (fun _ hq2 D2 E2 hF => ?_)
  refine b_if hF (fun hF => ?_) (fun hF => ?_)
  ·
    refine b_K hF (fun hF => ?_)
    refine b_call E2 (fun _ hq => (BX6_areSizesRight (N := N) (bE.rf E2.S) (othis.up D2) hq)) hF (fun _ hq4 D4 E4 hF => ?_)
    refine b_if hF (fun hF => ?_) (fun hF => ?_)
    ·
      refine b_K hF (fun hF => ?_)
      refine b_call E4 (fun _ hq => (BX6_areTagsRight (N := N) (bE.rf E4.S) ((othis.up D2).up D4) hq)) hF (fun _ hq6 D6 E6 hF => ?_)
      refine b_if hF (fun hF => ?_) (fun hF => ?_)
      ·
        refine b_K hF (fun hF => ?_)
        refine b_call E6 (fun _ hq => (BX6_areFractions (N := N) (bE.rf E6.S) (((othis.up D2).up D4).up D6) hq)) hF (fun _ hq8 D8 E8 hF => ?_)
        refine b_if hF (fun hF => ?_) (fun hF => ?_)
        ·
          refine b_K hF (fun hF => ?_)
          refine b_call E8 (fun _ hq => (BX6_isProgramRight (N := N) (bE.rf E8.S) ((((othis.up D2).up D4).up D6).up D8) hq)) hF (fun _ hq10 D10 E10 hF => ?_)
          refine b_if hF (fun hF => ?_) (fun hF => ?_)
          ·
            refine b_K hF (fun hF => ?_)
            refine b_call E10 (fun _ hq => (BX6_areRecipesRight (N := N) (bE.rf E10.S) (((((othis.up D2).up D4).up D6).up D8).up D10) hq)) hF (fun _ hq12 D12 E12 hF => ?_)
            refine b_if hF (fun hF => ?_) (fun hF => ?_)
            ·
              refine b_K hF (fun hF => ?_)
              refine b_call E12 (fun _ hq => (BX6_areParametersRight (N := N) (bE.rf E12.S) ((((((othis.up D2).up D4).up D6).up D8).up D10).up D12) hq)) hF (fun _ hq14 D14 E14 hF => ?_)
              refine b_if hF (fun hF => ?_) (fun hF => ?_)
              ·
                exact BX6_check_b75 (N := N) E14 hF
              ·
                exact BX6_check_b75 (N := N) E14 hF
            ·
              exact b_ret E12 hF
          ·
            exact b_ret E10 hF
        ·
          exact b_ret E8 hF
      ·
        exact b_ret E6 hF
    ·
      exact b_ret E4 hF
  ·
    exact b_ret E2 hF
