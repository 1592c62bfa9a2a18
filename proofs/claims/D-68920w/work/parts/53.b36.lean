set_option maxRecDepth 100000
set_option maxHeartbeats 4000000
theorem BX38_move_b222 {σo : fS} {q : Unit × fS} {N : Nat} {s : fS} (E : bE 1 σo s) (hF : FX38_move_b222 N s = some q) : bE 1 σo q.2 := by
  unfold FX38_move_b222 at hF
  exact b_ret E hF
theorem BX38_move_b106 {σo : fS} {q : Unit × fS} {N : Nat} {s : fS} {l3 : Int} {l4 : Int} {l5 : Int} {l7 : Int} (E : bE 1 σo s) (hF : FX38_move_b106 N l3 l4 l5 l7 s = some q) : bE 1 σo q.2 := by
  unfold FX38_move_b106 at hF
  refine b_call E (fun _ hq => (BX38_lay (bE.rf E.S) hq)) hF (fun _ hq2 D2 E2 hF => ?_)
  refine b_call E2 (fun _ hq => (BX38_layNumber (N := N) (bE.rf E2.S) hq)) hF (fun _ hq4 D4 E4 hF => ?_)
  refine b_qI E4 (E4.S.m1 (Nat.le_of_ble_eq_true rfl) (Nat.le_of_ble_eq_true rfl)) hF (fun _ D6 E6 hF => ?_)
  exact BX38_move_b222 (N := N) E6 hF
theorem BX38_move_b173 {σo : fS} {q : Unit × fS} {N : Nat} {s : fS} {l3 : Int} {l5 : Int} {l6 : Int} {l7 : Int} (E : bE 1 σo s) (hF : FX38_move_b173 N l3 l5 l6 l7 s = some q) : bE 1 σo q.2 := by
  unfold FX38_move_b173 at hF
  refine b_call E (fun _ hq => (BX38_lay (bE.rf E.S) hq)) hF (fun _ hq2 D2 E2 hF => ?_)
  refine b_call E2 (fun _ hq => (BX38_layNumber (N := N) (bE.rf E2.S) hq)) hF (fun _ hq4 D4 E4 hF => ?_)
  refine b_qI E4 (E4.S.m1 (Nat.le_of_ble_eq_true rfl) (Nat.le_of_ble_eq_true rfl)) hF (fun _ D6 E6 hF => ?_)
  exact BX38_move_b222 (N := N) E6 hF
theorem BX38_move_b204 {σo : fS} {q : Unit × fS} {N : Nat} {s : fS} {l3 : Int} {l5 : Int} {l7 : Int} (E : bE 1 σo s) (hF : FX38_move_b204 N l3 l5 l7 s = some q) : bE 1 σo q.2 := by
  unfold FX38_move_b204 at hF
  refine b_call E (fun _ hq => (BX38_lay (bE.rf E.S) hq)) hF (fun _ hq2 D2 E2 hF => ?_)
  refine b_call E2 (fun _ hq => (BX38_layNumber (N := N) (bE.rf E2.S) hq)) hF (fun _ hq4 D4 E4 hF => ?_)
  exact BX38_move_b222 (N := N) E4 hF
theorem BX38_move_b136 {σo : fS} {q : Unit × fS} {N : Nat} {s : fS} {l1 : Nat} {l2 : Int} {l3 : Int} {l5 : Int} {l6 : Int} {l7 : Int} (E : bE 1 σo s) (ol1 : bO 1 s l1) (hF : FX38_move_b136 N l1 l2 l3 l5 l6 l7 s = some q) : bE 1 σo q.2 := by
  unfold FX38_move_b136 at hF
  refine b_call E (fun _ hq => (BX38_comes (N := N) (bE.rf E.S) ol1 hq)) hF (fun _ hq2 D2 E2 hF => ?_)
  refine b_if hF (fun hF => ?_) (fun hF => ?_)
  ·
    exact BX38_move_b204 (N := N) E2 hF
  ·
    refine b_rv hF (fun _ hF => ?_)
    refine b_if hF (fun hF => ?_) (fun hF => ?_)
    ·
      exact BX38_move_b173 (N := N) E2 hF
    ·
      refine b_rv hF (fun _ hF => ?_)
      refine b_call E2 (fun _ hq => (BX38_comes (N := N) (bE.rf E2.S) (ol1.up D2) hq)) hF (fun _ hq8 D8 E8 hF => ?_)
      refine b_if hF (fun hF => ?_) (fun hF => ?_)
      ·
        exact BX38_move_b204 (N := N) E8 hF
      ·
        exact BX38_move_b173 (N := N) E8 hF
theorem BX38_move {σo : fS} {q : Unit × fS} {N : Nat} {s : fS} {p0 : Nat} {p1 : Int} {p2 : Int} {p3 : Int} (E : bE 1 σo s) (op0 : bO 1 s p0) (hF : FX38_move N p0 p1 p2 p3 s = some q) : bE 1 σo q.2 := by
  unfold FX38_move at hF
  refine b_KA hF (fun hF => ?_)
  refine b_rv hF (fun _ hF => ?_)
  refine b_call E (fun _ hq => (BX38_bytesOf (bE.rf E.S) hq)) hF (fun _ hq2 D2 E2 hF => ?_)
  refine b_if hF (fun hF => ?_) (fun hF => ?_)
  ·
    refine b_rv hF (fun _ hF => ?_)
    refine b_if hF (fun hF => ?_) (fun hF => ?_)
    ·
      refine b_rv hF (fun _ hF => ?_)
      refine b_if hF (fun hF => ?_) (fun hF => ?_)
      ·
        refine b_call E2 (fun _ hq => (BX38_comes (N := N) (bE.rf E2.S) (op0.up D2) hq)) hF (fun _ hq8 D8 E8 hF => ?_)
        refine b_if hF (fun hF => ?_) (fun hF => ?_)
        ·
          exact BX38_move_b136 (N := N) E8 ((op0.up D2).up D8) hF
        ·
          refine b_rv hF (fun _ hF => ?_)
          refine b_if hF (fun hF => ?_) (fun hF => ?_)
          ·
            exact BX38_move_b106 (N := N) E8 hF
          ·
            refine b_rv hF (fun _ hF => ?_)
            refine b_call E8 (fun _ hq => (BX38_comes (N := N) (bE.rf E8.S) ((op0.up D2).up D8) hq)) hF (fun _ hq14 D14 E14 hF => ?_)
            refine b_if hF (fun hF => ?_) (fun hF => ?_)
            ·
              exact BX38_move_b136 (N := N) E14 (((op0.up D2).up D8).up D14) hF
            ·
              exact BX38_move_b106 (N := N) E14 hF
      ·
        refine b_call E2 (fun _ hq => (BX38_lay (bE.rf E2.S) hq)) hF (fun _ hq16 D16 E16 hF => ?_)
        exact BX38_move_b222 (N := N) E16 hF
    ·
      refine b_call E2 (fun _ hq => (BX38_lay (bE.rf E2.S) hq)) hF (fun _ hq18 D18 E18 hF => ?_)
      exact BX38_move_b222 (N := N) E18 hF
  ·
    exact b_ret E2 hF
theorem BX38_isTold_b31 {σo : fS} {q : Int × fS} {N : Nat} {K4 : Int → Int → Int → fS → Option (Int × fS)} (hk4 : ∀ {s : fS} {l1 : Int} {l2 : Int} {l3 : Int}, bE 1 σo s → K4 l1 l2 l3 s = some q → bE 1 σo q.2) {s : fS} {l1 : Int} {l3 : Int} {s0 : Int} (E : bE 1 σo s) (hF : FX38_isTold_b31 N K4 l1 l3 s0 s = some q) : bE 1 σo q.2 := by
  unfold FX38_isTold_b31 at hF
  exact hk4 E hF
theorem BX38_isTold_b26 {σo : fS} {q : Int × fS} {N : Nat} {K4 : Int → Int → Int → fS → Option (Int × fS)} (hk4 : ∀ {s : fS} {l1 : Int} {l2 : Int} {l3 : Int}, bE 1 σo s → K4 l1 l2 l3 s = some q → bE 1 σo q.2) {s : fS} {l1 : Int} {l3 : Int} (E : bE 1 σo s) (hF : FX38_isTold_b26 N K4 l1 l3 s = some q) : bE 1 σo q.2 := by
  unfold FX38_isTold_b26 at hF
  exact BX38_isTold_b31 (N := N) (K4 := K4) @hk4 E hF
theorem BX38_isTold_b4 {σo : fS} {q : Int × fS} {N : Nat} : ∀ {n : Nat} {s : fS} {l1 : Int} {l2 : Int} {l3 : Int}, bE 1 σo s → FX38_isTold_b4 N n l1 l2 l3 s = some q → bE 1 σo q.2 := by
  intro n
  induction n with
  | zero => intro s l1 l2 l3 E  hF; simp [FX38_isTold_b4] at hF
  | succ n ih =>
    intro s l1 l2 l3 E  hF
    rw [FX38_isTold_b4] at hF
    refine b_if hF (fun hF => ?_) (fun hF => ?_)
    ·
      exact b_z E hF
    ·
      refine b_if hF (fun hF => ?_) (fun hF => ?_)
      ·
        exact BX38_isTold_b26 (N := N) (K4 := FX38_isTold_b4 N n) @ih E hF
      ·
        refine b_rv hF (fun _ hF => ?_)
        refine b_if hF (fun hF => ?_) (fun hF => ?_)
        ·
          exact BX38_isTold_b31 (N := N) (K4 := FX38_isTold_b4 N n) @ih E hF
        ·
          exact BX38_isTold_b26 (N := N) (K4 := FX38_isTold_b4 N n) @ih E hF
theorem BX38_isTold {σo : fS} {q : Int × fS} {N : Nat} {s : fS} {p0 : Int} (E : bE 1 σo s) (hF : FX38_isTold N p0 s = some q) : bE 1 σo q.2 := by
  unfold FX38_isTold at hF
  exact BX38_isTold_b4 (N := N) E hF
theorem BX38_define_b115 {σo : fS} {q : Unit × fS} {N : Nat} {s : fS} {l1 : Int} (E : bE 1 σo s) (hF : FX38_define_b115 N l1 s = some q) : bE 1 σo q.2 := by
  unfold FX38_define_b115 at hF
  refine b_rv hF (fun _ hF => ?_)
  refine b_call E (fun _ hq => (BX38_lay (bE.rf E.S) hq)) hF (fun _ hq4 D4 E4 hF => ?_)
  exact b_ret E4 hF
theorem BX38_define_b78 {σo : fS} {q : Unit × fS} {N : Nat} {s : fS} {l1 : Int} {l2 : Int} {s1 : Int} (E : bE 1 σo s) (hF : FX38_define_b78 N l1 l2 s1 s = some q) : bE 1 σo q.2 := by
  unfold FX38_define_b78 at hF
  refine b_call E (fun _ hq => (BX38_lay (bE.rf E.S) hq)) hF (fun _ hq2 D2 E2 hF => ?_)
  refine b_call E2 (fun _ hq => (BX38_lay (bE.rf E2.S) hq)) hF (fun _ hq4 D4 E4 hF => ?_)
  refine b_call E4 (fun _ hq => (BX38_lay (bE.rf E4.S) hq)) hF (fun _ hq6 D6 E6 hF => ?_)
  refine b_call E6 (fun _ hq => (BX38_lay (bE.rf E6.S) hq)) hF (fun _ hq8 D8 E8 hF => ?_)
  refine b_call E8 (fun _ hq => (BX38_lay (bE.rf E8.S) hq)) hF (fun _ hq10 D10 E10 hF => ?_)
  refine b_if hF (fun hF => ?_) (fun hF => ?_)
  ·
    exact BX38_define_b115 (N := N) E10 hF
  ·
    refine b_call E10 (fun _ hq => (BX38_lay (bE.rf E10.S) hq)) hF (fun _ hq12 D12 E12 hF => ?_)
    exact BX38_define_b115 (N := N) E12 hF
theorem BX38_define_b66 {σo : fS} {q : Unit × fS} {N : Nat} {s : fS} {l1 : Int} {s0 : Int} (E : bE 1 σo s) (hF : FX38_define_b66 N l1 s0 s = some q) : bE 1 σo q.2 := by
  unfold FX38_define_b66 at hF
  refine b_if hF (fun hF => ?_) (fun hF => ?_)
  ·
    exact BX38_define_b78 (N := N) E hF
  ·
    exact BX38_define_b78 (N := N) E hF
theorem BX38_define {σo : fS} {q : Unit × fS} {N : Nat} {s : fS} {p0 : Int} (E : bE 1 σo s) (hF : FX38_define N p0 s = some q) : bE 1 σo q.2 := by
  unfold FX38_define at hF
  refine b_call E (fun _ hq => (BX38_lay (bE.rf E.S) hq)) hF (fun _ hq2 D2 E2 hF => ?_)
  refine b_call E2 (fun _ hq => (BX38_lay (bE.rf E2.S) hq)) hF (fun _ hq4 D4 E4 hF => ?_)
  refine b_rv hF (fun _ hF => ?_)
  refine b_call E4 (fun _ hq => (BX38_layNumber (N := N) (bE.rf E4.S) hq)) hF (fun _ hq8 D8 E8 hF => ?_)
  refine b_rv hF (fun _ hF => ?_)
  refine b_call E8 (fun _ hq => (BX38_layNumber (N := N) (bE.rf E8.S) hq)) hF (fun _ hq12 D12 E12 hF => ?_)
  refine b_rv hF (fun _ hF => ?_)
  refine b_call E12 (fun _ hq => (BX38_layNumber (N := N) (bE.rf E12.S) hq)) hF (fun _ hq16 D16 E16 hF => ?_)
  refine b_call E16 (fun _ hq => (BX38_lay (bE.rf E16.S) hq)) hF (fun _ hq18 D18 E18 hF => ?_)
  refine b_rv hF (fun _ hF => ?_)
  refine b_if hF (fun hF => ?_) (fun hF => ?_)
  ·
    exact BX38_define_b66 (N := N) E18 hF
  ·
    exact BX38_define_b66 (N := N) E18 hF
theorem BX38_character_b83 {σo : fS} {q : Unit × fS} {N : Nat} {s : fS} {l2 : Int} (E : bE 1 σo s) (hF : FX38_character_b83 N l2 s = some q) : bE 1 σo q.2 := by
  unfold FX38_character_b83 at hF
  refine b_call E (fun _ hq => (BX38_lay (bE.rf E.S) hq)) hF (fun _ hq2 D2 E2 hF => ?_)
  exact b_ret E2 hF
theorem BX38_character_b70 {σo : fS} {q : Unit × fS} {N : Nat} {s : fS} {l2 : Int} (E : bE 1 σo s) (hF : FX38_character_b70 N l2 s = some q) : bE 1 σo q.2 := by
  unfold FX38_character_b70 at hF
  refine b_if hF (fun hF => ?_) (fun hF => ?_)
  ·
    exact BX38_character_b83 (N := N) E hF
  ·
    refine b_call E (fun _ hq => (BX38_lay (bE.rf E.S) hq)) hF (fun _ hq2 D2 E2 hF => ?_)
    exact BX38_character_b83 (N := N) E2 hF
theorem BX38_character_b56 {σo : fS} {q : Unit × fS} {N : Nat} {s : fS} {l1 : Int} {l2 : Int} {s1 : Int} (E : bE 1 σo s) (hF : FX38_character_b56 N l1 l2 s1 s = some q) : bE 1 σo q.2 := by
  unfold FX38_character_b56 at hF
  refine b_call E (fun _ hq => (BX38_lay (bE.rf E.S) hq)) hF (fun _ hq2 D2 E2 hF => ?_)
  refine b_if hF (fun hF => ?_) (fun hF => ?_)
  ·
    exact BX38_character_b70 (N := N) E2 hF
  ·
    refine b_call E2 (fun _ hq => (BX38_lay (bE.rf E2.S) hq)) hF (fun _ hq4 D4 E4 hF => ?_)
    exact BX38_character_b70 (N := N) E4 hF
theorem BX38_character_b38 {σo : fS} {q : Unit × fS} {N : Nat} {s : fS} {l1 : Int} {l2 : Int} (E : bE 1 σo s) (hF : FX38_character_b38 N l1 l2 s = some q) : bE 1 σo q.2 := by
  unfold FX38_character_b38 at hF
  refine b_if hF (fun hF => ?_) (fun hF => ?_)
  ·
    exact BX38_character_b56 (N := N) E hF
  ·
    exact BX38_character_b56 (N := N) E hF
theorem BX38_character {σo : fS} {q : Unit × fS} {N : Nat} {s : fS} {p0 : Int} {p1 : Int} {p2 : Int} (E : bE 1 σo s) (hF : FX38_character N p0 p1 p2 s = some q) : bE 1 σo q.2 := by
  unfold FX38_character at hF
  refine b_if hF (fun hF => ?_) (fun hF => ?_)
  ·
    exact BX38_character_b70 (N := N) E hF
  ·
    refine b_call E (fun _ hq => (BX38_isTold (N := N) (bE.rf E.S) hq)) hF (fun _ hq2 D2 E2 hF => ?_)
    refine b_if hF (fun hF => ?_) (fun hF => ?_)
    ·
      exact BX38_character_b38 (N := N) E2 hF
    ·
      refine b_call E2 (fun _ hq => (BX38_define (N := N) (bE.rf E2.S) hq)) hF (fun _ hq4 D4 E4 hF => ?_)
      refine b_qI E4 (E4.S.m1 (Nat.le_of_ble_eq_true rfl) (Nat.le_of_ble_eq_true rfl)) hF (fun _ D7 E7 hF => ?_)
      refine b_pI E7 (E7.S.m1 (Nat.le_of_ble_eq_true rfl) (Nat.le_of_ble_eq_true rfl)) hF (fun _ D9 E9 hF => ?_)
      exact BX38_character_b38 (N := N) E9 hF
theorem BX38_writePage_b182 {σo : fS} {q : Unit × fS} {N : Nat} {K83 : Int → Int → fS → Option (Unit × fS)} (hk83 : ∀ {s : fS} {l2 : Int} {l3 : Int}, bE 1 σo s → K83 l2 l3 s = some q → bE 1 σo q.2) {s : fS} {l2 : Int} {l3 : Int} (E : bE 1 σo s) (hF : FX38_writePage_b182 N K83 l2 l3 s = some q) : bE 1 σo q.2 := by
  unfold FX38_writePage_b182 at hF
  exact hk83 E hF
theorem BX38_writePage_b83 {σo : fS} {q : Unit × fS} {N : Nat} : ∀ {n : Nat} {s : fS} {l2 : Int} {l3 : Int}, bE 1 σo s → FX38_writePage_b83 N n l2 l3 s = some q → bE 1 σo q.2 := by
  intro n
  induction n with
  | zero => intro s l2 l3 E  hF; simp [FX38_writePage_b83] at hF
  | succ n ih =>
    intro s l2 l3 E  hF
    rw [FX38_writePage_b83] at hF
    refine b_if hF (fun hF => ?_) (fun hF => ?_)
    ·
      refine b_call E (fun _ hq => (BX38_lay (bE.rf E.S) hq)) hF (fun _ hq3 D3 E3 hF => ?_)
      refine b_call E3 (fun _ hq => (BX38_lay (bE.rf E3.S) hq)) hF (fun _ hq5 D5 E5 hF => ?_)
      exact b_ret E5 hF
    ·
      refine b_call E (fun _ hq => (BX38_move (N := N) (bE.rf E.S) (E.S.m1 (Nat.le_of_ble_eq_true rfl) (Nat.le_of_ble_eq_true rfl)) hq)) hF (fun _ hq8 D8 E8 hF => ?_)
      refine b_call E8 (fun _ hq => (BX38_move (N := N) (bE.rf E8.S) (E8.S.m1 (Nat.le_of_ble_eq_true rfl) (Nat.le_of_ble_eq_true rfl)) hq)) hF (fun _ hq11 D11 E11 hF => ?_)
      refine b_rv hF (fun _ hF => ?_)
      refine b_if hF (fun hF => ?_) (fun hF => ?_)
      ·
        refine b_rv hF (fun _ hF => ?_)
        refine b_rv hF (fun _ hF => ?_)
        refine b_call E11 (fun _ hq => (BX38_character (N := N) (bE.rf E11.S) hq)) hF (fun _ hq19 D19 E19 hF => ?_)
        refine b_rv hF (fun _ hF => ?_)
        exact BX38_writePage_b182 (N := N) (K83 := FX38_writePage_b83 N n) @ih E19 hF
      ·
        refine b_call E11 (fun _ hq => (BX38_lay (bE.rf E11.S) hq)) hF (fun _ hq23 D23 E23 hF => ?_)
        refine b_rv hF (fun _ hF => ?_)
        refine b_call E23 (fun _ hq => (BX38_layNumber (N := N) (bE.rf E23.S) hq)) hF (fun _ hq27 D27 E27 hF => ?_)
        refine b_rv hF (fun _ hF => ?_)
        refine b_call E27 (fun _ hq => (BX38_layNumber (N := N) (bE.rf E27.S) hq)) hF (fun _ hq31 D31 E31 hF => ?_)
        exact BX38_writePage_b182 (N := N) (K83 := FX38_writePage_b83 N n) @ih E31 hF
theorem BX38_writePage_b60 {σo : fS} {q : Unit × fS} {N : Nat} : ∀ {n : Nat} {s : fS} {l2 : Int}, bE 1 σo s → FX38_writePage_b60 N n l2 s = some q → bE 1 σo q.2 := by
  intro n
  induction n with
  | zero => intro s l2 E  hF; simp [FX38_writePage_b60] at hF
  | succ n ih =>
    intro s l2 E  hF
    rw [FX38_writePage_b60] at hF
    refine b_if hF (fun hF => ?_) (fun hF => ?_)
    ·
      exact BX38_writePage_b83 (N := N) E hF
    ·
      refine b_qI E (E.S.m1 (Nat.le_of_ble_eq_true rfl) (Nat.le_of_ble_eq_true rfl)) hF (fun _ D2 E2 hF => ?_)
      exact ih E2 hF
theorem BX38_writePage_b14 {σo : fS} {q : Unit × fS} {N : Nat} : ∀ {n : Nat} {s : fS} {l1 : Int} {l2 : Int}, bE 1 σo s → FX38_writePage_b14 N n l1 l2 s = some q → bE 1 σo q.2 := by
  intro n
  induction n with
  | zero => intro s l1 l2 E  hF; simp [FX38_writePage_b14] at hF
  | succ n ih =>
    intro s l1 l2 E  hF
    rw [FX38_writePage_b14] at hF
    refine b_if hF (fun hF => ?_) (fun hF => ?_)
    ·
      refine b_call E (fun _ hq => (BX38_layNumber (N := N) (bE.rf E.S) hq)) hF (fun _ hq3 D3 E3 hF => ?_)
      refine b_pI E3 (E3.S.m1 (Nat.le_of_ble_eq_true rfl) (Nat.le_of_ble_eq_true rfl)) hF (fun _ D4 E4 hF => ?_)
      refine b_call E4 (fun _ hq => (BX38_lay (bE.rf E4.S) hq)) hF (fun _ hq6 D6 E6 hF => ?_)
      exact BX38_writePage_b60 (N := N) E6 hF
    ·
      refine b_rv hF (fun _ hF => ?_)
      refine b_call E (fun _ hq => (BX38_layNumber (N := N) (bE.rf E.S) hq)) hF (fun _ hq10 D10 E10 hF => ?_)
      exact ih E10 hF
theorem BX38_writePage {σo : fS} {q : Unit × fS} {N : Nat} {s : fS} (E : bE 1 σo s) (hF : FX38_writePage N s = some q) : bE 1 σo q.2 := by
  unfold FX38_writePage at hF
  refine b_call E (fun _ hq => (BX38_lay (bE.rf E.S) hq)) hF (fun _ hq3 D3 E3 hF => ?_)
  exact BX38_writePage_b14 (N := N) E3 hF
theorem BX38_fits_b37 {σo : fS} {q : Int × fS} {N : Nat} {s : fS} {l1 : Int} {l2 : Int} {l3 : Int} {s0 : Int} (E : bE 1 σo s) (hF : FX38_fits_b37 N l1 l2 l3 s0 s = some q) : bE 1 σo q.2 := by
  unfold FX38_fits_b37 at hF
  refine b_pI E (E.S.m1 (Nat.le_of_ble_eq_true rfl) (Nat.le_of_ble_eq_true rfl)) hF (fun _ D1 E1 hF => ?_)
  refine b_pI E1 (E1.S.m1 (Nat.le_of_ble_eq_true rfl) (Nat.le_of_ble_eq_true rfl)) hF (fun _ D2 E2 hF => ?_)
  refine b_pI E2 (E2.S.m1 (Nat.le_of_ble_eq_true rfl) (Nat.le_of_ble_eq_true rfl)) hF (fun _ D3 E3 hF => ?_)
  exact b_z E3 hF
theorem BX38_fits {σo : fS} {q : Int × fS} {N : Nat} {s : fS} (E : bE 1 σo s) (hF : FX38_fits N s = some q) : bE 1 σo q.2 := by
  unfold FX38_fits at hF
  refine b_call E (fun _ hq => (BX38_findMoves (N := N) (bE.rf E.S) hq)) hF (fun _ hq2 D2 E2 hF => ?_)
  refine b_call E2 (fun _ hq => (BX38_writePage (N := N) (bE.rf E2.S) hq)) hF (fun _ hq7 D7 E7 hF => ?_)
  refine b_if hF (fun hF => ?_) (fun hF => ?_)
  ·
    exact BX38_fits_b37 (N := N) E7 hF
  ·
    exact BX38_fits_b37 (N := N) E7 hF
theorem BX38_ship_b85 {σo : fS} {q : Unit × fS} {N : Nat} {K6 : Int → fS → Option (Unit × fS)} (hk6 : ∀ {s : fS} {l1 : Int}, bE 1 σo s → K6 l1 s = some q → bE 1 σo q.2) {s : fS} {l1 : Int} {s1 : Int} (E : bE 1 σo s) (hF : FX38_ship_b85 N K6 l1 s1 s = some q) : bE 1 σo q.2 := by
  unfold FX38_ship_b85 at hF
  refine b_pI E (E.S.m1 (Nat.le_of_ble_eq_true rfl) (Nat.le_of_ble_eq_true rfl)) hF (fun _ D1 E1 hF => ?_)
  exact hk6 E1 hF
theorem BX38_ship_b41 {σo : fS} {q : Unit × fS} {N : Nat} {K6 : Int → fS → Option (Unit × fS)} (hk6 : ∀ {s : fS} {l1 : Int}, bE 1 σo s → K6 l1 s = some q → bE 1 σo q.2) {s : fS} {l1 : Int} {s1 : Int} (E : bE 1 σo s) (hF : FX38_ship_b41 N K6 l1 s1 s = some q) : bE 1 σo q.2 := by
  unfold FX38_ship_b41 at hF
  refine b_pI E (E.S.m1 (Nat.le_of_ble_eq_true rfl) (Nat.le_of_ble_eq_true rfl)) hF (fun _ D1 E1 hF => ?_)
  refine b_rv hF (fun _ hF => ?_)
  refine b_rv hF (fun _ hF => ?_)
  refine b_if hF (fun hF => ?_) (fun hF => ?_)
  ·
    exact BX38_ship_b85 (N := N) (K6 := K6) @hk6 E1 hF
  ·
    refine b_rv hF (fun _ hF => ?_)
    refine b_rv hF (fun _ hF => ?_)
    exact BX38_ship_b85 (N := N) (K6 := K6) @hk6 E1 hF
theorem BX38_ship_b6 {σo : fS} {q : Unit × fS} {N : Nat} : ∀ {n : Nat} {s : fS} {l1 : Int}, bE 1 σo s → FX38_ship_b6 N n l1 s = some q → bE 1 σo q.2 := by
  intro n
  induction n with
  | zero => intro s l1 E  hF; simp [FX38_ship_b6] at hF
  | succ n ih =>
    intro s l1 E  hF
    rw [FX38_ship_b6] at hF
    refine b_if hF (fun hF => ?_) (fun hF => ?_)
    ·
      refine b_pI E (E.S.m1 (Nat.le_of_ble_eq_true rfl) (Nat.le_of_ble_eq_true rfl)) hF (fun _ D3 E3 hF => ?_)
      exact b_ret E3 hF
    ·
      refine b_rv hF (fun _ hF => ?_)
      refine b_if hF (fun hF => ?_) (fun hF => ?_)
      ·
        exact BX38_ship_b41 (N := N) (K6 := FX38_ship_b6 N n) @ih E hF
      ·
        refine b_rv hF (fun _ hF => ?_)
        exact BX38_ship_b41 (N := N) (K6 := FX38_ship_b6 N n) @ih E hF
theorem BX38_ship {σo : fS} {q : Unit × fS} {N : Nat} {s : fS} (E : bE 1 σo s) (hF : FX38_ship N s = some q) : bE 1 σo q.2 := by
  unfold FX38_ship at hF
  refine b_call E (fun _ hq => (BX38_writePage (N := N) (bE.rf E.S) hq)) hF (fun _ hq2 D2 E2 hF => ?_)
  exact BX38_ship_b6 (N := N) E2 hF
theorem BX35_setAt_b50 {σo : fS} {q : Unit × fS} {N : Nat} {s : fS} (E : bE 1 σo s) (hF : FX35_setAt_b50 N s = some q) : bE 1 σo q.2 := by
  unfold FX35_setAt_b50 at hF
  exact b_ret E hF
theorem BX35_setAt_b14 {σo : fS} {q : Unit × fS} {N : Nat} : ∀ {n : Nat} {s : fS} {l1 : Int} {l2 : Int} {l4 : Int}, bE 1 σo s → FX35_setAt_b14 N n l1 l2 l4 s = some q → bE 1 σo q.2 := by
  intro n
  induction n with
  | zero => intro s l1 l2 l4 E  hF; simp [FX35_setAt_b14] at hF
  | succ n ih =>
    intro s l1 l2 l4 E  hF
    rw [FX35_setAt_b14] at hF
    refine b_if hF (fun hF => ?_) (fun hF => ?_)
    ·
      exact BX35_setAt_b50 (N := N) E hF
    ·
      refine b_if hF (fun hF => ?_) (fun hF => ?_)
      ·
        exact BX35_setAt_b50 (N := N) E hF
      ·
        refine b_qI E (E.S.m1 (Nat.le_of_ble_eq_true rfl) (Nat.le_of_ble_eq_true rfl)) hF (fun _ D4 E4 hF => ?_)
        exact ih E4 hF
theorem BX35_setAt_b12 {σo : fS} {q : Unit × fS} {N : Nat} {s : fS} {l1 : Int} {l2 : Int} {s0 : Int} (E : bE 1 σo s) (hF : FX35_setAt_b12 N l1 l2 s0 s = some q) : bE 1 σo q.2 := by
  unfold FX35_setAt_b12 at hF
  exact BX35_setAt_b14 (N := N) E hF
theorem BX35_setAt {σo : fS} {q : Unit × fS} {N : Nat} {s : fS} {p0 : Int} {p1 : Int} {p2 : Int} (E : bE 1 σo s) (hF : FX35_setAt N p0 p1 p2 s = some q) : bE 1 σo q.2 := by
  unfold FX35_setAt at hF
  refine b_if hF (fun hF => ?_) (fun hF => ?_)
  ·
    exact BX35_setAt_b12 (N := N) E hF
  ·
    exact BX35_setAt_b12 (N := N) E hF
theorem BX35_ship_b61 {σo : fS} {q : Unit × fS} {N : Nat} {SL : Int → Int → Int → fS → Option (Int × fS)} {K16 : Int → Int → fS → Option (Unit × fS)} (hsL : ∀ {s : fS} {x1 : Int} {x2 : Int} {x3 : Int} {q}, bS 1 s → SL x1 x2 x3 s = some q → bE 1 s q.2) (hk16 : ∀ {s : fS} {l1 : Int} {l3 : Int}, bE 1 σo s → K16 l1 l3 s = some q → bE 1 σo q.2) {s : fS} {l3 : Int} {s0 : Int} (E : bE 1 σo s) (hF : FX35_ship_b61 N SL K16 l3 s0 s = some q) : bE 1 σo q.2 := by
  unfold FX35_ship_b61 at hF
  exact hk16 E hF
theorem BX35_ship_b60 {σo : fS} {q : Unit × fS} {N : Nat} {SL : Int → Int → Int → fS → Option (Int × fS)} {K16 : Int → Int → fS → Option (Unit × fS)} (hsL : ∀ {s : fS} {x1 : Int} {x2 : Int} {x3 : Int} {q}, bS 1 s → SL x1 x2 x3 s = some q → bE 1 s q.2) (hk16 : ∀ {s : fS} {l1 : Int} {l3 : Int}, bE 1 σo s → K16 l1 l3 s = some q → bE 1 σo q.2) {s : fS} {l1 : Int} {l3 : Int} (E : bE 1 σo s) (hF : FX35_ship_b60 N SL K16 l1 l3 s = some q) : bE 1 σo q.2 := by
  unfold FX35_ship_b60 at hF
  exact BX35_ship_b61 (N := N) (SL := SL) (K16 := K16) @hsL @hk16 E hF
theorem BX35_ship_b88 {σo : fS} {q : Unit × fS} {N : Nat} {SL : Int → Int → Int → fS → Option (Int × fS)} (hsL : ∀ {s : fS} {x1 : Int} {x2 : Int} {x3 : Int} {q}, bS 1 s → SL x1 x2 x3 s = some q → bE 1 s q.2) {s : fS} (E : bE 1 σo s) (hF : FX35_ship_b88 N SL s = some q) : bE 1 σo q.2 := by
  unfold FX35_ship_b88 at hF
  refine b_call E (fun _ hq => (BX35_fail (bE.rf E.S) hq)) hF (fun _ hq2 D2 E2 hF => ?_)
  exact b_ret E2 hF
theorem BX35_ship_b299 {σo : fS} {q : Unit × fS} {N : Nat} {SL : Int → Int → Int → fS → Option (Int × fS)} {K122 : Int → fS → Option (Unit × fS)} (hsL : ∀ {s : fS} {x1 : Int} {x2 : Int} {x3 : Int} {q}, bS 1 s → SL x1 x2 x3 s = some q → bE 1 s q.2) (hk122 : ∀ {s : fS} {l3 : Int}, bE 1 σo s → K122 l3 s = some q → bE 1 σo q.2) {s : fS} {l3 : Int} {s1 : Int} {s2 : Int} (E : bE 1 σo s) (hF : FX35_ship_b299 N SL K122 l3 s1 s2 s = some q) : bE 1 σo q.2 := by
  unfold FX35_ship_b299 at hF
  refine b_qI E (E.S.m1 (Nat.le_of_ble_eq_true rfl) (Nat.le_of_ble_eq_true rfl)) hF (fun _ D1 E1 hF => ?_)
  exact hk122 E1 hF
theorem BX35_ship_b274 {σo : fS} {q : Unit × fS} {N : Nat} {SL : Int → Int → Int → fS → Option (Int × fS)} {K122 : Int → fS → Option (Unit × fS)} (hsL : ∀ {s : fS} {x1 : Int} {x2 : Int} {x3 : Int} {q}, bS 1 s → SL x1 x2 x3 s = some q → bE 1 s q.2) (hk122 : ∀ {s : fS} {l3 : Int}, bE 1 σo s → K122 l3 s = some q → bE 1 σo q.2) {s : fS} {l3 : Int} {l4 : Int} {s1 : Int} {s2 : Int} (E : bE 1 σo s) (hF : FX35_ship_b274 N SL K122 l3 l4 s1 s2 s = some q) : bE 1 σo q.2 := by
  unfold FX35_ship_b274 at hF
  refine b_qI E (E.S.m1 (Nat.le_of_ble_eq_true rfl) (Nat.le_of_ble_eq_true rfl)) hF (fun _ D1 E1 hF => ?_)
  refine b_if hF (fun hF => ?_) (fun hF => ?_)
  ·
    refine b_rv hF (fun _ hF => ?_)
    exact BX35_ship_b299 (N := N) (SL := SL) (K122 := K122) @hsL @hk122 E1 hF
  ·
    exact BX35_ship_b299 (N := N) (SL := SL) (K122 := K122) @hsL @hk122 E1 hF
theorem BX35_ship_b242 {σo : fS} {q : Unit × fS} {N : Nat} {SL : Int → Int → Int → fS → Option (Int × fS)} {K122 : Int → fS → Option (Unit × fS)} (hsL : ∀ {s : fS} {x1 : Int} {x2 : Int} {x3 : Int} {q}, bS 1 s → SL x1 x2 x3 s = some q → bE 1 s q.2) (hk122 : ∀ {s : fS} {l3 : Int}, bE 1 σo s → K122 l3 s = some q → bE 1 σo q.2) {s : fS} {l3 : Int} {l4 : Int} {s1 : Int} {s2 : Int} (E : bE 1 σo s) (hF : FX35_ship_b242 N SL K122 l3 l4 s1 s2 s = some q) : bE 1 σo q.2 := by
  unfold FX35_ship_b242 at hF
  refine b_qI E (E.S.m1 (Nat.le_of_ble_eq_true rfl) (Nat.le_of_ble_eq_true rfl)) hF (fun _ D1 E1 hF => ?_)
  refine b_if hF (fun hF => ?_) (fun hF => ?_)
  ·
    exact BX35_ship_b274 (N := N) (SL := SL) (K122 := K122) @hsL @hk122 E1 hF
  ·
    refine b_rv hF (fun _ hF => ?_)
    refine b_rv hF (fun _ hF => ?_)
    exact BX35_ship_b274 (N := N) (SL := SL) (K122 := K122) @hsL @hk122 E1 hF
theorem BX35_ship_b190 {σo : fS} {q : Unit × fS} {N : Nat} {SL : Int → Int → Int → fS → Option (Int × fS)} {K122 : Int → fS → Option (Unit × fS)} (hsL : ∀ {s : fS} {x1 : Int} {x2 : Int} {x3 : Int} {q}, bS 1 s → SL x1 x2 x3 s = some q → bE 1 s q.2) (hk122 : ∀ {s : fS} {l3 : Int}, bE 1 σo s → K122 l3 s = some q → bE 1 σo q.2) {s : fS} {l3 : Int} {l4 : Int} {s1 : Int} {s2 : Int} (E : bE 1 σo s) (hF : FX35_ship_b190 N SL K122 l3 l4 s1 s2 s = some q) : bE 1 σo q.2 := by
  unfold FX35_ship_b190 at hF
  refine b_qI E (E.S.m1 (Nat.le_of_ble_eq_true rfl) (Nat.le_of_ble_eq_true rfl)) hF (fun _ D1 E1 hF => ?_)
  refine b_rv hF (fun _ hF => ?_)
  refine b_qI E1 (E1.S.m1 (Nat.le_of_ble_eq_true rfl) (Nat.le_of_ble_eq_true rfl)) hF (fun _ D6 E6 hF => ?_)
  refine b_if hF (fun hF => ?_) (fun hF => ?_)
  ·
    refine b_rv hF (fun _ hF => ?_)
    exact BX35_ship_b242 (N := N) (SL := SL) (K122 := K122) @hsL @hk122 E6 hF
  ·
    refine b_rv hF (fun _ hF => ?_)
    refine b_rv hF (fun _ hF => ?_)
    exact BX35_ship_b242 (N := N) (SL := SL) (K122 := K122) @hsL @hk122 E6 hF
theorem BX35_ship_b144 {σo : fS} {q : Unit × fS} {N : Nat} {SL : Int → Int → Int → fS → Option (Int × fS)} {K122 : Int → fS → Option (Unit × fS)} (hsL : ∀ {s : fS} {x1 : Int} {x2 : Int} {x3 : Int} {q}, bS 1 s → SL x1 x2 x3 s = some q → bE 1 s q.2) (hk122 : ∀ {s : fS} {l3 : Int}, bE 1 σo s → K122 l3 s = some q → bE 1 σo q.2) {s : fS} {l3 : Int} {s0 : Int} (E : bE 1 σo s) (hF : FX35_ship_b144 N SL K122 l3 s0 s = some q) : bE 1 σo q.2 := by
  unfold FX35_ship_b144 at hF
  refine b_rv hF (fun _ hF => ?_)
  refine b_qI E (E.S.m1 (Nat.le_of_ble_eq_true rfl) (Nat.le_of_ble_eq_true rfl)) hF (fun _ D5 E5 hF => ?_)
  refine b_if hF (fun hF => ?_) (fun hF => ?_)
  ·
    refine b_rv hF (fun _ hF => ?_)
    exact BX35_ship_b190 (N := N) (SL := SL) (K122 := K122) @hsL @hk122 E5 hF
  ·
    refine b_rv hF (fun _ hF => ?_)
    exact BX35_ship_b190 (N := N) (SL := SL) (K122 := K122) @hsL @hk122 E5 hF
theorem BX35_ship_b406 {σo : fS} {q : Unit × fS} {N : Nat} {SL : Int → Int → Int → fS → Option (Int × fS)} (hsL : ∀ {s : fS} {x1 : Int} {x2 : Int} {x3 : Int} {q}, bS 1 s → SL x1 x2 x3 s = some q → bE 1 s q.2) {s : fS} (E : bE 1 σo s) (hF : FX35_ship_b406 N SL s = some q) : bE 1 σo q.2 := by
  unfold FX35_ship_b406 at hF
  exact b_ret E hF
theorem BX35_ship_b309 {σo : fS} {q : Unit × fS} {N : Nat} {SL : Int → Int → Int → fS → Option (Int × fS)} (hsL : ∀ {s : fS} {x1 : Int} {x2 : Int} {x3 : Int} {q}, bS 1 s → SL x1 x2 x3 s = some q → bE 1 s q.2) : ∀ {n : Nat} {s : fS} {l3 : Int}, bE 1 σo s → FX35_ship_b309 N SL n l3 s = some q → bE 1 σo q.2 := by
  intro n
  induction n with
  | zero => intro s l3 E  hF; simp [FX35_ship_b309] at hF
  | succ n ih =>
    intro s l3 E  hF
    rw [FX35_ship_b309] at hF
    refine b_if hF (fun hF => ?_) (fun hF => ?_)
    ·
      refine b_call E (fun _ hq => (BX38_fits (N := N) (bE.rf E.S) hq)) hF (fun _ hq3 D3 E3 hF => ?_)
      refine b_if hF (fun hF => ?_) (fun hF => ?_)
      ·
        refine b_call E3 (fun _ hq => (BX35_counter (bE.rf E3.S) hq)) hF (fun _ hq5 D5 E5 hF => ?_)
        refine b_if hF (fun hF => ?_) (fun hF => ?_)
        ·
          refine b_call E5 (fun _ hq => (BX38_ship (N := N) (bE.rf E5.S) hq)) hF (fun _ hq8 D8 E8 hF => ?_)
          refine b_pI E8 (E8.S.m1 (Nat.le_of_ble_eq_true rfl) (Nat.le_of_ble_eq_true rfl)) hF (fun _ D10 E10 hF => ?_)
          refine b_call E10 (fun _ hq => (BX35_counter (bE.rf E10.S) hq)) hF (fun _ hq12 D12 E12 hF => ?_)
          refine b_call E12 (fun _ hq => (BX35_setAt (N := N) (bE.rf E12.S) hq)) hF (fun _ hq14 D14 E14 hF => ?_)
          exact BX35_ship_b406 (N := N) (SL := SL) @hsL E14 hF
        ·
          refine b_call E5 (fun _ hq => (BX35_fail (bE.rf E5.S) hq)) hF (fun _ hq16 D16 E16 hF => ?_)
          exact BX35_ship_b406 (N := N) (SL := SL) @hsL E16 hF
      ·
        refine b_call E3 (fun _ hq => (BX35_fail (bE.rf E3.S) hq)) hF (fun _ hq18 D18 E18 hF => ?_)
        exact BX35_ship_b406 (N := N) (SL := SL) @hsL E18 hF
    ·
      refine b_call E (fun _ hq => (BX35_counter (bE.rf E.S) hq)) hF (fun _ hq22 D22 E22 hF => ?_)
      refine b_qI E22 (E22.S.m1 (Nat.le_of_ble_eq_true rfl) (Nat.le_of_ble_eq_true rfl)) hF (fun _ D23 E23 hF => ?_)
      exact ih E23 hF
theorem BX35_ship_b122 {σo : fS} {q : Unit × fS} {N : Nat} {SL : Int → Int → Int → fS → Option (Int × fS)} (hsL : ∀ {s : fS} {x1 : Int} {x2 : Int} {x3 : Int} {q}, bS 1 s → SL x1 x2 x3 s = some q → bE 1 s q.2) : ∀ {n : Nat} {s : fS} {l3 : Int}, bE 1 σo s → FX35_ship_b122 N SL n l3 s = some q → bE 1 σo q.2 := by
  intro n
  induction n with
  | zero => intro s l3 E  hF; simp [FX35_ship_b122] at hF
  | succ n ih =>
    intro s l3 E  hF
    rw [FX35_ship_b122] at hF
    refine b_if hF (fun hF => ?_) (fun hF => ?_)
    ·
      exact BX35_ship_b309 (N := N) (SL := SL) @hsL E hF
    ·
      refine b_rv hF (fun _ hF => ?_)
      refine b_if hF (fun hF => ?_) (fun hF => ?_)
      ·
        exact BX35_ship_b144 (N := N) (SL := SL) (K122 := FX35_ship_b122 N SL n) @hsL @ih E hF
      ·
        exact BX35_ship_b144 (N := N) (SL := SL) (K122 := FX35_ship_b122 N SL n) @hsL @ih E hF
theorem BX35_ship_b16 {σo : fS} {q : Unit × fS} {N : Nat} {SL : Int → Int → Int → fS → Option (Int × fS)} (hsL : ∀ {s : fS} {x1 : Int} {x2 : Int} {x3 : Int} {q}, bS 1 s → SL x1 x2 x3 s = some q → bE 1 s q.2) : ∀ {n : Nat} {s : fS} {l1 : Int} {l3 : Int}, bE 1 σo s → FX35_ship_b16 N SL n l1 l3 s = some q → bE 1 σo q.2 := by
  intro n
  induction n with
  | zero => intro s l1 l3 E  hF; simp [FX35_ship_b16] at hF
  | succ n ih =>
    intro s l1 l3 E  hF
    rw [FX35_ship_b16] at hF
    refine b_if hF (fun hF => ?_) (fun hF => ?_)
    ·
      refine b_pI E (E.S.m1 (Nat.le_of_ble_eq_true rfl) (Nat.le_of_ble_eq_true rfl)) hF (fun _ D2 E2 hF => ?_)
      refine b_if hF (fun hF => ?_) (fun hF => ?_)
      ·
        exact BX35_ship_b88 (N := N) (SL := SL) @hsL E2 hF
      ·
        refine b_call E2 (fun _ hq => (BX35_layPage (N := N) (SL := SL) @hsL (bE.rf E2.S) hq)) hF (fun _ hq4 D4 E4 hF => ?_)
        refine b_if hF (fun hF => ?_) (fun hF => ?_)
        ·
          refine b_call E4 (fun _ hq => (BX35_areNear (N := N) (bE.rf E4.S) hq)) hF (fun _ hq6 D6 E6 hF => ?_)
          refine b_if hF (fun hF => ?_) (fun hF => ?_)
          ·
            refine b_pI E6 (E6.S.m1 (Nat.le_of_ble_eq_true rfl) (Nat.le_of_ble_eq_true rfl)) hF (fun _ D9 E9 hF => ?_)
            exact BX35_ship_b122 (N := N) (SL := SL) @hsL E9 hF
          ·
            refine b_call E6 (fun _ hq => (BX35_fail (bE.rf E6.S) hq)) hF (fun _ hq11 D11 E11 hF => ?_)
            exact b_ret E11 hF
        ·
          exact BX35_ship_b88 (N := N) (SL := SL) @hsL E4 hF
    ·
      refine b_rv hF (fun _ hF => ?_)
      refine b_if hF (fun hF => ?_) (fun hF => ?_)
      ·
        exact BX35_ship_b60 (N := N) (SL := SL) (K16 := FX35_ship_b16 N SL n) @hsL @ih E hF
      ·
        refine b_rv hF (fun _ hF => ?_)
        refine b_if hF (fun hF => ?_) (fun hF => ?_)
        ·
          exact BX35_ship_b60 (N := N) (SL := SL) (K16 := FX35_ship_b16 N SL n) @hsL @ih E hF
        ·
          refine b_rv hF (fun _ hF => ?_)
          refine b_rv hF (fun _ hF => ?_)
          exact BX35_ship_b61 (N := N) (SL := SL) (K16 := FX35_ship_b16 N SL n) @hsL @ih E hF
theorem BX35_ship {σo : fS} {q : Unit × fS} {N : Nat} {SL : Int → Int → Int → fS → Option (Int × fS)} (hsL : ∀ {s : fS} {x1 : Int} {x2 : Int} {x3 : Int} {q}, bS 1 s → SL x1 x2 x3 s = some q → bE 1 s q.2) {s : fS} (E : bE 1 σo s) (hF : FX35_ship N SL s = some q) : bE 1 σo q.2 := by
  unfold FX35_ship at hF
  exact BX35_ship_b16 (N := N) (SL := SL) @hsL E hF
theorem BX35_goOn_b42 {σo : fS} {q : Unit × fS} {N : Nat} {SL : Int → Int → Int → fS → Option (Int × fS)} (hsL : ∀ {s : fS} {x1 : Int} {x2 : Int} {x3 : Int} {q}, bS 1 s → SL x1 x2 x3 s = some q → bE 1 s q.2) {s : fS} (E : bE 1 σo s) (hF : FX35_goOn_b42 N SL s = some q) : bE 1 σo q.2 := by
  unfold FX35_goOn_b42 at hF
  exact b_ret E hF
theorem BX35_goOn_b4 {σo : fS} {q : Unit × fS} {N : Nat} {SL : Int → Int → Int → fS → Option (Int × fS)} (hsL : ∀ {s : fS} {x1 : Int} {x2 : Int} {x3 : Int} {q}, bS 1 s → SL x1 x2 x3 s = some q → bE 1 s q.2) : ∀ {n : Nat} {s : fS} , bE 1 σo s → FX35_goOn_b4 N SL n s = some q → bE 1 σo q.2 := by
  intro n
  induction n with
  | zero => intro s  E  hF; simp [FX35_goOn_b4] at hF
  | succ n ih =>
    intro s  E  hF
    rw [FX35_goOn_b4] at hF
    refine b_if hF (fun hF => ?_) (fun hF => ?_)
    ·
      exact BX35_goOn_b42 (N := N) (SL := SL) @hsL E hF
    ·
      refine b_call E (fun _ hq => (BX35_breaks (N := N) (bE.rf E.S) hq)) hF (fun _ hq3 D3 E3 hF => ?_)
      refine b_if hF (fun hF => ?_) (fun hF => ?_)
      ·
        exact BX35_goOn_b42 (N := N) (SL := SL) @hsL E3 hF
      ·
        refine b_call E3 (fun _ hq => (BX35_ship (N := N) (SL := SL) @hsL (bE.rf E3.S) hq)) hF (fun _ hq5 D5 E5 hF => ?_)
        refine b_pI E5 (E5.S.m1 (Nat.le_of_ble_eq_true rfl) (Nat.le_of_ble_eq_true rfl)) hF (fun _ D7 E7 hF => ?_)
        refine b_pZ E7 (E7.S.m1 (Nat.le_of_ble_eq_true rfl) (Nat.le_of_ble_eq_true rfl)) hF (fun _ D8 E8 hF => ?_)
        refine b_call E8 (fun _ hq => (BX35_openPage (N := N) (bE.rf E8.S) hq)) hF (fun _ hq10 D10 E10 hF => ?_)
        exact ih E10 hF
theorem BX35_goOn {σo : fS} {q : Unit × fS} {N : Nat} {SL : Int → Int → Int → fS → Option (Int × fS)} (hsL : ∀ {s : fS} {x1 : Int} {x2 : Int} {x3 : Int} {q}, bS 1 s → SL x1 x2 x3 s = some q → bE 1 s q.2) {s : fS} (E : bE 1 σo s) (hF : FX35_goOn N SL s = some q) : bE 1 σo q.2 := by
  unfold FX35_goOn at hF
  refine b_call E (fun _ hq => (BX35_openPage (N := N) (bE.rf E.S) hq)) hF (fun _ hq2 D2 E2 hF => ?_)
  exact BX35_goOn_b4 (N := N) (SL := SL) @hsL E2 hF
theorem BX35_outer {σo : fS} {q : Unit × fS} {N : Nat} {SL : Int → Int → Int → fS → Option (Int × fS)} (hsL : ∀ {s : fS} {x1 : Int} {x2 : Int} {x3 : Int} {q}, bS 1 s → SL x1 x2 x3 s = some q → bE 1 s q.2) {s : fS} {p0 : Int} {p1 : Int} {p2 : Int} {p3 : Int} {p4 : Int} {p5 : Int} {p6 : Int} (E : bE 1 σo s) (hF : FX35_outer N SL p0 p1 p2 p3 p4 p5 p6 s = some q) : bE 1 σo q.2 := by
  unfold FX35_outer at hF
  refine b_if hF (fun hF => ?_) (fun hF => ?_)
  ·
    refine b_if hF (fun hF => ?_) (fun hF => ?_)
    ·
      refine b_qI E (E.S.m1 (Nat.le_of_ble_eq_true rfl) (Nat.le_of_ble_eq_true rfl)) hF (fun _ D5 E5 hF => ?_)
      refine b_qI E5 (E5.S.m1 (Nat.le_of_ble_eq_true rfl) (Nat.le_of_ble_eq_true rfl)) hF (fun _ D8 E8 hF => ?_)
      refine b_qI E8 (E8.S.m1 (Nat.le_of_ble_eq_true rfl) (Nat.le_of_ble_eq_true rfl)) hF (fun _ D11 E11 hF => ?_)
      refine b_qI E11 (E11.S.m1 (Nat.le_of_ble_eq_true rfl) (Nat.le_of_ble_eq_true rfl)) hF (fun _ D14 E14 hF => ?_)
      refine b_qI E14 (E14.S.m1 (Nat.le_of_ble_eq_true rfl) (Nat.le_of_ble_eq_true rfl)) hF (fun _ D17 E17 hF => ?_)
      refine b_qI E17 (E17.S.m1 (Nat.le_of_ble_eq_true rfl) (Nat.le_of_ble_eq_true rfl)) hF (fun _ D20 E20 hF => ?_)
      refine b_qI E20 (E20.S.m1 (Nat.le_of_ble_eq_true rfl) (Nat.le_of_ble_eq_true rfl)) hF (fun _ D23 E23 hF => ?_)
      refine b_pI E23 (E23.S.m1 (Nat.le_of_ble_eq_true rfl) (Nat.le_of_ble_eq_true rfl)) hF (fun _ D25 E25 hF => ?_)
      refine b_call E25 (fun _ hq => (BX35_goOn (N := N) (SL := SL) @hsL (bE.rf E25.S) hq)) hF (fun _ hq27 D27 E27 hF => ?_)
      exact b_ret E27 hF
    ·
      refine b_call E (fun _ hq => (BX35_fail (bE.rf E.S) hq)) hF (fun _ hq29 D29 E29 hF => ?_)
      exact b_ret E29 hF
  ·
    exact b_ret E hF
theorem BX35_wider_b9 {σo : fS} {q : Nat × fS} {N : Nat} : ∀ {n : Nat} {s : fS} {l1 : Nat} {l2 : Int}, bE 1 σo s → bO 1 s l1 → FX35_wider_b9 N n l1 l2 s = some q → bE 1 σo q.2 ∧ bO 1 q.2 q.1 := by
  intro n
  induction n with
  | zero => intro s l1 l2 E ol1 hF; simp [FX35_wider_b9] at hF
  | succ n ih =>
    intro s l1 l2 E ol1 hF
    rw [FX35_wider_b9] at hF
    refine b_if hF (fun hF => ?_) (fun hF => ?_)
    ·
      exact ⟨b_ret E hF, by cases hF; exact ol1⟩
    ·
      refine b_rv hF (fun _ hF => ?_)
      refine b_KA hF (fun hF => ?_)
      refine b_qI E ol1 hF (fun _ D3 E3 hF => ?_)
      exact ih E3 (ol1.up D3) hF
theorem BX35_wider {σo : fS} {q : Nat × fS} {N : Nat} {s : fS} (E : bE 1 σo s) (hF : FX35_wider N s = some q) : bE 1 σo q.2 ∧ bO 1 q.2 q.1 := by
  unfold FX35_wider at hF
  refine b_nA E hF (fun _ D2 E2 o2 hF => ?_)
  exact BX35_wider_b9 (N := N) E2 o2 hF
theorem BX35_item_b52 {σo : fS} {q : Unit × fS} {N : Nat} {s : fS} {l1 : Int} {l2 : Int} {l3 : Int} {l4 : Int} {l5 : Int} {l6 : Int} (E : bE 1 σo s) (hF : FX35_item_b52 N l1 l2 l3 l4 l5 l6 s = some q) : bE 1 σo q.2 := by
  unfold FX35_item_b52 at hF
  refine b_qI E E.S.p1 hF (fun _ D3 E3 hF => ?_)
  refine b_qI E3 E3.S.p1 hF (fun _ D6 E6 hF => ?_)
  refine b_qI E6 E6.S.p1 hF (fun _ D9 E9 hF => ?_)
  refine b_qI E9 E9.S.p1 hF (fun _ D12 E12 hF => ?_)
  refine b_qI E12 E12.S.p1 hF (fun _ D15 E15 hF => ?_)
  refine b_qI E15 E15.S.p1 hF (fun _ D18 E18 hF => ?_)
  refine b_pI E18 (E18.S.m1 (Nat.le_of_ble_eq_true rfl) (Nat.le_of_ble_eq_true rfl)) hF (fun _ D20 E20 hF => ?_)
  exact b_ret E20 hF
theorem BX35_item_b15 {σo : fS} {q : Unit × fS} {N : Nat} {s : fS} {l1 : Int} {l2 : Int} {l3 : Int} {l4 : Int} {l5 : Int} {l6 : Int} (E : bE 1 σo s) (hF : FX35_item_b15 N l1 l2 l3 l4 l5 l6 s = some q) : bE 1 σo q.2 := by
  unfold FX35_item_b15 at hF
  refine b_if hF (fun hF => ?_) (fun hF => ?_)
  ·
    refine b_if hF (fun hF => ?_) (fun hF => ?_)
    ·
      exact BX35_item_b52 (N := N) E hF
    ·
      refine b_call E (fun _ hq => (BX35_wider (N := N) (bE.rf E.S) hq).1) hF (fun _ hq6 D6 E6 hF => ?_)
      refine b_mv E6 E6.S.p1 (BX35_wider (N := N) (bE.rf E.S) hq6).2 hF (fun _ D7 E7 hF => ?_)
      exact BX35_item_b52 (N := N) E7 hF
  ·
    exact b_ret E hF
theorem BX35_item {σo : fS} {q : Unit × fS} {N : Nat} {s : fS} {p0 : Int} {p1 : Int} {p2 : Int} {p3 : Int} {p4 : Int} {p5 : Int} (E : bE 1 σo s) (hF : FX35_item N p0 p1 p2 p3 p4 p5 s = some q) : bE 1 σo q.2 := by
  unfold FX35_item at hF
  refine b_if hF (fun hF => ?_) (fun hF => ?_)
  ·
    exact BX35_item_b15 (N := N) E hF
  ·
    refine b_call E (fun _ hq => (BX35_fail (bE.rf E.S) hq)) hF (fun _ hq3 D3 E3 hF => ?_)
    exact BX35_item_b15 (N := N) E3 hF
theorem BX35_glueItem_b41 {σo : fS} {q : Unit × fS} {N : Nat} {SL : Int → Int → Int → fS → Option (Int × fS)} (hsL : ∀ {s : fS} {x1 : Int} {x2 : Int} {x3 : Int} {q}, bS 1 s → SL x1 x2 x3 s = some q → bE 1 s q.2) {s : fS} (E : bE 1 σo s) (hF : FX35_glueItem_b41 N SL s = some q) : bE 1 σo q.2 := by
  unfold FX35_glueItem_b41 at hF
  exact b_ret E hF
theorem BX35_glueItem_b35 {σo : fS} {q : Unit × fS} {N : Nat} {SL : Int → Int → Int → fS → Option (Int × fS)} (hsL : ∀ {s : fS} {x1 : Int} {x2 : Int} {x3 : Int} {q}, bS 1 s → SL x1 x2 x3 s = some q → bE 1 s q.2) {s : fS} {l4 : Int} {s1 : Int} {s2 : Int} {s3 : Int} {s4 : Int} (E : bE 1 σo s) (hF : FX35_glueItem_b35 N SL l4 s1 s2 s3 s4 s = some q) : bE 1 σo q.2 := by
  unfold FX35_glueItem_b35 at hF
  refine b_call E (fun _ hq => (BX35_item (N := N) (bE.rf E.S) hq)) hF (fun _ hq2 D2 E2 hF => ?_)
  exact BX35_glueItem_b41 (N := N) (SL := SL) @hsL E2 hF
theorem BX35_glueItem {σo : fS} {q : Unit × fS} {N : Nat} {SL : Int → Int → Int → fS → Option (Int × fS)} (hsL : ∀ {s : fS} {x1 : Int} {x2 : Int} {x3 : Int} {q}, bS 1 s → SL x1 x2 x3 s = some q → bE 1 s q.2) {s : fS} {p0 : Int} {p1 : Int} {p2 : Int} {p3 : Int} (E : bE 1 σo s) (hF : FX35_glueItem N SL p0 p1 p2 p3 s = some q) : bE 1 σo q.2 := by
  unfold FX35_glueItem at hF
  refine b_call E (fun _ hq => (BX35_mode (bE.rf E.S) hq)) hF (fun _ hq2 D2 E2 hF => ?_)
  refine b_if hF (fun hF => ?_) (fun hF => ?_)
  ·
    refine b_if hF (fun hF => ?_) (fun hF => ?_)
    ·
      exact BX35_glueItem_b35 (N := N) (SL := SL) @hsL E2 hF
    ·
      exact BX35_glueItem_b35 (N := N) (SL := SL) @hsL E2 hF
  ·
    refine b_call E2 (fun _ hq => (BX35_outer (N := N) (SL := SL) @hsL (bE.rf E2.S) hq)) hF (fun _ hq4 D4 E4 hF => ?_)
    exact BX35_glueItem_b41 (N := N) (SL := SL) @hsL E4 hF
theorem BX35_glueOf {σo : fS} {q : Unit × fS} {N : Nat} {SL : Int → Int → Int → fS → Option (Int × fS)} (hsL : ∀ {s : fS} {x1 : Int} {x2 : Int} {x3 : Int} {q}, bS 1 s → SL x1 x2 x3 s = some q → bE 1 s q.2) {s : fS} {p0 : Int} (E : bE 1 σo s) (hF : FX35_glueOf N SL p0 s = some q) : bE 1 σo q.2 := by
  unfold FX35_glueOf at hF
  refine b_call E (fun _ hq => (BX35_now (bE.rf E.S) hq)) hF (fun _ hq2 D2 E2 hF => ?_)
  refine b_call E2 (fun _ hq => (BX35_now (bE.rf E2.S) hq)) hF (fun _ hq4 D4 E4 hF => ?_)
  refine b_call E4 (fun _ hq => (BX35_now (bE.rf E4.S) hq)) hF (fun _ hq6 D6 E6 hF => ?_)
  refine b_call E6 (fun _ hq => (BX35_now (bE.rf E6.S) hq)) hF (fun _ hq8 D8 E8 hF => ?_)
  refine b_call E8 (fun _ hq => (BX35_glueItem (N := N) (SL := SL) @hsL (bE.rf E8.S) hq)) hF (fun _ hq10 D10 E10 hF => ?_)
  exact b_ret E10 hF
theorem BX35_openList {σo : fS} {q : Unit × fS} {s : fS} {p0 : Int} (E : bE 1 σo s) (hF : FX35_openList p0 s = some q) : bE 1 σo q.2 := by
  unfold FX35_openList at hF
  refine b_qI E (E.S.m1 (Nat.le_of_ble_eq_true rfl) (Nat.le_of_ble_eq_true rfl)) hF (fun _ D3 E3 hF => ?_)
  refine b_qI E3 (E3.S.m1 (Nat.le_of_ble_eq_true rfl) (Nat.le_of_ble_eq_true rfl)) hF (fun _ D7 E7 hF => ?_)
  refine b_qI E7 (E7.S.m1 (Nat.le_of_ble_eq_true rfl) (Nat.le_of_ble_eq_true rfl)) hF (fun _ D10 E10 hF => ?_)
  refine b_pI E10 (E10.S.m1 (Nat.le_of_ble_eq_true rfl) (Nat.le_of_ble_eq_true rfl)) hF (fun _ D12 E12 hF => ?_)
  exact b_ret E12 hF
theorem BX35_setGlue_b85 {σo : fS} {q : Unit × fS} {N : Nat} {K39 : Int → Int → Int → fS → Option (Unit × fS)} (hk39 : ∀ {s : fS} {l1 : Int} {l2 : Int} {l4 : Int}, bE 1 σo s → K39 l1 l2 l4 s = some q → bE 1 σo q.2) {s : fS} {l1 : Int} {l2 : Int} {l4 : Int} (E : bE 1 σo s) (hF : FX35_setGlue_b85 N K39 l1 l2 l4 s = some q) : bE 1 σo q.2 := by
  unfold FX35_setGlue_b85 at hF
  exact hk39 E hF
theorem BX35_setGlue_b162 {σo : fS} {q : Unit × fS} {N : Nat} {s : fS} {s1 : Int} (E : bE 1 σo s) (hF : FX35_setGlue_b162 N s1 s = some q) : bE 1 σo q.2 := by
  unfold FX35_setGlue_b162 at hF
  refine b_pI E (E.S.m1 (Nat.le_of_ble_eq_true rfl) (Nat.le_of_ble_eq_true rfl)) hF (fun _ D1 E1 hF => ?_)
  exact b_ret E1 hF
theorem BX35_setGlue_b142 {σo : fS} {q : Unit × fS} {N : Nat} {s : fS} {l4 : Int} {s1 : Int} {s2 : Int} (E : bE 1 σo s) (hF : FX35_setGlue_b142 N l4 s1 s2 s = some q) : bE 1 σo q.2 := by
  unfold FX35_setGlue_b142 at hF
  refine b_qI E (E.S.m1 (Nat.le_of_ble_eq_true rfl) (Nat.le_of_ble_eq_true rfl)) hF (fun _ D1 E1 hF => ?_)
  refine b_if hF (fun hF => ?_) (fun hF => ?_)
  ·
    exact BX35_setGlue_b162 (N := N) E1 hF
  ·
    exact BX35_setGlue_b162 (N := N) E1 hF
theorem BX35_setGlue_b115 {σo : fS} {q : Unit × fS} {N : Nat} {s : fS} {l1 : Int} {l2 : Int} {s0 : Int} (E : bE 1 σo s) (hF : FX35_setGlue_b115 N l1 l2 s0 s = some q) : bE 1 σo q.2 := by
  unfold FX35_setGlue_b115 at hF
  refine b_if hF (fun hF => ?_) (fun hF => ?_)
  ·
    exact BX35_setGlue_b142 (N := N) E hF
  ·
    refine b_rv hF (fun _ hF => ?_)
    exact BX35_setGlue_b142 (N := N) E hF
theorem BX35_setGlue_b114 {σo : fS} {q : Unit × fS} {N : Nat} {s : fS} {l1 : Int} {l2 : Int} (E : bE 1 σo s) (hF : FX35_setGlue_b114 N l1 l2 s = some q) : bE 1 σo q.2 := by
  unfold FX35_setGlue_b114 at hF
  exact BX35_setGlue_b115 (N := N) E hF
theorem BX35_setGlue_b91 {σo : fS} {q : Unit × fS} {N : Nat} {s : fS} {l1 : Int} {l2 : Int} (E : bE 1 σo s) (hF : FX35_setGlue_b91 N l1 l2 s = some q) : bE 1 σo q.2 := by
  unfold FX35_setGlue_b91 at hF
  refine b_if hF (fun hF => ?_) (fun hF => ?_)
  ·
    exact BX35_setGlue_b114 (N := N) E hF
  ·
    refine b_rv hF (fun _ hF => ?_)
    refine b_if hF (fun hF => ?_) (fun hF => ?_)
    ·
      exact BX35_setGlue_b114 (N := N) E hF
    ·
      exact BX35_setGlue_b115 (N := N) E hF
theorem BX35_setGlue_b39 {σo : fS} {q : Unit × fS} {N : Nat} : ∀ {n : Nat} {s : fS} {l1 : Int} {l2 : Int} {l4 : Int}, bE 1 σo s → FX35_setGlue_b39 N n l1 l2 l4 s = some q → bE 1 σo q.2 := by
  intro n
  induction n with
  | zero => intro s l1 l2 l4 E  hF; simp [FX35_setGlue_b39] at hF
  | succ n ih =>
    intro s l1 l2 l4 E  hF
    rw [FX35_setGlue_b39] at hF
    refine b_if hF (fun hF => ?_) (fun hF => ?_)
    ·
      exact BX35_setGlue_b91 (N := N) E hF
    ·
      refine b_if hF (fun hF => ?_) (fun hF => ?_)
      ·
        exact BX35_setGlue_b91 (N := N) E hF
      ·
        refine b_rv hF (fun _ hF => ?_)
        refine b_if hF (fun hF => ?_) (fun hF => ?_)
        ·
          exact BX35_setGlue_b85 (N := N) (K39 := FX35_setGlue_b39 N n) @ih E hF
        ·
          refine b_qI E (E.S.m1 (Nat.le_of_ble_eq_true rfl) (Nat.le_of_ble_eq_true rfl)) hF (fun _ D4 E4 hF => ?_)
          refine b_rv hF (fun _ hF => ?_)
          refine b_qI E4 (E4.S.m1 (Nat.le_of_ble_eq_true rfl) (Nat.le_of_ble_eq_true rfl)) hF (fun _ D8 E8 hF => ?_)
          exact BX35_setGlue_b85 (N := N) (K39 := FX35_setGlue_b39 N n) @ih E8 hF
theorem BX35_setGlue_b35 {σo : fS} {q : Unit × fS} {N : Nat} {s : fS} {l1 : Int} {l2 : Int} {s1 : Int} {s2 : Int} (E : bE 1 σo s) (hF : FX35_setGlue_b35 N l1 l2 s1 s2 s = some q) : bE 1 σo q.2 := by
  unfold FX35_setGlue_b35 at hF
  refine b_qI E (E.S.m1 (Nat.le_of_ble_eq_true rfl) (Nat.le_of_ble_eq_true rfl)) hF (fun _ D1 E1 hF => ?_)
  exact BX35_setGlue_b39 (N := N) E1 hF
theorem BX35_setGlue {σo : fS} {q : Unit × fS} {N : Nat} {s : fS} {p0 : Int} {p1 : Int} (E : bE 1 σo s) (hF : FX35_setGlue N p0 p1 s = some q) : bE 1 σo q.2 := by
  unfold FX35_setGlue at hF
  refine b_qI E (E.S.m1 (Nat.le_of_ble_eq_true rfl) (Nat.le_of_ble_eq_true rfl)) hF (fun _ D2 E2 hF => ?_)
  refine b_qI E2 (E2.S.m1 (Nat.le_of_ble_eq_true rfl) (Nat.le_of_ble_eq_true rfl)) hF (fun _ D4 E4 hF => ?_)
  refine b_if hF (fun hF => ?_) (fun hF => ?_)
  ·
    exact BX35_setGlue_b35 (N := N) E4 hF
  ·
    exact BX35_setGlue_b35 (N := N) E4 hF
theorem BX35_pack_b155 {σo : fS} {q : Int × fS} {N : Nat} {K12 : Nat → Int → Int → Int → Int → Int → Int → Int → Int → Int → fS → Option (Int × fS)} (hk12 : ∀ {s : fS} {l1 : Nat} {l2 : Int} {l3 : Int} {l4 : Int} {l5 : Int} {l6 : Int} {l7 : Int} {l8 : Int} {l9 : Int} {l11 : Int}, bE 1 σo s → bO 1 s l1 → K12 l1 l2 l3 l4 l5 l6 l7 l8 l9 l11 s = some q → bE 1 σo q.2) {s : fS} {l1 : Nat} {l2 : Int} {l3 : Int} {l4 : Int} {l5 : Int} {l6 : Int} {l7 : Int} {l8 : Int} {l11 : Int} {s0 : Int} (E : bE 1 σo s) (ol1 : bO 1 s l1) (hF : FX35_pack_b155 N K12 l1 l2 l3 l4 l5 l6 l7 l8 l11 s0 s = some q) : bE 1 σo q.2 := by
  unfold FX35_pack_b155 at hF
  exact hk12 E ol1 hF
theorem BX35_pack_b125 {σo : fS} {q : Int × fS} {N : Nat} {K12 : Nat → Int → Int → Int → Int → Int → Int → Int → Int → Int → fS → Option (Int × fS)} (hk12 : ∀ {s : fS} {l1 : Nat} {l2 : Int} {l3 : Int} {l4 : Int} {l5 : Int} {l6 : Int} {l7 : Int} {l8 : Int} {l9 : Int} {l11 : Int}, bE 1 σo s → bO 1 s l1 → K12 l1 l2 l3 l4 l5 l6 l7 l8 l9 l11 s = some q → bE 1 σo q.2) {s : fS} {l1 : Nat} {l2 : Int} {l3 : Int} {l4 : Int} {l5 : Int} {l6 : Int} {l7 : Int} {l9 : Int} {l11 : Int} {l13 : Int} {s0 : Int} (E : bE 1 σo s) (ol1 : bO 1 s l1) (hF : FX35_pack_b125 N K12 l1 l2 l3 l4 l5 l6 l7 l9 l11 l13 s0 s = some q) : bE 1 σo q.2 := by
  unfold FX35_pack_b125 at hF
  refine b_if hF (fun hF => ?_) (fun hF => ?_)
  ·
    exact BX35_pack_b155 (N := N) (K12 := K12) @hk12 E ol1 hF
  ·
    refine b_KA hF (fun hF => ?_)
    refine b_rv hF (fun _ hF => ?_)
    refine b_rv hF (fun _ hF => ?_)
    exact BX35_pack_b155 (N := N) (K12 := K12) @hk12 E ol1 hF
theorem BX35_pack_b123 {σo : fS} {q : Int × fS} {N : Nat} {K12 : Nat → Int → Int → Int → Int → Int → Int → Int → Int → Int → fS → Option (Int × fS)} (hk12 : ∀ {s : fS} {l1 : Nat} {l2 : Int} {l3 : Int} {l4 : Int} {l5 : Int} {l6 : Int} {l7 : Int} {l8 : Int} {l9 : Int} {l11 : Int}, bE 1 σo s → bO 1 s l1 → K12 l1 l2 l3 l4 l5 l6 l7 l8 l9 l11 s = some q → bE 1 σo q.2) {s : fS} {l1 : Nat} {l2 : Int} {l3 : Int} {l4 : Int} {l5 : Int} {l6 : Int} {l7 : Int} {l8 : Int} {l9 : Int} {l11 : Int} {l13 : Int} (E : bE 1 σo s) (ol1 : bO 1 s l1) (hF : FX35_pack_b123 N K12 l1 l2 l3 l4 l5 l6 l7 l8 l9 l11 l13 s = some q) : bE 1 σo q.2 := by
  unfold FX35_pack_b123 at hF
  exact BX35_pack_b125 (N := N) (K12 := K12) @hk12 E ol1 hF
theorem BX35_pack_b80 {σo : fS} {q : Int × fS} {N : Nat} {K12 : Nat → Int → Int → Int → Int → Int → Int → Int → Int → Int → fS → Option (Int × fS)} (hk12 : ∀ {s : fS} {l1 : Nat} {l2 : Int} {l3 : Int} {l4 : Int} {l5 : Int} {l6 : Int} {l7 : Int} {l8 : Int} {l9 : Int} {l11 : Int}, bE 1 σo s → bO 1 s l1 → K12 l1 l2 l3 l4 l5 l6 l7 l8 l9 l11 s = some q → bE 1 σo q.2) {s : fS} {l1 : Nat} {l2 : Int} {l3 : Int} {l4 : Int} {l5 : Int} {l6 : Int} {l7 : Int} {l8 : Int} {l9 : Int} {l11 : Int} {s0 : Int} (E : bE 1 σo s) (ol1 : bO 1 s l1) (hF : FX35_pack_b80 N K12 l1 l2 l3 l4 l5 l6 l7 l8 l9 l11 s0 s = some q) : bE 1 σo q.2 := by
  unfold FX35_pack_b80 at hF
  refine b_if hF (fun hF => ?_) (fun hF => ?_)
  ·
    exact BX35_pack_b123 (N := N) (K12 := K12) @hk12 E ol1 hF
  ·
    refine b_KA hF (fun hF => ?_)
    refine b_rv hF (fun _ hF => ?_)
    refine b_rv hF (fun _ hF => ?_)
    refine b_if hF (fun hF => ?_) (fun hF => ?_)
    ·
      exact BX35_pack_b123 (N := N) (K12 := K12) @hk12 E ol1 hF
    ·
      refine b_KA hF (fun hF => ?_)
      refine b_rv hF (fun _ hF => ?_)
      refine b_rv hF (fun _ hF => ?_)
      exact BX35_pack_b125 (N := N) (K12 := K12) @hk12 E ol1 hF
theorem BX35_pack_b62 {σo : fS} {q : Int × fS} {N : Nat} {K12 : Nat → Int → Int → Int → Int → Int → Int → Int → Int → Int → fS → Option (Int × fS)} (hk12 : ∀ {s : fS} {l1 : Nat} {l2 : Int} {l3 : Int} {l4 : Int} {l5 : Int} {l6 : Int} {l7 : Int} {l8 : Int} {l9 : Int} {l11 : Int}, bE 1 σo s → bO 1 s l1 → K12 l1 l2 l3 l4 l5 l6 l7 l8 l9 l11 s = some q → bE 1 σo q.2) {s : fS} {l1 : Nat} {l2 : Int} {l3 : Int} {l4 : Int} {l5 : Int} {l6 : Int} {l8 : Int} {l9 : Int} {l11 : Int} {s0 : Int} (E : bE 1 σo s) (ol1 : bO 1 s l1) (hF : FX35_pack_b62 N K12 l1 l2 l3 l4 l5 l6 l8 l9 l11 s0 s = some q) : bE 1 σo q.2 := by
  unfold FX35_pack_b62 at hF
  refine b_KA hF (fun hF => ?_)
  refine b_rv hF (fun _ hF => ?_)
  refine b_if hF (fun hF => ?_) (fun hF => ?_)
  ·
    exact BX35_pack_b80 (N := N) (K12 := K12) @hk12 E ol1 hF
  ·
    exact BX35_pack_b80 (N := N) (K12 := K12) @hk12 E ol1 hF
theorem BX35_pack_b46 {σo : fS} {q : Int × fS} {N : Nat} {K12 : Nat → Int → Int → Int → Int → Int → Int → Int → Int → Int → fS → Option (Int × fS)} (hk12 : ∀ {s : fS} {l1 : Nat} {l2 : Int} {l3 : Int} {l4 : Int} {l5 : Int} {l6 : Int} {l7 : Int} {l8 : Int} {l9 : Int} {l11 : Int}, bE 1 σo s → bO 1 s l1 → K12 l1 l2 l3 l4 l5 l6 l7 l8 l9 l11 s = some q → bE 1 σo q.2) {s : fS} {l1 : Nat} {l2 : Int} {l3 : Int} {l4 : Int} {l5 : Int} {l6 : Int} {l7 : Int} {l8 : Int} {l9 : Int} {l11 : Int} {s0 : Int} (E : bE 1 σo s) (ol1 : bO 1 s l1) (hF : FX35_pack_b46 N K12 l1 l2 l3 l4 l5 l6 l7 l8 l9 l11 s0 s = some q) : bE 1 σo q.2 := by
  unfold FX35_pack_b46 at hF
  refine b_if hF (fun hF => ?_) (fun hF => ?_)
  ·
    exact BX35_pack_b62 (N := N) (K12 := K12) @hk12 E ol1 hF
  ·
    exact BX35_pack_b62 (N := N) (K12 := K12) @hk12 E ol1 hF
theorem BX35_pack_b45 {σo : fS} {q : Int × fS} {N : Nat} {K12 : Nat → Int → Int → Int → Int → Int → Int → Int → Int → Int → fS → Option (Int × fS)} (hk12 : ∀ {s : fS} {l1 : Nat} {l2 : Int} {l3 : Int} {l4 : Int} {l5 : Int} {l6 : Int} {l7 : Int} {l8 : Int} {l9 : Int} {l11 : Int}, bE 1 σo s → bO 1 s l1 → K12 l1 l2 l3 l4 l5 l6 l7 l8 l9 l11 s = some q → bE 1 σo q.2) {s : fS} {l1 : Nat} {l2 : Int} {l3 : Int} {l4 : Int} {l5 : Int} {l6 : Int} {l7 : Int} {l8 : Int} {l9 : Int} {l11 : Int} (E : bE 1 σo s) (ol1 : bO 1 s l1) (hF : FX35_pack_b45 N K12 l1 l2 l3 l4 l5 l6 l7 l8 l9 l11 s = some q) : bE 1 σo q.2 := by
  unfold FX35_pack_b45 at hF
  exact BX35_pack_b46 (N := N) (K12 := K12) @hk12 E ol1 hF
theorem BX35_pack_b198 {σo : fS} {q : Int × fS} {N : Nat} {s : fS} (E : bE 1 σo s) (hF : FX35_pack_b198 N s = some q) : bE 1 σo q.2 := by
  unfold FX35_pack_b198 at hF
  refine b_call E (fun _ hq => (BX35_fail (bE.rf E.S) hq)) hF (fun _ hq2 D2 E2 hF => ?_)
  exact b_ret E2 hF
theorem BX35_pack_b306 {σo : fS} {q : Int × fS} {N : Nat} {K223 : Nat → Int → Int → Int → Int → Int → Int → Int → Int → Int → fS → Option (Int × fS)} (hk223 : ∀ {s : fS} {l1 : Nat} {l3 : Int} {l4 : Int} {l5 : Int} {l6 : Int} {l7 : Int} {l8 : Int} {l9 : Int} {l11 : Int} {l12 : Int}, bE 1 σo s → bO 1 s l1 → K223 l1 l3 l4 l5 l6 l7 l8 l9 l11 l12 s = some q → bE 1 σo q.2) {s : fS} {l1 : Nat} {l3 : Int} {l4 : Int} {l5 : Int} {l6 : Int} {l7 : Int} {l8 : Int} {l9 : Int} {l11 : Int} {l12 : Int} (E : bE 1 σo s) (ol1 : bO 1 s l1) (hF : FX35_pack_b306 N K223 l1 l3 l4 l5 l6 l7 l8 l9 l11 l12 s = some q) : bE 1 σo q.2 := by
  unfold FX35_pack_b306 at hF
  exact hk223 E ol1 hF
theorem BX35_pack_b267 {σo : fS} {q : Int × fS} {N : Nat} {K223 : Nat → Int → Int → Int → Int → Int → Int → Int → Int → Int → fS → Option (Int × fS)} (hk223 : ∀ {s : fS} {l1 : Nat} {l3 : Int} {l4 : Int} {l5 : Int} {l6 : Int} {l7 : Int} {l8 : Int} {l9 : Int} {l11 : Int} {l12 : Int}, bE 1 σo s → bO 1 s l1 → K223 l1 l3 l4 l5 l6 l7 l8 l9 l11 l12 s = some q → bE 1 σo q.2) : ∀ {n : Nat} {s : fS} {l1 : Nat} {l3 : Int} {l4 : Int} {l5 : Int} {l6 : Int} {l7 : Int} {l8 : Int} {l9 : Int} {l11 : Int} {l12 : Int} {l13 : Int}, bE 1 σo s → bO 1 s l1 → FX35_pack_b267 N K223 n l1 l3 l4 l5 l6 l7 l8 l9 l11 l12 l13 s = some q → bE 1 σo q.2 := by
  intro n
  induction n with
  | zero => intro s l1 l3 l4 l5 l6 l7 l8 l9 l11 l12 l13 E ol1 hF; simp [FX35_pack_b267] at hF
  | succ n ih =>
    intro s l1 l3 l4 l5 l6 l7 l8 l9 l11 l12 l13 E ol1 hF
    rw [FX35_pack_b267] at hF
    refine b_if hF (fun hF => ?_) (fun hF => ?_)
    ·
      exact BX35_pack_b306 (N := N) (K223 := K223) @hk223 E ol1 hF
    ·
      refine b_KA hF (fun hF => ?_)
      refine b_rv hF (fun _ hF => ?_)
      refine b_qI E (E.S.m1 (Nat.le_of_ble_eq_true rfl) (Nat.le_of_ble_eq_true rfl)) hF (fun _ D3 E3 hF => ?_)
      exact ih E3 (ol1.up D3) hF
theorem BX35_pack_b420 {σo : fS} {q : Int × fS} {N : Nat} {s : fS} (E : bE 1 σo s) (hF : FX35_pack_b420 N s = some q) : bE 1 σo q.2 := by
  unfold FX35_pack_b420 at hF
  refine b_call E (fun _ hq => (BX35_fail (bE.rf E.S) hq)) hF (fun _ hq2 D2 E2 hF => ?_)
  exact b_ret E2 hF
theorem BX35_pack_b566 {σo : fS} {q : Int × fS} {N : Nat} {s : fS} {l12 : Int} {l14 : Int} {s1 : Int} {s2 : Int} (E : bE 1 σo s) (hF : FX35_pack_b566 N l12 l14 s1 s2 s = some q) : bE 1 σo q.2 := by
  unfold FX35_pack_b566 at hF
  refine b_qI E (E.S.m1 (Nat.le_of_ble_eq_true rfl) (Nat.le_of_ble_eq_true rfl)) hF (fun _ D1 E1 hF => ?_)
  refine b_call E1 (fun _ hq => (BX35_setGlue (N := N) (bE.rf E1.S) hq)) hF (fun _ hq3 D3 E3 hF => ?_)
  exact b_ret E3 hF
theorem BX35_pack_b510 {σo : fS} {q : Int × fS} {N : Nat} {s : fS} {l7 : Int} {l8 : Int} {l9 : Int} {l12 : Int} {l14 : Int} {s1 : Int} {s2 : Int} (E : bE 1 σo s) (hF : FX35_pack_b510 N l7 l8 l9 l12 l14 s1 s2 s = some q) : bE 1 σo q.2 := by
  unfold FX35_pack_b510 at hF
  refine b_qI E (E.S.m1 (Nat.le_of_ble_eq_true rfl) (Nat.le_of_ble_eq_true rfl)) hF (fun _ D1 E1 hF => ?_)
  refine b_qI E1 (E1.S.m1 (Nat.le_of_ble_eq_true rfl) (Nat.le_of_ble_eq_true rfl)) hF (fun _ D4 E4 hF => ?_)
  refine b_qI E4 (E4.S.m1 (Nat.le_of_ble_eq_true rfl) (Nat.le_of_ble_eq_true rfl)) hF (fun _ D6 E6 hF => ?_)
  refine b_if hF (fun hF => ?_) (fun hF => ?_)
  ·
    exact BX35_pack_b566 (N := N) E6 hF
  ·
    exact BX35_pack_b566 (N := N) E6 hF
theorem BX35_pack_b486 {σo : fS} {q : Int × fS} {N : Nat} {s : fS} {l4 : Int} {l7 : Int} {l8 : Int} {l9 : Int} {l12 : Int} {l14 : Int} {s1 : Int} {s2 : Int} (E : bE 1 σo s) (hF : FX35_pack_b486 N l4 l7 l8 l9 l12 l14 s1 s2 s = some q) : bE 1 σo q.2 := by
  unfold FX35_pack_b486 at hF
  refine b_qI E (E.S.m1 (Nat.le_of_ble_eq_true rfl) (Nat.le_of_ble_eq_true rfl)) hF (fun _ D1 E1 hF => ?_)
  refine b_if hF (fun hF => ?_) (fun hF => ?_)
  ·
    exact BX35_pack_b510 (N := N) E1 hF
  ·
    exact BX35_pack_b510 (N := N) E1 hF
theorem BX35_pack_b384 {σo : fS} {q : Int × fS} {N : Nat} {s : fS} {l4 : Int} {l7 : Int} {l8 : Int} {l9 : Int} {l11 : Int} {l12 : Int} {s1 : Int} (E : bE 1 σo s) (hF : FX35_pack_b384 N l4 l7 l8 l9 l11 l12 s1 s = some q) : bE 1 σo q.2 := by
  unfold FX35_pack_b384 at hF
  refine b_pZ E (E.S.m1 (Nat.le_of_ble_eq_true rfl) (Nat.le_of_ble_eq_true rfl)) hF (fun _ D1 E1 hF => ?_)
  refine b_call E1 (fun _ hq => (BX35_grow (bE.rf E1.S) hq)) hF (fun _ hq3 D3 E3 hF => ?_)
  refine b_if hF (fun hF => ?_) (fun hF => ?_)
  ·
    exact BX35_pack_b420 (N := N) E3 hF
  ·
    refine b_call E3 (fun _ hq => (BX35_isSize (bE.rf E3.S) hq)) hF (fun _ hq6 D6 E6 hF => ?_)
    refine b_if hF (fun hF => ?_) (fun hF => ?_)
    ·
      exact BX35_pack_b420 (N := N) E6 hF
    ·
      refine b_call E6 (fun _ hq => (BX35_isSize (bE.rf E6.S) hq)) hF (fun _ hq8 D8 E8 hF => ?_)
      refine b_if hF (fun hF => ?_) (fun hF => ?_)
      ·
        refine b_pI E8 (E8.S.m1 (Nat.le_of_ble_eq_true rfl) (Nat.le_of_ble_eq_true rfl)) hF (fun _ D11 E11 hF => ?_)
        refine b_qI E11 (E11.S.m1 (Nat.le_of_ble_eq_true rfl) (Nat.le_of_ble_eq_true rfl)) hF (fun _ D14 E14 hF => ?_)
        refine b_qI E14 (E14.S.m1 (Nat.le_of_ble_eq_true rfl) (Nat.le_of_ble_eq_true rfl)) hF (fun _ D16 E16 hF => ?_)
        refine b_if hF (fun hF => ?_) (fun hF => ?_)
        ·
          exact BX35_pack_b486 (N := N) E16 hF
        ·
          exact BX35_pack_b486 (N := N) E16 hF
      ·
        exact BX35_pack_b420 (N := N) E8 hF
theorem BX35_pack_b383 {σo : fS} {q : Int × fS} {N : Nat} {s : fS} {l4 : Int} {l7 : Int} {l8 : Int} {l9 : Int} {l11 : Int} {l12 : Int} (E : bE 1 σo s) (hF : FX35_pack_b383 N l4 l7 l8 l9 l11 l12 s = some q) : bE 1 σo q.2 := by
  unfold FX35_pack_b383 at hF
  exact BX35_pack_b384 (N := N) E hF
theorem BX35_pack_b361 {σo : fS} {q : Int × fS} {N : Nat} {s : fS} {l4 : Int} {l7 : Int} {l8 : Int} {l9 : Int} {l11 : Int} {s0 : Int} (E : bE 1 σo s) (hF : FX35_pack_b361 N l4 l7 l8 l9 l11 s0 s = some q) : bE 1 σo q.2 := by
  unfold FX35_pack_b361 at hF
  refine b_if hF (fun hF => ?_) (fun hF => ?_)
  ·
    exact BX35_pack_b383 (N := N) E hF
  ·
    refine b_call E (fun _ hq => (BX35_isSize (bE.rf E.S) hq)) hF (fun _ hq2 D2 E2 hF => ?_)
    refine b_if hF (fun hF => ?_) (fun hF => ?_)
    ·
      exact BX35_pack_b383 (N := N) E2 hF
    ·
      exact BX35_pack_b384 (N := N) E2 hF
theorem BX35_pack_b329 {σo : fS} {q : Int × fS} {N : Nat} {s : fS} {l4 : Int} {l5 : Int} {l6 : Int} {l7 : Int} {l8 : Int} {l9 : Int} {l11 : Int} {s1 : Int} (E : bE 1 σo s) (hF : FX35_pack_b329 N l4 l5 l6 l7 l8 l9 l11 s1 s = some q) : bE 1 σo q.2 := by
  unfold FX35_pack_b329 at hF
  refine b_pJ E (E.S.m1 (Nat.le_of_ble_eq_true rfl) (Nat.le_of_ble_eq_true rfl)) hF (fun _ D1 E1 hF => ?_)
  refine b_if hF (fun hF => ?_) (fun hF => ?_)
  ·
    refine b_if hF (fun hF => ?_) (fun hF => ?_)
    ·
      exact BX35_pack_b361 (N := N) E1 hF
    ·
      exact BX35_pack_b361 (N := N) E1 hF
  ·
    exact BX35_pack_b361 (N := N) E1 hF
theorem BX35_pack_b223 {σo : fS} {q : Int × fS} {N : Nat} : ∀ {n : Nat} {s : fS} {l1 : Nat} {l3 : Int} {l4 : Int} {l5 : Int} {l6 : Int} {l7 : Int} {l8 : Int} {l9 : Int} {l11 : Int} {l12 : Int}, bE 1 σo s → bO 1 s l1 → FX35_pack_b223 N n l1 l3 l4 l5 l6 l7 l8 l9 l11 l12 s = some q → bE 1 σo q.2 := by
  intro n
  induction n with
  | zero => intro s l1 l3 l4 l5 l6 l7 l8 l9 l11 l12 E ol1 hF; simp [FX35_pack_b223] at hF
  | succ n ih =>
    intro s l1 l3 l4 l5 l6 l7 l8 l9 l11 l12 E ol1 hF
    rw [FX35_pack_b223] at hF
    refine b_if hF (fun hF => ?_) (fun hF => ?_)
    ·
      refine b_if hF (fun hF => ?_) (fun hF => ?_)
      ·
        exact BX35_pack_b329 (N := N) E hF
      ·
        exact BX35_pack_b329 (N := N) E hF
    ·
      refine b_KA hF (fun hF => ?_)
      refine b_rv hF (fun _ hF => ?_)
      refine b_if hF (fun hF => ?_) (fun hF => ?_)
      ·
        exact BX35_pack_b306 (N := N) (K223 := FX35_pack_b223 N n) @ih E ol1 hF
      ·
        refine b_KA hF (fun hF => ?_)
        refine b_rv hF (fun _ hF => ?_)
        refine b_if hF (fun hF => ?_) (fun hF => ?_)
        ·
          exact BX35_pack_b306 (N := N) (K223 := FX35_pack_b223 N n) @ih E ol1 hF
        ·
          refine b_call E (fun _ hq => (BX35_add (bE.rf E.S) ol1 hq)) hF (fun _ hq6 D6 E6 hF => ?_)
          exact BX35_pack_b267 (N := N) (K223 := FX35_pack_b223 N n) @ih E6 (ol1.up D6) hF
theorem BX35_pack_b12 {σo : fS} {q : Int × fS} {N : Nat} : ∀ {n : Nat} {s : fS} {l1 : Nat} {l2 : Int} {l3 : Int} {l4 : Int} {l5 : Int} {l6 : Int} {l7 : Int} {l8 : Int} {l9 : Int} {l11 : Int}, bE 1 σo s → bO 1 s l1 → FX35_pack_b12 N n l1 l2 l3 l4 l5 l6 l7 l8 l9 l11 s = some q → bE 1 σo q.2 := by
  intro n
  induction n with
  | zero => intro s l1 l2 l3 l4 l5 l6 l7 l8 l9 l11 E ol1 hF; simp [FX35_pack_b12] at hF
  | succ n ih =>
    intro s l1 l2 l3 l4 l5 l6 l7 l8 l9 l11 E ol1 hF
    rw [FX35_pack_b12] at hF
    refine b_if hF (fun hF => ?_) (fun hF => ?_)
    ·
      refine b_if hF (fun hF => ?_) (fun hF => ?_)
      ·
        exact BX35_pack_b198 (N := N) E hF
      ·
        refine b_rv hF (fun _ hF => ?_)
        refine b_if hF (fun hF => ?_) (fun hF => ?_)
        ·
          exact BX35_pack_b198 (N := N) E hF
        ·
          refine b_if hF (fun hF => ?_) (fun hF => ?_)
          ·
            refine b_call E (fun _ hq => (BX35_nothing (N := N) (bE.rf E.S) hq)) hF (fun _ hq6 D6 E6 hF => ?_)
            refine b_rv hF (fun _ hF => ?_)
            exact BX35_pack_b223 (N := N) E6 (ol1.up D6) hF
          ·
            exact BX35_pack_b198 (N := N) E hF
    ·
      refine b_KA hF (fun hF => ?_)
      refine b_rv hF (fun _ hF => ?_)
      refine b_if hF (fun hF => ?_) (fun hF => ?_)
      ·
        exact BX35_pack_b45 (N := N) (K12 := FX35_pack_b12 N n) @ih E ol1 hF
      ·
        refine b_KA hF (fun hF => ?_)
        refine b_rv hF (fun _ hF => ?_)
        refine b_if hF (fun hF => ?_) (fun hF => ?_)
        ·
          exact BX35_pack_b45 (N := N) (K12 := FX35_pack_b12 N n) @ih E ol1 hF
        ·
          exact BX35_pack_b46 (N := N) (K12 := FX35_pack_b12 N n) @ih E ol1 hF
theorem BX35_pack {σo : fS} {q : Int × fS} {N : Nat} {s : fS} {p0 : Nat} {p1 : Int} {p2 : Int} {p3 : Int} {p4 : Int} {p5 : Int} (E : bE 1 σo s) (op0 : bO 1 s p0) (hF : FX35_pack N p0 p1 p2 p3 p4 p5 s = some q) : bE 1 σo q.2 := by
  unfold FX35_pack at hF
  exact BX35_pack_b12 (N := N) E op0 hF
theorem BX35_isVertical_b13 {σo : fS} {q : Int × fS} {s : fS} {s0 : Int} (E : bE 1 σo s) (hF : FX35_isVertical_b13 s0 s = some q) : bE 1 σo q.2 := by
  unfold FX35_isVertical_b13 at hF
  exact b_z E hF
theorem BX35_isVertical {σo : fS} {q : Int × fS} {s : fS} (E : bE 1 σo s) (hF : FX35_isVertical s = some q) : bE 1 σo q.2 := by
  unfold FX35_isVertical at hF
  refine b_call E (fun _ hq => (BX35_mode (bE.rf E.S) hq)) hF (fun _ hq2 D2 E2 hF => ?_)
  refine b_if hF (fun hF => ?_) (fun hF => ?_)
  ·
    exact BX35_isVertical_b13 E2 hF
  ·
    exact BX35_isVertical_b13 E2 hF
