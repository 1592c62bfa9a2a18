set_option maxRecDepth 100000
set_option maxHeartbeats 4000000
theorem BJ1_isLatin1_b18 {d : Nat} {σo : fS} {q : Int × fS} {s : fS} {s0 : Int} (E : bE d σo s) (hF : FJ1_isLatin1_b18 s0 s = some q) : bE d σo q.2 := by
  unfold FJ1_isLatin1_b18 at hF
  exact b_z E hF
theorem BJ1_isLatin1_b17 {d : Nat} {σo : fS} {q : Int × fS} {s : fS} (E : bE d σo s) (hF : FJ1_isLatin1_b17 s = some q) : bE d σo q.2 := by
  unfold FJ1_isLatin1_b17 at hF
  exact BJ1_isLatin1_b18 (d := d) E hF
theorem BJ1_isLatin1 {d : Nat} {σo : fS} {q : Int × fS} {s : fS} {this : Nat} (E : bE d σo s) (hF : FJ1_isLatin1 this s = some q) : bE d σo q.2 := by
  unfold FJ1_isLatin1 at hF
  refine b_if hF (fun hF => ?_) (fun hF => ?_)
  ·
    exact BJ1_isLatin1_b17 (d := d) E hF
  ·
    refine b_rv hF (fun _ hF => ?_)
    refine b_if hF (fun hF => ?_) (fun hF => ?_)
    ·
      exact BJ1_isLatin1_b17 (d := d) E hF
    ·
      exact BJ1_isLatin1_b18 (d := d) E hF
theorem BJ2_charAt {d : Nat} {σo : fS} {q : Int × fS} {s : fS} {p0 : Nat} {p1 : Int} (E : bE d σo s) (hF : FJ2_charAt p0 p1 s = some q) : bE d σo q.2 := by
  unfold FJ2_charAt at hF
  refine b_rv hF (fun _ hF => ?_)
  refine b_call E (fun _ hq => (BJ1_checkIndex (d := d) (bE.rf E.S) hq)) hF (fun _ hq2 D2 E2 hF => ?_)
  refine b_rv hF (fun _ hF => ?_)
  exact b_c E2 hF
theorem BJ1_charAt {d : Nat} {σo : fS} {q : Int × fS} {s : fS} {this : Nat} {p0 : Int} (E : bE d σo s) (hF : FJ1_charAt this p0 s = some q) : bE d σo q.2 := by
  unfold FJ1_charAt at hF
  refine b_rv hF (fun _ hF => ?_)
  refine b_call E (fun _ hq => (BJ1_isLatin1 (d := d) (bE.rf E.S) hq)) hF (fun _ hq2 D2 E2 hF => ?_)
  refine b_if hF (fun hF => ?_) (fun hF => ?_)
  ·
    cases hF
  ·
    refine b_rv hF (fun _ hF => ?_)
    refine b_call E2 (fun _ hq => (BJ2_charAt (d := d) (bE.rf E2.S) hq)) hF (fun _ hq4 D4 E4 hF => ?_)
    exact b_c E4 hF
theorem BJ1_coder_b14 {d : Nat} {σo : fS} {q : Int × fS} {s : fS} {s0 : Int} (E : bE d σo s) (hF : FJ1_coder_b14 s0 s = some q) : bE d σo q.2 := by
  unfold FJ1_coder_b14 at hF
  exact b_b E hF
theorem BJ1_coder {d : Nat} {σo : fS} {q : Int × fS} {s : fS} {this : Nat} (E : bE d σo s) (hF : FJ1_coder this s = some q) : bE d σo q.2 := by
  unfold FJ1_coder at hF
  refine b_if hF (fun hF => ?_) (fun hF => ?_)
  ·
    exact BJ1_coder_b14 (d := d) E hF
  ·
    refine b_rv hF (fun _ hF => ?_)
    exact BJ1_coder_b14 (d := d) E hF
theorem BJ1_length {d : Nat} {σo : fS} {q : Int × fS} {s : fS} {this : Nat} (E : bE d σo s) (hF : FJ1_length this s = some q) : bE d σo q.2 := by
  unfold FJ1_length at hF
  refine b_rv hF (fun _ hF => ?_)
  refine b_rv hF (fun _ hF => ?_)
  refine b_rv hF (fun _ hF => ?_)
  refine b_call E (fun _ hq => (BJ1_coder (d := d) (bE.rf E.S) hq)) hF (fun _ hq4 D4 E4 hF => ?_)
  exact b_ret E4 hF
theorem BJ0_fill_b5 {d : Nat} {σo : fS} {q : Unit × fS} {N : Nat} : ∀ {n : Nat} {s : fS} {l0 : Nat} {l1 : Int} {l2 : Int} {l3 : Int}, bE d σo s → bO d s l0 → FJ0_fill_b5 N n l0 l1 l2 l3 s = some q → bE d σo q.2 := by
  intro n
  induction n with
  | zero => intro s l0 l1 l2 l3 E ol0 hF; simp [FJ0_fill_b5] at hF
  | succ n ih =>
    intro s l0 l1 l2 l3 E ol0 hF
    rw [FJ0_fill_b5] at hF
    refine b_if hF (fun hF => ?_) (fun hF => ?_)
    ·
      exact b_ret E hF
    ·
      refine b_KA hF (fun hF => ?_)
      refine b_qI E ol0 hF (fun _ D1 E1 hF => ?_)
      exact ih E1 (ol0.up D1) hF
theorem BJ0_fill {d : Nat} {σo : fS} {q : Unit × fS} {N : Nat} {s : fS} {p0 : Nat} {p1 : Int} (E : bE d σo s) (op0 : bO d s p0) (hF : FJ0_fill N p0 p1 s = some q) : bE d σo q.2 := by
  unfold FJ0_fill at hF
  refine b_KL hF (fun hF => ?_)
  exact BJ0_fill_b5 (d := d) (N := N) E op0 hF
theorem BJ0_rangeCheck {d : Nat} {σo : fS} {q : Unit × fS} {s : fS} {p0 : Int} {p1 : Int} {p2 : Int} (E : bE d σo s) (hF : FJ0_rangeCheck p0 p1 p2 s = some q) : bE d σo q.2 := by
  unfold FJ0_rangeCheck at hF
  refine b_if hF (fun hF => ?_) (fun hF => ?_)
  ·
    refine b_if hF (fun hF => ?_) (fun hF => ?_)
    ·
      refine b_if hF (fun hF => ?_) (fun hF => ?_)
      ·
        exact b_ret E hF
      ·
        cases hF
    ·
      cases hF
  ·
    cases hF
theorem BJ0_fill_3_b10 {σo : fS} {q : Unit × fS} {N : Nat} : ∀ {n : Nat} {s : fS} {l2 : Int} {l3 : Int} {l4 : Int}, bE 0 σo s → FJ0_fill_3_b10 N n l2 l3 l4 s = some q → bE 0 σo q.2 := by
  intro n
  induction n with
  | zero => intro s l2 l3 l4 E  hF; simp [FJ0_fill_3_b10] at hF
  | succ n ih =>
    intro s l2 l3 l4 E  hF
    rw [FJ0_fill_3_b10] at hF
    refine b_if hF (fun hF => ?_) (fun hF => ?_)
    ·
      exact b_ret E hF
    ·
      refine b_qI E (E.S.c0 (Nat.le_of_ble_eq_true rfl)) hF (fun _ D1 E1 hF => ?_)
      exact ih E1 hF
theorem BJ0_fill_3 {σo : fS} {q : Unit × fS} {N : Nat} {s : fS} {p1 : Int} {p2 : Int} {p3 : Int} (E : bE 0 σo s) (hF : FJ0_fill_3 N p1 p2 p3 s = some q) : bE 0 σo q.2 := by
  unfold FJ0_fill_3 at hF
  refine b_call E (fun _ hq => (BJ0_rangeCheck (d := 0) (bE.rf E.S) hq)) hF (fun _ hq2 D2 E2 hF => ?_)
  exact BJ0_fill_3_b10 (N := N) E2 hF
theorem BJ0_fill_4_b6 {σo : fS} {q : Unit × fS} {N : Nat} : ∀ {n : Nat} {s : fS} {l1 : Int} {l3 : Int} {l4 : Int}, bE 0 σo s → FJ0_fill_4_b6 N n l1 l3 l4 s = some q → bE 0 σo q.2 := by
  intro n
  induction n with
  | zero => intro s l1 l3 l4 E  hF; simp [FJ0_fill_4_b6] at hF
  | succ n ih =>
    intro s l1 l3 l4 E  hF
    rw [FJ0_fill_4_b6] at hF
    refine b_if hF (fun hF => ?_) (fun hF => ?_)
    ·
      exact b_ret E hF
    ·
      refine b_qJ E (E.S.c0 (Nat.le_of_ble_eq_true rfl)) hF (fun _ D1 E1 hF => ?_)
      exact ih E1 hF
theorem BJ0_fill_4 {σo : fS} {q : Unit × fS} {N : Nat} {s : fS} {p1 : Int} (E : bE 0 σo s) (hF : FJ0_fill_4 N p1 s = some q) : bE 0 σo q.2 := by
  unfold FJ0_fill_4 at hF
  exact BJ0_fill_4_b6 (N := N) E hF
theorem BJ0_fill_2_b5 {σo : fS} {q : Unit × fS} {N : Nat} : ∀ {n : Nat} {s : fS} {l1 : Int} {l2 : Int} {l3 : Int}, bE 0 σo s → FJ0_fill_2_b5 N n l1 l2 l3 s = some q → bE 0 σo q.2 := by
  intro n
  induction n with
  | zero => intro s l1 l2 l3 E  hF; simp [FJ0_fill_2_b5] at hF
  | succ n ih =>
    intro s l1 l2 l3 E  hF
    rw [FJ0_fill_2_b5] at hF
    refine b_if hF (fun hF => ?_) (fun hF => ?_)
    ·
      exact b_ret E hF
    ·
      refine b_qI E (E.S.c0 (Nat.le_of_ble_eq_true rfl)) hF (fun _ D1 E1 hF => ?_)
      exact ih E1 hF
theorem BJ0_fill_2 {σo : fS} {q : Unit × fS} {N : Nat} {s : fS} {p1 : Int} (E : bE 0 σo s) (hF : FJ0_fill_2 N p1 s = some q) : bE 0 σo q.2 := by
  unfold FJ0_fill_2 at hF
  exact BJ0_fill_2_b5 (N := N) E hF
