set_option maxRecDepth 100000
set_option maxHeartbeats 4000000
theorem BX37_isSize_b21 {σo : fS} {q : Int × fS} {s : fS} {s0 : Int} (E : bE 1 σo s) (hF : FX37_isSize_b21 s0 s = some q) : bE 1 σo q.2 := by
  unfold FX37_isSize_b21 at hF
  exact b_z E hF
theorem BX37_isSize_b20 {σo : fS} {q : Int × fS} {s : fS} (E : bE 1 σo s) (hF : FX37_isSize_b20 s = some q) : bE 1 σo q.2 := by
  unfold FX37_isSize_b20 at hF
  exact BX37_isSize_b21 E hF
theorem BX37_isSize {σo : fS} {q : Int × fS} {s : fS} {p0 : Int} (E : bE 1 σo s) (hF : FX37_isSize p0 s = some q) : bE 1 σo q.2 := by
  unfold FX37_isSize at hF
  refine b_if hF (fun hF => ?_) (fun hF => ?_)
  ·
    exact BX37_isSize_b20 E hF
  ·
    refine b_if hF (fun hF => ?_) (fun hF => ?_)
    ·
      exact BX37_isSize_b20 E hF
    ·
      exact BX37_isSize_b21 E hF
theorem BX37_fitsInSizes_b81 {σo : fS} {q : Int × fS} {N : Nat} {K17 : Int → Int → Int → Int → fS → Option (Int × fS)} (hk17 : ∀ {s : fS} {l1 : Int} {l3 : Int} {l5 : Int} {l7 : Int}, bE 1 σo s → K17 l1 l3 l5 l7 s = some q → bE 1 σo q.2) {s : fS} {l3 : Int} {l5 : Int} {l7 : Int} {s0 : Int} (E : bE 1 σo s) (hF : FX37_fitsInSizes_b81 N K17 l3 l5 l7 s0 s = some q) : bE 1 σo q.2 := by
  unfold FX37_fitsInSizes_b81 at hF
  refine b_rv hF (fun _ hF => ?_)
  refine b_rv hF (fun _ hF => ?_)
  exact hk17 E hF
theorem BX37_fitsInSizes_b53 {σo : fS} {q : Int × fS} {N : Nat} {K17 : Int → Int → Int → Int → fS → Option (Int × fS)} (hk17 : ∀ {s : fS} {l1 : Int} {l3 : Int} {l5 : Int} {l7 : Int}, bE 1 σo s → K17 l1 l3 l5 l7 s = some q → bE 1 σo q.2) {s : fS} {l3 : Int} {l5 : Int} {l7 : Int} {s0 : Int} (E : bE 1 σo s) (hF : FX37_fitsInSizes_b53 N K17 l3 l5 l7 s0 s = some q) : bE 1 σo q.2 := by
  unfold FX37_fitsInSizes_b53 at hF
  refine b_rv hF (fun _ hF => ?_)
  refine b_if hF (fun hF => ?_) (fun hF => ?_)
  ·
    exact BX37_fitsInSizes_b81 (N := N) (K17 := K17) @hk17 E hF
  ·
    refine b_rv hF (fun _ hF => ?_)
    refine b_call E (fun _ hq => (BX37_without (bE.rf E.S) hq)) hF (fun _ hq5 D5 E5 hF => ?_)
    exact BX37_fitsInSizes_b81 (N := N) (K17 := K17) @hk17 E5 hF
theorem BX37_fitsInSizes_b191 {σo : fS} {q : Int × fS} {N : Nat} {s : fS} {s0 : Int} (E : bE 1 σo s) (hF : FX37_fitsInSizes_b191 N s0 s = some q) : bE 1 σo q.2 := by
  unfold FX37_fitsInSizes_b191 at hF
  exact b_z E hF
theorem BX37_fitsInSizes_b190 {σo : fS} {q : Int × fS} {N : Nat} {s : fS} (E : bE 1 σo s) (hF : FX37_fitsInSizes_b190 N s = some q) : bE 1 σo q.2 := by
  unfold FX37_fitsInSizes_b190 at hF
  exact BX37_fitsInSizes_b191 (N := N) E hF
theorem BX37_fitsInSizes_b115 {σo : fS} {q : Int × fS} {N : Nat} : ∀ {n : Nat} {s : fS} {l1 : Int} {l3 : Int} {l5 : Int} {l7 : Int}, bE 1 σo s → FX37_fitsInSizes_b115 N n l1 l3 l5 l7 s = some q → bE 1 σo q.2 := by
  intro n
  induction n with
  | zero => intro s l1 l3 l5 l7 E  hF; simp [FX37_fitsInSizes_b115] at hF
  | succ n ih =>
    intro s l1 l3 l5 l7 E  hF
    rw [FX37_fitsInSizes_b115] at hF
    refine b_if hF (fun hF => ?_) (fun hF => ?_)
    ·
      refine b_call E (fun _ hq => (BX37_isSize (bE.rf E.S) hq)) hF (fun _ hq1 D1 E1 hF => ?_)
      refine b_if hF (fun hF => ?_) (fun hF => ?_)
      ·
        exact BX37_fitsInSizes_b190 (N := N) E1 hF
      ·
        refine b_call E1 (fun _ hq => (BX37_isSize (bE.rf E1.S) hq)) hF (fun _ hq2 D2 E2 hF => ?_)
        refine b_if hF (fun hF => ?_) (fun hF => ?_)
        ·
          exact BX37_fitsInSizes_b190 (N := N) E2 hF
        ·
          refine b_call E2 (fun _ hq => (BX37_isSize (bE.rf E2.S) hq)) hF (fun _ hq3 D3 E3 hF => ?_)
          refine b_if hF (fun hF => ?_) (fun hF => ?_)
          ·
            exact BX37_fitsInSizes_b190 (N := N) E3 hF
          ·
            exact BX37_fitsInSizes_b191 (N := N) E3 hF
    ·
      refine b_rv hF (fun _ hF => ?_)
      refine b_call E (fun _ hq => (BX37_without (bE.rf E.S) hq)) hF (fun _ hq6 D6 E6 hF => ?_)
      refine b_rv hF (fun _ hF => ?_)
      refine b_rv hF (fun _ hF => ?_)
      exact ih E6 hF
theorem BX37_fitsInSizes_b17 {σo : fS} {q : Int × fS} {N : Nat} : ∀ {n : Nat} {s : fS} {l1 : Int} {l3 : Int} {l5 : Int} {l7 : Int}, bE 1 σo s → FX37_fitsInSizes_b17 N n l1 l3 l5 l7 s = some q → bE 1 σo q.2 := by
  intro n
  induction n with
  | zero => intro s l1 l3 l5 l7 E  hF; simp [FX37_fitsInSizes_b17] at hF
  | succ n ih =>
    intro s l1 l3 l5 l7 E  hF
    rw [FX37_fitsInSizes_b17] at hF
    refine b_if hF (fun hF => ?_) (fun hF => ?_)
    ·
      exact BX37_fitsInSizes_b115 (N := N) E hF
    ·
      refine b_rv hF (fun _ hF => ?_)
      refine b_if hF (fun hF => ?_) (fun hF => ?_)
      ·
        refine b_rv hF (fun _ hF => ?_)
        refine b_call E (fun _ hq => (BX37_without (bE.rf E.S) hq)) hF (fun _ hq6 D6 E6 hF => ?_)
        exact BX37_fitsInSizes_b53 (N := N) (K17 := FX37_fitsInSizes_b17 N n) @ih E6 hF
      ·
        exact BX37_fitsInSizes_b53 (N := N) (K17 := FX37_fitsInSizes_b17 N n) @ih E hF
theorem BX37_fitsInSizes {σo : fS} {q : Int × fS} {N : Nat} {s : fS} (E : bE 1 σo s) (hF : FX37_fitsInSizes N s = some q) : bE 1 σo q.2 := by
  unfold FX37_fitsInSizes at hF
  refine b_rv hF (fun _ hF => ?_)
  exact BX37_fitsInSizes_b17 (N := N) E hF
theorem BX37_sumUp_b152 {σo : fS} {q : Unit × fS} {N : Nat} {K102 : Int → Int → Int → fS → Option (Unit × fS)} (hk102 : ∀ {s : fS} {l1 : Int} {l2 : Int} {l3 : Int}, bE 1 σo s → K102 l1 l2 l3 s = some q → bE 1 σo q.2) {s : fS} {l1 : Int} {l2 : Int} {l3 : Int} {s1 : Int} {s2 : Int} {s3 : Int} (E : bE 1 σo s) (hF : FX37_sumUp_b152 N K102 l1 l2 l3 s1 s2 s3 s = some q) : bE 1 σo q.2 := by
  unfold FX37_sumUp_b152 at hF
  refine b_qI E (E.S.m1 (Nat.le_of_ble_eq_true rfl) (Nat.le_of_ble_eq_true rfl)) hF (fun _ D1 E1 hF => ?_)
  exact hk102 E1 hF
theorem BX37_sumUp_b151 {σo : fS} {q : Unit × fS} {N : Nat} {K102 : Int → Int → Int → fS → Option (Unit × fS)} (hk102 : ∀ {s : fS} {l1 : Int} {l2 : Int} {l3 : Int}, bE 1 σo s → K102 l1 l2 l3 s = some q → bE 1 σo q.2) {s : fS} {l1 : Int} {l2 : Int} {l3 : Int} {s1 : Int} {s2 : Int} (E : bE 1 σo s) (hF : FX37_sumUp_b151 N K102 l1 l2 l3 s1 s2 s = some q) : bE 1 σo q.2 := by
  unfold FX37_sumUp_b151 at hF
  exact BX37_sumUp_b152 (N := N) (K102 := K102) @hk102 E hF
theorem BX37_sumUp_b102 {σo : fS} {q : Unit × fS} {N : Nat} {K2 : Int → fS → Option (Unit × fS)} (hk2 : ∀ {s : fS} {l1 : Int}, bE 1 σo s → K2 l1 s = some q → bE 1 σo q.2) : ∀ {n : Nat} {s : fS} {l1 : Int} {l2 : Int} {l3 : Int}, bE 1 σo s → FX37_sumUp_b102 N K2 n l1 l2 l3 s = some q → bE 1 σo q.2 := by
  intro n
  induction n with
  | zero => intro s l1 l2 l3 E  hF; simp [FX37_sumUp_b102] at hF
  | succ n ih =>
    intro s l1 l2 l3 E  hF
    rw [FX37_sumUp_b102] at hF
    refine b_if hF (fun hF => ?_) (fun hF => ?_)
    ·
      exact hk2 E hF
    ·
      refine b_rv hF (fun _ hF => ?_)
      refine b_if hF (fun hF => ?_) (fun hF => ?_)
      ·
        exact BX37_sumUp_b151 (N := N) (K102 := FX37_sumUp_b102 N K2 n) @ih E hF
      ·
        refine b_rv hF (fun _ hF => ?_)
        refine b_if hF (fun hF => ?_) (fun hF => ?_)
        ·
          exact BX37_sumUp_b151 (N := N) (K102 := FX37_sumUp_b102 N K2 n) @ih E hF
        ·
          refine b_rv hF (fun _ hF => ?_)
          exact BX37_sumUp_b152 (N := N) (K102 := FX37_sumUp_b102 N K2 n) @ih E hF
theorem BX37_sumUp_b98 {σo : fS} {q : Unit × fS} {N : Nat} {K2 : Int → fS → Option (Unit × fS)} (hk2 : ∀ {s : fS} {l1 : Int}, bE 1 σo s → K2 l1 s = some q → bE 1 σo q.2) {s : fS} {l1 : Int} {l2 : Int} {s1 : Int} {s2 : Int} {s3 : Int} (E : bE 1 σo s) (hF : FX37_sumUp_b98 N K2 l1 l2 s1 s2 s3 s = some q) : bE 1 σo q.2 := by
  unfold FX37_sumUp_b98 at hF
  refine b_qI E (E.S.m1 (Nat.le_of_ble_eq_true rfl) (Nat.le_of_ble_eq_true rfl)) hF (fun _ D1 E1 hF => ?_)
  exact BX37_sumUp_b102 (N := N) (K2 := K2) @hk2 E1 hF
theorem BX37_sumUp_b69 {σo : fS} {q : Unit × fS} {N : Nat} {K2 : Int → fS → Option (Unit × fS)} (hk2 : ∀ {s : fS} {l1 : Int}, bE 1 σo s → K2 l1 s = some q → bE 1 σo q.2) {s : fS} {l1 : Int} {l2 : Int} {s1 : Int} {s2 : Int} {s3 : Int} (E : bE 1 σo s) (hF : FX37_sumUp_b69 N K2 l1 l2 s1 s2 s3 s = some q) : bE 1 σo q.2 := by
  unfold FX37_sumUp_b69 at hF
  refine b_qI E (E.S.m1 (Nat.le_of_ble_eq_true rfl) (Nat.le_of_ble_eq_true rfl)) hF (fun _ D1 E1 hF => ?_)
  refine b_rv hF (fun _ hF => ?_)
  refine b_if hF (fun hF => ?_) (fun hF => ?_)
  ·
    exact BX37_sumUp_b98 (N := N) (K2 := K2) @hk2 E1 hF
  ·
    refine b_rv hF (fun _ hF => ?_)
    exact BX37_sumUp_b98 (N := N) (K2 := K2) @hk2 E1 hF
theorem BX37_sumUp_b59 {σo : fS} {q : Unit × fS} {N : Nat} {K2 : Int → fS → Option (Unit × fS)} (hk2 : ∀ {s : fS} {l1 : Int}, bE 1 σo s → K2 l1 s = some q → bE 1 σo q.2) {s : fS} {l1 : Int} {l2 : Int} {s1 : Int} {s2 : Int} (E : bE 1 σo s) (hF : FX37_sumUp_b59 N K2 l1 l2 s1 s2 s = some q) : bE 1 σo q.2 := by
  unfold FX37_sumUp_b59 at hF
  exact BX37_sumUp_b69 (N := N) (K2 := K2) @hk2 E hF
theorem BX37_sumUp_b25 {σo : fS} {q : Unit × fS} {N : Nat} {K2 : Int → fS → Option (Unit × fS)} (hk2 : ∀ {s : fS} {l1 : Int}, bE 1 σo s → K2 l1 s = some q → bE 1 σo q.2) {s : fS} {l1 : Int} {s0 : Int} (E : bE 1 σo s) (hF : FX37_sumUp_b25 N K2 l1 s0 s = some q) : bE 1 σo q.2 := by
  unfold FX37_sumUp_b25 at hF
  refine b_rv hF (fun _ hF => ?_)
  refine b_rv hF (fun _ hF => ?_)
  refine b_if hF (fun hF => ?_) (fun hF => ?_)
  ·
    exact BX37_sumUp_b59 (N := N) (K2 := K2) @hk2 E hF
  ·
    refine b_rv hF (fun _ hF => ?_)
    refine b_if hF (fun hF => ?_) (fun hF => ?_)
    ·
      refine b_rv hF (fun _ hF => ?_)
      exact BX37_sumUp_b69 (N := N) (K2 := K2) @hk2 E hF
    ·
      exact BX37_sumUp_b59 (N := N) (K2 := K2) @hk2 E hF
theorem BX37_sumUp_b2 {σo : fS} {q : Unit × fS} {N : Nat} : ∀ {n : Nat} {s : fS} {l1 : Int}, bE 1 σo s → FX37_sumUp_b2 N n l1 s = some q → bE 1 σo q.2 := by
  intro n
  induction n with
  | zero => intro s l1 E  hF; simp [FX37_sumUp_b2] at hF
  | succ n ih =>
    intro s l1 E  hF
    rw [FX37_sumUp_b2] at hF
    refine b_if hF (fun hF => ?_) (fun hF => ?_)
    ·
      exact b_ret E hF
    ·
      refine b_rv hF (fun _ hF => ?_)
      refine b_if hF (fun hF => ?_) (fun hF => ?_)
      ·
        exact BX37_sumUp_b25 (N := N) (K2 := FX37_sumUp_b2 N n) @ih E hF
      ·
        exact BX37_sumUp_b25 (N := N) (K2 := FX37_sumUp_b2 N n) @ih E hF
theorem BX37_sumUp {σo : fS} {q : Unit × fS} {N : Nat} {s : fS} (E : bE 1 σo s) (hF : FX37_sumUp N s = some q) : bE 1 σo q.2 := by
  unfold FX37_sumUp at hF
  exact BX37_sumUp_b2 (N := N) E hF
theorem BX37_replacer_b40 {σo : fS} {q : Int × fS} {N : Nat} {K4 : Int → Int → fS → Option (Int × fS)} (hk4 : ∀ {s : fS} {l1 : Int} {l2 : Int}, bE 1 σo s → K4 l1 l2 s = some q → bE 1 σo q.2) {s : fS} {l1 : Int} {l2 : Int} (E : bE 1 σo s) (hF : FX37_replacer_b40 N K4 l1 l2 s = some q) : bE 1 σo q.2 := by
  unfold FX37_replacer_b40 at hF
  exact hk4 E hF
theorem BX37_replacer_b46 {σo : fS} {q : Int × fS} {N : Nat} {s : fS} (E : bE 1 σo s) (hF : FX37_replacer_b46 N s = some q) : bE 1 σo q.2 := by
  unfold FX37_replacer_b46 at hF
  exact b_ret E hF
theorem BX37_replacer_b4 {σo : fS} {q : Int × fS} {N : Nat} : ∀ {n : Nat} {s : fS} {l1 : Int} {l2 : Int}, bE 1 σo s → FX37_replacer_b4 N n l1 l2 s = some q → bE 1 σo q.2 := by
  intro n
  induction n with
  | zero => intro s l1 l2 E  hF; simp [FX37_replacer_b4] at hF
  | succ n ih =>
    intro s l1 l2 E  hF
    rw [FX37_replacer_b4] at hF
    refine b_if hF (fun hF => ?_) (fun hF => ?_)
    ·
      exact BX37_replacer_b46 (N := N) E hF
    ·
      refine b_if hF (fun hF => ?_) (fun hF => ?_)
      ·
        exact BX37_replacer_b46 (N := N) E hF
      ·
        refine b_rv hF (fun _ hF => ?_)
        refine b_if hF (fun hF => ?_) (fun hF => ?_)
        ·
          exact BX37_replacer_b40 (N := N) (K4 := FX37_replacer_b4 N n) @ih E hF
        ·
          refine b_rv hF (fun _ hF => ?_)
          refine b_if hF (fun hF => ?_) (fun hF => ?_)
          ·
            exact BX37_replacer_b40 (N := N) (K4 := FX37_replacer_b4 N n) @ih E hF
          ·
            exact b_ret E hF
theorem BX37_replacer {σo : fS} {q : Int × fS} {N : Nat} {s : fS} {p0 : Int} (E : bE 1 σo s) (hF : FX37_replacer N p0 s = some q) : bE 1 σo q.2 := by
  unfold FX37_replacer at hF
  exact BX37_replacer_b4 (N := N) E hF
theorem BX37_fine_b52 {σo : fS} {q : Int × fS} {s : fS} {s0 : Int} (E : bE 1 σo s) (hF : FX37_fine_b52 s0 s = some q) : bE 1 σo q.2 := by
  unfold FX37_fine_b52 at hF
  exact b_ret E hF
theorem BX37_fine_b51 {σo : fS} {q : Int × fS} {s : fS} {s1 : Int} (E : bE 1 σo s) (hF : FX37_fine_b51 s1 s = some q) : bE 1 σo q.2 := by
  unfold FX37_fine_b51 at hF
  refine b_rv hF (fun _ hF => ?_)
  exact BX37_fine_b52 E hF
theorem BX37_fine {σo : fS} {q : Int × fS} {s : fS} {p0 : Int} (E : bE 1 σo s) (hF : FX37_fine p0 s = some q) : bE 1 σo q.2 := by
  unfold FX37_fine at hF
  refine b_rv hF (fun _ hF => ?_)
  refine b_if hF (fun hF => ?_) (fun hF => ?_)
  ·
    refine b_rv hF (fun _ hF => ?_)
    refine b_if hF (fun hF => ?_) (fun hF => ?_)
    ·
      refine b_rv hF (fun _ hF => ?_)
      refine b_if hF (fun hF => ?_) (fun hF => ?_)
      ·
        exact BX37_fine_b51 E hF
      ·
        exact BX37_fine_b51 E hF
    ·
      exact BX37_fine_b52 E hF
  ·
    refine b_rv hF (fun _ hF => ?_)
    exact b_ret E hF
theorem BX37_isPlace_b19 {σo : fS} {q : Int × fS} {N : Nat} {s : fS} (E : bE 1 σo s) (hF : FX37_isPlace_b19 N s = some q) : bE 1 σo q.2 := by
  unfold FX37_isPlace_b19 at hF
  exact b_ret E hF
theorem BX37_isPlace_b112 {σo : fS} {q : Int × fS} {N : Nat} {s : fS} {s0 : Int} (E : bE 1 σo s) (hF : FX37_isPlace_b112 N s0 s = some q) : bE 1 σo q.2 := by
  unfold FX37_isPlace_b112 at hF
  exact b_z E hF
theorem BX37_isPlace_b107 {σo : fS} {q : Int × fS} {N : Nat} {s : fS} (E : bE 1 σo s) (hF : FX37_isPlace_b107 N s = some q) : bE 1 σo q.2 := by
  unfold FX37_isPlace_b107 at hF
  exact BX37_isPlace_b112 (N := N) E hF
theorem BX37_isPlace_b138 {σo : fS} {q : Int × fS} {N : Nat} {s : fS} {s0 : Int} (E : bE 1 σo s) (hF : FX37_isPlace_b138 N s0 s = some q) : bE 1 σo q.2 := by
  unfold FX37_isPlace_b138 at hF
  exact b_z E hF
theorem BX37_isPlace_b137 {σo : fS} {q : Int × fS} {N : Nat} {s : fS} (E : bE 1 σo s) (hF : FX37_isPlace_b137 N s = some q) : bE 1 σo q.2 := by
  unfold FX37_isPlace_b137 at hF
  exact BX37_isPlace_b138 (N := N) E hF
theorem BX37_isPlace_b154 {σo : fS} {q : Int × fS} {N : Nat} {s : fS} {s0 : Int} (E : bE 1 σo s) (hF : FX37_isPlace_b154 N s0 s = some q) : bE 1 σo q.2 := by
  unfold FX37_isPlace_b154 at hF
  exact b_z E hF
theorem BX37_isPlace {σo : fS} {q : Int × fS} {N : Nat} {s : fS} {p0 : Int} (E : bE 1 σo s) (hF : FX37_isPlace N p0 s = some q) : bE 1 σo q.2 := by
  unfold FX37_isPlace at hF
  refine b_call E (fun _ hq => (BX37_replacer (N := N) (bE.rf E.S) hq)) hF (fun _ hq2 D2 E2 hF => ?_)
  refine b_if hF (fun hF => ?_) (fun hF => ?_)
  ·
    exact BX37_isPlace_b19 (N := N) E2 hF
  ·
    refine b_call E2 (fun _ hq => (BX37_fine (bE.rf E2.S) hq)) hF (fun _ hq4 D4 E4 hF => ?_)
    refine b_if hF (fun hF => ?_) (fun hF => ?_)
    ·
      refine b_rv hF (fun _ hF => ?_)
      refine b_if hF (fun hF => ?_) (fun hF => ?_)
      ·
        refine b_if hF (fun hF => ?_) (fun hF => ?_)
        ·
          refine b_call E4 (fun _ hq => (BX37_replacer (N := N) (bE.rf E4.S) hq)) hF (fun _ hq8 D8 E8 hF => ?_)
          refine b_if hF (fun hF => ?_) (fun hF => ?_)
          ·
            exact BX37_isPlace_b107 (N := N) E8 hF
          ·
            refine b_rv hF (fun _ hF => ?_)
            refine b_if hF (fun hF => ?_) (fun hF => ?_)
            ·
              exact BX37_isPlace_b107 (N := N) E8 hF
            ·
              refine b_rv hF (fun _ hF => ?_)
              refine b_if hF (fun hF => ?_) (fun hF => ?_)
              ·
                exact BX37_isPlace_b107 (N := N) E8 hF
              ·
                refine b_rv hF (fun _ hF => ?_)
                refine b_if hF (fun hF => ?_) (fun hF => ?_)
                ·
                  exact BX37_isPlace_b112 (N := N) E8 hF
                ·
                  exact BX37_isPlace_b107 (N := N) E8 hF
        ·
          exact b_ret E4 hF
      ·
        refine b_if hF (fun hF => ?_) (fun hF => ?_)
        ·
          exact b_ret E4 hF
        ·
          refine b_if hF (fun hF => ?_) (fun hF => ?_)
          ·
            refine b_if hF (fun hF => ?_) (fun hF => ?_)
            ·
              exact BX37_isPlace_b137 (N := N) E4 hF
            ·
              refine b_rv hF (fun _ hF => ?_)
              refine b_if hF (fun hF => ?_) (fun hF => ?_)
              ·
                exact BX37_isPlace_b137 (N := N) E4 hF
              ·
                exact BX37_isPlace_b138 (N := N) E4 hF
          ·
            refine b_if hF (fun hF => ?_) (fun hF => ?_)
            ·
              exact b_ret E4 hF
            ·
              refine b_if hF (fun hF => ?_) (fun hF => ?_)
              ·
                refine b_if hF (fun hF => ?_) (fun hF => ?_)
                ·
                  exact BX37_isPlace_b154 (N := N) E4 hF
                ·
                  exact BX37_isPlace_b154 (N := N) E4 hF
              ·
                exact b_ret E4 hF
    ·
      exact BX37_isPlace_b19 (N := N) E4 hF
theorem BX37_isHyphen_b19 {σo : fS} {q : Int × fS} {s : fS} {s0 : Int} (E : bE 1 σo s) (hF : FX37_isHyphen_b19 s0 s = some q) : bE 1 σo q.2 := by
  unfold FX37_isHyphen_b19 at hF
  exact b_z E hF
theorem BX37_isHyphen_b18 {σo : fS} {q : Int × fS} {s : fS} (E : bE 1 σo s) (hF : FX37_isHyphen_b18 s = some q) : bE 1 σo q.2 := by
  unfold FX37_isHyphen_b18 at hF
  exact BX37_isHyphen_b19 E hF
theorem BX37_isHyphen {σo : fS} {q : Int × fS} {s : fS} {p0 : Int} (E : bE 1 σo s) (hF : FX37_isHyphen p0 s = some q) : bE 1 σo q.2 := by
  unfold FX37_isHyphen at hF
  refine b_if hF (fun hF => ?_) (fun hF => ?_)
  ·
    exact BX37_isHyphen_b18 E hF
  ·
    refine b_rv hF (fun _ hF => ?_)
    refine b_if hF (fun hF => ?_) (fun hF => ?_)
    ·
      exact BX37_isHyphen_b18 E hF
    ·
      exact BX37_isHyphen_b19 E hF
theorem BX37_isDropped_b35 {σo : fS} {q : Int × fS} {s : fS} {s0 : Int} (E : bE 1 σo s) (hF : FX37_isDropped_b35 s0 s = some q) : bE 1 σo q.2 := by
  unfold FX37_isDropped_b35 at hF
  exact b_z E hF
theorem BX37_isDropped_b30 {σo : fS} {q : Int × fS} {s : fS} (E : bE 1 σo s) (hF : FX37_isDropped_b30 s = some q) : bE 1 σo q.2 := by
  unfold FX37_isDropped_b30 at hF
  exact BX37_isDropped_b35 E hF
theorem BX37_isDropped {σo : fS} {q : Int × fS} {s : fS} {p0 : Int} (E : bE 1 σo s) (hF : FX37_isDropped p0 s = some q) : bE 1 σo q.2 := by
  unfold FX37_isDropped at hF
  refine b_rv hF (fun _ hF => ?_)
  refine b_if hF (fun hF => ?_) (fun hF => ?_)
  ·
    exact BX37_isDropped_b30 E hF
  ·
    refine b_rv hF (fun _ hF => ?_)
    refine b_if hF (fun hF => ?_) (fun hF => ?_)
    ·
      exact BX37_isDropped_b30 E hF
    ·
      refine b_rv hF (fun _ hF => ?_)
      refine b_if hF (fun hF => ?_) (fun hF => ?_)
      ·
        exact BX37_isDropped_b35 E hF
      ·
        exact BX37_isDropped_b30 E hF
theorem BX37_firstOf_b80 {σo : fS} {q : Int × fS} {N : Nat} {s : fS} {l2 : Int} (E : bE 1 σo s) (hF : FX37_firstOf_b80 N l2 s = some q) : bE 1 σo q.2 := by
  unfold FX37_firstOf_b80 at hF
  exact b_ret E hF
theorem BX37_firstOf_b54 {σo : fS} {q : Int × fS} {N : Nat} : ∀ {n : Nat} {s : fS} {l2 : Int} {l3 : Int}, bE 1 σo s → FX37_firstOf_b54 N n l2 l3 s = some q → bE 1 σo q.2 := by
  intro n
  induction n with
  | zero => intro s l2 l3 E  hF; simp [FX37_firstOf_b54] at hF
  | succ n ih =>
    intro s l2 l3 E  hF
    rw [FX37_firstOf_b54] at hF
    refine b_if hF (fun hF => ?_) (fun hF => ?_)
    ·
      exact BX37_firstOf_b80 (N := N) E hF
    ·
      refine b_if hF (fun hF => ?_) (fun hF => ?_)
      ·
        exact BX37_firstOf_b80 (N := N) E hF
      ·
        refine b_call E (fun _ hq => (BX37_isDropped (bE.rf E.S) hq)) hF (fun _ hq3 D3 E3 hF => ?_)
        refine b_if hF (fun hF => ?_) (fun hF => ?_)
        ·
          exact BX37_firstOf_b80 (N := N) E3 hF
        ·
          exact ih E3 hF
theorem BX37_firstOf_b53 {σo : fS} {q : Int × fS} {N : Nat} {s : fS} {l2 : Int} {s0 : Int} (E : bE 1 σo s) (hF : FX37_firstOf_b53 N l2 s0 s = some q) : bE 1 σo q.2 := by
  unfold FX37_firstOf_b53 at hF
  exact BX37_firstOf_b54 (N := N) E hF
theorem BX37_firstOf_b48 {σo : fS} {q : Int × fS} {N : Nat} {s : fS} {l2 : Int} (E : bE 1 σo s) (hF : FX37_firstOf_b48 N l2 s = some q) : bE 1 σo q.2 := by
  unfold FX37_firstOf_b48 at hF
  exact BX37_firstOf_b53 (N := N) E hF
theorem BX37_firstOf_b28 {σo : fS} {q : Int × fS} {N : Nat} {s : fS} {l1 : Int} {s0 : Int} (E : bE 1 σo s) (hF : FX37_firstOf_b28 N l1 s0 s = some q) : bE 1 σo q.2 := by
  unfold FX37_firstOf_b28 at hF
  refine b_call E (fun _ hq => (BX37_isHyphen (bE.rf E.S) hq)) hF (fun _ hq2 D2 E2 hF => ?_)
  refine b_if hF (fun hF => ?_) (fun hF => ?_)
  ·
    exact BX37_firstOf_b48 (N := N) E2 hF
  ·
    refine b_rv hF (fun _ hF => ?_)
    refine b_if hF (fun hF => ?_) (fun hF => ?_)
    ·
      exact BX37_firstOf_b53 (N := N) E2 hF
    ·
      exact BX37_firstOf_b48 (N := N) E2 hF
theorem BX37_firstOf {σo : fS} {q : Int × fS} {N : Nat} {s : fS} {p0 : Int} (E : bE 1 σo s) (hF : FX37_firstOf N p0 s = some q) : bE 1 σo q.2 := by
  unfold FX37_firstOf at hF
  refine b_if hF (fun hF => ?_) (fun hF => ?_)
  ·
    refine b_call E (fun _ hq => (BX37_isHyphen (bE.rf E.S) hq)) hF (fun _ hq2 D2 E2 hF => ?_)
    refine b_if hF (fun hF => ?_) (fun hF => ?_)
    ·
      exact BX37_firstOf_b28 (N := N) E2 hF
    ·
      refine b_rv hF (fun _ hF => ?_)
      exact BX37_firstOf_b28 (N := N) E2 hF
  ·
    exact b_ret E hF
theorem BX37_measure_b148 {σo : fS} {q : Unit × fS} {N : Nat} {K97 : Int → Int → Int → Int → fS → Option (Unit × fS)} (hk97 : ∀ {s : fS} {l1 : Int} {l2 : Int} {l3 : Int} {l4 : Int}, bE 1 σo s → K97 l1 l2 l3 l4 s = some q → bE 1 σo q.2) {s : fS} {l1 : Int} {l2 : Int} {l3 : Int} {l4 : Int} {s1 : Int} {s2 : Int} {s3 : Int} (E : bE 1 σo s) (hF : FX37_measure_b148 N K97 l1 l2 l3 l4 s1 s2 s3 s = some q) : bE 1 σo q.2 := by
  unfold FX37_measure_b148 at hF
  refine b_qI E (E.S.m1 (Nat.le_of_ble_eq_true rfl) (Nat.le_of_ble_eq_true rfl)) hF (fun _ D1 E1 hF => ?_)
  exact hk97 E1 hF
theorem BX37_measure_b293 {σo : fS} {q : Unit × fS} {N : Nat} {s : fS} {s1 : Int} (E : bE 1 σo s) (hF : FX37_measure_b293 N s1 s = some q) : bE 1 σo q.2 := by
  unfold FX37_measure_b293 at hF
  refine b_pI E (E.S.m1 (Nat.le_of_ble_eq_true rfl) (Nat.le_of_ble_eq_true rfl)) hF (fun _ D1 E1 hF => ?_)
  exact b_ret E1 hF
theorem BX37_measure_b289 {σo : fS} {q : Unit × fS} {N : Nat} {s : fS} (E : bE 1 σo s) (hF : FX37_measure_b289 N s = some q) : bE 1 σo q.2 := by
  unfold FX37_measure_b289 at hF
  exact BX37_measure_b293 (N := N) E hF
theorem BX37_measure_b252 {σo : fS} {q : Unit × fS} {N : Nat} {s : fS} {l2 : Int} {s1 : Int} (E : bE 1 σo s) (hF : FX37_measure_b252 N l2 s1 s = some q) : bE 1 σo q.2 := by
  unfold FX37_measure_b252 at hF
  refine b_pI E (E.S.m1 (Nat.le_of_ble_eq_true rfl) (Nat.le_of_ble_eq_true rfl)) hF (fun _ D1 E1 hF => ?_)
  refine b_call E1 (fun _ hq => (BX37_isHyphen (bE.rf E1.S) hq)) hF (fun _ hq3 D3 E3 hF => ?_)
  refine b_if hF (fun hF => ?_) (fun hF => ?_)
  ·
    exact BX37_measure_b289 (N := N) E3 hF
  ·
    refine b_rv hF (fun _ hF => ?_)
    refine b_if hF (fun hF => ?_) (fun hF => ?_)
    ·
      exact BX37_measure_b289 (N := N) E3 hF
    ·
      refine b_rv hF (fun _ hF => ?_)
      exact BX37_measure_b293 (N := N) E3 hF
theorem BX37_measure_b248 {σo : fS} {q : Unit × fS} {N : Nat} {s : fS} {l2 : Int} (E : bE 1 σo s) (hF : FX37_measure_b248 N l2 s = some q) : bE 1 σo q.2 := by
  unfold FX37_measure_b248 at hF
  exact BX37_measure_b252 (N := N) E hF
theorem BX37_measure_b97 {σo : fS} {q : Unit × fS} {N : Nat} : ∀ {n : Nat} {s : fS} {l1 : Int} {l2 : Int} {l3 : Int} {l4 : Int}, bE 1 σo s → FX37_measure_b97 N n l1 l2 l3 l4 s = some q → bE 1 σo q.2 := by
  intro n
  induction n with
  | zero => intro s l1 l2 l3 l4 E  hF; simp [FX37_measure_b97] at hF
  | succ n ih =>
    intro s l1 l2 l3 l4 E  hF
    rw [FX37_measure_b97] at hF
    refine b_if hF (fun hF => ?_) (fun hF => ?_)
    ·
      refine b_rv hF (fun _ hF => ?_)
      refine b_rv hF (fun _ hF => ?_)
      refine b_rv hF (fun _ hF => ?_)
      refine b_rv hF (fun _ hF => ?_)
      refine b_qI E (E.S.m1 (Nat.le_of_ble_eq_true rfl) (Nat.le_of_ble_eq_true rfl)) hF (fun _ D10 E10 hF => ?_)
      refine b_rv hF (fun _ hF => ?_)
      refine b_rv hF (fun _ hF => ?_)
      refine b_rv hF (fun _ hF => ?_)
      refine b_rv hF (fun _ hF => ?_)
      refine b_qI E10 (E10.S.m1 (Nat.le_of_ble_eq_true rfl) (Nat.le_of_ble_eq_true rfl)) hF (fun _ D20 E20 hF => ?_)
      refine b_call E20 (fun _ hq => (BX37_isHyphen (bE.rf E20.S) hq)) hF (fun _ hq22 D22 E22 hF => ?_)
      refine b_if hF (fun hF => ?_) (fun hF => ?_)
      ·
        exact BX37_measure_b248 (N := N) E22 hF
      ·
        refine b_rv hF (fun _ hF => ?_)
        refine b_if hF (fun hF => ?_) (fun hF => ?_)
        ·
          exact BX37_measure_b248 (N := N) E22 hF
        ·
          refine b_rv hF (fun _ hF => ?_)
          exact BX37_measure_b252 (N := N) E22 hF
    ·
      refine b_rv hF (fun _ hF => ?_)
      refine b_rv hF (fun _ hF => ?_)
      refine b_if hF (fun hF => ?_) (fun hF => ?_)
      ·
        exact BX37_measure_b148 (N := N) (K97 := FX37_measure_b97 N n) @ih E hF
      ·
        exact BX37_measure_b148 (N := N) (K97 := FX37_measure_b97 N n) @ih E hF
theorem BX37_measure_b25 {σo : fS} {q : Unit × fS} {N : Nat} {s : fS} {l1 : Int} {l2 : Int} {s0 : Int} (E : bE 1 σo s) (hF : FX37_measure_b25 N l1 l2 s0 s = some q) : bE 1 σo q.2 := by
  unfold FX37_measure_b25 at hF
  refine b_rv hF (fun _ hF => ?_)
  refine b_rv hF (fun _ hF => ?_)
  refine b_rv hF (fun _ hF => ?_)
  refine b_rv hF (fun _ hF => ?_)
  refine b_pI E (E.S.m1 (Nat.le_of_ble_eq_true rfl) (Nat.le_of_ble_eq_true rfl)) hF (fun _ D10 E10 hF => ?_)
  refine b_rv hF (fun _ hF => ?_)
  refine b_rv hF (fun _ hF => ?_)
  refine b_rv hF (fun _ hF => ?_)
  refine b_rv hF (fun _ hF => ?_)
  refine b_pI E10 (E10.S.m1 (Nat.le_of_ble_eq_true rfl) (Nat.le_of_ble_eq_true rfl)) hF (fun _ D20 E20 hF => ?_)
  exact BX37_measure_b97 (N := N) E20 hF
theorem BX37_measure {σo : fS} {q : Unit × fS} {N : Nat} {s : fS} {p0 : Int} {p1 : Int} (E : bE 1 σo s) (hF : FX37_measure N p0 p1 s = some q) : bE 1 σo q.2 := by
  unfold FX37_measure at hF
  refine b_call E (fun _ hq => (BX37_firstOf (N := N) (bE.rf E.S) hq)) hF (fun _ hq2 D2 E2 hF => ?_)
  refine b_pI E2 (E2.S.m1 (Nat.le_of_ble_eq_true rfl) (Nat.le_of_ble_eq_true rfl)) hF (fun _ D3 E3 hF => ?_)
  refine b_if hF (fun hF => ?_) (fun hF => ?_)
  ·
    exact BX37_measure_b25 (N := N) E3 hF
  ·
    exact BX37_measure_b25 (N := N) E3 hF
theorem BX37_bad_b89 {σo : fS} {q : Int × fS} {s : fS} {s0 : Int} (E : bE 1 σo s) (hF : FX37_bad_b89 s0 s = some q) : bE 1 σo q.2 := by
  unfold FX37_bad_b89 at hF
  exact b_ret E hF
theorem BX37_bad_b55 {σo : fS} {q : Int × fS} {s : fS} {s0 : Int} (E : bE 1 σo s) (hF : FX37_bad_b55 s0 s = some q) : bE 1 σo q.2 := by
  unfold FX37_bad_b55 at hF
  refine b_if hF (fun hF => ?_) (fun hF => ?_)
  ·
    exact BX37_bad_b89 E hF
  ·
    exact BX37_bad_b89 E hF
theorem BX37_bad {σo : fS} {q : Int × fS} {s : fS} {p0 : Int} {p1 : Int} (E : bE 1 σo s) (hF : FX37_bad p0 p1 s = some q) : bE 1 σo q.2 := by
  unfold FX37_bad at hF
  refine b_if hF (fun hF => ?_) (fun hF => ?_)
  ·
    refine b_if hF (fun hF => ?_) (fun hF => ?_)
    ·
      refine b_if hF (fun hF => ?_) (fun hF => ?_)
      ·
        refine b_if hF (fun hF => ?_) (fun hF => ?_)
        ·
          exact BX37_bad_b55 E hF
        ·
          refine b_dv hF (fun hF => ?_)
          exact BX37_bad_b55 E hF
      ·
        refine b_dv hF (fun hF => ?_)
        exact BX37_bad_b55 E hF
    ·
      exact b_ret E hF
  ·
    exact b_ret E hF
theorem BX37_judge_b174 {σo : fS} {q : Unit × fS} {s : fS} (E : bE 1 σo s) (hF : FX37_judge_b174 s = some q) : bE 1 σo q.2 := by
  unfold FX37_judge_b174 at hF
  exact b_ret E hF
theorem BX37_judge_b110 {σo : fS} {q : Unit × fS} {s : fS} {s1 : Int} (E : bE 1 σo s) (hF : FX37_judge_b110 s1 s = some q) : bE 1 σo q.2 := by
  unfold FX37_judge_b110 at hF
  refine b_pI E (E.S.m1 (Nat.le_of_ble_eq_true rfl) (Nat.le_of_ble_eq_true rfl)) hF (fun _ D1 E1 hF => ?_)
  exact BX37_judge_b174 E1 hF
theorem BX37_judge_b79 {σo : fS} {q : Unit × fS} {s : fS} {s1 : Int} (E : bE 1 σo s) (hF : FX37_judge_b79 s1 s = some q) : bE 1 σo q.2 := by
  unfold FX37_judge_b79 at hF
  refine b_pI E (E.S.m1 (Nat.le_of_ble_eq_true rfl) (Nat.le_of_ble_eq_true rfl)) hF (fun _ D1 E1 hF => ?_)
  refine b_if hF (fun hF => ?_) (fun hF => ?_)
  ·
    refine b_if hF (fun hF => ?_) (fun hF => ?_)
    ·
      exact BX37_judge_b110 E1 hF
    ·
      exact BX37_judge_b110 E1 hF
  ·
    exact BX37_judge_b110 E1 hF
theorem BX37_judge_b56 {σo : fS} {q : Unit × fS} {s : fS} {l2 : Int} {s0 : Int} (E : bE 1 σo s) (hF : FX37_judge_b56 l2 s0 s = some q) : bE 1 σo q.2 := by
  unfold FX37_judge_b56 at hF
  refine b_if hF (fun hF => ?_) (fun hF => ?_)
  ·
    refine b_rv hF (fun _ hF => ?_)
    refine b_call E (fun _ hq => (BX37_bad (bE.rf E.S) hq)) hF (fun _ hq3 D3 E3 hF => ?_)
    exact BX37_judge_b79 E3 hF
  ·
    exact BX37_judge_b79 E hF
theorem BX37_judge_b51 {σo : fS} {q : Unit × fS} {s : fS} {l2 : Int} (E : bE 1 σo s) (hF : FX37_judge_b51 l2 s = some q) : bE 1 σo q.2 := by
  unfold FX37_judge_b51 at hF
  exact BX37_judge_b56 E hF
theorem BX37_judge_b171 {σo : fS} {q : Unit × fS} {s : fS} {s1 : Int} (E : bE 1 σo s) (hF : FX37_judge_b171 s1 s = some q) : bE 1 σo q.2 := by
  unfold FX37_judge_b171 at hF
  refine b_pI E (E.S.m1 (Nat.le_of_ble_eq_true rfl) (Nat.le_of_ble_eq_true rfl)) hF (fun _ D1 E1 hF => ?_)
  exact BX37_judge_b174 E1 hF
theorem BX37_judge {σo : fS} {q : Unit × fS} {s : fS} {p0 : Int} (E : bE 1 σo s) (hF : FX37_judge p0 s = some q) : bE 1 σo q.2 := by
  unfold FX37_judge at hF
  refine b_pI E (E.S.m1 (Nat.le_of_ble_eq_true rfl) (Nat.le_of_ble_eq_true rfl)) hF (fun _ D3 E3 hF => ?_)
  refine b_if hF (fun hF => ?_) (fun hF => ?_)
  ·
    refine b_if hF (fun hF => ?_) (fun hF => ?_)
    ·
      refine b_call E3 (fun _ hq => (BX37_bad (bE.rf E3.S) hq)) hF (fun _ hq6 D6 E6 hF => ?_)
      refine b_pI E6 (E6.S.m1 (Nat.le_of_ble_eq_true rfl) (Nat.le_of_ble_eq_true rfl)) hF (fun _ D7 E7 hF => ?_)
      refine b_if hF (fun hF => ?_) (fun hF => ?_)
      ·
        exact BX37_judge_b171 E7 hF
      ·
        exact BX37_judge_b171 E7 hF
    ·
      refine b_pI E3 (E3.S.m1 (Nat.le_of_ble_eq_true rfl) (Nat.le_of_ble_eq_true rfl)) hF (fun _ D9 E9 hF => ?_)
      refine b_pI E9 (E9.S.m1 (Nat.le_of_ble_eq_true rfl) (Nat.le_of_ble_eq_true rfl)) hF (fun _ D10 E10 hF => ?_)
      exact BX37_judge_b174 E10 hF
  ·
    refine b_rv hF (fun _ hF => ?_)
    refine b_if hF (fun hF => ?_) (fun hF => ?_)
    ·
      exact BX37_judge_b51 E3 hF
    ·
      refine b_rv hF (fun _ hF => ?_)
      refine b_if hF (fun hF => ?_) (fun hF => ?_)
      ·
        exact BX37_judge_b51 E3 hF
      ·
        refine b_rv hF (fun _ hF => ?_)
        refine b_if hF (fun hF => ?_) (fun hF => ?_)
        ·
          exact BX37_judge_b56 E3 hF
        ·
          exact BX37_judge_b51 E3 hF
theorem BX37_demerits_b217 {σo : fS} {q : Int × fS} {s : fS} {s0 : Int} (E : bE 1 σo s) (hF : FX37_demerits_b217 s0 s = some q) : bE 1 σo q.2 := by
  unfold FX37_demerits_b217 at hF
  exact b_ret E hF
theorem BX37_demerits_b193 {σo : fS} {q : Int × fS} {s : fS} {l5 : Int} {s0 : Int} (E : bE 1 σo s) (hF : FX37_demerits_b193 l5 s0 s = some q) : bE 1 σo q.2 := by
  unfold FX37_demerits_b193 at hF
  refine b_if hF (fun hF => ?_) (fun hF => ?_)
  ·
    exact BX37_demerits_b217 E hF
  ·
    refine b_rv hF (fun _ hF => ?_)
    exact BX37_demerits_b217 E hF
theorem BX37_demerits_b153 {σo : fS} {q : Int × fS} {s : fS} {l1 : Int} {s0 : Int} (E : bE 1 σo s) (hF : FX37_demerits_b153 l1 s0 s = some q) : bE 1 σo q.2 := by
  unfold FX37_demerits_b153 at hF
  refine b_rv hF (fun _ hF => ?_)
  refine b_if hF (fun hF => ?_) (fun hF => ?_)
  ·
    refine b_rv hF (fun _ hF => ?_)
    exact BX37_demerits_b193 E hF
  ·
    refine b_rv hF (fun _ hF => ?_)
    exact BX37_demerits_b193 E hF
theorem BX37_demerits_b151 {σo : fS} {q : Int × fS} {s : fS} {l1 : Int} {l5 : Int} (E : bE 1 σo s) (hF : FX37_demerits_b151 l1 l5 s = some q) : bE 1 σo q.2 := by
  unfold FX37_demerits_b151 at hF
  exact BX37_demerits_b153 E hF
theorem BX37_demerits_b122 {σo : fS} {q : Int × fS} {s : fS} {l1 : Int} {l2 : Int} {l9 : Int} {s0 : Int} (E : bE 1 σo s) (hF : FX37_demerits_b122 l1 l2 l9 s0 s = some q) : bE 1 σo q.2 := by
  unfold FX37_demerits_b122 at hF
  refine b_if hF (fun hF => ?_) (fun hF => ?_)
  ·
    exact BX37_demerits_b151 E hF
  ·
    refine b_if hF (fun hF => ?_) (fun hF => ?_)
    ·
      exact BX37_demerits_b151 E hF
    ·
      refine b_rv hF (fun _ hF => ?_)
      exact BX37_demerits_b153 E hF
theorem BX37_demerits_b120 {σo : fS} {q : Int × fS} {s : fS} {l1 : Int} {l2 : Int} {l5 : Int} {l9 : Int} (E : bE 1 σo s) (hF : FX37_demerits_b120 l1 l2 l5 l9 s = some q) : bE 1 σo q.2 := by
  unfold FX37_demerits_b120 at hF
  exact BX37_demerits_b122 E hF
theorem BX37_demerits_b80 {σo : fS} {q : Int × fS} {s : fS} {l1 : Int} {l2 : Int} {s0 : Int} (E : bE 1 σo s) (hF : FX37_demerits_b80 l1 l2 s0 s = some q) : bE 1 σo q.2 := by
  unfold FX37_demerits_b80 at hF
  refine b_rv hF (fun _ hF => ?_)
  refine b_call E (fun _ hq => (BX37_isHyphen (bE.rf E.S) hq)) hF (fun _ hq4 D4 E4 hF => ?_)
  refine b_if hF (fun hF => ?_) (fun hF => ?_)
  ·
    exact BX37_demerits_b120 E4 hF
  ·
    refine b_call E4 (fun _ hq => (BX37_isHyphen (bE.rf E4.S) hq)) hF (fun _ hq6 D6 E6 hF => ?_)
    refine b_if hF (fun hF => ?_) (fun hF => ?_)
    ·
      exact BX37_demerits_b120 E6 hF
    ·
      refine b_rv hF (fun _ hF => ?_)
      exact BX37_demerits_b122 E6 hF
theorem BX37_demerits_b30 {σo : fS} {q : Int × fS} {s : fS} {l1 : Int} {l2 : Int} {s0 : Int} (E : bE 1 σo s) (hF : FX37_demerits_b30 l1 l2 s0 s = some q) : bE 1 σo q.2 := by
  unfold FX37_demerits_b30 at hF
  refine b_call E (fun _ hq => (BX37_fine (bE.rf E.S) hq)) hF (fun _ hq2 D2 E2 hF => ?_)
  refine b_if hF (fun hF => ?_) (fun hF => ?_)
  ·
    refine b_if hF (fun hF => ?_) (fun hF => ?_)
    ·
      exact BX37_demerits_b80 E2 hF
    ·
      exact BX37_demerits_b80 E2 hF
  ·
    exact BX37_demerits_b80 E2 hF
theorem BX37_demerits {σo : fS} {q : Int × fS} {s : fS} {p0 : Int} {p1 : Int} (E : bE 1 σo s) (hF : FX37_demerits p0 p1 s = some q) : bE 1 σo q.2 := by
  unfold FX37_demerits at hF
  refine b_rv hF (fun _ hF => ?_)
  refine b_if hF (fun hF => ?_) (fun hF => ?_)
  ·
    exact BX37_demerits_b30 E hF
  ·
    exact BX37_demerits_b30 E hF
theorem BX37_write {σo : fS} {q : Unit × fS} {s : fS} {p0 : Int} {p1 : Int} {p2 : Int} {p3 : Int} (E : bE 1 σo s) (hF : FX37_write p0 p1 p2 p3 s = some q) : bE 1 σo q.2 := by
  unfold FX37_write at hF
  refine b_qI E (E.S.m1 (Nat.le_of_ble_eq_true rfl) (Nat.le_of_ble_eq_true rfl)) hF (fun _ D2 E2 hF => ?_)
  refine b_rv hF (fun _ hF => ?_)
  refine b_qI E2 (E2.S.m1 (Nat.le_of_ble_eq_true rfl) (Nat.le_of_ble_eq_true rfl)) hF (fun _ D6 E6 hF => ?_)
  refine b_qI E6 (E6.S.m1 (Nat.le_of_ble_eq_true rfl) (Nat.le_of_ble_eq_true rfl)) hF (fun _ D9 E9 hF => ?_)
  refine b_qJ E9 (E9.S.m1 (Nat.le_of_ble_eq_true rfl) (Nat.le_of_ble_eq_true rfl)) hF (fun _ D11 E11 hF => ?_)
  refine b_qI E11 (E11.S.m1 (Nat.le_of_ble_eq_true rfl) (Nat.le_of_ble_eq_true rfl)) hF (fun _ D13 E13 hF => ?_)
  refine b_qI E13 (E13.S.m1 (Nat.le_of_ble_eq_true rfl) (Nat.le_of_ble_eq_true rfl)) hF (fun _ D15 E15 hF => ?_)
  exact b_ret E15 hF
theorem BX37_isBefore_b50 {σo : fS} {q : Int × fS} {s : fS} {s0 : Int} (E : bE 1 σo s) (hF : FX37_isBefore_b50 s0 s = some q) : bE 1 σo q.2 := by
  unfold FX37_isBefore_b50 at hF
  exact b_z E hF
theorem BX37_isBefore_b45 {σo : fS} {q : Int × fS} {s : fS} (E : bE 1 σo s) (hF : FX37_isBefore_b45 s = some q) : bE 1 σo q.2 := by
  unfold FX37_isBefore_b45 at hF
  exact BX37_isBefore_b50 E hF
theorem BX37_isBefore_b49 {σo : fS} {q : Int × fS} {s : fS} (E : bE 1 σo s) (hF : FX37_isBefore_b49 s = some q) : bE 1 σo q.2 := by
  unfold FX37_isBefore_b49 at hF
  exact BX37_isBefore_b50 E hF
theorem BX37_isBefore {σo : fS} {q : Int × fS} {s : fS} {p0 : Int} {p1 : Int} (E : bE 1 σo s) (hF : FX37_isBefore p0 p1 s = some q) : bE 1 σo q.2 := by
  unfold FX37_isBefore at hF
  refine b_rv hF (fun _ hF => ?_)
  refine b_rv hF (fun _ hF => ?_)
  refine b_if hF (fun hF => ?_) (fun hF => ?_)
  ·
    exact BX37_isBefore_b45 E hF
  ·
    refine b_rv hF (fun _ hF => ?_)
    refine b_rv hF (fun _ hF => ?_)
    refine b_if hF (fun hF => ?_) (fun hF => ?_)
    ·
      exact BX37_isBefore_b49 E hF
    ·
      refine b_rv hF (fun _ hF => ?_)
      refine b_rv hF (fun _ hF => ?_)
      refine b_if hF (fun hF => ?_) (fun hF => ?_)
      ·
        exact BX37_isBefore_b49 E hF
      ·
        exact BX37_isBefore_b45 E hF
theorem BX37_reach_b59 {σo : fS} {q : Int × fS} {N : Nat} {K18 : Int → Int → Int → Int → fS → Option (Int × fS)} (hk18 : ∀ {s : fS} {l2 : Int} {l3 : Int} {l4 : Int} {l6 : Int}, bE 1 σo s → K18 l2 l3 l4 l6 s = some q → bE 1 σo q.2) {s : fS} {l2 : Int} {l3 : Int} {l4 : Int} {l6 : Int} (E : bE 1 σo s) (hF : FX37_reach_b59 N K18 l2 l3 l4 l6 s = some q) : bE 1 σo q.2 := by
  unfold FX37_reach_b59 at hF
  exact hk18 E hF
theorem BX37_reach_b160 {σo : fS} {q : Int × fS} {N : Nat} {s : fS} (E : bE 1 σo s) (hF : FX37_reach_b160 N s = some q) : bE 1 σo q.2 := by
  unfold FX37_reach_b160 at hF
  exact b_ret E hF
theorem BX37_reach_b150 {σo : fS} {q : Int × fS} {N : Nat} {s : fS} {l2 : Int} {l3 : Int} {l4 : Int} {l6 : Int} (E : bE 1 σo s) (hF : FX37_reach_b150 N l2 l3 l4 l6 s = some q) : bE 1 σo q.2 := by
  unfold FX37_reach_b150 at hF
  refine b_call E (fun _ hq => (BX37_write (bE.rf E.S) hq)) hF (fun _ hq2 D2 E2 hF => ?_)
  exact BX37_reach_b160 (N := N) E2 hF
theorem BX37_reach_b65 {σo : fS} {q : Int × fS} {N : Nat} {s : fS} {l2 : Int} {l3 : Int} {l4 : Int} {l6 : Int} (E : bE 1 σo s) (hF : FX37_reach_b65 N l2 l3 l4 l6 s = some q) : bE 1 σo q.2 := by
  unfold FX37_reach_b65 at hF
  refine b_if hF (fun hF => ?_) (fun hF => ?_)
  ·
    refine b_rv hF (fun _ hF => ?_)
    refine b_if hF (fun hF => ?_) (fun hF => ?_)
    ·
      exact BX37_reach_b150 (N := N) E hF
    ·
      refine b_rv hF (fun _ hF => ?_)
      refine b_if hF (fun hF => ?_) (fun hF => ?_)
      ·
        exact BX37_reach_b160 (N := N) E hF
      ·
        refine b_rv hF (fun _ hF => ?_)
        refine b_call E (fun _ hq => (BX37_isBefore (bE.rf E.S) hq)) hF (fun _ hq9 D9 E9 hF => ?_)
        refine b_if hF (fun hF => ?_) (fun hF => ?_)
        ·
          exact BX37_reach_b160 (N := N) E9 hF
        ·
          exact BX37_reach_b150 (N := N) E9 hF
  ·
    refine b_if hF (fun hF => ?_) (fun hF => ?_)
    ·
      refine b_pI E (E.S.m1 (Nat.le_of_ble_eq_true rfl) (Nat.le_of_ble_eq_true rfl)) hF (fun _ D12 E12 hF => ?_)
      refine b_call E12 (fun _ hq => (BX37_write (bE.rf E12.S) hq)) hF (fun _ hq14 D14 E14 hF => ?_)
      exact BX37_reach_b160 (N := N) E14 hF
    ·
      exact b_ret E hF
theorem BX37_reach_b18 {σo : fS} {q : Int × fS} {N : Nat} : ∀ {n : Nat} {s : fS} {l2 : Int} {l3 : Int} {l4 : Int} {l6 : Int}, bE 1 σo s → FX37_reach_b18 N n l2 l3 l4 l6 s = some q → bE 1 σo q.2 := by
  intro n
  induction n with
  | zero => intro s l2 l3 l4 l6 E  hF; simp [FX37_reach_b18] at hF
  | succ n ih =>
    intro s l2 l3 l4 l6 E  hF
    rw [FX37_reach_b18] at hF
    refine b_if hF (fun hF => ?_) (fun hF => ?_)
    ·
      exact BX37_reach_b65 (N := N) E hF
    ·
      refine b_rv hF (fun _ hF => ?_)
      refine b_rv hF (fun _ hF => ?_)
      refine b_if hF (fun hF => ?_) (fun hF => ?_)
      ·
        exact BX37_reach_b59 (N := N) (K18 := FX37_reach_b18 N n) @ih E hF
      ·
        refine b_rv hF (fun _ hF => ?_)
        refine b_if hF (fun hF => ?_) (fun hF => ?_)
        ·
          exact BX37_reach_b65 (N := N) E hF
        ·
          exact BX37_reach_b59 (N := N) (K18 := FX37_reach_b18 N n) @ih E hF
theorem BX37_reach {σo : fS} {q : Int × fS} {N : Nat} {s : fS} {p0 : Int} {p1 : Int} {p2 : Int} (E : bE 1 σo s) (hF : FX37_reach N p0 p1 p2 s = some q) : bE 1 σo q.2 := by
  unfold FX37_reach at hF
  refine b_rv hF (fun _ hF => ?_)
  refine b_call E (fun _ hq => (BX37_demerits (bE.rf E.S) hq)) hF (fun _ hq4 D4 E4 hF => ?_)
  exact BX37_reach_b18 (N := N) E4 hF
theorem BX37_ask_b204 {σo : fS} {q : Int × fS} {N : Nat} {K39 : Int → Int → Int → Int → Int → Int → Int → Int → fS → Option (Int × fS)} (hk39 : ∀ {s : fS} {l1 : Int} {l2 : Int} {l3 : Int} {l4 : Int} {l5 : Int} {l6 : Int} {l7 : Int} {l8 : Int}, bE 1 σo s → K39 l1 l2 l3 l4 l5 l6 l7 l8 s = some q → bE 1 σo q.2) {s : fS} {l1 : Int} {l2 : Int} {l3 : Int} {l4 : Int} {l5 : Int} {l6 : Int} {l7 : Int} {l8 : Int} (E : bE 1 σo s) (hF : FX37_ask_b204 N K39 l1 l2 l3 l4 l5 l6 l7 l8 s = some q) : bE 1 σo q.2 := by
  unfold FX37_ask_b204 at hF
  exact hk39 E hF
theorem BX37_ask_b194 {σo : fS} {q : Int × fS} {N : Nat} {K39 : Int → Int → Int → Int → Int → Int → Int → Int → fS → Option (Int × fS)} (hk39 : ∀ {s : fS} {l1 : Int} {l2 : Int} {l3 : Int} {l4 : Int} {l5 : Int} {l6 : Int} {l7 : Int} {l8 : Int}, bE 1 σo s → K39 l1 l2 l3 l4 l5 l6 l7 l8 s = some q → bE 1 σo q.2) {s : fS} {l1 : Int} {l2 : Int} {l3 : Int} {l4 : Int} {l5 : Int} {l7 : Int} {l8 : Int} {s0 : Int} (E : bE 1 σo s) (hF : FX37_ask_b194 N K39 l1 l2 l3 l4 l5 l7 l8 s0 s = some q) : bE 1 σo q.2 := by
  unfold FX37_ask_b194 at hF
  refine b_qI E (E.S.m1 (Nat.le_of_ble_eq_true rfl) (Nat.le_of_ble_eq_true rfl)) hF (fun _ D2 E2 hF => ?_)
  exact BX37_ask_b204 (N := N) (K39 := K39) @hk39 E2 hF
theorem BX37_ask_b180 {σo : fS} {q : Int × fS} {N : Nat} {K39 : Int → Int → Int → Int → Int → Int → Int → Int → fS → Option (Int × fS)} (hk39 : ∀ {s : fS} {l1 : Int} {l2 : Int} {l3 : Int} {l4 : Int} {l5 : Int} {l6 : Int} {l7 : Int} {l8 : Int}, bE 1 σo s → K39 l1 l2 l3 l4 l5 l6 l7 l8 s = some q → bE 1 σo q.2) {s : fS} {l1 : Int} {l2 : Int} {l3 : Int} {l4 : Int} {l5 : Int} {l6 : Int} {l7 : Int} {l8 : Int} {s0 : Int} (E : bE 1 σo s) (hF : FX37_ask_b180 N K39 l1 l2 l3 l4 l5 l6 l7 l8 s0 s = some q) : bE 1 σo q.2 := by
  unfold FX37_ask_b180 at hF
  refine b_if hF (fun hF => ?_) (fun hF => ?_)
  ·
    exact BX37_ask_b194 (N := N) (K39 := K39) @hk39 E hF
  ·
    exact BX37_ask_b194 (N := N) (K39 := K39) @hk39 E hF
theorem BX37_ask_b175 {σo : fS} {q : Int × fS} {N : Nat} {K39 : Int → Int → Int → Int → Int → Int → Int → Int → fS → Option (Int × fS)} (hk39 : ∀ {s : fS} {l1 : Int} {l2 : Int} {l3 : Int} {l4 : Int} {l5 : Int} {l6 : Int} {l7 : Int} {l8 : Int}, bE 1 σo s → K39 l1 l2 l3 l4 l5 l6 l7 l8 s = some q → bE 1 σo q.2) {s : fS} {l1 : Int} {l2 : Int} {l3 : Int} {l4 : Int} {l5 : Int} {l6 : Int} {l7 : Int} {l8 : Int} (E : bE 1 σo s) (hF : FX37_ask_b175 N K39 l1 l2 l3 l4 l5 l6 l7 l8 s = some q) : bE 1 σo q.2 := by
  unfold FX37_ask_b175 at hF
  exact BX37_ask_b180 (N := N) (K39 := K39) @hk39 E hF
theorem BX37_ask_b179 {σo : fS} {q : Int × fS} {N : Nat} {K39 : Int → Int → Int → Int → Int → Int → Int → Int → fS → Option (Int × fS)} (hk39 : ∀ {s : fS} {l1 : Int} {l2 : Int} {l3 : Int} {l4 : Int} {l5 : Int} {l6 : Int} {l7 : Int} {l8 : Int}, bE 1 σo s → K39 l1 l2 l3 l4 l5 l6 l7 l8 s = some q → bE 1 σo q.2) {s : fS} {l1 : Int} {l2 : Int} {l3 : Int} {l4 : Int} {l5 : Int} {l6 : Int} {l7 : Int} {l8 : Int} (E : bE 1 σo s) (hF : FX37_ask_b179 N K39 l1 l2 l3 l4 l5 l6 l7 l8 s = some q) : bE 1 σo q.2 := by
  unfold FX37_ask_b179 at hF
  exact BX37_ask_b180 (N := N) (K39 := K39) @hk39 E hF
theorem BX37_ask_b122 {σo : fS} {q : Int × fS} {N : Nat} {K39 : Int → Int → Int → Int → Int → Int → Int → Int → fS → Option (Int × fS)} (hk39 : ∀ {s : fS} {l1 : Int} {l2 : Int} {l3 : Int} {l4 : Int} {l5 : Int} {l6 : Int} {l7 : Int} {l8 : Int}, bE 1 σo s → K39 l1 l2 l3 l4 l5 l6 l7 l8 s = some q → bE 1 σo q.2) {s : fS} {l1 : Int} {l2 : Int} {l3 : Int} {l4 : Int} {l5 : Int} {l6 : Int} {l7 : Int} {l8 : Int} (E : bE 1 σo s) (hF : FX37_ask_b122 N K39 l1 l2 l3 l4 l5 l6 l7 l8 s = some q) : bE 1 σo q.2 := by
  unfold FX37_ask_b122 at hF
  refine b_if hF (fun hF => ?_) (fun hF => ?_)
  ·
    exact BX37_ask_b175 (N := N) (K39 := K39) @hk39 E hF
  ·
    refine b_rv hF (fun _ hF => ?_)
    refine b_rv hF (fun _ hF => ?_)
    refine b_if hF (fun hF => ?_) (fun hF => ?_)
    ·
      exact BX37_ask_b175 (N := N) (K39 := K39) @hk39 E hF
    ·
      refine b_rv hF (fun _ hF => ?_)
      refine b_rv hF (fun _ hF => ?_)
      refine b_if hF (fun hF => ?_) (fun hF => ?_)
      ·
        exact BX37_ask_b179 (N := N) (K39 := K39) @hk39 E hF
      ·
        refine b_call E (fun _ hq => (BX37_isBefore (bE.rf E.S) hq)) hF (fun _ hq10 D10 E10 hF => ?_)
        refine b_if hF (fun hF => ?_) (fun hF => ?_)
        ·
          exact BX37_ask_b179 (N := N) (K39 := K39) @hk39 E10 hF
        ·
          exact BX37_ask_b175 (N := N) (K39 := K39) @hk39 E10 hF
theorem BX37_ask_b108 {σo : fS} {q : Int × fS} {N : Nat} {K39 : Int → Int → Int → Int → Int → Int → Int → Int → fS → Option (Int × fS)} (hk39 : ∀ {s : fS} {l1 : Int} {l2 : Int} {l3 : Int} {l4 : Int} {l5 : Int} {l6 : Int} {l7 : Int} {l8 : Int}, bE 1 σo s → K39 l1 l2 l3 l4 l5 l6 l7 l8 s = some q → bE 1 σo q.2) {s : fS} {l1 : Int} {l2 : Int} {l3 : Int} {l4 : Int} {l5 : Int} {l6 : Int} {l7 : Int} {l8 : Int} (E : bE 1 σo s) (hF : FX37_ask_b108 N K39 l1 l2 l3 l4 l5 l6 l7 l8 s = some q) : bE 1 σo q.2 := by
  unfold FX37_ask_b108 at hF
  refine b_if hF (fun hF => ?_) (fun hF => ?_)
  ·
    exact BX37_ask_b122 (N := N) (K39 := K39) @hk39 E hF
  ·
    refine b_if hF (fun hF => ?_) (fun hF => ?_)
    ·
      exact BX37_ask_b204 (N := N) (K39 := K39) @hk39 E hF
    ·
      exact BX37_ask_b122 (N := N) (K39 := K39) @hk39 E hF
theorem BX37_ask_b325 {σo : fS} {q : Int × fS} {N : Nat} {s : fS} (E : bE 1 σo s) (hF : FX37_ask_b325 N s = some q) : bE 1 σo q.2 := by
  unfold FX37_ask_b325 at hF
  exact b_ret E hF
theorem BX37_ask_b383 {σo : fS} {q : Int × fS} {N : Nat} {s : fS} (E : bE 1 σo s) (hF : FX37_ask_b383 N s = some q) : bE 1 σo q.2 := by
  unfold FX37_ask_b383 at hF
  exact b_ret E hF
theorem BX37_ask_b285 {σo : fS} {q : Int × fS} {N : Nat} {s : fS} {l1 : Int} {l4 : Int} {l6 : Int} {l9 : Int} (E : bE 1 σo s) (hF : FX37_ask_b285 N l1 l4 l6 l9 s = some q) : bE 1 σo q.2 := by
  unfold FX37_ask_b285 at hF
  refine b_pI E (E.S.m1 (Nat.le_of_ble_eq_true rfl) (Nat.le_of_ble_eq_true rfl)) hF (fun _ D2 E2 hF => ?_)
  refine b_pI E2 (E2.S.m1 (Nat.le_of_ble_eq_true rfl) (Nat.le_of_ble_eq_true rfl)) hF (fun _ D4 E4 hF => ?_)
  refine b_if hF (fun hF => ?_) (fun hF => ?_)
  ·
    exact BX37_ask_b325 (N := N) E4 hF
  ·
    refine b_if hF (fun hF => ?_) (fun hF => ?_)
    ·
      refine b_if hF (fun hF => ?_) (fun hF => ?_)
      ·
        exact BX37_ask_b383 (N := N) E4 hF
      ·
        refine b_rv hF (fun _ hF => ?_)
        refine b_call E4 (fun _ hq => (BX37_measure (N := N) (bE.rf E4.S) hq)) hF (fun _ hq10 D10 E10 hF => ?_)
        refine b_rv hF (fun _ hF => ?_)
        refine b_call E10 (fun _ hq => (BX37_judge (bE.rf E10.S) hq)) hF (fun _ hq14 D14 E14 hF => ?_)
        refine b_pI E14 (E14.S.m1 (Nat.le_of_ble_eq_true rfl) (Nat.le_of_ble_eq_true rfl)) hF (fun _ D16 E16 hF => ?_)
        refine b_rv hF (fun _ hF => ?_)
        refine b_call E16 (fun _ hq => (BX37_write (bE.rf E16.S) hq)) hF (fun _ hq21 D21 E21 hF => ?_)
        exact BX37_ask_b383 (N := N) E21 hF
    ·
      exact BX37_ask_b325 (N := N) E4 hF
theorem BX37_ask_b266 {σo : fS} {q : Int × fS} {N : Nat} {s : fS} {l1 : Int} {l4 : Int} {l6 : Int} {s0 : Int} (E : bE 1 σo s) (hF : FX37_ask_b266 N l1 l4 l6 s0 s = some q) : bE 1 σo q.2 := by
  unfold FX37_ask_b266 at hF
  refine b_if hF (fun hF => ?_) (fun hF => ?_)
  ·
    exact BX37_ask_b285 (N := N) E hF
  ·
    refine b_if hF (fun hF => ?_) (fun hF => ?_)
    ·
      exact BX37_ask_b285 (N := N) E hF
    ·
      exact b_ret E hF
theorem BX37_ask_b265 {σo : fS} {q : Int × fS} {N : Nat} {s : fS} {l1 : Int} {l4 : Int} {l6 : Int} (E : bE 1 σo s) (hF : FX37_ask_b265 N l1 l4 l6 s = some q) : bE 1 σo q.2 := by
  unfold FX37_ask_b265 at hF
  exact BX37_ask_b266 (N := N) E hF
theorem BX37_ask_b237 {σo : fS} {q : Int × fS} {N : Nat} {s : fS} {l1 : Int} {l4 : Int} {l5 : Int} {l6 : Int} {l7 : Int} {s0 : Int} (E : bE 1 σo s) (hF : FX37_ask_b237 N l1 l4 l5 l6 l7 s0 s = some q) : bE 1 σo q.2 := by
  unfold FX37_ask_b237 at hF
  refine b_if hF (fun hF => ?_) (fun hF => ?_)
  ·
    exact BX37_ask_b265 (N := N) E hF
  ·
    refine b_if hF (fun hF => ?_) (fun hF => ?_)
    ·
      exact BX37_ask_b265 (N := N) E hF
    ·
      refine b_if hF (fun hF => ?_) (fun hF => ?_)
      ·
        exact BX37_ask_b265 (N := N) E hF
      ·
        refine b_if hF (fun hF => ?_) (fun hF => ?_)
        ·
          exact BX37_ask_b265 (N := N) E hF
        ·
          exact BX37_ask_b266 (N := N) E hF
theorem BX37_ask_b229 {σo : fS} {q : Int × fS} {N : Nat} {s : fS} {l1 : Int} {l4 : Int} {l5 : Int} {l6 : Int} {l7 : Int} {s0 : Int} {s1 : Int} (E : bE 1 σo s) (hF : FX37_ask_b229 N l1 l4 l5 l6 l7 s0 s1 s = some q) : bE 1 σo q.2 := by
  unfold FX37_ask_b229 at hF
  refine b_if hF (fun hF => ?_) (fun hF => ?_)
  ·
    exact BX37_ask_b237 (N := N) E hF
  ·
    exact BX37_ask_b237 (N := N) E hF
theorem BX37_ask_b39 {σo : fS} {q : Int × fS} {N : Nat} : ∀ {n : Nat} {s : fS} {l1 : Int} {l2 : Int} {l3 : Int} {l4 : Int} {l5 : Int} {l6 : Int} {l7 : Int} {l8 : Int}, bE 1 σo s → FX37_ask_b39 N n l1 l2 l3 l4 l5 l6 l7 l8 s = some q → bE 1 σo q.2 := by
  intro n
  induction n with
  | zero => intro s l1 l2 l3 l4 l5 l6 l7 l8 E  hF; simp [FX37_ask_b39] at hF
  | succ n ih =>
    intro s l1 l2 l3 l4 l5 l6 l7 l8 E  hF
    rw [FX37_ask_b39] at hF
    refine b_if hF (fun hF => ?_) (fun hF => ?_)
    ·
      refine b_rv hF (fun _ hF => ?_)
      refine b_if hF (fun hF => ?_) (fun hF => ?_)
      ·
        exact BX37_ask_b229 (N := N) E hF
      ·
        exact BX37_ask_b229 (N := N) E hF
    ·
      refine b_rv hF (fun _ hF => ?_)
      refine b_if hF (fun hF => ?_) (fun hF => ?_)
      ·
        exact BX37_ask_b204 (N := N) (K39 := FX37_ask_b39 N n) @ih E hF
      ·
        refine b_rv hF (fun _ hF => ?_)
        refine b_call E (fun _ hq => (BX37_measure (N := N) (bE.rf E.S) hq)) hF (fun _ hq9 D9 E9 hF => ?_)
        refine b_rv hF (fun _ hF => ?_)
        refine b_call E9 (fun _ hq => (BX37_judge (bE.rf E9.S) hq)) hF (fun _ hq13 D13 E13 hF => ?_)
        refine b_if hF (fun hF => ?_) (fun hF => ?_)
        ·
          exact BX37_ask_b108 (N := N) (K39 := FX37_ask_b39 N n) @ih E13 hF
        ·
          refine b_call E13 (fun _ hq => (BX37_reach (N := N) (bE.rf E13.S) hq)) hF (fun _ hq17 D17 E17 hF => ?_)
          refine b_if hF (fun hF => ?_) (fun hF => ?_)
          ·
            exact BX37_ask_b108 (N := N) (K39 := FX37_ask_b39 N n) @ih E17 hF
          ·
            exact b_ret E17 hF
theorem BX37_ask_b23 {σo : fS} {q : Int × fS} {N : Nat} {s : fS} {l1 : Int} {l2 : Int} {s0 : Int} (E : bE 1 σo s) (hF : FX37_ask_b23 N l1 l2 s0 s = some q) : bE 1 σo q.2 := by
  unfold FX37_ask_b23 at hF
  exact BX37_ask_b39 (N := N) E hF
theorem BX37_ask {σo : fS} {q : Int × fS} {N : Nat} {s : fS} {p0 : Int} (E : bE 1 σo s) (hF : FX37_ask N p0 s = some q) : bE 1 σo q.2 := by
  unfold FX37_ask at hF
  refine b_call E (fun _ hq => (BX37_fine (bE.rf E.S) hq)) hF (fun _ hq3 D3 E3 hF => ?_)
  refine b_if hF (fun hF => ?_) (fun hF => ?_)
  ·
    exact BX37_ask_b23 (N := N) E3 hF
  ·
    exact BX37_ask_b23 (N := N) E3 hF
theorem BX37_make_b122 {σo : fS} {q : Int × fS} {N : Nat} {K89 : Int → Int → fS → Option (Int × fS)} (hk89 : ∀ {s : fS} {l1 : Int} {l2 : Int}, bE 1 σo s → K89 l1 l2 s = some q → bE 1 σo q.2) {s : fS} {l2 : Int} {s0 : Int} (E : bE 1 σo s) (hF : FX37_make_b122 N K89 l2 s0 s = some q) : bE 1 σo q.2 := by
  unfold FX37_make_b122 at hF
  exact hk89 E hF
theorem BX37_make_b117 {σo : fS} {q : Int × fS} {N : Nat} {K89 : Int → Int → fS → Option (Int × fS)} (hk89 : ∀ {s : fS} {l1 : Int} {l2 : Int}, bE 1 σo s → K89 l1 l2 s = some q → bE 1 σo q.2) {s : fS} {l2 : Int} (E : bE 1 σo s) (hF : FX37_make_b117 N K89 l2 s = some q) : bE 1 σo q.2 := by
  unfold FX37_make_b117 at hF
  exact BX37_make_b122 (N := N) (K89 := K89) @hk89 E hF
theorem BX37_make_b129 {σo : fS} {q : Int × fS} {N : Nat} {s : fS} {l1 : Int} (E : bE 1 σo s) (hF : FX37_make_b129 N l1 s = some q) : bE 1 σo q.2 := by
  unfold FX37_make_b129 at hF
  exact b_z E hF
theorem BX37_make_b89 {σo : fS} {q : Int × fS} {N : Nat} : ∀ {n : Nat} {s : fS} {l1 : Int} {l2 : Int}, bE 1 σo s → FX37_make_b89 N n l1 l2 s = some q → bE 1 σo q.2 := by
  intro n
  induction n with
  | zero => intro s l1 l2 E  hF; simp [FX37_make_b89] at hF
  | succ n ih =>
    intro s l1 l2 E  hF
    rw [FX37_make_b89] at hF
    refine b_if hF (fun hF => ?_) (fun hF => ?_)
    ·
      exact BX37_make_b129 (N := N) E hF
    ·
      refine b_if hF (fun hF => ?_) (fun hF => ?_)
      ·
        exact BX37_make_b129 (N := N) E hF
      ·
        refine b_call E (fun _ hq => (BX37_isPlace (N := N) (bE.rf E.S) hq)) hF (fun _ hq3 D3 E3 hF => ?_)
        refine b_if hF (fun hF => ?_) (fun hF => ?_)
        ·
          exact BX37_make_b117 (N := N) (K89 := FX37_make_b89 N n) @ih E3 hF
        ·
          refine b_call E3 (fun _ hq => (BX37_ask (N := N) (bE.rf E3.S) hq)) hF (fun _ hq5 D5 E5 hF => ?_)
          refine b_if hF (fun hF => ?_) (fun hF => ?_)
          ·
            exact BX37_make_b122 (N := N) (K89 := FX37_make_b89 N n) @ih E5 hF
          ·
            exact BX37_make_b117 (N := N) (K89 := FX37_make_b89 N n) @ih E5 hF
theorem BX37_make_b82 {σo : fS} {q : Int × fS} {N : Nat} {s : fS} {s1 : Int} (E : bE 1 σo s) (hF : FX37_make_b82 N s1 s = some q) : bE 1 σo q.2 := by
  unfold FX37_make_b82 at hF
  refine b_pI E (E.S.m1 (Nat.le_of_ble_eq_true rfl) (Nat.le_of_ble_eq_true rfl)) hF (fun _ D1 E1 hF => ?_)
  exact BX37_make_b89 (N := N) E1 hF
theorem BX37_make_b58 {σo : fS} {q : Int × fS} {N : Nat} {s : fS} {s2 : Int} (E : bE 1 σo s) (hF : FX37_make_b58 N s2 s = some q) : bE 1 σo q.2 := by
  unfold FX37_make_b58 at hF
  refine b_rv hF (fun _ hF => ?_)
  refine b_pI E (E.S.m1 (Nat.le_of_ble_eq_true rfl) (Nat.le_of_ble_eq_true rfl)) hF (fun _ D2 E2 hF => ?_)
  refine b_if hF (fun hF => ?_) (fun hF => ?_)
  ·
    exact BX37_make_b82 (N := N) E2 hF
  ·
    refine b_rv hF (fun _ hF => ?_)
    exact BX37_make_b82 (N := N) E2 hF
theorem BX37_make {σo : fS} {q : Int × fS} {N : Nat} {s : fS} (E : bE 1 σo s) (hF : FX37_make N s = some q) : bE 1 σo q.2 := by
  unfold FX37_make at hF
  refine b_pI E (E.S.m1 (Nat.le_of_ble_eq_true rfl) (Nat.le_of_ble_eq_true rfl)) hF (fun _ D1 E1 hF => ?_)
  refine b_qI E1 (E1.S.m1 (Nat.le_of_ble_eq_true rfl) (Nat.le_of_ble_eq_true rfl)) hF (fun _ D3 E3 hF => ?_)
  refine b_qI E3 (E3.S.m1 (Nat.le_of_ble_eq_true rfl) (Nat.le_of_ble_eq_true rfl)) hF (fun _ D5 E5 hF => ?_)
  refine b_qI E5 (E5.S.m1 (Nat.le_of_ble_eq_true rfl) (Nat.le_of_ble_eq_true rfl)) hF (fun _ D7 E7 hF => ?_)
  refine b_qJ E7 (E7.S.m1 (Nat.le_of_ble_eq_true rfl) (Nat.le_of_ble_eq_true rfl)) hF (fun _ D9 E9 hF => ?_)
  refine b_qI E9 (E9.S.m1 (Nat.le_of_ble_eq_true rfl) (Nat.le_of_ble_eq_true rfl)) hF (fun _ D11 E11 hF => ?_)
  refine b_if hF (fun hF => ?_) (fun hF => ?_)
  ·
    exact BX37_make_b58 (N := N) E11 hF
  ·
    exact BX37_make_b58 (N := N) E11 hF
theorem BX37_isLess_b37 {σo : fS} {q : Int × fS} {s : fS} {s0 : Int} (E : bE 1 σo s) (hF : FX37_isLess_b37 s0 s = some q) : bE 1 σo q.2 := by
  unfold FX37_isLess_b37 at hF
  exact b_z E hF
theorem BX37_isLess_b88 {σo : fS} {q : Int × fS} {s : fS} {s0 : Int} (E : bE 1 σo s) (hF : FX37_isLess_b88 s0 s = some q) : bE 1 σo q.2 := by
  unfold FX37_isLess_b88 at hF
  exact b_z E hF
theorem BX37_isLess_b83 {σo : fS} {q : Int × fS} {s : fS} (E : bE 1 σo s) (hF : FX37_isLess_b83 s = some q) : bE 1 σo q.2 := by
  unfold FX37_isLess_b83 at hF
  exact BX37_isLess_b88 E hF
theorem BX37_isLess_b87 {σo : fS} {q : Int × fS} {s : fS} (E : bE 1 σo s) (hF : FX37_isLess_b87 s = some q) : bE 1 σo q.2 := by
  unfold FX37_isLess_b87 at hF
  exact BX37_isLess_b88 E hF
theorem BX37_isLess {σo : fS} {q : Int × fS} {s : fS} {p0 : Int} {p1 : Int} (E : bE 1 σo s) (hF : FX37_isLess p0 p1 s = some q) : bE 1 σo q.2 := by
  unfold FX37_isLess at hF
  refine b_rv hF (fun _ hF => ?_)
  refine b_rv hF (fun _ hF => ?_)
  refine b_if hF (fun hF => ?_) (fun hF => ?_)
  ·
    refine b_rv hF (fun _ hF => ?_)
    refine b_rv hF (fun _ hF => ?_)
    refine b_if hF (fun hF => ?_) (fun hF => ?_)
    ·
      exact BX37_isLess_b83 E hF
    ·
      refine b_rv hF (fun _ hF => ?_)
      refine b_rv hF (fun _ hF => ?_)
      refine b_if hF (fun hF => ?_) (fun hF => ?_)
      ·
        exact BX37_isLess_b87 E hF
      ·
        refine b_rv hF (fun _ hF => ?_)
        refine b_rv hF (fun _ hF => ?_)
        refine b_if hF (fun hF => ?_) (fun hF => ?_)
        ·
          exact BX37_isLess_b87 E hF
        ·
          exact BX37_isLess_b83 E hF
  ·
    refine b_rv hF (fun _ hF => ?_)
    refine b_rv hF (fun _ hF => ?_)
    refine b_if hF (fun hF => ?_) (fun hF => ?_)
    ·
      exact BX37_isLess_b37 E hF
    ·
      exact BX37_isLess_b37 E hF
theorem BX37_apart_b14 {σo : fS} {q : Int × fS} {s : fS} {s0 : Int} (E : bE 1 σo s) (hF : FX37_apart_b14 s0 s = some q) : bE 1 σo q.2 := by
  unfold FX37_apart_b14 at hF
  exact b_ret E hF
theorem BX37_apart {σo : fS} {q : Int × fS} {s : fS} {p0 : Int} {p1 : Int} (E : bE 1 σo s) (hF : FX37_apart p0 p1 s = some q) : bE 1 σo q.2 := by
  unfold FX37_apart at hF
  refine b_if hF (fun hF => ?_) (fun hF => ?_)
  ·
    exact BX37_apart_b14 E hF
  ·
    exact BX37_apart_b14 E hF
