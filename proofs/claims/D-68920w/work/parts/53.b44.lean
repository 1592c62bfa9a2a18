set_option maxRecDepth 100000
set_option maxHeartbeats 4000000
theorem BX36_readWords_b107 {σo : fS} {q : Int × fS} {N : Nat} {s : fS} {l3 : Int} (E : bE 1 σo s) (hF : FX36_readWords_b107 N l3 s = some q) : bE 1 σo q.2 := by
  unfold FX36_readWords_b107 at hF
  refine b_call E (fun _ hq => (BX36_fault (bE.rf E.S) hq)) hF (fun _ hq1 D1 E1 hF => ?_)
  exact b_ret E1 hF
theorem BX36_readWords_b256 {σo : fS} {q : Int × fS} {N : Nat} {K11 : Int → Int → fS → Option (Int × fS)} (hk11 : ∀ {s : fS} {l1 : Int} {l2 : Int}, bE 1 σo s → K11 l1 l2 s = some q → bE 1 σo q.2) {s : fS} {l1 : Int} {l2 : Int} (E : bE 1 σo s) (hF : FX36_readWords_b256 N K11 l1 l2 s = some q) : bE 1 σo q.2 := by
  unfold FX36_readWords_b256 at hF
  refine b_call E (fun _ hq => (BX36_spaces (N := N) (bE.rf E.S) hq)) hF (fun _ hq2 D2 E2 hF => ?_)
  exact hk11 E2 hF
theorem BX36_readWords_b215 {σo : fS} {q : Int × fS} {N : Nat} {K11 : Int → Int → fS → Option (Int × fS)} (hk11 : ∀ {s : fS} {l1 : Int} {l2 : Int}, bE 1 σo s → K11 l1 l2 s = some q → bE 1 σo q.2) : ∀ {n : Nat} {s : fS} {l1 : Int} {l2 : Int} {l4 : Int} {l5 : Int}, bE 1 σo s → FX36_readWords_b215 N K11 n l1 l2 l4 l5 s = some q → bE 1 σo q.2 := by
  intro n
  induction n with
  | zero => intro s l1 l2 l4 l5 E  hF; simp [FX36_readWords_b215] at hF
  | succ n ih =>
    intro s l1 l2 l4 l5 E  hF
    rw [FX36_readWords_b215] at hF
    refine b_if hF (fun hF => ?_) (fun hF => ?_)
    ·
      exact BX36_readWords_b256 (N := N) (K11 := K11) @hk11 E hF
    ·
      refine b_if hF (fun hF => ?_) (fun hF => ?_)
      ·
        exact BX36_readWords_b256 (N := N) (K11 := K11) @hk11 E hF
      ·
        refine b_rv hF (fun _ hF => ?_)
        refine b_rv hF (fun _ hF => ?_)
        refine b_qI E (E.S.m1 (Nat.le_of_ble_eq_true rfl) (Nat.le_of_ble_eq_true rfl)) hF (fun _ D7 E7 hF => ?_)
        exact ih E7 hF
theorem BX36_readWords_b212 {σo : fS} {q : Int × fS} {N : Nat} {K11 : Int → Int → fS → Option (Int × fS)} (hk11 : ∀ {s : fS} {l1 : Int} {l2 : Int}, bE 1 σo s → K11 l1 l2 s = some q → bE 1 σo q.2) {s : fS} {l1 : Int} {l2 : Int} {l4 : Int} (E : bE 1 σo s) (hF : FX36_readWords_b212 N K11 l1 l2 l4 s = some q) : bE 1 σo q.2 := by
  unfold FX36_readWords_b212 at hF
  exact BX36_readWords_b215 (N := N) (K11 := K11) @hk11 E hF
theorem BX36_readWords_b122 {σo : fS} {q : Int × fS} {N : Nat} {K11 : Int → Int → fS → Option (Int × fS)} (hk11 : ∀ {s : fS} {l1 : Int} {l2 : Int}, bE 1 σo s → K11 l1 l2 s = some q → bE 1 σo q.2) : ∀ {n : Nat} {s : fS} {l1 : Int} {l2 : Int} {l4 : Int} {l5 : Int}, bE 1 σo s → FX36_readWords_b122 N K11 n l1 l2 l4 l5 s = some q → bE 1 σo q.2 := by
  intro n
  induction n with
  | zero => intro s l1 l2 l4 l5 E  hF; simp [FX36_readWords_b122] at hF
  | succ n ih =>
    intro s l1 l2 l4 l5 E  hF
    rw [FX36_readWords_b122] at hF
    refine b_if hF (fun hF => ?_) (fun hF => ?_)
    ·
      refine b_pI E (E.S.m1 (Nat.le_of_ble_eq_true rfl) (Nat.le_of_ble_eq_true rfl)) hF (fun _ D3 E3 hF => ?_)
      refine b_rv hF (fun _ hF => ?_)
      refine b_qI E3 (E3.S.m1 (Nat.le_of_ble_eq_true rfl) (Nat.le_of_ble_eq_true rfl)) hF (fun _ D9 E9 hF => ?_)
      exact BX36_readWords_b212 (N := N) (K11 := K11) @hk11 E9 hF
    ·
      refine b_rv hF (fun _ hF => ?_)
      refine b_rv hF (fun _ hF => ?_)
      refine b_qI E (E.S.m1 (Nat.le_of_ble_eq_true rfl) (Nat.le_of_ble_eq_true rfl)) hF (fun _ D15 E15 hF => ?_)
      refine b_rv hF (fun _ hF => ?_)
      refine b_rv hF (fun _ hF => ?_)
      refine b_qI E15 (E15.S.m1 (Nat.le_of_ble_eq_true rfl) (Nat.le_of_ble_eq_true rfl)) hF (fun _ D21 E21 hF => ?_)
      exact ih E21 hF
theorem BX36_readWords_b11 {σo : fS} {q : Int × fS} {N : Nat} : ∀ {n : Nat} {s : fS} {l1 : Int} {l2 : Int}, bE 1 σo s → FX36_readWords_b11 N n l1 l2 s = some q → bE 1 σo q.2 := by
  intro n
  induction n with
  | zero => intro s l1 l2 E  hF; simp [FX36_readWords_b11] at hF
  | succ n ih =>
    intro s l1 l2 E  hF
    rw [FX36_readWords_b11] at hF
    refine b_if hF (fun hF => ?_) (fun hF => ?_)
    ·
      exact b_ret E hF
    ·
      refine b_call E (fun _ hq => (BX36_readWord (N := N) (bE.rf E.S) hq)) hF (fun _ hq5 D5 E5 hF => ?_)
      refine b_if hF (fun hF => ?_) (fun hF => ?_)
      ·
        refine b_if hF (fun hF => ?_) (fun hF => ?_)
        ·
          refine b_call E5 (fun _ hq => (BX36_toldAt (N := N) (bE.rf E5.S) (E5.S.m1 (Nat.le_of_ble_eq_true rfl) (Nat.le_of_ble_eq_true rfl)) hq)) hF (fun _ hq10 D10 E10 hF => ?_)
          refine b_if hF (fun hF => ?_) (fun hF => ?_)
          ·
            exact BX36_readWords_b212 (N := N) (K11 := FX36_readWords_b11 N n) @ih E10 hF
          ·
            refine b_if hF (fun hF => ?_) (fun hF => ?_)
            ·
              exact BX36_readWords_b107 (N := N) E10 hF
            ·
              refine b_rv hF (fun _ hF => ?_)
              refine b_if hF (fun hF => ?_) (fun hF => ?_)
              ·
                exact BX36_readWords_b122 (N := N) (K11 := FX36_readWords_b11 N n) @ih E10 hF
              ·
                exact BX36_readWords_b107 (N := N) E10 hF
        ·
          refine b_call E5 (fun _ hq => (BX36_fault (bE.rf E5.S) hq)) hF (fun _ hq17 D17 E17 hF => ?_)
          exact b_ret E17 hF
      ·
        refine b_call E5 (fun _ hq => (BX36_fault (bE.rf E5.S) hq)) hF (fun _ hq19 D19 E19 hF => ?_)
        exact b_ret E19 hF
theorem BX36_readWords {σo : fS} {q : Int × fS} {N : Nat} {s : fS} {p0 : Int} (E : bE 1 σo s) (hF : FX36_readWords N p0 s = some q) : bE 1 σo q.2 := by
  unfold FX36_readWords at hF
  refine b_pI E (E.S.m1 (Nat.le_of_ble_eq_true rfl) (Nat.le_of_ble_eq_true rfl)) hF (fun _ D1 E1 hF => ?_)
  refine b_call E1 (fun _ hq => (BX36_spaces (N := N) (bE.rf E1.S) hq)) hF (fun _ hq3 D3 E3 hF => ?_)
  exact BX36_readWords_b11 (N := N) E3 hF
theorem BX36_words_b26 {σo : fS} {q : Int × fS} {N : Nat} {s : fS} {l2 : Int} (E : bE 1 σo s) (hF : FX36_words_b26 N l2 s = some q) : bE 1 σo q.2 := by
  unfold FX36_words_b26 at hF
  refine b_pI E (E.S.m1 (Nat.le_of_ble_eq_true rfl) (Nat.le_of_ble_eq_true rfl)) hF (fun _ D1 E1 hF => ?_)
  exact b_ret E1 hF
theorem BX36_words {σo : fS} {q : Int × fS} {N : Nat} {s : fS} (E : bE 1 σo s) (hF : FX36_words N s = some q) : bE 1 σo q.2 := by
  unfold FX36_words at hF
  refine b_call E (fun _ hq => (BX36_readWords (N := N) (bE.rf E.S) hq)) hF (fun _ hq3 D3 E3 hF => ?_)
  refine b_pI E3 (E3.S.m1 (Nat.le_of_ble_eq_true rfl) (Nat.le_of_ble_eq_true rfl)) hF (fun _ D4 E4 hF => ?_)
  refine b_if hF (fun hF => ?_) (fun hF => ?_)
  ·
    exact BX36_words_b26 (N := N) E4 hF
  ·
    refine b_call E4 (fun _ hq => (BX36_readWords (N := N) (bE.rf E4.S) hq)) hF (fun _ hq6 D6 E6 hF => ?_)
    exact BX36_words_b26 (N := N) E6 hF
theorem BX38_open {σo : fS} {q : Unit × fS} {N : Nat} {s : fS} (E : bE 1 σo s) (hF : FX38_open N s = some q) : bE 1 σo q.2 := by
  unfold FX38_open at hF
  refine b_call E (fun _ hq => (BX38_lay (bE.rf E.S) hq)) hF (fun _ hq2 D2 E2 hF => ?_)
  refine b_call E2 (fun _ hq => (BX38_lay (bE.rf E2.S) hq)) hF (fun _ hq4 D4 E4 hF => ?_)
  refine b_call E4 (fun _ hq => (BX38_layNumber (N := N) (bE.rf E4.S) hq)) hF (fun _ hq6 D6 E6 hF => ?_)
  refine b_call E6 (fun _ hq => (BX38_layNumber (N := N) (bE.rf E6.S) hq)) hF (fun _ hq8 D8 E8 hF => ?_)
  refine b_call E8 (fun _ hq => (BX38_layNumber (N := N) (bE.rf E8.S) hq)) hF (fun _ hq10 D10 E10 hF => ?_)
  refine b_call E10 (fun _ hq => (BX38_lay (bE.rf E10.S) hq)) hF (fun _ hq12 D12 E12 hF => ?_)
  exact b_ret E12 hF
theorem BX38_begin {σo : fS} {q : Unit × fS} {N : Nat} {s : fS} (E : bE 1 σo s) (hF : FX38_begin N s = some q) : bE 1 σo q.2 := by
  unfold FX38_begin at hF
  refine b_pI E (E.S.m1 (Nat.le_of_ble_eq_true rfl) (Nat.le_of_ble_eq_true rfl)) hF (fun _ D1 E1 hF => ?_)
  refine b_pI E1 (E1.S.m1 (Nat.le_of_ble_eq_true rfl) (Nat.le_of_ble_eq_true rfl)) hF (fun _ D2 E2 hF => ?_)
  refine b_pI E2 (E2.S.m1 (Nat.le_of_ble_eq_true rfl) (Nat.le_of_ble_eq_true rfl)) hF (fun _ D3 E3 hF => ?_)
  refine b_pI E3 (E3.S.m1 (Nat.le_of_ble_eq_true rfl) (Nat.le_of_ble_eq_true rfl)) hF (fun _ D4 E4 hF => ?_)
  refine b_pI E4 (E4.S.m1 (Nat.le_of_ble_eq_true rfl) (Nat.le_of_ble_eq_true rfl)) hF (fun _ D5 E5 hF => ?_)
  refine b_pI E5 (E5.S.m1 (Nat.le_of_ble_eq_true rfl) (Nat.le_of_ble_eq_true rfl)) hF (fun _ D6 E6 hF => ?_)
  refine b_call E6 (fun _ hq => (BX38_open (N := N) (bE.rf E6.S) hq)) hF (fun _ hq8 D8 E8 hF => ?_)
  exact b_ret E8 hF
theorem BX35_tick_b27 {σo : fS} {q : Unit × fS} {s : fS} (E : bE 1 σo s) (hF : FX35_tick_b27 s = some q) : bE 1 σo q.2 := by
  unfold FX35_tick_b27 at hF
  exact b_ret E hF
theorem BX35_tick {σo : fS} {q : Unit × fS} {s : fS} (E : bE 1 σo s) (hF : FX35_tick s = some q) : bE 1 σo q.2 := by
  unfold FX35_tick at hF
  refine b_pI E (E.S.m1 (Nat.le_of_ble_eq_true rfl) (Nat.le_of_ble_eq_true rfl)) hF (fun _ D2 E2 hF => ?_)
  refine b_if hF (fun hF => ?_) (fun hF => ?_)
  ·
    exact BX35_tick_b27 E2 hF
  ·
    refine b_call E2 (fun _ hq => (BX35_fail (bE.rf E2.S) hq)) hF (fun _ hq6 D6 E6 hF => ?_)
    exact BX35_tick_b27 E6 hF
theorem BX38_close_b148 {σo : fS} {q : Unit × fS} {N : Nat} {K134 : Int → fS → Option (Unit × fS)} (hk134 : ∀ {s : fS} {l2 : Int}, bE 1 σo s → K134 l2 s = some q → bE 1 σo q.2) {s : fS} {l2 : Int} (E : bE 1 σo s) (hF : FX38_close_b148 N K134 l2 s = some q) : bE 1 σo q.2 := by
  unfold FX38_close_b148 at hF
  refine b_call E (fun _ hq => (BX38_lay (bE.rf E.S) hq)) hF (fun _ hq2 D2 E2 hF => ?_)
  exact hk134 E2 hF
theorem BX38_close_b134 {σo : fS} {q : Unit × fS} {N : Nat} : ∀ {n : Nat} {s : fS} {l2 : Int}, bE 1 σo s → FX38_close_b134 N n l2 s = some q → bE 1 σo q.2 := by
  intro n
  induction n with
  | zero => intro s l2 E  hF; simp [FX38_close_b134] at hF
  | succ n ih =>
    intro s l2 E  hF
    rw [FX38_close_b134] at hF
    refine b_if hF (fun hF => ?_) (fun hF => ?_)
    ·
      exact BX38_close_b148 (N := N) (K134 := FX38_close_b134 N n) @ih E hF
    ·
      refine b_if hF (fun hF => ?_) (fun hF => ?_)
      ·
        exact b_ret E hF
      ·
        exact BX38_close_b148 (N := N) (K134 := FX38_close_b134 N n) @ih E hF
theorem BX38_close_b94 {σo : fS} {q : Unit × fS} {N : Nat} : ∀ {n : Nat} {s : fS} {l1 : Int} {l2 : Int}, bE 1 σo s → FX38_close_b94 N n l1 l2 s = some q → bE 1 σo q.2 := by
  intro n
  induction n with
  | zero => intro s l1 l2 E  hF; simp [FX38_close_b94] at hF
  | succ n ih =>
    intro s l1 l2 E  hF
    rw [FX38_close_b94] at hF
    refine b_if hF (fun hF => ?_) (fun hF => ?_)
    ·
      refine b_call E (fun _ hq => (BX38_lay (bE.rf E.S) hq)) hF (fun _ hq2 D2 E2 hF => ?_)
      refine b_call E2 (fun _ hq => (BX38_layNumber (N := N) (bE.rf E2.S) hq)) hF (fun _ hq4 D4 E4 hF => ?_)
      refine b_call E4 (fun _ hq => (BX38_lay (bE.rf E4.S) hq)) hF (fun _ hq6 D6 E6 hF => ?_)
      exact BX38_close_b134 (N := N) E6 hF
    ·
      refine b_rv hF (fun _ hF => ?_)
      refine b_call E (fun _ hq => (BX38_define (N := N) (bE.rf E.S) hq)) hF (fun _ hq10 D10 E10 hF => ?_)
      exact ih E10 hF
theorem BX38_close_b74 {σo : fS} {q : Unit × fS} {N : Nat} {s : fS} {l1 : Int} {s1 : Int} (E : bE 1 σo s) (hF : FX38_close_b74 N l1 s1 s = some q) : bE 1 σo q.2 := by
  unfold FX38_close_b74 at hF
  refine b_call E (fun _ hq => (BX38_layNumber (N := N) (bE.rf E.S) hq)) hF (fun _ hq2 D2 E2 hF => ?_)
  refine b_call E2 (fun _ hq => (BX38_layNumber (N := N) (bE.rf E2.S) hq)) hF (fun _ hq5 D5 E5 hF => ?_)
  exact BX38_close_b94 (N := N) E5 hF
theorem BX38_close {σo : fS} {q : Unit × fS} {N : Nat} {s : fS} (E : bE 1 σo s) (hF : FX38_close N s = some q) : bE 1 σo q.2 := by
  unfold FX38_close at hF
  refine b_call E (fun _ hq => (BX38_lay (bE.rf E.S) hq)) hF (fun _ hq3 D3 E3 hF => ?_)
  refine b_call E3 (fun _ hq => (BX38_layNumber (N := N) (bE.rf E3.S) hq)) hF (fun _ hq6 D6 E6 hF => ?_)
  refine b_call E6 (fun _ hq => (BX38_layNumber (N := N) (bE.rf E6.S) hq)) hF (fun _ hq8 D8 E8 hF => ?_)
  refine b_call E8 (fun _ hq => (BX38_layNumber (N := N) (bE.rf E8.S) hq)) hF (fun _ hq10 D10 E10 hF => ?_)
  refine b_call E10 (fun _ hq => (BX38_layNumber (N := N) (bE.rf E10.S) hq)) hF (fun _ hq12 D12 E12 hF => ?_)
  refine b_call E12 (fun _ hq => (BX38_layNumber (N := N) (bE.rf E12.S) hq)) hF (fun _ hq15 D15 E15 hF => ?_)
  refine b_call E15 (fun _ hq => (BX38_layNumber (N := N) (bE.rf E15.S) hq)) hF (fun _ hq18 D18 E18 hF => ?_)
  refine b_if hF (fun hF => ?_) (fun hF => ?_)
  ·
    exact BX38_close_b74 (N := N) E18 hF
  ·
    exact BX38_close_b74 (N := N) E18 hF
theorem BX35_run_b59 {σo : fS} {q : Int × fS} {N : Nat} {SE : Int → fS → Option (Unit × fS)} {SL : Int → Int → Int → fS → Option (Int × fS)} {SN : fS → Option (Int × fS)} {K11 : fS → Option (Int × fS)} (hsE : ∀ {s : fS} {x1 : Int} {q}, bS 1 s → SE x1 s = some q → bE 1 s q.2) (hsL : ∀ {s : fS} {x1 : Int} {x2 : Int} {x3 : Int} {q}, bS 1 s → SL x1 x2 x3 s = some q → bE 1 s q.2) (hsN : ∀ {s : fS} {q}, bS 1 s → SN s = some q → bE 1 s q.2) (hk11 : ∀ {s : fS} , bE 1 σo s → K11 s = some q → bE 1 σo q.2) {s : fS} (E : bE 1 σo s) (hF : FX35_run_b59 N SE SL SN K11 s = some q) : bE 1 σo q.2 := by
  unfold FX35_run_b59 at hF
  exact hk11 E hF
theorem BX35_run_b174 {σo : fS} {q : Int × fS} {N : Nat} {SE : Int → fS → Option (Unit × fS)} {SL : Int → Int → Int → fS → Option (Int × fS)} {SN : fS → Option (Int × fS)} (hsE : ∀ {s : fS} {x1 : Int} {q}, bS 1 s → SE x1 s = some q → bE 1 s q.2) (hsL : ∀ {s : fS} {x1 : Int} {x2 : Int} {x3 : Int} {q}, bS 1 s → SL x1 x2 x3 s = some q → bE 1 s q.2) (hsN : ∀ {s : fS} {q}, bS 1 s → SN s = some q → bE 1 s q.2) {s : fS} {s0 : Int} (E : bE 1 σo s) (hF : FX35_run_b174 N SE SL SN s0 s = some q) : bE 1 σo q.2 := by
  unfold FX35_run_b174 at hF
  exact b_ret E hF
theorem BX35_run_b144 {σo : fS} {q : Int × fS} {N : Nat} {SE : Int → fS → Option (Unit × fS)} {SL : Int → Int → Int → fS → Option (Int × fS)} {SN : fS → Option (Int × fS)} (hsE : ∀ {s : fS} {x1 : Int} {q}, bS 1 s → SE x1 s = some q → bE 1 s q.2) (hsL : ∀ {s : fS} {x1 : Int} {x2 : Int} {x3 : Int} {q}, bS 1 s → SL x1 x2 x3 s = some q → bE 1 s q.2) (hsN : ∀ {s : fS} {q}, bS 1 s → SN s = some q → bE 1 s q.2) {s : fS} (E : bE 1 σo s) (hF : FX35_run_b144 N SE SL SN s = some q) : bE 1 σo q.2 := by
  unfold FX35_run_b144 at hF
  refine b_call E (fun _ hq => (BX38_close (N := N) (bE.rf E.S) hq)) hF (fun _ hq3 D3 E3 hF => ?_)
  refine b_if hF (fun hF => ?_) (fun hF => ?_)
  ·
    exact BX35_run_b174 (N := N) (SE := SE) (SL := SL) (SN := SN) @hsE @hsL @hsN E3 hF
  ·
    exact BX35_run_b174 (N := N) (SE := SE) (SL := SL) (SN := SN) @hsE @hsL @hsN E3 hF
theorem BX35_run_b112 {σo : fS} {q : Int × fS} {N : Nat} {SE : Int → fS → Option (Unit × fS)} {SL : Int → Int → Int → fS → Option (Int × fS)} {SN : fS → Option (Int × fS)} (hsE : ∀ {s : fS} {x1 : Int} {q}, bS 1 s → SE x1 s = some q → bE 1 s q.2) (hsL : ∀ {s : fS} {x1 : Int} {x2 : Int} {x3 : Int} {q}, bS 1 s → SL x1 x2 x3 s = some q → bE 1 s q.2) (hsN : ∀ {s : fS} {q}, bS 1 s → SN s = some q → bE 1 s q.2) {s : fS} (E : bE 1 σo s) (hF : FX35_run_b112 N SE SL SN s = some q) : bE 1 σo q.2 := by
  unfold FX35_run_b112 at hF
  refine b_if hF (fun hF => ?_) (fun hF => ?_)
  ·
    exact BX35_run_b144 (N := N) (SE := SE) (SL := SL) (SN := SN) @hsE @hsL @hsN E hF
  ·
    refine b_call E (fun _ hq => (BX35_outer (N := N) (SL := SL) @hsL (bE.rf E.S) hq)) hF (fun _ hq3 D3 E3 hF => ?_)
    refine b_call E3 (fun _ hq => (BX35_outer (N := N) (SL := SL) @hsL (bE.rf E3.S) hq)) hF (fun _ hq5 D5 E5 hF => ?_)
    exact BX35_run_b144 (N := N) (SE := SE) (SL := SL) (SN := SN) @hsE @hsL @hsN E5 hF
theorem BX35_run_b106 {σo : fS} {q : Int × fS} {N : Nat} {SE : Int → fS → Option (Unit × fS)} {SL : Int → Int → Int → fS → Option (Int × fS)} {SN : fS → Option (Int × fS)} (hsE : ∀ {s : fS} {x1 : Int} {q}, bS 1 s → SE x1 s = some q → bE 1 s q.2) (hsL : ∀ {s : fS} {x1 : Int} {x2 : Int} {x3 : Int} {q}, bS 1 s → SL x1 x2 x3 s = some q → bE 1 s q.2) (hsN : ∀ {s : fS} {q}, bS 1 s → SN s = some q → bE 1 s q.2) {s : fS} (E : bE 1 σo s) (hF : FX35_run_b106 N SE SL SN s = some q) : bE 1 σo q.2 := by
  unfold FX35_run_b106 at hF
  refine b_call E (fun _ hq => (BX35_fail (bE.rf E.S) hq)) hF (fun _ hq2 D2 E2 hF => ?_)
  exact BX35_run_b112 (N := N) (SE := SE) (SL := SL) (SN := SN) @hsE @hsL @hsN E2 hF
theorem BX35_run_b85 {σo : fS} {q : Int × fS} {N : Nat} {SE : Int → fS → Option (Unit × fS)} {SL : Int → Int → Int → fS → Option (Int × fS)} {SN : fS → Option (Int × fS)} (hsE : ∀ {s : fS} {x1 : Int} {q}, bS 1 s → SE x1 s = some q → bE 1 s q.2) (hsL : ∀ {s : fS} {x1 : Int} {x2 : Int} {x3 : Int} {q}, bS 1 s → SL x1 x2 x3 s = some q → bE 1 s q.2) (hsN : ∀ {s : fS} {q}, bS 1 s → SN s = some q → bE 1 s q.2) {s : fS} (E : bE 1 σo s) (hF : FX35_run_b85 N SE SL SN s = some q) : bE 1 σo q.2 := by
  unfold FX35_run_b85 at hF
  refine b_if hF (fun hF => ?_) (fun hF => ?_)
  ·
    exact BX35_run_b112 (N := N) (SE := SE) (SL := SL) (SN := SN) @hsE @hsL @hsN E hF
  ·
    refine b_if hF (fun hF => ?_) (fun hF => ?_)
    ·
      exact BX35_run_b106 (N := N) (SE := SE) (SL := SL) (SN := SN) @hsE @hsL @hsN E hF
    ·
      refine b_if hF (fun hF => ?_) (fun hF => ?_)
      ·
        exact BX35_run_b112 (N := N) (SE := SE) (SL := SL) (SN := SN) @hsE @hsL @hsN E hF
      ·
        exact BX35_run_b106 (N := N) (SE := SE) (SL := SL) (SN := SN) @hsE @hsL @hsN E hF
theorem BX35_run_b62 {σo : fS} {q : Int × fS} {N : Nat} {SE : Int → fS → Option (Unit × fS)} {SL : Int → Int → Int → fS → Option (Int × fS)} {SN : fS → Option (Int × fS)} (hsE : ∀ {s : fS} {x1 : Int} {q}, bS 1 s → SE x1 s = some q → bE 1 s q.2) (hsL : ∀ {s : fS} {x1 : Int} {x2 : Int} {x3 : Int} {q}, bS 1 s → SL x1 x2 x3 s = some q → bE 1 s q.2) (hsN : ∀ {s : fS} {q}, bS 1 s → SN s = some q → bE 1 s q.2) {s : fS} (E : bE 1 σo s) (hF : FX35_run_b62 N SE SL SN s = some q) : bE 1 σo q.2 := by
  unfold FX35_run_b62 at hF
  refine b_call E (fun _ hq => (BX35_endWord (N := N) (bE.rf E.S) hq)) hF (fun _ hq2 D2 E2 hF => ?_)
  refine b_if hF (fun hF => ?_) (fun hF => ?_)
  ·
    exact BX35_run_b85 (N := N) (SE := SE) (SL := SL) (SN := SN) @hsE @hsL @hsN E2 hF
  ·
    refine b_call E2 (fun _ hq => (BX35_mode (bE.rf E2.S) hq)) hF (fun _ hq5 D5 E5 hF => ?_)
    refine b_if hF (fun hF => ?_) (fun hF => ?_)
    ·
      exact BX35_run_b85 (N := N) (SE := SE) (SL := SL) (SN := SN) @hsE @hsL @hsN E5 hF
    ·
      refine b_call E5 (fun _ hq => (BX35_endParagraph (N := N) (SL := SL) @hsL (bE.rf E5.S) hq)) hF (fun _ hq7 D7 E7 hF => ?_)
      exact BX35_run_b85 (N := N) (SE := SE) (SL := SL) (SN := SN) @hsE @hsL @hsN E7 hF
theorem BX35_run_b11 {σo : fS} {q : Int × fS} {N : Nat} {SE : Int → fS → Option (Unit × fS)} {SL : Int → Int → Int → fS → Option (Int × fS)} {SN : fS → Option (Int × fS)} (hsE : ∀ {s : fS} {x1 : Int} {q}, bS 1 s → SE x1 s = some q → bE 1 s q.2) (hsL : ∀ {s : fS} {x1 : Int} {x2 : Int} {x3 : Int} {q}, bS 1 s → SL x1 x2 x3 s = some q → bE 1 s q.2) (hsN : ∀ {s : fS} {q}, bS 1 s → SN s = some q → bE 1 s q.2) : ∀ {n : Nat} {s : fS} , bE 1 σo s → FX35_run_b11 N SE SL SN n s = some q → bE 1 σo q.2 := by
  intro n
  induction n with
  | zero => intro s  E  hF; simp [FX35_run_b11] at hF
  | succ n ih =>
    intro s  E  hF
    rw [FX35_run_b11] at hF
    refine b_if hF (fun hF => ?_) (fun hF => ?_)
    ·
      exact BX35_run_b62 (N := N) (SE := SE) (SL := SL) (SN := SN) @hsE @hsL @hsN E hF
    ·
      refine b_if hF (fun hF => ?_) (fun hF => ?_)
      ·
        exact BX35_run_b62 (N := N) (SE := SE) (SL := SL) (SN := SN) @hsE @hsL @hsN E hF
      ·
        refine b_call E (fun _ hq => (BX35_getExpanded (N := N) (SE := SE) @hsE (bE.rf E.S) hq)) hF (fun _ hq4 D4 E4 hF => ?_)
        refine b_if hF (fun hF => ?_) (fun hF => ?_)
        ·
          refine b_call E4 (fun _ hq => (BX35_tick (bE.rf E4.S) hq)) hF (fun _ hq6 D6 E6 hF => ?_)
          refine b_if hF (fun hF => ?_) (fun hF => ?_)
          ·
            exact BX35_run_b59 (N := N) (SE := SE) (SL := SL) (SN := SN) (K11 := FX35_run_b11 N SE SL SN n) @hsE @hsL @hsN @ih E6 hF
          ·
            refine b_call E6 (fun _ hq => (BX35_done (N := N) (SE := SE) (SL := SL) (SN := SN) @hsE @hsL @hsN (bE.rf E6.S) hq)) hF (fun _ hq9 D9 E9 hF => ?_)
            exact BX35_run_b59 (N := N) (SE := SE) (SL := SL) (SN := SN) (K11 := FX35_run_b11 N SE SL SN n) @hsE @hsL @hsN @ih E9 hF
        ·
          refine b_pZ E4 (E4.S.m1 (Nat.le_of_ble_eq_true rfl) (Nat.le_of_ble_eq_true rfl)) hF (fun _ D10 E10 hF => ?_)
          exact BX35_run_b59 (N := N) (SE := SE) (SL := SL) (SN := SN) (K11 := FX35_run_b11 N SE SL SN n) @hsE @hsL @hsN @ih E10 hF
theorem BX35_run {σo : fS} {q : Int × fS} {N : Nat} {SE : Int → fS → Option (Unit × fS)} {SL : Int → Int → Int → fS → Option (Int × fS)} {SN : fS → Option (Int × fS)} (hsE : ∀ {s : fS} {x1 : Int} {q}, bS 1 s → SE x1 s = some q → bE 1 s q.2) (hsL : ∀ {s : fS} {x1 : Int} {x2 : Int} {x3 : Int} {q}, bS 1 s → SL x1 x2 x3 s = some q → bE 1 s q.2) (hsN : ∀ {s : fS} {q}, bS 1 s → SN s = some q → bE 1 s q.2) {s : fS} (E : bE 1 σo s) (hF : FX35_run N SE SL SN s = some q) : bE 1 σo q.2 := by
  unfold FX35_run at hF
  refine b_call E (fun _ hq => (BX35_clear (N := N) (bE.rf E.S) hq)) hF (fun _ hq2 D2 E2 hF => ?_)
  refine b_call E2 (fun _ hq => (BX38_begin (N := N) (bE.rf E2.S) hq)) hF (fun _ hq5 D5 E5 hF => ?_)
  exact BX35_run_b11 (N := N) (SE := SE) (SL := SL) (SN := SN) @hsE @hsL @hsN E5 hF
theorem BX35_end_b109 {σo : fS} {q : Int × fS} {N : Nat} {SE : Int → fS → Option (Unit × fS)} {SL : Int → Int → Int → fS → Option (Int × fS)} {SN : fS → Option (Int × fS)} (hsE : ∀ {s : fS} {x1 : Int} {q}, bS 1 s → SE x1 s = some q → bE 1 s q.2) (hsL : ∀ {s : fS} {x1 : Int} {x2 : Int} {x3 : Int} {q}, bS 1 s → SL x1 x2 x3 s = some q → bE 1 s q.2) (hsN : ∀ {s : fS} {q}, bS 1 s → SN s = some q → bE 1 s q.2) {s : fS} {l3 : Int} (E : bE 1 σo s) (hF : FX35_end_b109 N SE SL SN l3 s = some q) : bE 1 σo q.2 := by
  unfold FX35_end_b109 at hF
  exact b_ret E hF
theorem BX35_end_b94 {σo : fS} {q : Int × fS} {N : Nat} {SE : Int → fS → Option (Unit × fS)} {SL : Int → Int → Int → fS → Option (Int × fS)} {SN : fS → Option (Int × fS)} (hsE : ∀ {s : fS} {x1 : Int} {q}, bS 1 s → SE x1 s = some q → bE 1 s q.2) (hsL : ∀ {s : fS} {x1 : Int} {x2 : Int} {x3 : Int} {q}, bS 1 s → SL x1 x2 x3 s = some q → bE 1 s q.2) (hsN : ∀ {s : fS} {q}, bS 1 s → SN s = some q → bE 1 s q.2) {s : fS} {l1 : Int} {l2 : Int} {l3 : Int} {s1 : Int} {s2 : Nat} (E : bE 1 σo s) (os2 : bO 1 s s2) (hF : FX35_end_b94 N SE SL SN l1 l2 l3 s1 s2 s = some q) : bE 1 σo q.2 := by
  unfold FX35_end_b94 at hF
  refine b_K hF (fun hF => ?_)
  refine b_qO E (E.S.m1 (Nat.le_of_ble_eq_true rfl) (Nat.le_of_ble_eq_true rfl)) os2 hF (fun _ D1 E1 hF => ?_)
  refine b_rO E1 (E1.S.m1 (Nat.le_of_ble_eq_true rfl) (Nat.le_of_ble_eq_true rfl)) hF (fun _ o3 hF => ?_)
  refine b_K hF (fun hF => ?_)
  refine b_call E1 (fun _ hq => (BX40_take (N := N) (bE.rf E1.S) o3 hq)) hF (fun _ hq6 D6 E6 hF => ?_)
  exact BX35_end_b109 (N := N) (SE := SE) (SL := SL) (SN := SN) @hsE @hsL @hsN E6 hF
theorem BX35_end_b180 {σo : fS} {q : Int × fS} {N : Nat} {SE : Int → fS → Option (Unit × fS)} {SL : Int → Int → Int → fS → Option (Int × fS)} {SN : fS → Option (Int × fS)} (hsE : ∀ {s : fS} {x1 : Int} {q}, bS 1 s → SE x1 s = some q → bE 1 s q.2) (hsL : ∀ {s : fS} {x1 : Int} {x2 : Int} {x3 : Int} {q}, bS 1 s → SL x1 x2 x3 s = some q → bE 1 s q.2) (hsN : ∀ {s : fS} {q}, bS 1 s → SN s = some q → bE 1 s q.2) {s : fS} {s0 : Int} (E : bE 1 σo s) (hF : FX35_end_b180 N SE SL SN s0 s = some q) : bE 1 σo q.2 := by
  unfold FX35_end_b180 at hF
  exact b_ret E hF
theorem BX35_end_b119 {σo : fS} {q : Int × fS} {N : Nat} {SE : Int → fS → Option (Unit × fS)} {SL : Int → Int → Int → fS → Option (Int × fS)} {SN : fS → Option (Int × fS)} (hsE : ∀ {s : fS} {x1 : Int} {q}, bS 1 s → SE x1 s = some q → bE 1 s q.2) (hsL : ∀ {s : fS} {x1 : Int} {x2 : Int} {x3 : Int} {q}, bS 1 s → SL x1 x2 x3 s = some q → bE 1 s q.2) (hsN : ∀ {s : fS} {q}, bS 1 s → SN s = some q → bE 1 s q.2) : ∀ {n : Nat} {s : fS} {l1 : Int} {l2 : Int} {l3 : Int}, bE 1 σo s → FX35_end_b119 N SE SL SN n l1 l2 l3 s = some q → bE 1 σo q.2 := by
  intro n
  induction n with
  | zero => intro s l1 l2 l3 E  hF; simp [FX35_end_b119] at hF
  | succ n ih =>
    intro s l1 l2 l3 E  hF
    rw [FX35_end_b119] at hF
    refine b_if hF (fun hF => ?_) (fun hF => ?_)
    ·
      refine b_pI E (E.S.m1 (Nat.le_of_ble_eq_true rfl) (Nat.le_of_ble_eq_true rfl)) hF (fun _ D2 E2 hF => ?_)
      refine b_if hF (fun hF => ?_) (fun hF => ?_)
      ·
        refine b_call E2 (fun _ hq => (BX36_words (N := N) (bE.rf E2.S) hq)) hF (fun _ hq5 D5 E5 hF => ?_)
        exact BX35_end_b180 (N := N) (SE := SE) (SL := SL) (SN := SN) @hsE @hsL @hsN E5 hF
      ·
        refine b_call E2 (fun _ hq => (BX36_patterns (N := N) (bE.rf E2.S) hq)) hF (fun _ hq8 D8 E8 hF => ?_)
        exact BX35_end_b180 (N := N) (SE := SE) (SL := SL) (SN := SN) @hsE @hsL @hsN E8 hF
    ·
      refine b_rv hF (fun _ hF => ?_)
      refine b_qI E (E.S.m1 (Nat.le_of_ble_eq_true rfl) (Nat.le_of_ble_eq_true rfl)) hF (fun _ D13 E13 hF => ?_)
      exact ih E13 hF
theorem BX35_end_b28 {σo : fS} {q : Int × fS} {N : Nat} {SE : Int → fS → Option (Unit × fS)} {SL : Int → Int → Int → fS → Option (Int × fS)} {SN : fS → Option (Int × fS)} (hsE : ∀ {s : fS} {x1 : Int} {q}, bS 1 s → SE x1 s = some q → bE 1 s q.2) (hsL : ∀ {s : fS} {x1 : Int} {x2 : Int} {x3 : Int} {q}, bS 1 s → SL x1 x2 x3 s = some q → bE 1 s q.2) (hsN : ∀ {s : fS} {q}, bS 1 s → SN s = some q → bE 1 s q.2) {s : fS} {l1 : Int} {l2 : Int} {s1 : Int} (E : bE 1 σo s) (hF : FX35_end_b28 N SE SL SN l1 l2 s1 s = some q) : bE 1 σo q.2 := by
  unfold FX35_end_b28 at hF
  refine b_pI E (E.S.m1 (Nat.le_of_ble_eq_true rfl) (Nat.le_of_ble_eq_true rfl)) hF (fun _ D1 E1 hF => ?_)
  refine b_if hF (fun hF => ?_) (fun hF => ?_)
  ·
    refine b_pI E1 (E1.S.m1 (Nat.le_of_ble_eq_true rfl) (Nat.le_of_ble_eq_true rfl)) hF (fun _ D3 E3 hF => ?_)
    refine b_if hF (fun hF => ?_) (fun hF => ?_)
    ·
      refine b_if hF (fun hF => ?_) (fun hF => ?_)
      ·
        refine b_pI E3 (E3.S.m1 (Nat.le_of_ble_eq_true rfl) (Nat.le_of_ble_eq_true rfl)) hF (fun _ D4 E4 hF => ?_)
        refine b_call E4 (fun _ hq => (BX35_run (N := N) (SE := SE) (SL := SL) (SN := SN) @hsE @hsL @hsN (bE.rf E4.S) hq)) hF (fun _ hq6 D6 E6 hF => ?_)
        exact b_ret E6 hF
      ·
        exact BX35_end_b119 (N := N) (SE := SE) (SL := SL) (SN := SN) @hsE @hsL @hsN E3 hF
    ·
      refine b_call E3 (fun _ hq => (BX40_fault (N := N) (bE.rf E3.S) hq)) hF (fun _ hq8 D8 E8 hF => ?_)
      refine b_if hF (fun hF => ?_) (fun hF => ?_)
      ·
        exact BX35_end_b109 (N := N) (SE := SE) (SL := SL) (SN := SN) @hsE @hsL @hsN E8 hF
      ·
        refine b_rQ E8 (E8.S.m1 (Nat.le_of_ble_eq_true rfl) (Nat.le_of_ble_eq_true rfl)) hF (fun a22 o11 hF => ?_)
        cases a22 with
        | none =>
          dsimp only at hF
          refine b_nO E8 hF (fun _ D12 E12 o12 hF => ?_)
          refine b_call E12 (fun _ hq => (BX40_init (bE.rf E12.S) o12 hq)) hF (fun _ hq13 D13 E13 hF => ?_)
          exact BX35_end_b94 (N := N) (SE := SE) (SL := SL) (SN := SN) @hsE @hsL @hsN E13 (o12.up D13) hF
        | some a24 =>
          dsimp only at hF
          refine b_rO E8 (E8.S.m1 (Nat.le_of_ble_eq_true rfl) (Nat.le_of_ble_eq_true rfl)) hF (fun _ o15 hF => ?_)
          exact BX35_end_b94 (N := N) (SE := SE) (SL := SL) (SN := SN) @hsE @hsL @hsN E8 o15 hF
  ·
    exact b_ret E1 hF
theorem BX35_end_b23 {σo : fS} {q : Int × fS} {N : Nat} {SE : Int → fS → Option (Unit × fS)} {SL : Int → Int → Int → fS → Option (Int × fS)} {SN : fS → Option (Int × fS)} (hsE : ∀ {s : fS} {x1 : Int} {q}, bS 1 s → SE x1 s = some q → bE 1 s q.2) (hsL : ∀ {s : fS} {x1 : Int} {x2 : Int} {x3 : Int} {q}, bS 1 s → SL x1 x2 x3 s = some q → bE 1 s q.2) (hsN : ∀ {s : fS} {q}, bS 1 s → SN s = some q → bE 1 s q.2) {s : fS} {l1 : Int} {l2 : Int} (E : bE 1 σo s) (hF : FX35_end_b23 N SE SL SN l1 l2 s = some q) : bE 1 σo q.2 := by
  unfold FX35_end_b23 at hF
  exact BX35_end_b28 (N := N) (SE := SE) (SL := SL) (SN := SN) @hsE @hsL @hsN E hF
theorem BX35_end {σo : fS} {q : Int × fS} {N : Nat} {SE : Int → fS → Option (Unit × fS)} {SL : Int → Int → Int → fS → Option (Int × fS)} {SN : fS → Option (Int × fS)} (hsE : ∀ {s : fS} {x1 : Int} {q}, bS 1 s → SE x1 s = some q → bE 1 s q.2) (hsL : ∀ {s : fS} {x1 : Int} {x2 : Int} {x3 : Int} {q}, bS 1 s → SL x1 x2 x3 s = some q → bE 1 s q.2) (hsN : ∀ {s : fS} {q}, bS 1 s → SN s = some q → bE 1 s q.2) {s : fS} {p0 : Int} {p1 : Int} (E : bE 1 σo s) (hF : FX35_end N SE SL SN p0 p1 s = some q) : bE 1 σo q.2 := by
  unfold FX35_end at hF
  refine b_if hF (fun hF => ?_) (fun hF => ?_)
  ·
    exact BX35_end_b23 (N := N) (SE := SE) (SL := SL) (SN := SN) @hsE @hsL @hsN E hF
  ·
    refine b_if hF (fun hF => ?_) (fun hF => ?_)
    ·
      exact BX35_end_b23 (N := N) (SE := SE) (SL := SL) (SN := SN) @hsE @hsL @hsN E hF
    ·
      refine b_if hF (fun hF => ?_) (fun hF => ?_)
      ·
        exact BX35_end_b23 (N := N) (SE := SE) (SL := SL) (SN := SN) @hsE @hsL @hsN E hF
      ·
        refine b_if hF (fun hF => ?_) (fun hF => ?_)
        ·
          exact BX35_end_b28 (N := N) (SE := SE) (SL := SL) (SN := SN) @hsE @hsL @hsN E hF
        ·
          exact BX35_end_b23 (N := N) (SE := SE) (SL := SL) (SN := SN) @hsE @hsL @hsN E hF
theorem BX35_makeName_b76 {σo : fS} {q : Unit × fS} {N : Nat} {SE : Int → fS → Option (Unit × fS)} {K7 : Int → Int → fS → Option (Unit × fS)} (hsE : ∀ {s : fS} {x1 : Int} {q}, bS 1 s → SE x1 s = some q → bE 1 s q.2) (hk7 : ∀ {s : fS} {l1 : Int} {l2 : Int}, bE 1 σo s → K7 l1 l2 s = some q → bE 1 σo q.2) {s : fS} {l1 : Int} (E : bE 1 σo s) (hF : FX35_makeName_b76 N SE K7 l1 s = some q) : bE 1 σo q.2 := by
  unfold FX35_makeName_b76 at hF
  refine b_call E (fun _ hq => (BX35_needExpanded (N := N) (SE := SE) @hsE (bE.rf E.S) hq)) hF (fun _ hq2 D2 E2 hF => ?_)
  exact hk7 E2 hF
theorem BX35_makeName_b157 {σo : fS} {q : Unit × fS} {N : Nat} {SE : Int → fS → Option (Unit × fS)} (hsE : ∀ {s : fS} {x1 : Int} {q}, bS 1 s → SE x1 s = some q → bE 1 s q.2) {s : fS} {l3 : Int} (E : bE 1 σo s) (hF : FX35_makeName_b157 N SE l3 s = some q) : bE 1 σo q.2 := by
  unfold FX35_makeName_b157 at hF
  refine b_call E (fun _ hq => (BX35_put (bE.rf E.S) hq)) hF (fun _ hq2 D2 E2 hF => ?_)
  exact b_ret E2 hF
theorem BX35_makeName_b99 {σo : fS} {q : Unit × fS} {N : Nat} {SE : Int → fS → Option (Unit × fS)} (hsE : ∀ {s : fS} {x1 : Int} {q}, bS 1 s → SE x1 s = some q → bE 1 s q.2) : ∀ {n : Nat} {s : fS} {l1 : Int} {l3 : Int}, bE 1 σo s → FX35_makeName_b99 N SE n l1 l3 s = some q → bE 1 σo q.2 := by
  intro n
  induction n with
  | zero => intro s l1 l3 E  hF; simp [FX35_makeName_b99] at hF
  | succ n ih =>
    intro s l1 l3 E  hF
    rw [FX35_makeName_b99] at hF
    refine b_if hF (fun hF => ?_) (fun hF => ?_)
    ·
      refine b_call E (fun _ hq => (BX35_nameToken (N := N) (bE.rf E.S) hq)) hF (fun _ hq2 D2 E2 hF => ?_)
      refine b_if hF (fun hF => ?_) (fun hF => ?_)
      ·
        exact BX35_makeName_b157 (N := N) (SE := SE) @hsE E2 hF
      ·
        refine b_call E2 (fun _ hq => (BX35_meaning (bE.rf E2.S) hq)) hF (fun _ hq5 D5 E5 hF => ?_)
        refine b_if hF (fun hF => ?_) (fun hF => ?_)
        ·
          exact BX35_makeName_b157 (N := N) (SE := SE) @hsE E5 hF
        ·
          refine b_call E5 (fun _ hq => (BX35_mean (N := N) (bE.rf E5.S) hq)) hF (fun _ hq7 D7 E7 hF => ?_)
          exact BX35_makeName_b157 (N := N) (SE := SE) @hsE E7 hF
    ·
      refine b_rv hF (fun _ hF => ?_)
      refine b_call E (fun _ hq => (BX35_spell (bE.rf E.S) hq)) hF (fun _ hq12 D12 E12 hF => ?_)
      exact ih E12 hF
theorem BX35_makeName_b84 {σo : fS} {q : Unit × fS} {N : Nat} {SE : Int → fS → Option (Unit × fS)} (hsE : ∀ {s : fS} {x1 : Int} {q}, bS 1 s → SE x1 s = some q → bE 1 s q.2) {s : fS} {l1 : Int} (E : bE 1 σo s) (hF : FX35_makeName_b84 N SE l1 s = some q) : bE 1 σo q.2 := by
  unfold FX35_makeName_b84 at hF
  refine b_if hF (fun hF => ?_) (fun hF => ?_)
  ·
    refine b_pI E (E.S.m1 (Nat.le_of_ble_eq_true rfl) (Nat.le_of_ble_eq_true rfl)) hF (fun _ D2 E2 hF => ?_)
    exact BX35_makeName_b99 (N := N) (SE := SE) @hsE E2 hF
  ·
    exact b_ret E hF
theorem BX35_makeName_b7 {σo : fS} {q : Unit × fS} {N : Nat} {SE : Int → fS → Option (Unit × fS)} (hsE : ∀ {s : fS} {x1 : Int} {q}, bS 1 s → SE x1 s = some q → bE 1 s q.2) : ∀ {n : Nat} {s : fS} {l1 : Int} {l2 : Int}, bE 1 σo s → FX35_makeName_b7 N SE n l1 l2 s = some q → bE 1 σo q.2 := by
  intro n
  induction n with
  | zero => intro s l1 l2 E  hF; simp [FX35_makeName_b7] at hF
  | succ n ih =>
    intro s l1 l2 E  hF
    rw [FX35_makeName_b7] at hF
    refine b_if hF (fun hF => ?_) (fun hF => ?_)
    ·
      exact BX35_makeName_b84 (N := N) (SE := SE) @hsE E hF
    ·
      refine b_call E (fun _ hq => (BX35_means (bE.rf E.S) hq)) hF (fun _ hq3 D3 E3 hF => ?_)
      refine b_if hF (fun hF => ?_) (fun hF => ?_)
      ·
        exact BX35_makeName_b84 (N := N) (SE := SE) @hsE E3 hF
      ·
        refine b_call E3 (fun _ hq => (BX35_isCharacter (bE.rf E3.S) hq)) hF (fun _ hq4 D4 E4 hF => ?_)
        refine b_if hF (fun hF => ?_) (fun hF => ?_)
        ·
          refine b_if hF (fun hF => ?_) (fun hF => ?_)
          ·
            refine b_qI E4 (E4.S.m1 (Nat.le_of_ble_eq_true rfl) (Nat.le_of_ble_eq_true rfl)) hF (fun _ D7 E7 hF => ?_)
            exact BX35_makeName_b76 (N := N) (SE := SE) (K7 := FX35_makeName_b7 N SE n) @hsE @ih E7 hF
          ·
            refine b_call E4 (fun _ hq => (BX35_fail (bE.rf E4.S) hq)) hF (fun _ hq9 D9 E9 hF => ?_)
            exact BX35_makeName_b76 (N := N) (SE := SE) (K7 := FX35_makeName_b7 N SE n) @hsE @ih E9 hF
        ·
          refine b_call E4 (fun _ hq => (BX35_fail (bE.rf E4.S) hq)) hF (fun _ hq11 D11 E11 hF => ?_)
          exact BX35_makeName_b76 (N := N) (SE := SE) (K7 := FX35_makeName_b7 N SE n) @hsE @ih E11 hF
theorem BX35_makeName {σo : fS} {q : Unit × fS} {N : Nat} {SE : Int → fS → Option (Unit × fS)} (hsE : ∀ {s : fS} {x1 : Int} {q}, bS 1 s → SE x1 s = some q → bE 1 s q.2) {s : fS} (E : bE 1 σo s) (hF : FX35_makeName N SE s = some q) : bE 1 σo q.2 := by
  unfold FX35_makeName at hF
  refine b_call E (fun _ hq => (BX35_needExpanded (N := N) (SE := SE) @hsE (bE.rf E.S) hq)) hF (fun _ hq2 D2 E2 hF => ?_)
  exact BX35_makeName_b7 (N := N) (SE := SE) @hsE E2 hF
theorem BX35_putOther_b18 {σo : fS} {q : Unit × fS} {s : fS} {s1 : Int} (E : bE 1 σo s) (hF : FX35_putOther_b18 s1 s = some q) : bE 1 σo q.2 := by
  unfold FX35_putOther_b18 at hF
  refine b_call E (fun _ hq => (BX35_put (bE.rf E.S) hq)) hF (fun _ hq2 D2 E2 hF => ?_)
  exact b_ret E2 hF
theorem BX35_putOther {σo : fS} {q : Unit × fS} {s : fS} {p0 : Int} (E : bE 1 σo s) (hF : FX35_putOther p0 s = some q) : bE 1 σo q.2 := by
  unfold FX35_putOther at hF
  refine b_if hF (fun hF => ?_) (fun hF => ?_)
  ·
    exact BX35_putOther_b18 E hF
  ·
    exact BX35_putOther_b18 E hF
theorem BX35_spellOut_b26 {σo : fS} {q : Unit × fS} {N : Nat} {s : fS} {l2 : Int} (E : bE 1 σo s) (hF : FX35_spellOut_b26 N l2 s = some q) : bE 1 σo q.2 := by
  unfold FX35_spellOut_b26 at hF
  refine b_call E (fun _ hq => (BX35_putOther (bE.rf E.S) hq)) hF (fun _ hq2 D2 E2 hF => ?_)
  exact b_ret E2 hF
theorem BX35_spellOut_b51 {σo : fS} {q : Unit × fS} {N : Nat} : ∀ {n : Nat} {s : fS} {l3 : Int} {l4 : Int}, bE 1 σo s → FX35_spellOut_b51 N n l3 l4 s = some q → bE 1 σo q.2 := by
  intro n
  induction n with
  | zero => intro s l3 l4 E  hF; simp [FX35_spellOut_b51] at hF
  | succ n ih =>
    intro s l3 l4 E  hF
    rw [FX35_spellOut_b51] at hF
    refine b_if hF (fun hF => ?_) (fun hF => ?_)
    ·
      refine b_call E (fun _ hq => (BX35_putOther (bE.rf E.S) hq)) hF (fun _ hq2 D2 E2 hF => ?_)
      exact b_ret E2 hF
    ·
      refine b_rv hF (fun _ hF => ?_)
      refine b_call E (fun _ hq => (BX35_putOther (bE.rf E.S) hq)) hF (fun _ hq6 D6 E6 hF => ?_)
      exact ih E6 hF
theorem BX35_spellOut {σo : fS} {q : Unit × fS} {N : Nat} {s : fS} {p0 : Int} (E : bE 1 σo s) (hF : FX35_spellOut N p0 s = some q) : bE 1 σo q.2 := by
  unfold FX35_spellOut at hF
  refine b_if hF (fun hF => ?_) (fun hF => ?_)
  ·
    refine b_call E (fun _ hq => (BX35_bare (bE.rf E.S) hq)) hF (fun _ hq2 D2 E2 hF => ?_)
    refine b_if hF (fun hF => ?_) (fun hF => ?_)
    ·
      exact BX35_spellOut_b26 (N := N) E2 hF
    ·
      refine b_if hF (fun hF => ?_) (fun hF => ?_)
      ·
        refine b_rv hF (fun _ hF => ?_)
        exact BX35_spellOut_b51 (N := N) E2 hF
      ·
        exact BX35_spellOut_b26 (N := N) E2 hF
  ·
    exact b_ret E hF
theorem BX35_putDigits_b72 {σo : fS} {q : Unit × fS} {N : Nat} {s : fS} (E : bE 1 σo s) (hF : FX35_putDigits_b72 N s = some q) : bE 1 σo q.2 := by
  unfold FX35_putDigits_b72 at hF
  exact b_ret E hF
theorem BX35_putDigits_b33 {σo : fS} {q : Unit × fS} {N : Nat} : ∀ {n : Nat} {s : fS} {l1 : Int} {l2 : Int}, bE 1 σo s → FX35_putDigits_b33 N n l1 l2 s = some q → bE 1 σo q.2 := by
  intro n
  induction n with
  | zero => intro s l1 l2 E  hF; simp [FX35_putDigits_b33] at hF
  | succ n ih =>
    intro s l1 l2 E  hF
    rw [FX35_putDigits_b33] at hF
    refine b_if hF (fun hF => ?_) (fun hF => ?_)
    ·
      refine b_if hF (fun hF => ?_) (fun hF => ?_)
      ·
        exact BX35_putDigits_b72 (N := N) E hF
      ·
        refine b_call E (fun _ hq => (BX35_putOther (bE.rf E.S) hq)) hF (fun _ hq2 D2 E2 hF => ?_)
        exact BX35_putDigits_b72 (N := N) E2 hF
    ·
      refine b_call E (fun _ hq => (BX35_putOther (bE.rf E.S) hq)) hF (fun _ hq4 D4 E4 hF => ?_)
      exact ih E4 hF
theorem BX35_putDigits_b12 {σo : fS} {q : Unit × fS} {N : Nat} {s : fS} {l1 : Int} {s0 : Int} (E : bE 1 σo s) (hF : FX35_putDigits_b12 N l1 s0 s = some q) : bE 1 σo q.2 := by
  unfold FX35_putDigits_b12 at hF
  refine b_call E (fun _ hq => (BX35_putOther (bE.rf E.S) hq)) hF (fun _ hq2 D2 E2 hF => ?_)
  exact BX35_putDigits_b33 (N := N) E2 hF
theorem BX35_putDigits {σo : fS} {q : Unit × fS} {N : Nat} {s : fS} {p0 : Int} (E : bE 1 σo s) (hF : FX35_putDigits N p0 s = some q) : bE 1 σo q.2 := by
  unfold FX35_putDigits at hF
  refine b_if hF (fun hF => ?_) (fun hF => ?_)
  ·
    exact BX35_putDigits_b12 (N := N) E hF
  ·
    exact BX35_putDigits_b12 (N := N) E hF
theorem BX35_romanDigit_b23 {σo : fS} {q : Unit × fS} {N : Nat} {s : fS} {l2 : Int} {s1 : Int} (E : bE 1 σo s) (hF : FX35_romanDigit_b23 N l2 s1 s = some q) : bE 1 σo q.2 := by
  unfold FX35_romanDigit_b23 at hF
  refine b_call E (fun _ hq => (BX35_putOther (bE.rf E.S) hq)) hF (fun _ hq2 D2 E2 hF => ?_)
  refine b_call E2 (fun _ hq => (BX35_putOther (bE.rf E2.S) hq)) hF (fun _ hq4 D4 E4 hF => ?_)
  exact b_ret E4 hF
theorem BX35_romanDigit_b11 {σo : fS} {q : Unit × fS} {N : Nat} {s : fS} {l1 : Int} {l2 : Int} {l3 : Int} {l4 : Int} (E : bE 1 σo s) (hF : FX35_romanDigit_b11 N l1 l2 l3 l4 s = some q) : bE 1 σo q.2 := by
  unfold FX35_romanDigit_b11 at hF
  refine b_if hF (fun hF => ?_) (fun hF => ?_)
  ·
    exact BX35_romanDigit_b23 (N := N) E hF
  ·
    exact BX35_romanDigit_b23 (N := N) E hF
theorem BX35_romanDigit_b64 {σo : fS} {q : Unit × fS} {N : Nat} {s : fS} (E : bE 1 σo s) (hF : FX35_romanDigit_b64 N s = some q) : bE 1 σo q.2 := by
  unfold FX35_romanDigit_b64 at hF
  exact b_ret E hF
theorem BX35_romanDigit_b35 {σo : fS} {q : Unit × fS} {N : Nat} : ∀ {n : Nat} {s : fS} {l1 : Int} {l2 : Int} {l3 : Int} {l5 : Int}, bE 1 σo s → FX35_romanDigit_b35 N n l1 l2 l3 l5 s = some q → bE 1 σo q.2 := by
  intro n
  induction n with
  | zero => intro s l1 l2 l3 l5 E  hF; simp [FX35_romanDigit_b35] at hF
  | succ n ih =>
    intro s l1 l2 l3 l5 E  hF
    rw [FX35_romanDigit_b35] at hF
    refine b_if hF (fun hF => ?_) (fun hF => ?_)
    ·
      refine b_if hF (fun hF => ?_) (fun hF => ?_)
      ·
        exact BX35_romanDigit_b64 (N := N) E hF
      ·
        refine b_call E (fun _ hq => (BX35_putOther (bE.rf E.S) hq)) hF (fun _ hq2 D2 E2 hF => ?_)
        exact BX35_romanDigit_b64 (N := N) E2 hF
    ·
      refine b_call E (fun _ hq => (BX35_putOther (bE.rf E.S) hq)) hF (fun _ hq4 D4 E4 hF => ?_)
      exact ih E4 hF
theorem BX35_romanDigit {σo : fS} {q : Unit × fS} {N : Nat} {s : fS} {p0 : Int} {p1 : Int} {p2 : Int} {p3 : Int} (E : bE 1 σo s) (hF : FX35_romanDigit N p0 p1 p2 p3 s = some q) : bE 1 σo q.2 := by
  unfold FX35_romanDigit at hF
  refine b_if hF (fun hF => ?_) (fun hF => ?_)
  ·
    exact BX35_romanDigit_b11 (N := N) E hF
  ·
    refine b_if hF (fun hF => ?_) (fun hF => ?_)
    ·
      exact BX35_romanDigit_b35 (N := N) E hF
    ·
      exact BX35_romanDigit_b11 (N := N) E hF
theorem BX35_roman_b11 {σo : fS} {q : Unit × fS} {N : Nat} {s : fS} (E : bE 1 σo s) (hF : FX35_roman_b11 N s = some q) : bE 1 σo q.2 := by
  unfold FX35_roman_b11 at hF
  exact b_ret E hF
theorem BX35_roman_b76 {σo : fS} {q : Unit × fS} {N : Nat} : ∀ {n : Nat} {s : fS} {l1 : Int} {l2 : Int}, bE 1 σo s → FX35_roman_b76 N n l1 l2 s = some q → bE 1 σo q.2 := by
  intro n
  induction n with
  | zero => intro s l1 l2 E  hF; simp [FX35_roman_b76] at hF
  | succ n ih =>
    intro s l1 l2 E  hF
    rw [FX35_roman_b76] at hF
    refine b_if hF (fun hF => ?_) (fun hF => ?_)
    ·
      exact b_ret E hF
    ·
      refine b_call E (fun _ hq => (BX35_putOther (bE.rf E.S) hq)) hF (fun _ hq2 D2 E2 hF => ?_)
      exact ih E2 hF
theorem BX35_roman {σo : fS} {q : Unit × fS} {N : Nat} {s : fS} {p0 : Int} (E : bE 1 σo s) (hF : FX35_roman N p0 s = some q) : bE 1 σo q.2 := by
  unfold FX35_roman at hF
  refine b_if hF (fun hF => ?_) (fun hF => ?_)
  ·
    exact BX35_roman_b11 (N := N) E hF
  ·
    refine b_if hF (fun hF => ?_) (fun hF => ?_)
    ·
      refine b_if hF (fun hF => ?_) (fun hF => ?_)
      ·
        refine b_call E (fun _ hq => (BX35_romanDigit (N := N) (bE.rf E.S) hq)) hF (fun _ hq3 D3 E3 hF => ?_)
        refine b_call E3 (fun _ hq => (BX35_romanDigit (N := N) (bE.rf E3.S) hq)) hF (fun _ hq5 D5 E5 hF => ?_)
        refine b_call E5 (fun _ hq => (BX35_romanDigit (N := N) (bE.rf E5.S) hq)) hF (fun _ hq7 D7 E7 hF => ?_)
        exact BX35_roman_b76 (N := N) E7 hF
      ·
        refine b_call E (fun _ hq => (BX35_fail (bE.rf E.S) hq)) hF (fun _ hq9 D9 E9 hF => ?_)
        exact b_ret E9 hF
    ·
      exact BX35_roman_b11 (N := N) E hF
theorem BX35_told_b76 {σo : fS} {q : Unit × fS} {N : Nat} {SN : fS → Option (Int × fS)} (hsN : ∀ {s : fS} {q}, bS 1 s → SN s = some q → bE 1 s q.2) {s : fS} (E : bE 1 σo s) (hF : FX35_told_b76 N SN s = some q) : bE 1 σo q.2 := by
  unfold FX35_told_b76 at hF
  exact b_ret E hF
theorem BX35_told_b44 {σo : fS} {q : Unit × fS} {N : Nat} {SN : fS → Option (Int × fS)} (hsN : ∀ {s : fS} {q}, bS 1 s → SN s = some q → bE 1 s q.2) {s : fS} {l1 : Int} (E : bE 1 σo s) (hF : FX35_told_b44 N SN l1 s = some q) : bE 1 σo q.2 := by
  unfold FX35_told_b44 at hF
  refine b_call E (fun _ hq => (BX35_lengthOf (SN := SN) @hsN (bE.rf E.S) hq)) hF (fun _ hq2 D2 E2 hF => ?_)
  refine b_call E2 (fun _ hq => (BX35_putOther (bE.rf E2.S) hq)) hF (fun _ hq4 D4 E4 hF => ?_)
  refine b_call E4 (fun _ hq => (BX35_putOther (bE.rf E4.S) hq)) hF (fun _ hq6 D6 E6 hF => ?_)
  refine b_call E6 (fun _ hq => (BX35_putDigits (N := N) (bE.rf E6.S) hq)) hF (fun _ hq8 D8 E8 hF => ?_)
  exact BX35_told_b76 (N := N) (SN := SN) @hsN E8 hF
theorem BX35_told {σo : fS} {q : Unit × fS} {N : Nat} {SN : fS → Option (Int × fS)} (hsN : ∀ {s : fS} {q}, bS 1 s → SN s = some q → bE 1 s q.2) {s : fS} {p0 : Int} (E : bE 1 σo s) (hF : FX35_told N SN p0 s = some q) : bE 1 σo q.2 := by
  unfold FX35_told at hF
  refine b_if hF (fun hF => ?_) (fun hF => ?_)
  ·
    refine b_call E (fun _ hq => (BX35_hasValue (bE.rf E.S) hq)) hF (fun _ hq3 D3 E3 hF => ?_)
    refine b_if hF (fun hF => ?_) (fun hF => ?_)
    ·
      refine b_call E3 (fun _ hq => (BX35_hasLength (bE.rf E3.S) hq)) hF (fun _ hq5 D5 E5 hF => ?_)
      refine b_if hF (fun hF => ?_) (fun hF => ?_)
      ·
        exact BX35_told_b44 (N := N) (SN := SN) @hsN E5 hF
      ·
        refine b_call E5 (fun _ hq => (BX35_hasGlue (bE.rf E5.S) hq)) hF (fun _ hq7 D7 E7 hF => ?_)
        refine b_if hF (fun hF => ?_) (fun hF => ?_)
        ·
          refine b_call E7 (fun _ hq => (BX35_fail (bE.rf E7.S) hq)) hF (fun _ hq9 D9 E9 hF => ?_)
          exact BX35_told_b76 (N := N) (SN := SN) @hsN E9 hF
        ·
          exact BX35_told_b44 (N := N) (SN := SN) @hsN E7 hF
    ·
      refine b_call E3 (fun _ hq => (BX35_value (SN := SN) @hsN (bE.rf E3.S) hq)) hF (fun _ hq11 D11 E11 hF => ?_)
      refine b_call E11 (fun _ hq => (BX35_putDigits (N := N) (bE.rf E11.S) hq)) hF (fun _ hq13 D13 E13 hF => ?_)
      exact BX35_told_b76 (N := N) (SN := SN) @hsN E13 hF
  ·
    exact b_ret E hF
theorem BX35_primitive_b245 {σo : fS} {q : Unit × fS} {N : Nat} {SE : Int → fS → Option (Unit × fS)} {SN : fS → Option (Int × fS)} (hsE : ∀ {s : fS} {x1 : Int} {q}, bS 1 s → SE x1 s = some q → bE 1 s q.2) (hsN : ∀ {s : fS} {q}, bS 1 s → SN s = some q → bE 1 s q.2) {s : fS} (E : bE 1 σo s) (hF : FX35_primitive_b245 N SE SN s = some q) : bE 1 σo q.2 := by
  unfold FX35_primitive_b245 at hF
  exact b_ret E hF
theorem BX35_primitive_b139 {σo : fS} {q : Unit × fS} {N : Nat} {SE : Int → fS → Option (Unit × fS)} {SN : fS → Option (Int × fS)} (hsE : ∀ {s : fS} {x1 : Int} {q}, bS 1 s → SE x1 s = some q → bE 1 s q.2) (hsN : ∀ {s : fS} {q}, bS 1 s → SN s = some q → bE 1 s q.2) {s : fS} {l3 : Int} (E : bE 1 σo s) (hF : FX35_primitive_b139 N SE SN l3 s = some q) : bE 1 σo q.2 := by
  unfold FX35_primitive_b139 at hF
  refine b_call E (fun _ hq => (BX35_put (bE.rf E.S) hq)) hF (fun _ hq2 D2 E2 hF => ?_)
  exact BX35_primitive_b245 (N := N) (SE := SE) (SN := SN) @hsE @hsN E2 hF
theorem BX35_primitive_b174 {σo : fS} {q : Unit × fS} {N : Nat} {SE : Int → fS → Option (Unit × fS)} {SN : fS → Option (Int × fS)} (hsE : ∀ {s : fS} {x1 : Int} {q}, bS 1 s → SE x1 s = some q → bE 1 s q.2) (hsN : ∀ {s : fS} {q}, bS 1 s → SN s = some q → bE 1 s q.2) {s : fS} {s1 : Int} (E : bE 1 σo s) (hF : FX35_primitive_b174 N SE SN s1 s = some q) : bE 1 σo q.2 := by
  unfold FX35_primitive_b174 at hF
  refine b_call E (fun _ hq => (BX35_put (bE.rf E.S) hq)) hF (fun _ hq2 D2 E2 hF => ?_)
  exact BX35_primitive_b245 (N := N) (SE := SE) (SN := SN) @hsE @hsN E2 hF
theorem BX35_primitive {σo : fS} {q : Unit × fS} {N : Nat} {SE : Int → fS → Option (Unit × fS)} {SN : fS → Option (Int × fS)} (hsE : ∀ {s : fS} {x1 : Int} {q}, bS 1 s → SE x1 s = some q → bE 1 s q.2) (hsN : ∀ {s : fS} {q}, bS 1 s → SN s = some q → bE 1 s q.2) {s : fS} {p0 : Int} {p1 : Int} (E : bE 1 σo s) (hF : FX35_primitive N SE SN p0 p1 s = some q) : bE 1 σo q.2 := by
  unfold FX35_primitive at hF
  refine b_if hF (fun hF => ?_) (fun hF => ?_)
  ·
    refine b_call E (fun _ hq => (BX35_need (N := N) (bE.rf E.S) hq)) hF (fun _ hq2 D2 E2 hF => ?_)
    refine b_call E2 (fun _ hq => (BX35_need (N := N) (bE.rf E2.S) hq)) hF (fun _ hq4 D4 E4 hF => ?_)
    refine b_call E4 (fun _ hq => (BX35_isExpandable (bE.rf E4.S) hq)) hF (fun _ hq6 D6 E6 hF => ?_)
    refine b_if hF (fun hF => ?_) (fun hF => ?_)
    ·
      refine b_call E6 (fun _ hq => (BX35_put (bE.rf E6.S) hq)) hF (fun _ hq8 D8 E8 hF => ?_)
      exact BX35_primitive_b139 (N := N) (SE := SE) (SN := SN) @hsE @hsN E8 hF
    ·
      refine b_call E6 (fun _ hq => (hsE E6.S hq)) hF (fun _ hq10 D10 E10 hF => ?_)
      exact BX35_primitive_b139 (N := N) (SE := SE) (SN := SN) @hsE @hsN E10 hF
  ·
    refine b_if hF (fun hF => ?_) (fun hF => ?_)
    ·
      refine b_call E (fun _ hq => (BX35_need (N := N) (bE.rf E.S) hq)) hF (fun _ hq12 D12 E12 hF => ?_)
      refine b_call E12 (fun _ hq => (BX35_isExpandable (bE.rf E12.S) hq)) hF (fun _ hq14 D14 E14 hF => ?_)
      refine b_if hF (fun hF => ?_) (fun hF => ?_)
      ·
        exact BX35_primitive_b174 (N := N) (SE := SE) (SN := SN) @hsE @hsN E14 hF
      ·
        exact BX35_primitive_b174 (N := N) (SE := SE) (SN := SN) @hsE @hsN E14 hF
    ·
      refine b_if hF (fun hF => ?_) (fun hF => ?_)
      ·
        refine b_call E (fun _ hq => (BX35_makeName (N := N) (SE := SE) @hsE (bE.rf E.S) hq)) hF (fun _ hq16 D16 E16 hF => ?_)
        exact BX35_primitive_b245 (N := N) (SE := SE) (SN := SN) @hsE @hsN E16 hF
      ·
        refine b_if hF (fun hF => ?_) (fun hF => ?_)
        ·
          refine b_call E (fun _ hq => (BX35_need (N := N) (bE.rf E.S) hq)) hF (fun _ hq18 D18 E18 hF => ?_)
          refine b_call E18 (fun _ hq => (BX35_spellOut (N := N) (bE.rf E18.S) hq)) hF (fun _ hq20 D20 E20 hF => ?_)
          exact BX35_primitive_b245 (N := N) (SE := SE) (SN := SN) @hsE @hsN E20 hF
        ·
          refine b_if hF (fun hF => ?_) (fun hF => ?_)
          ·
            refine b_call E (fun _ hq => (hsN E.S hq)) hF (fun _ hq22 D22 E22 hF => ?_)
            refine b_call E22 (fun _ hq => (BX35_putDigits (N := N) (bE.rf E22.S) hq)) hF (fun _ hq24 D24 E24 hF => ?_)
            exact BX35_primitive_b245 (N := N) (SE := SE) (SN := SN) @hsE @hsN E24 hF
          ·
            refine b_if hF (fun hF => ?_) (fun hF => ?_)
            ·
              refine b_call E (fun _ hq => (hsN E.S hq)) hF (fun _ hq26 D26 E26 hF => ?_)
              refine b_call E26 (fun _ hq => (BX35_roman (N := N) (bE.rf E26.S) hq)) hF (fun _ hq28 D28 E28 hF => ?_)
              exact BX35_primitive_b245 (N := N) (SE := SE) (SN := SN) @hsE @hsN E28 hF
            ·
              refine b_if hF (fun hF => ?_) (fun hF => ?_)
              ·
                refine b_call E (fun _ hq => (BX35_needExpanded (N := N) (SE := SE) @hsE (bE.rf E.S) hq)) hF (fun _ hq30 D30 E30 hF => ?_)
                refine b_call E30 (fun _ hq => (BX35_told (N := N) (SN := SN) @hsN (bE.rf E30.S) hq)) hF (fun _ hq32 D32 E32 hF => ?_)
                exact BX35_primitive_b245 (N := N) (SE := SE) (SN := SN) @hsE @hsN E32 hF
              ·
                refine b_if hF (fun hF => ?_) (fun hF => ?_)
                ·
                  refine b_call E (fun _ hq => (BX35_condition (N := N) (SE := SE) (SN := SN) @hsE @hsN (bE.rf E.S) hq)) hF (fun _ hq34 D34 E34 hF => ?_)
                  exact BX35_primitive_b245 (N := N) (SE := SE) (SN := SN) @hsE @hsN E34 hF
                ·
                  refine b_if hF (fun hF => ?_) (fun hF => ?_)
                  ·
                    refine b_call E (fun _ hq => (BX35_condition (N := N) (SE := SE) (SN := SN) @hsE @hsN (bE.rf E.S) hq)) hF (fun _ hq36 D36 E36 hF => ?_)
                    exact BX35_primitive_b245 (N := N) (SE := SE) (SN := SN) @hsE @hsN E36 hF
                  ·
                    refine b_if hF (fun hF => ?_) (fun hF => ?_)
                    ·
                      refine b_call E (fun _ hq => (BX35_condition (N := N) (SE := SE) (SN := SN) @hsE @hsN (bE.rf E.S) hq)) hF (fun _ hq38 D38 E38 hF => ?_)
                      exact BX35_primitive_b245 (N := N) (SE := SE) (SN := SN) @hsE @hsN E38 hF
                    ·
                      refine b_if hF (fun hF => ?_) (fun hF => ?_)
                      ·
                        refine b_call E (fun _ hq => (BX35_condition (N := N) (SE := SE) (SN := SN) @hsE @hsN (bE.rf E.S) hq)) hF (fun _ hq40 D40 E40 hF => ?_)
                        exact BX35_primitive_b245 (N := N) (SE := SE) (SN := SN) @hsE @hsN E40 hF
                      ·
                        refine b_if hF (fun hF => ?_) (fun hF => ?_)
                        ·
                          refine b_call E (fun _ hq => (BX35_condition (N := N) (SE := SE) (SN := SN) @hsE @hsN (bE.rf E.S) hq)) hF (fun _ hq42 D42 E42 hF => ?_)
                          exact BX35_primitive_b245 (N := N) (SE := SE) (SN := SN) @hsE @hsN E42 hF
                        ·
                          refine b_if hF (fun hF => ?_) (fun hF => ?_)
                          ·
                            refine b_call E (fun _ hq => (BX35_condition (N := N) (SE := SE) (SN := SN) @hsE @hsN (bE.rf E.S) hq)) hF (fun _ hq44 D44 E44 hF => ?_)
                            exact BX35_primitive_b245 (N := N) (SE := SE) (SN := SN) @hsE @hsN E44 hF
                          ·
                            refine b_if hF (fun hF => ?_) (fun hF => ?_)
                            ·
                              refine b_call E (fun _ hq => (BX35_condition (N := N) (SE := SE) (SN := SN) @hsE @hsN (bE.rf E.S) hq)) hF (fun _ hq46 D46 E46 hF => ?_)
                              exact BX35_primitive_b245 (N := N) (SE := SE) (SN := SN) @hsE @hsN E46 hF
                            ·
                              refine b_if hF (fun hF => ?_) (fun hF => ?_)
                              ·
                                refine b_call E (fun _ hq => (BX35_condition (N := N) (SE := SE) (SN := SN) @hsE @hsN (bE.rf E.S) hq)) hF (fun _ hq48 D48 E48 hF => ?_)
                                exact BX35_primitive_b245 (N := N) (SE := SE) (SN := SN) @hsE @hsN E48 hF
                              ·
                                refine b_if hF (fun hF => ?_) (fun hF => ?_)
                                ·
                                  refine b_call E (fun _ hq => (BX35_condition (N := N) (SE := SE) (SN := SN) @hsE @hsN (bE.rf E.S) hq)) hF (fun _ hq50 D50 E50 hF => ?_)
                                  exact BX35_primitive_b245 (N := N) (SE := SE) (SN := SN) @hsE @hsN E50 hF
                                ·
                                  refine b_if hF (fun hF => ?_) (fun hF => ?_)
                                  ·
                                    refine b_call E (fun _ hq => (BX35_condition (N := N) (SE := SE) (SN := SN) @hsE @hsN (bE.rf E.S) hq)) hF (fun _ hq52 D52 E52 hF => ?_)
                                    exact BX35_primitive_b245 (N := N) (SE := SE) (SN := SN) @hsE @hsN E52 hF
                                  ·
                                    refine b_if hF (fun hF => ?_) (fun hF => ?_)
                                    ·
                                      refine b_call E (fun _ hq => (BX35_condition (N := N) (SE := SE) (SN := SN) @hsE @hsN (bE.rf E.S) hq)) hF (fun _ hq54 D54 E54 hF => ?_)
                                      exact BX35_primitive_b245 (N := N) (SE := SE) (SN := SN) @hsE @hsN E54 hF
                                    ·
                                      refine b_if hF (fun hF => ?_) (fun hF => ?_)
                                      ·
                                        refine b_call E (fun _ hq => (BX35_condition (N := N) (SE := SE) (SN := SN) @hsE @hsN (bE.rf E.S) hq)) hF (fun _ hq56 D56 E56 hF => ?_)
                                        exact BX35_primitive_b245 (N := N) (SE := SE) (SN := SN) @hsE @hsN E56 hF
                                      ·
                                        refine b_if hF (fun hF => ?_) (fun hF => ?_)
                                        ·
                                          refine b_call E (fun _ hq => (BX35_branch (N := N) (bE.rf E.S) hq)) hF (fun _ hq58 D58 E58 hF => ?_)
                                          exact BX35_primitive_b245 (N := N) (SE := SE) (SN := SN) @hsE @hsN E58 hF
                                        ·
                                          refine b_if hF (fun hF => ?_) (fun hF => ?_)
                                          ·
                                            refine b_call E (fun _ hq => (BX35_branch (N := N) (bE.rf E.S) hq)) hF (fun _ hq60 D60 E60 hF => ?_)
                                            exact BX35_primitive_b245 (N := N) (SE := SE) (SN := SN) @hsE @hsN E60 hF
                                          ·
                                            refine b_if hF (fun hF => ?_) (fun hF => ?_)
                                            ·
                                              refine b_call E (fun _ hq => (BX35_branch (N := N) (bE.rf E.S) hq)) hF (fun _ hq62 D62 E62 hF => ?_)
                                              exact BX35_primitive_b245 (N := N) (SE := SE) (SN := SN) @hsE @hsN E62 hF
                                            ·
                                              refine b_call E (fun _ hq => (BX35_condition (N := N) (SE := SE) (SN := SN) @hsE @hsN (bE.rf E.S) hq)) hF (fun _ hq64 D64 E64 hF => ?_)
                                              exact BX35_primitive_b245 (N := N) (SE := SE) (SN := SN) @hsE @hsN E64 hF
theorem BX35_expand_b94 {σo : fS} {q : Unit × fS} {N : Nat} {SE : Int → fS → Option (Unit × fS)} {SN : fS → Option (Int × fS)} (hsE : ∀ {s : fS} {x1 : Int} {q}, bS 1 s → SE x1 s = some q → bE 1 s q.2) (hsN : ∀ {s : fS} {q}, bS 1 s → SN s = some q → bE 1 s q.2) {s : fS} (E : bE 1 σo s) (hF : FX35_expand_b94 N SE SN s = some q) : bE 1 σo q.2 := by
  unfold FX35_expand_b94 at hF
  exact b_ret E hF
theorem BX35_expand_b69 {σo : fS} {q : Unit × fS} {N : Nat} {SE : Int → fS → Option (Unit × fS)} {SN : fS → Option (Int × fS)} (hsE : ∀ {s : fS} {x1 : Int} {q}, bS 1 s → SE x1 s = some q → bE 1 s q.2) (hsN : ∀ {s : fS} {q}, bS 1 s → SN s = some q → bE 1 s q.2) {s : fS} (E : bE 1 σo s) (hF : FX35_expand_b69 N SE SN s = some q) : bE 1 σo q.2 := by
  unfold FX35_expand_b69 at hF
  refine b_pI E (E.S.m1 (Nat.le_of_ble_eq_true rfl) (Nat.le_of_ble_eq_true rfl)) hF (fun _ D2 E2 hF => ?_)
  refine b_if hF (fun hF => ?_) (fun hF => ?_)
  ·
    exact BX35_expand_b94 (N := N) (SE := SE) (SN := SN) @hsE @hsN E2 hF
  ·
    refine b_call E2 (fun _ hq => (BX35_fail (bE.rf E2.S) hq)) hF (fun _ hq5 D5 E5 hF => ?_)
    exact BX35_expand_b94 (N := N) (SE := SE) (SN := SN) @hsE @hsN E5 hF
theorem BX35_expand_b18 {σo : fS} {q : Unit × fS} {N : Nat} {SE : Int → fS → Option (Unit × fS)} {SN : fS → Option (Int × fS)} (hsE : ∀ {s : fS} {x1 : Int} {q}, bS 1 s → SE x1 s = some q → bE 1 s q.2) (hsN : ∀ {s : fS} {q}, bS 1 s → SN s = some q → bE 1 s q.2) {s : fS} {l1 : Int} (E : bE 1 σo s) (hF : FX35_expand_b18 N SE SN l1 s = some q) : bE 1 σo q.2 := by
  unfold FX35_expand_b18 at hF
  refine b_if hF (fun hF => ?_) (fun hF => ?_)
  ·
    refine b_pI E (E.S.m1 (Nat.le_of_ble_eq_true rfl) (Nat.le_of_ble_eq_true rfl)) hF (fun _ D3 E3 hF => ?_)
    refine b_call E3 (fun _ hq => (BX35_meaning (bE.rf E3.S) hq)) hF (fun _ hq5 D5 E5 hF => ?_)
    refine b_if hF (fun hF => ?_) (fun hF => ?_)
    ·
      refine b_call E5 (fun _ hq => (BX35_primitive (N := N) (SE := SE) (SN := SN) @hsE @hsN (bE.rf E5.S) hq)) hF (fun _ hq7 D7 E7 hF => ?_)
      exact BX35_expand_b69 (N := N) (SE := SE) (SN := SN) @hsE @hsN E7 hF
    ·
      refine b_call E5 (fun _ hq => (BX35_call (N := N) (bE.rf E5.S) hq)) hF (fun _ hq9 D9 E9 hF => ?_)
      exact BX35_expand_b69 (N := N) (SE := SE) (SN := SN) @hsE @hsN E9 hF
  ·
    exact b_ret E hF
theorem BX35_expand {σo : fS} {q : Unit × fS} {N : Nat} {SE : Int → fS → Option (Unit × fS)} {SN : fS → Option (Int × fS)} (hsE : ∀ {s : fS} {x1 : Int} {q}, bS 1 s → SE x1 s = some q → bE 1 s q.2) (hsN : ∀ {s : fS} {q}, bS 1 s → SN s = some q → bE 1 s q.2) {s : fS} {p0 : Int} (E : bE 1 σo s) (hF : FX35_expand N SE SN p0 s = some q) : bE 1 σo q.2 := by
  unfold FX35_expand at hF
  refine b_call E (fun _ hq => (BX35_tick (bE.rf E.S) hq)) hF (fun _ hq2 D2 E2 hF => ?_)
  refine b_if hF (fun hF => ?_) (fun hF => ?_)
  ·
    exact BX35_expand_b18 (N := N) (SE := SE) (SN := SN) @hsE @hsN E2 hF
  ·
    refine b_call E2 (fun _ hq => (BX35_fail (bE.rf E2.S) hq)) hF (fun _ hq5 D5 E5 hF => ?_)
    exact BX35_expand_b18 (N := N) (SE := SE) (SN := SN) @hsE @hsN E5 hF
theorem BX35_lay_b3 {σo : fS} {q : Unit × fS} {N : Nat} : ∀ {n : Nat} {s : fS} {l1 : Int} {l2 : Int}, bE 1 σo s → FX35_lay_b3 N n l1 l2 s = some q → bE 1 σo q.2 := by
  intro n
  induction n with
  | zero => intro s l1 l2 E  hF; simp [FX35_lay_b3] at hF
  | succ n ih =>
    intro s l1 l2 E  hF
    rw [FX35_lay_b3] at hF
    refine b_if hF (fun hF => ?_) (fun hF => ?_)
    ·
      exact b_ret E hF
    ·
      refine b_qI E (E.S.m1 (Nat.le_of_ble_eq_true rfl) (Nat.le_of_ble_eq_true rfl)) hF (fun _ D3 E3 hF => ?_)
      refine b_pI E3 (E3.S.m1 (Nat.le_of_ble_eq_true rfl) (Nat.le_of_ble_eq_true rfl)) hF (fun _ D5 E5 hF => ?_)
      exact ih E5 hF
theorem BX35_lay {σo : fS} {q : Unit × fS} {N : Nat} {s : fS} {p0 : Int} (E : bE 1 σo s) (hF : FX35_lay N p0 s = some q) : bE 1 σo q.2 := by
  unfold FX35_lay at hF
  exact BX35_lay_b3 (N := N) E hF
theorem BX35_feed_b55 {σo : fS} {q : Unit × fS} {N : Nat} {s : fS} (E : bE 1 σo s) (hF : FX35_feed_b55 N s = some q) : bE 1 σo q.2 := by
  unfold FX35_feed_b55 at hF
  exact b_ret E hF
theorem BX35_feed_b18 {σo : fS} {q : Unit × fS} {N : Nat} {s : fS} {l1 : Int} {l2 : Int} {l3 : Int} {l4 : Int} {l5 : Int} {s1 : Int} (E : bE 1 σo s) (hF : FX35_feed_b18 N l1 l2 l3 l4 l5 s1 s = some q) : bE 1 σo q.2 := by
  unfold FX35_feed_b18 at hF
  refine b_pI E (E.S.m1 (Nat.le_of_ble_eq_true rfl) (Nat.le_of_ble_eq_true rfl)) hF (fun _ D1 E1 hF => ?_)
  refine b_if hF (fun hF => ?_) (fun hF => ?_)
  ·
    exact BX35_feed_b55 (N := N) E1 hF
  ·
    refine b_call E1 (fun _ hq => (BX35_lay (N := N) (bE.rf E1.S) hq)) hF (fun _ hq4 D4 E4 hF => ?_)
    refine b_call E4 (fun _ hq => (BX35_lay (N := N) (bE.rf E4.S) hq)) hF (fun _ hq6 D6 E6 hF => ?_)
    refine b_call E6 (fun _ hq => (BX35_lay (N := N) (bE.rf E6.S) hq)) hF (fun _ hq8 D8 E8 hF => ?_)
    refine b_call E8 (fun _ hq => (BX35_lay (N := N) (bE.rf E8.S) hq)) hF (fun _ hq10 D10 E10 hF => ?_)
    refine b_call E10 (fun _ hq => (BX35_lay (N := N) (bE.rf E10.S) hq)) hF (fun _ hq12 D12 E12 hF => ?_)
    exact BX35_feed_b55 (N := N) E12 hF
theorem BX35_feed {σo : fS} {q : Unit × fS} {N : Nat} {s : fS} {p0 : Int} {p1 : Int} {p2 : Int} {p3 : Int} {p4 : Int} (E : bE 1 σo s) (hF : FX35_feed N p0 p1 p2 p3 p4 s = some q) : bE 1 σo q.2 := by
  unfold FX35_feed at hF
  refine b_if hF (fun hF => ?_) (fun hF => ?_)
  ·
    exact BX35_feed_b18 (N := N) E hF
  ·
    exact BX35_feed_b18 (N := N) E hF
theorem BX35_fuel_b36 {σo : fS} {q : Unit × fS} {s : fS} {s1 : Int} (E : bE 1 σo s) (hF : FX35_fuel_b36 s1 s = some q) : bE 1 σo q.2 := by
  unfold FX35_fuel_b36 at hF
  refine b_pI E (E.S.m1 (Nat.le_of_ble_eq_true rfl) (Nat.le_of_ble_eq_true rfl)) hF (fun _ D1 E1 hF => ?_)
  exact b_ret E1 hF
theorem BX35_fuel_b17 {σo : fS} {q : Unit × fS} {s : fS} {l1 : Int} {s1 : Int} (E : bE 1 σo s) (hF : FX35_fuel_b17 l1 s1 s = some q) : bE 1 σo q.2 := by
  unfold FX35_fuel_b17 at hF
  refine b_pI E (E.S.m1 (Nat.le_of_ble_eq_true rfl) (Nat.le_of_ble_eq_true rfl)) hF (fun _ D1 E1 hF => ?_)
  refine b_if hF (fun hF => ?_) (fun hF => ?_)
  ·
    exact BX35_fuel_b36 E1 hF
  ·
    exact BX35_fuel_b36 E1 hF
theorem BX35_fuel_b12 {σo : fS} {q : Unit × fS} {s : fS} {l1 : Int} (E : bE 1 σo s) (hF : FX35_fuel_b12 l1 s = some q) : bE 1 σo q.2 := by
  unfold FX35_fuel_b12 at hF
  exact BX35_fuel_b17 E hF
theorem BX35_fuel {σo : fS} {q : Unit × fS} {s : fS} {p0 : Int} (E : bE 1 σo s) (hF : FX35_fuel p0 s = some q) : bE 1 σo q.2 := by
  unfold FX35_fuel at hF
  refine b_if hF (fun hF => ?_) (fun hF => ?_)
  ·
    exact BX35_fuel_b12 E hF
  ·
    refine b_if hF (fun hF => ?_) (fun hF => ?_)
    ·
      exact BX35_fuel_b17 E hF
    ·
      exact BX35_fuel_b12 E hF
theorem BX35_nearest_b59 {σo : fS} {q : Int × fS} {s : fS} {s0 : Int} (E : bE 1 σo s) (hF : FX35_nearest_b59 s0 s = some q) : bE 1 σo q.2 := by
  unfold FX35_nearest_b59 at hF
  exact b_ret E hF
theorem BX35_nearest_b43 {σo : fS} {q : Int × fS} {s : fS} {l0 : Int} {s0 : Int} (E : bE 1 σo s) (hF : FX35_nearest_b43 l0 s0 s = some q) : bE 1 σo q.2 := by
  unfold FX35_nearest_b43 at hF
  refine b_if hF (fun hF => ?_) (fun hF => ?_)
  ·
    exact BX35_nearest_b59 E hF
  ·
    exact BX35_nearest_b59 E hF
theorem BX35_nearest_b12 {σo : fS} {q : Int × fS} {s : fS} {l0 : Int} {l2 : Int} {s0 : Int} (E : bE 1 σo s) (hF : FX35_nearest_b12 l0 l2 s0 s = some q) : bE 1 σo q.2 := by
  unfold FX35_nearest_b12 at hF
  refine b_dv hF (fun hF => ?_)
  refine b_dv hF (fun hF => ?_)
  refine b_dv hF (fun hF => ?_)
  refine b_if hF (fun hF => ?_) (fun hF => ?_)
  ·
    exact BX35_nearest_b43 E hF
  ·
    exact BX35_nearest_b43 E hF
theorem BX35_nearest {σo : fS} {q : Int × fS} {s : fS} {p0 : Int} {p1 : Int} (E : bE 1 σo s) (hF : FX35_nearest p0 p1 s = some q) : bE 1 σo q.2 := by
  unfold FX35_nearest at hF
  refine b_if hF (fun hF => ?_) (fun hF => ?_)
  ·
    exact BX35_nearest_b12 E hF
  ·
    exact BX35_nearest_b12 E hF
theorem BX35_placeOf_b143 {σo : fS} {q : Int × fS} {N : Nat} {K24 : Int → Int → Int → Int → fS → Option (Int × fS)} (hk24 : ∀ {s : fS} {l1 : Int} {l3 : Int} {l5 : Int} {l6 : Int}, bE 1 σo s → K24 l1 l3 l5 l6 s = some q → bE 1 σo q.2) {s : fS} {l1 : Int} {l3 : Int} {l5 : Int} {l6 : Int} (E : bE 1 σo s) (hF : FX35_placeOf_b143 N K24 l1 l3 l5 l6 s = some q) : bE 1 σo q.2 := by
  unfold FX35_placeOf_b143 at hF
  exact hk24 E hF
theorem BX35_placeOf_b92 {σo : fS} {q : Int × fS} {N : Nat} {K24 : Int → Int → Int → Int → fS → Option (Int × fS)} (hk24 : ∀ {s : fS} {l1 : Int} {l3 : Int} {l5 : Int} {l6 : Int}, bE 1 σo s → K24 l1 l3 l5 l6 s = some q → bE 1 σo q.2) {s : fS} {l1 : Int} {l3 : Int} {l5 : Int} {l6 : Int} (E : bE 1 σo s) (hF : FX35_placeOf_b92 N K24 l1 l3 l5 l6 s = some q) : bE 1 σo q.2 := by
  unfold FX35_placeOf_b92 at hF
  refine b_rv hF (fun _ hF => ?_)
  refine b_if hF (fun hF => ?_) (fun hF => ?_)
  ·
    exact BX35_placeOf_b143 (N := N) (K24 := K24) @hk24 E hF
  ·
    refine b_rv hF (fun _ hF => ?_)
    refine b_rv hF (fun _ hF => ?_)
    refine b_if hF (fun hF => ?_) (fun hF => ?_)
    ·
      exact BX35_placeOf_b143 (N := N) (K24 := K24) @hk24 E hF
    ·
      refine b_rv hF (fun _ hF => ?_)
      exact BX35_placeOf_b143 (N := N) (K24 := K24) @hk24 E hF
theorem BX35_placeOf_b244 {σo : fS} {q : Int × fS} {N : Nat} {s : fS} {l8 : Int} {s0 : Int} {s1 : Int} (E : bE 1 σo s) (hF : FX35_placeOf_b244 N l8 s0 s1 s = some q) : bE 1 σo q.2 := by
  unfold FX35_placeOf_b244 at hF
  exact b_ret E hF
theorem BX35_placeOf_b243 {σo : fS} {q : Int × fS} {N : Nat} {s : fS} {l8 : Int} {s0 : Int} (E : bE 1 σo s) (hF : FX35_placeOf_b243 N l8 s0 s = some q) : bE 1 σo q.2 := by
  unfold FX35_placeOf_b243 at hF
  exact BX35_placeOf_b244 (N := N) E hF
theorem BX35_placeOf_b205 {σo : fS} {q : Int × fS} {N : Nat} {s : fS} {l1 : Int} {l5 : Int} {s0 : Int} (E : bE 1 σo s) (hF : FX35_placeOf_b205 N l1 l5 s0 s = some q) : bE 1 σo q.2 := by
  unfold FX35_placeOf_b205 at hF
  refine b_rv hF (fun _ hF => ?_)
  refine b_if hF (fun hF => ?_) (fun hF => ?_)
  ·
    exact BX35_placeOf_b243 (N := N) E hF
  ·
    refine b_rv hF (fun _ hF => ?_)
    refine b_call E (fun _ hq => (BX35_isSolid (bE.rf E.S) hq)) hF (fun _ hq6 D6 E6 hF => ?_)
    refine b_if hF (fun hF => ?_) (fun hF => ?_)
    ·
      exact BX35_placeOf_b243 (N := N) E6 hF
    ·
      exact BX35_placeOf_b244 (N := N) E6 hF
theorem BX35_placeOf_b176 {σo : fS} {q : Int × fS} {N : Nat} {s : fS} {l1 : Int} {l3 : Int} {l5 : Int} {s0 : Int} (E : bE 1 σo s) (hF : FX35_placeOf_b176 N l1 l3 l5 s0 s = some q) : bE 1 σo q.2 := by
  unfold FX35_placeOf_b176 at hF
  refine b_rv hF (fun _ hF => ?_)
  refine b_if hF (fun hF => ?_) (fun hF => ?_)
  ·
    refine b_rv hF (fun _ hF => ?_)
    refine b_call E (fun _ hq => (BX35_nearest (bE.rf E.S) hq)) hF (fun _ hq5 D5 E5 hF => ?_)
    exact BX35_placeOf_b205 (N := N) E5 hF
  ·
    exact BX35_placeOf_b205 (N := N) E hF
theorem BX35_placeOf_b24 {σo : fS} {q : Int × fS} {N : Nat} : ∀ {n : Nat} {s : fS} {l1 : Int} {l3 : Int} {l5 : Int} {l6 : Int}, bE 1 σo s → FX35_placeOf_b24 N n l1 l3 l5 l6 s = some q → bE 1 σo q.2 := by
  intro n
  induction n with
  | zero => intro s l1 l3 l5 l6 E  hF; simp [FX35_placeOf_b24] at hF
  | succ n ih =>
    intro s l1 l3 l5 l6 E  hF
    rw [FX35_placeOf_b24] at hF
    refine b_if hF (fun hF => ?_) (fun hF => ?_)
    ·
      refine b_rv hF (fun _ hF => ?_)
      refine b_if hF (fun hF => ?_) (fun hF => ?_)
      ·
        refine b_rv hF (fun _ hF => ?_)
        exact BX35_placeOf_b176 (N := N) E hF
      ·
        refine b_rv hF (fun _ hF => ?_)
        exact BX35_placeOf_b176 (N := N) E hF
    ·
      refine b_rv hF (fun _ hF => ?_)
      refine b_call E (fun _ hq => (BX35_add (bE.rf E.S) (E.S.m1 (Nat.le_of_ble_eq_true rfl) (Nat.le_of_ble_eq_true rfl)) hq)) hF (fun _ hq11 D11 E11 hF => ?_)
      refine b_rv hF (fun _ hF => ?_)
      refine b_if hF (fun hF => ?_) (fun hF => ?_)
      ·
        exact BX35_placeOf_b92 (N := N) (K24 := FX35_placeOf_b24 N n) @ih E11 hF
      ·
        refine b_rv hF (fun _ hF => ?_)
        refine b_if hF (fun hF => ?_) (fun hF => ?_)
        ·
          exact BX35_placeOf_b92 (N := N) (K24 := FX35_placeOf_b24 N n) @ih E11 hF
        ·
          refine b_rv hF (fun _ hF => ?_)
          exact BX35_placeOf_b143 (N := N) (K24 := FX35_placeOf_b24 N n) @ih E11 hF
theorem BX35_placeOf {σo : fS} {q : Int × fS} {N : Nat} {s : fS} {p0 : Int} {p1 : Int} (E : bE 1 σo s) (hF : FX35_placeOf N p0 p1 s = some q) : bE 1 σo q.2 := by
  unfold FX35_placeOf at hF
  refine b_call E (fun _ hq => (BX35_nothing (N := N) (bE.rf E.S) hq)) hF (fun _ hq2 D2 E2 hF => ?_)
  refine b_rv hF (fun _ hF => ?_)
  refine b_rv hF (fun _ hF => ?_)
  exact BX35_placeOf_b24 (N := N) E2 hF
theorem BX35_ruled_b52 {σo : fS} {q : Int × fS} {s : fS} {s0 : Int} (E : bE 1 σo s) (hF : FX35_ruled_b52 s0 s = some q) : bE 1 σo q.2 := by
  unfold FX35_ruled_b52 at hF
  exact b_ret E hF
theorem BX35_ruled_b84 {σo : fS} {q : Int × fS} {s : fS} {s0 : Int} (E : bE 1 σo s) (hF : FX35_ruled_b84 s0 s = some q) : bE 1 σo q.2 := by
  unfold FX35_ruled_b84 at hF
  exact b_ret E hF
theorem BX35_ruled {σo : fS} {q : Int × fS} {s : fS} {p0 : Int} {p1 : Int} {p2 : Int} (E : bE 1 σo s) (hF : FX35_ruled p0 p1 p2 s = some q) : bE 1 σo q.2 := by
  unfold FX35_ruled at hF
  refine b_rv hF (fun _ hF => ?_)
  refine b_if hF (fun hF => ?_) (fun hF => ?_)
  ·
    refine b_rv hF (fun _ hF => ?_)
    refine b_if hF (fun hF => ?_) (fun hF => ?_)
    ·
      refine b_if hF (fun hF => ?_) (fun hF => ?_)
      ·
        refine b_if hF (fun hF => ?_) (fun hF => ?_)
        ·
          exact BX35_ruled_b84 E hF
        ·
          refine b_rv hF (fun _ hF => ?_)
          exact BX35_ruled_b84 E hF
      ·
        refine b_rv hF (fun _ hF => ?_)
        exact BX35_ruled_b84 E hF
    ·
      refine b_if hF (fun hF => ?_) (fun hF => ?_)
      ·
        exact BX35_ruled_b52 E hF
      ·
        refine b_rv hF (fun _ hF => ?_)
        exact BX35_ruled_b52 E hF
  ·
    refine b_rv hF (fun _ hF => ?_)
    exact b_ret E hF
theorem BX35_layBox_b401 {σo : fS} {q : Int × fS} {N : Nat} {SL : Int → Int → Int → fS → Option (Int × fS)} {K11 : Int → Int → Int → Int → Int → fS → Option (Int × fS)} (hsL : ∀ {s : fS} {x1 : Int} {x2 : Int} {x3 : Int} {q}, bS 1 s → SL x1 x2 x3 s = some q → bE 1 s q.2) (hk11 : ∀ {s : fS} {l1 : Int} {l2 : Int} {l4 : Int} {l6 : Int} {l7 : Int}, bE 1 σo s → K11 l1 l2 l4 l6 l7 s = some q → bE 1 σo q.2) {s : fS} {l1 : Int} {l2 : Int} {l4 : Int} {l6 : Int} {l7 : Int} (E : bE 1 σo s) (hF : FX35_layBox_b401 N SL K11 l1 l2 l4 l6 l7 s = some q) : bE 1 σo q.2 := by
  unfold FX35_layBox_b401 at hF
  exact hk11 E hF
theorem BX35_layBox_b175 {σo : fS} {q : Int × fS} {N : Nat} {SL : Int → Int → Int → fS → Option (Int × fS)} {K11 : Int → Int → Int → Int → Int → fS → Option (Int × fS)} (hsL : ∀ {s : fS} {x1 : Int} {x2 : Int} {x3 : Int} {q}, bS 1 s → SL x1 x2 x3 s = some q → bE 1 s q.2) (hk11 : ∀ {s : fS} {l1 : Int} {l2 : Int} {l4 : Int} {l6 : Int} {l7 : Int}, bE 1 σo s → K11 l1 l2 l4 l6 l7 s = some q → bE 1 σo q.2) {s : fS} {l1 : Int} {l2 : Int} {l4 : Int} {l7 : Int} {l8 : Int} {s1 : Int} {s2 : Int} {s3 : Int} {s4 : Int} (E : bE 1 σo s) (hF : FX35_layBox_b175 N SL K11 l1 l2 l4 l7 l8 s1 s2 s3 s4 s = some q) : bE 1 σo q.2 := by
  unfold FX35_layBox_b175 at hF
  refine b_rv hF (fun _ hF => ?_)
  refine b_rv hF (fun _ hF => ?_)
  refine b_rv hF (fun _ hF => ?_)
  refine b_call E (fun _ hq => (BX35_note (bE.rf E.S) hq)) hF (fun _ hq8 D8 E8 hF => ?_)
  exact BX35_layBox_b401 (N := N) (SL := SL) (K11 := K11) @hsL @hk11 E8 hF
theorem BX35_layBox_b312 {σo : fS} {q : Int × fS} {N : Nat} {SL : Int → Int → Int → fS → Option (Int × fS)} {K11 : Int → Int → Int → Int → Int → fS → Option (Int × fS)} (hsL : ∀ {s : fS} {x1 : Int} {x2 : Int} {x3 : Int} {q}, bS 1 s → SL x1 x2 x3 s = some q → bE 1 s q.2) (hk11 : ∀ {s : fS} {l1 : Int} {l2 : Int} {l4 : Int} {l6 : Int} {l7 : Int}, bE 1 σo s → K11 l1 l2 l4 l6 l7 s = some q → bE 1 σo q.2) {s : fS} {l1 : Int} {l2 : Int} {l4 : Int} {l7 : Int} {s0 : Int} (E : bE 1 σo s) (hF : FX35_layBox_b312 N SL K11 l1 l2 l4 l7 s0 s = some q) : bE 1 σo q.2 := by
  unfold FX35_layBox_b312 at hF
  exact BX35_layBox_b401 (N := N) (SL := SL) (K11 := K11) @hsL @hk11 E hF
theorem BX35_layBox_b307 {σo : fS} {q : Int × fS} {N : Nat} {SL : Int → Int → Int → fS → Option (Int × fS)} {K11 : Int → Int → Int → Int → Int → fS → Option (Int × fS)} (hsL : ∀ {s : fS} {x1 : Int} {x2 : Int} {x3 : Int} {q}, bS 1 s → SL x1 x2 x3 s = some q → bE 1 s q.2) (hk11 : ∀ {s : fS} {l1 : Int} {l2 : Int} {l4 : Int} {l6 : Int} {l7 : Int}, bE 1 σo s → K11 l1 l2 l4 l6 l7 s = some q → bE 1 σo q.2) {s : fS} {l1 : Int} {l2 : Int} {l4 : Int} {l7 : Int} (E : bE 1 σo s) (hF : FX35_layBox_b307 N SL K11 l1 l2 l4 l7 s = some q) : bE 1 σo q.2 := by
  unfold FX35_layBox_b307 at hF
  exact BX35_layBox_b312 (N := N) (SL := SL) (K11 := K11) @hsL @hk11 E hF
theorem BX35_layBox_b295 {σo : fS} {q : Int × fS} {N : Nat} {SL : Int → Int → Int → fS → Option (Int × fS)} {K11 : Int → Int → Int → Int → Int → fS → Option (Int × fS)} (hsL : ∀ {s : fS} {x1 : Int} {x2 : Int} {x3 : Int} {q}, bS 1 s → SL x1 x2 x3 s = some q → bE 1 s q.2) (hk11 : ∀ {s : fS} {l1 : Int} {l2 : Int} {l4 : Int} {l6 : Int} {l7 : Int}, bE 1 σo s → K11 l1 l2 l4 l6 l7 s = some q → bE 1 σo q.2) {s : fS} {l1 : Int} {l2 : Int} {l4 : Int} {l7 : Int} {l15 : Int} {l17 : Int} {l19 : Int} {s1 : Int} {s2 : Int} {s3 : Int} {s4 : Int} (E : bE 1 σo s) (hF : FX35_layBox_b295 N SL K11 l1 l2 l4 l7 l15 l17 l19 s1 s2 s3 s4 s = some q) : bE 1 σo q.2 := by
  unfold FX35_layBox_b295 at hF
  refine b_call E (fun _ hq => (BX35_note (bE.rf E.S) hq)) hF (fun _ hq2 D2 E2 hF => ?_)
  refine b_if hF (fun hF => ?_) (fun hF => ?_)
  ·
    exact BX35_layBox_b312 (N := N) (SL := SL) (K11 := K11) @hsL @hk11 E2 hF
  ·
    exact BX35_layBox_b307 (N := N) (SL := SL) (K11 := K11) @hsL @hk11 E2 hF
theorem BX35_layBox_b399 {σo : fS} {q : Int × fS} {N : Nat} {SL : Int → Int → Int → fS → Option (Int × fS)} {K11 : Int → Int → Int → Int → Int → fS → Option (Int × fS)} (hsL : ∀ {s : fS} {x1 : Int} {x2 : Int} {x3 : Int} {q}, bS 1 s → SL x1 x2 x3 s = some q → bE 1 s q.2) (hk11 : ∀ {s : fS} {l1 : Int} {l2 : Int} {l4 : Int} {l6 : Int} {l7 : Int}, bE 1 σo s → K11 l1 l2 l4 l6 l7 s = some q → bE 1 σo q.2) {s : fS} {l1 : Int} {l2 : Int} {l4 : Int} {l7 : Int} {s0 : Int} (E : bE 1 σo s) (hF : FX35_layBox_b399 N SL K11 l1 l2 l4 l7 s0 s = some q) : bE 1 σo q.2 := by
  unfold FX35_layBox_b399 at hF
  exact BX35_layBox_b401 (N := N) (SL := SL) (K11 := K11) @hsL @hk11 E hF
theorem BX35_layBox_b115 {σo : fS} {q : Int × fS} {N : Nat} {SL : Int → Int → Int → fS → Option (Int × fS)} {K11 : Int → Int → Int → Int → Int → fS → Option (Int × fS)} (hsL : ∀ {s : fS} {x1 : Int} {x2 : Int} {x3 : Int} {q}, bS 1 s → SL x1 x2 x3 s = some q → bE 1 s q.2) (hk11 : ∀ {s : fS} {l1 : Int} {l2 : Int} {l4 : Int} {l6 : Int} {l7 : Int}, bE 1 σo s → K11 l1 l2 l4 l6 l7 s = some q → bE 1 σo q.2) {s : fS} {l1 : Int} {l2 : Int} {l4 : Int} {l6 : Int} {l7 : Int} {l8 : Int} {l11 : Int} {s0 : Int} (E : bE 1 σo s) (hF : FX35_layBox_b115 N SL K11 l1 l2 l4 l6 l7 l8 l11 s0 s = some q) : bE 1 σo q.2 := by
  unfold FX35_layBox_b115 at hF
  refine b_rv hF (fun _ hF => ?_)
  refine b_if hF (fun hF => ?_) (fun hF => ?_)
  ·
    refine b_rv hF (fun _ hF => ?_)
    refine b_if hF (fun hF => ?_) (fun hF => ?_)
    ·
      refine b_rv hF (fun _ hF => ?_)
      refine b_if hF (fun hF => ?_) (fun hF => ?_)
      ·
        exact BX35_layBox_b401 (N := N) (SL := SL) (K11 := K11) @hsL @hk11 E hF
      ·
        refine b_rv hF (fun _ hF => ?_)
        refine b_rv hF (fun _ hF => ?_)
        refine b_rv hF (fun _ hF => ?_)
        refine b_if hF (fun hF => ?_) (fun hF => ?_)
        ·
          refine b_call E (fun _ hq => (hsL E.S hq)) hF (fun _ hq14 D14 E14 hF => ?_)
          exact BX35_layBox_b399 (N := N) (SL := SL) (K11 := K11) @hsL @hk11 E14 hF
        ·
          refine b_rv hF (fun _ hF => ?_)
          refine b_call E (fun _ hq => (hsL E.S hq)) hF (fun _ hq18 D18 E18 hF => ?_)
          exact BX35_layBox_b399 (N := N) (SL := SL) (K11 := K11) @hsL @hk11 E18 hF
    ·
      refine b_call E (fun _ hq => (BX35_ruled (bE.rf E.S) hq)) hF (fun _ hq20 D20 E20 hF => ?_)
      refine b_call E20 (fun _ hq => (BX35_ruled (bE.rf E20.S) hq)) hF (fun _ hq22 D22 E22 hF => ?_)
      refine b_call E22 (fun _ hq => (BX35_ruled (bE.rf E22.S) hq)) hF (fun _ hq24 D24 E24 hF => ?_)
      refine b_if hF (fun hF => ?_) (fun hF => ?_)
      ·
        exact BX35_layBox_b307 (N := N) (SL := SL) (K11 := K11) @hsL @hk11 E24 hF
      ·
        refine b_if hF (fun hF => ?_) (fun hF => ?_)
        ·
          exact BX35_layBox_b307 (N := N) (SL := SL) (K11 := K11) @hsL @hk11 E24 hF
        ·
          refine b_rv hF (fun _ hF => ?_)
          refine b_if hF (fun hF => ?_) (fun hF => ?_)
          ·
            exact BX35_layBox_b295 (N := N) (SL := SL) (K11 := K11) @hsL @hk11 E24 hF
          ·
            exact BX35_layBox_b295 (N := N) (SL := SL) (K11 := K11) @hsL @hk11 E24 hF
  ·
    refine b_rv hF (fun _ hF => ?_)
    refine b_rv hF (fun _ hF => ?_)
    refine b_rv hF (fun _ hF => ?_)
    refine b_if hF (fun hF => ?_) (fun hF => ?_)
    ·
      exact BX35_layBox_b175 (N := N) (SL := SL) (K11 := K11) @hsL @hk11 E hF
    ·
      refine b_rv hF (fun _ hF => ?_)
      exact BX35_layBox_b175 (N := N) (SL := SL) (K11 := K11) @hsL @hk11 E hF
theorem BX35_layBox_b86 {σo : fS} {q : Int × fS} {N : Nat} {SL : Int → Int → Int → fS → Option (Int × fS)} {K11 : Int → Int → Int → Int → Int → fS → Option (Int × fS)} (hsL : ∀ {s : fS} {x1 : Int} {x2 : Int} {x3 : Int} {q}, bS 1 s → SL x1 x2 x3 s = some q → bE 1 s q.2) (hk11 : ∀ {s : fS} {l1 : Int} {l2 : Int} {l4 : Int} {l6 : Int} {l7 : Int}, bE 1 σo s → K11 l1 l2 l4 l6 l7 s = some q → bE 1 σo q.2) {s : fS} {l1 : Int} {l2 : Int} {l4 : Int} {l6 : Int} {l7 : Int} {l8 : Int} {l9 : Int} {s0 : Int} (E : bE 1 σo s) (hF : FX35_layBox_b86 N SL K11 l1 l2 l4 l6 l7 l8 l9 s0 s = some q) : bE 1 σo q.2 := by
  unfold FX35_layBox_b86 at hF
  refine b_rv hF (fun _ hF => ?_)
  refine b_if hF (fun hF => ?_) (fun hF => ?_)
  ·
    exact BX35_layBox_b115 (N := N) (SL := SL) (K11 := K11) @hsL @hk11 E hF
  ·
    refine b_rv hF (fun _ hF => ?_)
    exact BX35_layBox_b115 (N := N) (SL := SL) (K11 := K11) @hsL @hk11 E hF
theorem BX35_layBox_b67 {σo : fS} {q : Int × fS} {N : Nat} {SL : Int → Int → Int → fS → Option (Int × fS)} {K11 : Int → Int → Int → Int → Int → fS → Option (Int × fS)} (hsL : ∀ {s : fS} {x1 : Int} {x2 : Int} {x3 : Int} {q}, bS 1 s → SL x1 x2 x3 s = some q → bE 1 s q.2) (hk11 : ∀ {s : fS} {l1 : Int} {l2 : Int} {l4 : Int} {l6 : Int} {l7 : Int}, bE 1 σo s → K11 l1 l2 l4 l6 l7 s = some q → bE 1 σo q.2) {s : fS} {l1 : Int} {l2 : Int} {l4 : Int} {l6 : Int} {l7 : Int} {l8 : Int} {s0 : Int} (E : bE 1 σo s) (hF : FX35_layBox_b67 N SL K11 l1 l2 l4 l6 l7 l8 s0 s = some q) : bE 1 σo q.2 := by
  unfold FX35_layBox_b67 at hF
  refine b_rv hF (fun _ hF => ?_)
  refine b_if hF (fun hF => ?_) (fun hF => ?_)
  ·
    exact BX35_layBox_b86 (N := N) (SL := SL) (K11 := K11) @hsL @hk11 E hF
  ·
    exact BX35_layBox_b86 (N := N) (SL := SL) (K11 := K11) @hsL @hk11 E hF
theorem BX35_layBox_b407 {σo : fS} {q : Int × fS} {N : Nat} {SL : Int → Int → Int → fS → Option (Int × fS)} (hsL : ∀ {s : fS} {x1 : Int} {x2 : Int} {x3 : Int} {q}, bS 1 s → SL x1 x2 x3 s = some q → bE 1 s q.2) {s : fS} {l6 : Int} (E : bE 1 σo s) (hF : FX35_layBox_b407 N SL l6 s = some q) : bE 1 σo q.2 := by
  unfold FX35_layBox_b407 at hF
  exact b_z E hF
theorem BX35_layBox_b11 {σo : fS} {q : Int × fS} {N : Nat} {SL : Int → Int → Int → fS → Option (Int × fS)} (hsL : ∀ {s : fS} {x1 : Int} {x2 : Int} {x3 : Int} {q}, bS 1 s → SL x1 x2 x3 s = some q → bE 1 s q.2) : ∀ {n : Nat} {s : fS} {l1 : Int} {l2 : Int} {l4 : Int} {l6 : Int} {l7 : Int}, bE 1 σo s → FX35_layBox_b11 N SL n l1 l2 l4 l6 l7 s = some q → bE 1 σo q.2 := by
  intro n
  induction n with
  | zero => intro s l1 l2 l4 l6 l7 E  hF; simp [FX35_layBox_b11] at hF
  | succ n ih =>
    intro s l1 l2 l4 l6 l7 E  hF
    rw [FX35_layBox_b11] at hF
    refine b_rv hF (fun _ hF => ?_)
    refine b_if hF (fun hF => ?_) (fun hF => ?_)
    ·
      exact BX35_layBox_b407 (N := N) (SL := SL) @hsL E hF
    ·
      refine b_if hF (fun hF => ?_) (fun hF => ?_)
      ·
        exact BX35_layBox_b407 (N := N) (SL := SL) @hsL E hF
      ·
        refine b_rv hF (fun _ hF => ?_)
        refine b_call E (fun _ hq => (BX35_isSolid (bE.rf E.S) hq)) hF (fun _ hq5 D5 E5 hF => ?_)
        refine b_if hF (fun hF => ?_) (fun hF => ?_)
        ·
          exact BX35_layBox_b67 (N := N) (SL := SL) (K11 := FX35_layBox_b11 N SL n) @hsL @ih E5 hF
        ·
          refine b_rv hF (fun _ hF => ?_)
          refine b_call E5 (fun _ hq => (BX35_placeOf (N := N) (bE.rf E5.S) hq)) hF (fun _ hq9 D9 E9 hF => ?_)
          exact BX35_layBox_b67 (N := N) (SL := SL) (K11 := FX35_layBox_b11 N SL n) @hsL @ih E9 hF
theorem BX35_layBox {σo : fS} {q : Int × fS} {N : Nat} {SL : Int → Int → Int → fS → Option (Int × fS)} (hsL : ∀ {s : fS} {x1 : Int} {x2 : Int} {x3 : Int} {q}, bS 1 s → SL x1 x2 x3 s = some q → bE 1 s q.2) {s : fS} {p0 : Int} {p1 : Int} {p2 : Int} (E : bE 1 σo s) (hF : FX35_layBox N SL p0 p1 p2 s = some q) : bE 1 σo q.2 := by
  unfold FX35_layBox at hF
  refine b_rv hF (fun _ hF => ?_)
  exact BX35_layBox_b11 (N := N) (SL := SL) @hsL E hF
