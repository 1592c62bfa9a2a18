set_option maxRecDepth 100000
set_option maxHeartbeats 4000000
theorem BX24_run_b242 {σo : fS} {q : Int × fS} {N : Nat} {s : fS} (E : bE 0 σo s) (hF : FX24_run_b242 N s = some q) : bE 0 σo q.2 := by
  unfold FX24_run_b242 at hF
  exact b_ret E hF
theorem BX24_run_b244 {σo : fS} {q : Int × fS} {N : Nat} {K13 : Int → fS → Option (Int × fS)} (hk13 : ∀ {s : fS} {l1 : Int}, bE 0 σo s → K13 l1 s = some q → bE 0 σo q.2) {s : fS} {l1 : Int} (E : bE 0 σo s) (hF : FX24_run_b244 N K13 l1 s = some q) : bE 0 σo q.2 := by
  unfold FX24_run_b244 at hF
  exact hk13 E hF
theorem BX24_run_b209 {σo : fS} {q : Int × fS} {N : Nat} {K13 : Int → fS → Option (Int × fS)} (hk13 : ∀ {s : fS} {l1 : Int}, bE 0 σo s → K13 l1 s = some q → bE 0 σo q.2) {s : fS} {l1 : Int} {l2 : Int} (E : bE 0 σo s) (hF : FX24_run_b209 N K13 l1 l2 s = some q) : bE 0 σo q.2 := by
  unfold FX24_run_b209 at hF
  refine b_pI E (E.S.c0 (Nat.le_of_ble_eq_true rfl)) hF (fun _ D3 E3 hF => ?_)
  refine b_if hF (fun hF => ?_) (fun hF => ?_)
  ·
    exact BX24_run_b242 (N := N) E3 hF
  ·
    refine b_if hF (fun hF => ?_) (fun hF => ?_)
    ·
      exact BX24_run_b244 (N := N) (K13 := K13) @hk13 E3 hF
    ·
      exact BX24_run_b242 (N := N) E3 hF
theorem BX24_run_b192 {σo : fS} {q : Int × fS} {N : Nat} {K13 : Int → fS → Option (Int × fS)} (hk13 : ∀ {s : fS} {l1 : Int}, bE 0 σo s → K13 l1 s = some q → bE 0 σo q.2) {s : fS} {l1 : Int} {l2 : Int} (E : bE 0 σo s) (hF : FX24_run_b192 N K13 l1 l2 s = some q) : bE 0 σo q.2 := by
  unfold FX24_run_b192 at hF
  refine b_if hF (fun hF => ?_) (fun hF => ?_)
  ·
    exact BX24_run_b209 (N := N) (K13 := K13) @hk13 E hF
  ·
    refine b_call E (fun _ hq => (BX24_makeNodes (N := N) (bE.rf E.S) hq)) hF (fun _ hq3 D3 E3 hF => ?_)
    refine b_if hF (fun hF => ?_) (fun hF => ?_)
    ·
      exact BX24_run_b209 (N := N) (K13 := K13) @hk13 E3 hF
    ·
      exact b_ret E3 hF
theorem BX24_run_b250 {σo : fS} {q : Int × fS} {N : Nat} {s : fS} (E : bE 0 σo s) (hF : FX24_run_b250 N s = some q) : bE 0 σo q.2 := by
  unfold FX24_run_b250 at hF
  exact b_ret E hF
theorem BX24_run_b13 {σo : fS} {q : Int × fS} {N : Nat} : ∀ {n : Nat} {s : fS} {l1 : Int}, bE 0 σo s → FX24_run_b13 N n l1 s = some q → bE 0 σo q.2 := by
  intro n
  induction n with
  | zero => intro s l1 E  hF; simp [FX24_run_b13] at hF
  | succ n ih =>
    intro s l1 E  hF
    rw [FX24_run_b13] at hF
    refine b_if hF (fun hF => ?_) (fun hF => ?_)
    ·
      exact BX24_run_b250 (N := N) E hF
    ·
      refine b_if hF (fun hF => ?_) (fun hF => ?_)
      ·
        exact BX24_run_b250 (N := N) E hF
      ·
        refine b_call E (fun _ hq => (BX24_isPlace (N := N) (bE.rf E.S) hq)) hF (fun _ hq6 D6 E6 hF => ?_)
        refine b_if hF (fun hF => ?_) (fun hF => ?_)
        ·
          refine b_call E6 (fun _ hq => (BX24_goThrough (N := N) (bE.rf E6.S) hq)) hF (fun _ hq9 D9 E9 hF => ?_)
          refine b_if hF (fun hF => ?_) (fun hF => ?_)
          ·
            exact BX24_run_b192 (N := N) (K13 := FX24_run_b13 N n) @ih E9 hF
          ·
            refine b_if hF (fun hF => ?_) (fun hF => ?_)
            ·
              exact BX24_run_b192 (N := N) (K13 := FX24_run_b13 N n) @ih E9 hF
            ·
              refine b_if hF (fun hF => ?_) (fun hF => ?_)
              ·
                exact BX24_run_b192 (N := N) (K13 := FX24_run_b13 N n) @ih E9 hF
              ·
                refine b_if hF (fun hF => ?_) (fun hF => ?_)
                ·
                  refine b_rv hF (fun _ hF => ?_)
                  refine b_call E9 (fun _ hq => (BX23_measure (N := N) (bE.rf E9.S) hq)) hF (fun _ hq20 D20 E20 hF => ?_)
                  refine b_rv hF (fun _ hF => ?_)
                  refine b_rv hF (fun _ hF => ?_)
                  refine b_call E20 (fun _ hq => (BX26_weigh (bE.rf E20.S) hq)) hF (fun _ hq31 D31 E31 hF => ?_)
                  refine b_rv hF (fun _ hF => ?_)
                  refine b_rv hF (fun _ hF => ?_)
                  refine b_call E31 (fun _ hq => (BX25_add (bE.rf E31.S) hq)) hF (fun _ hq42 D42 E42 hF => ?_)
                  exact BX24_run_b209 (N := N) (K13 := FX24_run_b13 N n) @ih E42 hF
                ·
                  exact b_ret E9 hF
        ·
          exact BX24_run_b244 (N := N) (K13 := FX24_run_b13 N n) @ih E6 hF
theorem BX24_run {σo : fS} {q : Int × fS} {N : Nat} {s : fS} (E : bE 0 σo s) (hF : FX24_run N s = some q) : bE 0 σo q.2 := by
  unfold FX24_run at hF
  refine b_call E (fun _ hq => (BX25_begin (bE.rf E.S) hq)) hF (fun _ hq3 D3 E3 hF => ?_)
  refine b_call E3 (fun _ hq => (BX24_clear (N := N) (bE.rf E3.S) hq)) hF (fun _ hq5 D5 E5 hF => ?_)
  exact BX24_run_b13 (N := N) E5 hF
theorem BX24_isAtEnd_b26 {σo : fS} {q : Int × fS} {s : fS} {s0 : Int} (E : bE 0 σo s) (hF : FX24_isAtEnd_b26 s0 s = some q) : bE 0 σo q.2 := by
  unfold FX24_isAtEnd_b26 at hF
  exact b_z E hF
theorem BX24_isAtEnd {σo : fS} {q : Int × fS} {s : fS} {p0 : Int} (E : bE 0 σo s) (hF : FX24_isAtEnd p0 s = some q) : bE 0 σo q.2 := by
  unfold FX24_isAtEnd at hF
  refine b_rv hF (fun _ hF => ?_)
  refine b_if hF (fun hF => ?_) (fun hF => ?_)
  ·
    exact BX24_isAtEnd_b26 E hF
  ·
    exact BX24_isAtEnd_b26 E hF
theorem BX24_leastOf_b193 {σo : fS} {q : Int × fS} {N : Nat} {K4 : Int → Int → Int → fS → Option (Int × fS)} (hk4 : ∀ {s : fS} {l1 : Int} {l2 : Int} {l3 : Int}, bE 0 σo s → K4 l1 l2 l3 s = some q → bE 0 σo q.2) {s : fS} {l1 : Int} {l2 : Int} {l3 : Int} (E : bE 0 σo s) (hF : FX24_leastOf_b193 N K4 l1 l2 l3 s = some q) : bE 0 σo q.2 := by
  unfold FX24_leastOf_b193 at hF
  exact hk4 E hF
theorem BX24_leastOf_b192 {σo : fS} {q : Int × fS} {N : Nat} {K4 : Int → Int → Int → fS → Option (Int × fS)} (hk4 : ∀ {s : fS} {l1 : Int} {l2 : Int} {l3 : Int}, bE 0 σo s → K4 l1 l2 l3 s = some q → bE 0 σo q.2) {s : fS} {l1 : Int} {l3 : Int} {s0 : Int} (E : bE 0 σo s) (hF : FX24_leastOf_b192 N K4 l1 l3 s0 s = some q) : bE 0 σo q.2 := by
  unfold FX24_leastOf_b192 at hF
  exact BX24_leastOf_b193 (N := N) (K4 := K4) @hk4 E hF
theorem BX24_leastOf_b182 {σo : fS} {q : Int × fS} {N : Nat} {K4 : Int → Int → Int → fS → Option (Int × fS)} (hk4 : ∀ {s : fS} {l1 : Int} {l2 : Int} {l3 : Int}, bE 0 σo s → K4 l1 l2 l3 s = some q → bE 0 σo q.2) {s : fS} {l1 : Int} {l2 : Int} {l3 : Int} {l4 : Int} (E : bE 0 σo s) (hF : FX24_leastOf_b182 N K4 l1 l2 l3 l4 s = some q) : bE 0 σo q.2 := by
  unfold FX24_leastOf_b182 at hF
  refine b_if hF (fun hF => ?_) (fun hF => ?_)
  ·
    exact BX24_leastOf_b192 (N := N) (K4 := K4) @hk4 E hF
  ·
    exact BX24_leastOf_b192 (N := N) (K4 := K4) @hk4 E hF
theorem BX24_leastOf_b180 {σo : fS} {q : Int × fS} {N : Nat} {K4 : Int → Int → Int → fS → Option (Int × fS)} (hk4 : ∀ {s : fS} {l1 : Int} {l2 : Int} {l3 : Int}, bE 0 σo s → K4 l1 l2 l3 s = some q → bE 0 σo q.2) {s : fS} {l1 : Int} {l2 : Int} {l3 : Int} {s0 : Int} (E : bE 0 σo s) (hF : FX24_leastOf_b180 N K4 l1 l2 l3 s0 s = some q) : bE 0 σo q.2 := by
  unfold FX24_leastOf_b180 at hF
  exact BX24_leastOf_b182 (N := N) (K4 := K4) @hk4 E hF
theorem BX24_leastOf_b75 {σo : fS} {q : Int × fS} {N : Nat} {K4 : Int → Int → Int → fS → Option (Int × fS)} (hk4 : ∀ {s : fS} {l1 : Int} {l2 : Int} {l3 : Int}, bE 0 σo s → K4 l1 l2 l3 s = some q → bE 0 σo q.2) {s : fS} {l1 : Int} {l2 : Int} {l3 : Int} {s0 : Int} (E : bE 0 σo s) (hF : FX24_leastOf_b75 N K4 l1 l2 l3 s0 s = some q) : bE 0 σo q.2 := by
  unfold FX24_leastOf_b75 at hF
  refine b_if hF (fun hF => ?_) (fun hF => ?_)
  ·
    exact BX24_leastOf_b182 (N := N) (K4 := K4) @hk4 E hF
  ·
    refine b_rv hF (fun _ hF => ?_)
    refine b_rv hF (fun _ hF => ?_)
    refine b_if hF (fun hF => ?_) (fun hF => ?_)
    ·
      exact BX24_leastOf_b182 (N := N) (K4 := K4) @hk4 E hF
    ·
      refine b_rv hF (fun _ hF => ?_)
      refine b_rv hF (fun _ hF => ?_)
      refine b_if hF (fun hF => ?_) (fun hF => ?_)
      ·
        refine b_rv hF (fun _ hF => ?_)
        refine b_rv hF (fun _ hF => ?_)
        refine b_if hF (fun hF => ?_) (fun hF => ?_)
        ·
          exact BX24_leastOf_b180 (N := N) (K4 := K4) @hk4 E hF
        ·
          exact BX24_leastOf_b180 (N := N) (K4 := K4) @hk4 E hF
      ·
        refine b_rv hF (fun _ hF => ?_)
        refine b_rv hF (fun _ hF => ?_)
        refine b_if hF (fun hF => ?_) (fun hF => ?_)
        ·
          exact BX24_leastOf_b180 (N := N) (K4 := K4) @hk4 E hF
        ·
          exact BX24_leastOf_b180 (N := N) (K4 := K4) @hk4 E hF
theorem BX24_leastOf_b70 {σo : fS} {q : Int × fS} {N : Nat} {K4 : Int → Int → Int → fS → Option (Int × fS)} (hk4 : ∀ {s : fS} {l1 : Int} {l2 : Int} {l3 : Int}, bE 0 σo s → K4 l1 l2 l3 s = some q → bE 0 σo q.2) {s : fS} {l1 : Int} {l2 : Int} {l3 : Int} (E : bE 0 σo s) (hF : FX24_leastOf_b70 N K4 l1 l2 l3 s = some q) : bE 0 σo q.2 := by
  unfold FX24_leastOf_b70 at hF
  exact BX24_leastOf_b75 (N := N) (K4 := K4) @hk4 E hF
theorem BX24_leastOf_b43 {σo : fS} {q : Int × fS} {N : Nat} {K4 : Int → Int → Int → fS → Option (Int × fS)} (hk4 : ∀ {s : fS} {l1 : Int} {l2 : Int} {l3 : Int}, bE 0 σo s → K4 l1 l2 l3 s = some q → bE 0 σo q.2) {s : fS} {l1 : Int} {l2 : Int} {l3 : Int} (E : bE 0 σo s) (hF : FX24_leastOf_b43 N K4 l1 l2 l3 s = some q) : bE 0 σo q.2 := by
  unfold FX24_leastOf_b43 at hF
  refine b_if hF (fun hF => ?_) (fun hF => ?_)
  ·
    exact BX24_leastOf_b70 (N := N) (K4 := K4) @hk4 E hF
  ·
    refine b_rv hF (fun _ hF => ?_)
    refine b_rv hF (fun _ hF => ?_)
    refine b_if hF (fun hF => ?_) (fun hF => ?_)
    ·
      exact BX24_leastOf_b75 (N := N) (K4 := K4) @hk4 E hF
    ·
      exact BX24_leastOf_b70 (N := N) (K4 := K4) @hk4 E hF
theorem BX24_leastOf_b4 {σo : fS} {q : Int × fS} {N : Nat} : ∀ {n : Nat} {s : fS} {l1 : Int} {l2 : Int} {l3 : Int}, bE 0 σo s → FX24_leastOf_b4 N n l1 l2 l3 s = some q → bE 0 σo q.2 := by
  intro n
  induction n with
  | zero => intro s l1 l2 l3 E  hF; simp [FX24_leastOf_b4] at hF
  | succ n ih =>
    intro s l1 l2 l3 E  hF
    rw [FX24_leastOf_b4] at hF
    refine b_if hF (fun hF => ?_) (fun hF => ?_)
    ·
      exact b_ret E hF
    ·
      refine b_call E (fun _ hq => (BX24_isAtEnd (bE.rf E.S) hq)) hF (fun _ hq4 D4 E4 hF => ?_)
      refine b_if hF (fun hF => ?_) (fun hF => ?_)
      ·
        exact BX24_leastOf_b193 (N := N) (K4 := FX24_leastOf_b4 N n) @ih E4 hF
      ·
        refine b_if hF (fun hF => ?_) (fun hF => ?_)
        ·
          exact BX24_leastOf_b43 (N := N) (K4 := FX24_leastOf_b4 N n) @ih E4 hF
        ·
          refine b_rv hF (fun _ hF => ?_)
          refine b_if hF (fun hF => ?_) (fun hF => ?_)
          ·
            exact BX24_leastOf_b43 (N := N) (K4 := FX24_leastOf_b4 N n) @ih E4 hF
          ·
            exact BX24_leastOf_b193 (N := N) (K4 := FX24_leastOf_b4 N n) @ih E4 hF
theorem BX24_leastOf {σo : fS} {q : Int × fS} {N : Nat} {s : fS} {p0 : Int} (E : bE 0 σo s) (hF : FX24_leastOf N p0 s = some q) : bE 0 σo q.2 := by
  unfold FX24_leastOf at hF
  exact BX24_leastOf_b4 (N := N) E hF
theorem BX24_choose_b21 {σo : fS} {q : Int × fS} {N : Nat} {s : fS} {l1 : Int} (E : bE 0 σo s) (hF : FX24_choose_b21 N l1 s = some q) : bE 0 σo q.2 := by
  unfold FX24_choose_b21 at hF
  exact b_ret E hF
theorem BX24_choose_b93 {σo : fS} {q : Int × fS} {N : Nat} {K66 : Int → Int → Int → Int → Int → Int → fS → Option (Int × fS)} (hk66 : ∀ {s : fS} {l1 : Int} {l2 : Int} {l3 : Int} {l4 : Int} {l5 : Int} {l6 : Int}, bE 0 σo s → K66 l1 l2 l3 l4 l5 l6 s = some q → bE 0 σo q.2) {s : fS} {l1 : Int} {l2 : Int} {l3 : Int} {l4 : Int} {l6 : Int} {s0 : Int} (E : bE 0 σo s) (hF : FX24_choose_b93 N K66 l1 l2 l3 l4 l6 s0 s = some q) : bE 0 σo q.2 := by
  unfold FX24_choose_b93 at hF
  exact hk66 E hF
theorem BX24_choose_b141 {σo : fS} {q : Int × fS} {N : Nat} {s : fS} {s0 : Int} (E : bE 0 σo s) (hF : FX24_choose_b141 N s0 s = some q) : bE 0 σo q.2 := by
  unfold FX24_choose_b141 at hF
  exact b_ret E hF
theorem BX24_choose_b135 {σo : fS} {q : Int × fS} {N : Nat} {s : fS} {l5 : Int} (E : bE 0 σo s) (hF : FX24_choose_b135 N l5 s = some q) : bE 0 σo q.2 := by
  unfold FX24_choose_b135 at hF
  exact BX24_choose_b141 (N := N) E hF
theorem BX24_choose_b114 {σo : fS} {q : Int × fS} {N : Nat} {s : fS} {l3 : Int} {l5 : Int} (E : bE 0 σo s) (hF : FX24_choose_b114 N l3 l5 s = some q) : bE 0 σo q.2 := by
  unfold FX24_choose_b114 at hF
  refine b_if hF (fun hF => ?_) (fun hF => ?_)
  ·
    exact BX24_choose_b135 (N := N) E hF
  ·
    refine b_rv hF (fun _ hF => ?_)
    refine b_if hF (fun hF => ?_) (fun hF => ?_)
    ·
      exact BX24_choose_b141 (N := N) E hF
    ·
      exact BX24_choose_b135 (N := N) E hF
theorem BX24_choose_b105 {σo : fS} {q : Int × fS} {N : Nat} {s : fS} {l1 : Int} {l3 : Int} {l5 : Int} (E : bE 0 σo s) (hF : FX24_choose_b105 N l1 l3 l5 s = some q) : bE 0 σo q.2 := by
  unfold FX24_choose_b105 at hF
  refine b_if hF (fun hF => ?_) (fun hF => ?_)
  ·
    exact BX24_choose_b114 (N := N) E hF
  ·
    exact BX24_choose_b114 (N := N) E hF
theorem BX24_choose_b66 {σo : fS} {q : Int × fS} {N : Nat} : ∀ {n : Nat} {s : fS} {l1 : Int} {l2 : Int} {l3 : Int} {l4 : Int} {l5 : Int} {l6 : Int}, bE 0 σo s → FX24_choose_b66 N n l1 l2 l3 l4 l5 l6 s = some q → bE 0 σo q.2 := by
  intro n
  induction n with
  | zero => intro s l1 l2 l3 l4 l5 l6 E  hF; simp [FX24_choose_b66] at hF
  | succ n ih =>
    intro s l1 l2 l3 l4 l5 l6 E  hF
    rw [FX24_choose_b66] at hF
    refine b_if hF (fun hF => ?_) (fun hF => ?_)
    ·
      exact BX24_choose_b105 (N := N) E hF
    ·
      refine b_if hF (fun hF => ?_) (fun hF => ?_)
      ·
        exact BX24_choose_b105 (N := N) E hF
      ·
        refine b_if hF (fun hF => ?_) (fun hF => ?_)
        ·
          exact BX24_choose_b93 (N := N) (K66 := FX24_choose_b66 N n) @ih E hF
        ·
          refine b_call E (fun _ hq => (BX24_leastOf (N := N) (bE.rf E.S) hq)) hF (fun _ hq2 D2 E2 hF => ?_)
          exact BX24_choose_b93 (N := N) (K66 := FX24_choose_b66 N n) @ih E2 hF
theorem BX24_choose_b58 {σo : fS} {q : Int × fS} {N : Nat} {s : fS} {l1 : Int} {l2 : Int} {l3 : Int} {s0 : Int} (E : bE 0 σo s) (hF : FX24_choose_b58 N l1 l2 l3 s0 s = some q) : bE 0 σo q.2 := by
  unfold FX24_choose_b58 at hF
  exact BX24_choose_b66 (N := N) E hF
theorem BX24_choose {σo : fS} {q : Int × fS} {N : Nat} {s : fS} (E : bE 0 σo s) (hF : FX24_choose N s = some q) : bE 0 σo q.2 := by
  unfold FX24_choose at hF
  refine b_call E (fun _ hq => (BX24_leastOf (N := N) (bE.rf E.S) hq)) hF (fun _ hq2 D2 E2 hF => ?_)
  refine b_if hF (fun hF => ?_) (fun hF => ?_)
  ·
    exact BX24_choose_b21 (N := N) E2 hF
  ·
    refine b_rv hF (fun _ hF => ?_)
    refine b_if hF (fun hF => ?_) (fun hF => ?_)
    ·
      refine b_rv hF (fun _ hF => ?_)
      refine b_rv hF (fun _ hF => ?_)
      refine b_rv hF (fun _ hF => ?_)
      refine b_if hF (fun hF => ?_) (fun hF => ?_)
      ·
        exact BX24_choose_b58 (N := N) E2 hF
      ·
        exact BX24_choose_b58 (N := N) E2 hF
    ·
      exact BX24_choose_b21 (N := N) E2 hF
theorem BX21_runPass_b46 {σo : fS} {q : Int × fS} {N : Nat} {s : fS} {s0 : Int} (E : bE 0 σo s) (hF : FX21_runPass_b46 N s0 s = some q) : bE 0 σo q.2 := by
  unfold FX21_runPass_b46 at hF
  exact b_ret E hF
theorem BX21_runPass {σo : fS} {q : Int × fS} {N : Nat} {s : fS} {p0 : Int} {p1 : Int} {p2 : Int} (E : bE 0 σo s) (hF : FX21_runPass N p0 p1 p2 s = some q) : bE 0 σo q.2 := by
  unfold FX21_runPass at hF
  refine b_pI E (E.S.c0 (Nat.le_of_ble_eq_true rfl)) hF (fun _ D2 E2 hF => ?_)
  refine b_pZ E2 (E2.S.c0 (Nat.le_of_ble_eq_true rfl)) hF (fun _ D4 E4 hF => ?_)
  refine b_pZ E4 (E4.S.c0 (Nat.le_of_ble_eq_true rfl)) hF (fun _ D6 E6 hF => ?_)
  refine b_call E6 (fun _ hq => (BX24_run (N := N) (bE.rf E6.S) hq)) hF (fun _ hq9 D9 E9 hF => ?_)
  refine b_if hF (fun hF => ?_) (fun hF => ?_)
  ·
    exact BX21_runPass_b46 (N := N) E9 hF
  ·
    refine b_call E9 (fun _ hq => (BX24_choose (N := N) (bE.rf E9.S) hq)) hF (fun _ hq12 D12 E12 hF => ?_)
    exact BX21_runPass_b46 (N := N) E12 hF
theorem BX21_runAll_b104 {σo : fS} {q : Int × fS} {N : Nat} {s : fS} {l1 : Int} (E : bE 0 σo s) (hF : FX21_runAll_b104 N l1 s = some q) : bE 0 σo q.2 := by
  unfold FX21_runAll_b104 at hF
  exact b_ret E hF
theorem BX21_runAll_b56 {σo : fS} {q : Int × fS} {N : Nat} {s : fS} {l1 : Int} (E : bE 0 σo s) (hF : FX21_runAll_b56 N l1 s = some q) : bE 0 σo q.2 := by
  unfold FX21_runAll_b56 at hF
  refine b_if hF (fun hF => ?_) (fun hF => ?_)
  ·
    exact BX21_runAll_b104 (N := N) E hF
  ·
    refine b_rv hF (fun _ hF => ?_)
    refine b_if hF (fun hF => ?_) (fun hF => ?_)
    ·
      exact BX21_runAll_b104 (N := N) E hF
    ·
      refine b_rv hF (fun _ hF => ?_)
      refine b_rv hF (fun _ hF => ?_)
      refine b_qJ E (E.S.c0 (Nat.le_of_ble_eq_true rfl)) hF (fun _ D8 E8 hF => ?_)
      refine b_rv hF (fun _ hF => ?_)
      refine b_call E8 (fun _ hq => (BX21_runPass (N := N) (bE.rf E8.S) hq)) hF (fun _ hq12 D12 E12 hF => ?_)
      exact BX21_runAll_b104 (N := N) E12 hF
theorem BX21_runAll_b52 {σo : fS} {q : Int × fS} {N : Nat} {s : fS} {s1 : Int} {s2 : Int} {s3 : Int} (E : bE 0 σo s) (hF : FX21_runAll_b52 N s1 s2 s3 s = some q) : bE 0 σo q.2 := by
  unfold FX21_runAll_b52 at hF
  refine b_call E (fun _ hq => (BX21_runPass (N := N) (bE.rf E.S) hq)) hF (fun _ hq2 D2 E2 hF => ?_)
  exact BX21_runAll_b56 (N := N) E2 hF
theorem BX21_runAll_b24 {σo : fS} {q : Int × fS} {N : Nat} {s : fS} {l1 : Int} (E : bE 0 σo s) (hF : FX21_runAll_b24 N l1 s = some q) : bE 0 σo q.2 := by
  unfold FX21_runAll_b24 at hF
  refine b_if hF (fun hF => ?_) (fun hF => ?_)
  ·
    exact BX21_runAll_b56 (N := N) E hF
  ·
    refine b_rv hF (fun _ hF => ?_)
    refine b_rv hF (fun _ hF => ?_)
    refine b_if hF (fun hF => ?_) (fun hF => ?_)
    ·
      exact BX21_runAll_b52 (N := N) E hF
    ·
      exact BX21_runAll_b52 (N := N) E hF
theorem BX21_runAll {σo : fS} {q : Int × fS} {N : Nat} {s : fS} (E : bE 0 σo s) (hF : FX21_runAll N s = some q) : bE 0 σo q.2 := by
  unfold FX21_runAll at hF
  refine b_rv hF (fun _ hF => ?_)
  refine b_if hF (fun hF => ?_) (fun hF => ?_)
  ·
    exact BX21_runAll_b24 (N := N) E hF
  ·
    refine b_rv hF (fun _ hF => ?_)
    refine b_call E (fun _ hq => (BX21_runPass (N := N) (bE.rf E.S) hq)) hF (fun _ hq6 D6 E6 hF => ?_)
    exact BX21_runAll_b24 (N := N) E6 hF
theorem BX21_run_b198 {σo : fS} {q : Int × fS} {N : Nat} {K137 : Int → Int → fS → Option (Int × fS)} (hk137 : ∀ {s : fS} {l4 : Int} {l6 : Int}, bE 0 σo s → K137 l4 l6 s = some q → bE 0 σo q.2) {s : fS} {l6 : Int} {l7 : Int} {s1 : Int} {s2 : Int} (E : bE 0 σo s) (hF : FX21_run_b198 N K137 l6 l7 s1 s2 s = some q) : bE 0 σo q.2 := by
  unfold FX21_run_b198 at hF
  refine b_qI E (E.S.c0 (Nat.le_of_ble_eq_true rfl)) hF (fun _ D1 E1 hF => ?_)
  exact hk137 E1 hF
theorem BX21_run_b137 {σo : fS} {q : Int × fS} {N : Nat} : ∀ {n : Nat} {s : fS} {l4 : Int} {l6 : Int}, bE 0 σo s → FX21_run_b137 N n l4 l6 s = some q → bE 0 σo q.2 := by
  intro n
  induction n with
  | zero => intro s l4 l6 E  hF; simp [FX21_run_b137] at hF
  | succ n ih =>
    intro s l4 l6 E  hF
    rw [FX21_run_b137] at hF
    refine b_if hF (fun hF => ?_) (fun hF => ?_)
    ·
      exact b_ret E hF
    ·
      refine b_rv hF (fun _ hF => ?_)
      refine b_rv hF (fun _ hF => ?_)
      refine b_qI E (E.S.c0 (Nat.le_of_ble_eq_true rfl)) hF (fun _ D6 E6 hF => ?_)
      refine b_if hF (fun hF => ?_) (fun hF => ?_)
      ·
        refine b_rv hF (fun _ hF => ?_)
        refine b_rv hF (fun _ hF => ?_)
        exact BX21_run_b198 (N := N) (K137 := FX21_run_b137 N n) @ih E6 hF
      ·
        exact BX21_run_b198 (N := N) (K137 := FX21_run_b137 N n) @ih E6 hF
theorem BX21_run {σo : fS} {q : Int × fS} {N : Nat} {s : fS} (E : bE 0 σo s) (hF : FX21_run N s = some q) : bE 0 σo q.2 := by
  unfold FX21_run at hF
  refine b_call E (fun _ hq => (BX22_add (bE.rf E.S) hq)) hF (fun _ hq3 D3 E3 hF => ?_)
  refine b_rv hF (fun _ hF => ?_)
  refine b_rv hF (fun _ hF => ?_)
  refine b_rv hF (fun _ hF => ?_)
  refine b_rv hF (fun _ hF => ?_)
  refine b_call E3 (fun _ hq => (BX22_add (bE.rf E3.S) hq)) hF (fun _ hq14 D14 E14 hF => ?_)
  refine b_call E14 (fun _ hq => (BX22_add (bE.rf E14.S) hq)) hF (fun _ hq17 D17 E17 hF => ?_)
  refine b_call E17 (fun _ hq => (BX23_take (N := N) (bE.rf E17.S) hq)) hF (fun _ hq21 D21 E21 hF => ?_)
  refine b_call E21 (fun _ hq => (BX21_takeAround (N := N) (bE.rf E21.S) hq)) hF (fun _ hq23 D23 E23 hF => ?_)
  refine b_call E23 (fun _ hq => (BX21_runAll (N := N) (bE.rf E23.S) hq)) hF (fun _ hq25 D25 E25 hF => ?_)
  refine b_if hF (fun hF => ?_) (fun hF => ?_)
  ·
    refine b_rv hF (fun _ hF => ?_)
    refine b_pI E25 (E25.S.c0 (Nat.le_of_ble_eq_true rfl)) hF (fun _ D30 E30 hF => ?_)
    refine b_pI E30 (E30.S.c0 (Nat.le_of_ble_eq_true rfl)) hF (fun _ D32 E32 hF => ?_)
    exact BX21_run_b137 (N := N) E32 hF
  ·
    exact b_ret E25 hF
theorem BX21_isHyphen_b23 {σo : fS} {q : Int × fS} {s : fS} {s0 : Int} (E : bE 0 σo s) (hF : FX21_isHyphen_b23 s0 s = some q) : bE 0 σo q.2 := by
  unfold FX21_isHyphen_b23 at hF
  exact b_z E hF
theorem BX21_isHyphen {σo : fS} {q : Int × fS} {s : fS} {p0 : Int} (E : bE 0 σo s) (hF : FX21_isHyphen p0 s = some q) : bE 0 σo q.2 := by
  unfold FX21_isHyphen at hF
  refine b_rv hF (fun _ hF => ?_)
  refine b_rv hF (fun _ hF => ?_)
  refine b_if hF (fun hF => ?_) (fun hF => ?_)
  ·
    exact BX21_isHyphen_b23 E hF
  ·
    exact BX21_isHyphen_b23 E hF
theorem BX3_rowGlue {σo : fS} {q : Unit × fS} {s : fS} {p0 : Int} (E : bE 0 σo s) (hF : FX3_rowGlue p0 s = some q) : bE 0 σo q.2 := by
  unfold FX3_rowGlue at hF
  refine b_rv hF (fun _ hF => ?_)
  refine b_rv hF (fun _ hF => ?_)
  refine b_rv hF (fun _ hF => ?_)
  refine b_rv hF (fun _ hF => ?_)
  refine b_call E (fun _ hq => (BX34_add (bE.rf E.S) (E.S.c0 (Nat.le_of_ble_eq_true rfl)) hq)) hF (fun _ hq9 D9 E9 hF => ?_)
  exact b_ret E9 hF
theorem BX3_addBetween_b81 {σo : fS} {q : (Unit ⊕ Nat) × fS} {N : Nat} {s : fS} (E : bE 0 σo s) (hF : FX3_addBetween_b81 N s = some q) : bE 0 σo q.2 := by
  unfold FX3_addBetween_b81 at hF
  exact b_ret E hF
theorem BX3_addBetween_b25 {σo : fS} {q : (Unit ⊕ Nat) × fS} {N : Nat} {s : fS} {l1 : Int} {s1 : Int} (E : bE 0 σo s) (hF : FX3_addBetween_b25 N l1 s1 s = some q) : bE 0 σo q.2 := by
  unfold FX3_addBetween_b25 at hF
  refine b_tB E (fun _ hq => BX4_want (bE.rf E.S) hq) hF (fun _ _ D2 E2 hF => ?_)
  refine b_rv hF (fun _ hF => ?_)
  refine b_if hF (fun hF => ?_) (fun hF => ?_)
  ·
    refine b_rv hF (fun _ hF => ?_)
    refine b_rv hF (fun _ hF => ?_)
    refine b_rv hF (fun _ hF => ?_)
    refine b_tB E2 (fun _ hq => BX3_addVertical (N := N) (bE.rf E2.S) hq) hF (fun _ _ D10 E10 hF => ?_)
    exact BX3_addBetween_b81 (N := N) E10 hF
  ·
    refine b_tB E2 (fun _ hq => BX3_addGlue (N := N) (bE.rf E2.S) hq) hF (fun _ _ D12 E12 hF => ?_)
    exact BX3_addBetween_b81 (N := N) E12 hF
theorem BX3_addBetween_b24 {σo : fS} {q : (Unit ⊕ Nat) × fS} {N : Nat} {s : fS} {l1 : Int} (E : bE 0 σo s) (hF : FX3_addBetween_b24 N l1 s = some q) : bE 0 σo q.2 := by
  unfold FX3_addBetween_b24 at hF
  exact BX3_addBetween_b25 (N := N) E hF
theorem BX3_addBetween {σo : fS} {q : (Unit ⊕ Nat) × fS} {N : Nat} {s : fS} {p0 : Int} (E : bE 0 σo s) (hF : FX3_addBetween N p0 s = some q) : bE 0 σo q.2 := by
  unfold FX3_addBetween at hF
  refine b_if hF (fun hF => ?_) (fun hF => ?_)
  ·
    exact BX3_addBetween_b24 (N := N) E hF
  ·
    refine b_if hF (fun hF => ?_) (fun hF => ?_)
    ·
      exact BX3_addBetween_b24 (N := N) E hF
    ·
      exact BX3_addBetween_b25 (N := N) E hF
theorem BX3_add_b33 {σo : fS} {q : (Unit ⊕ Nat) × fS} {N : Nat} {s : fS} (E : bE 0 σo s) (hF : FX3_add_b33 N s = some q) : bE 0 σo q.2 := by
  unfold FX3_add_b33 at hF
  exact b_ret E hF
theorem BX3_add {σo : fS} {q : (Unit ⊕ Nat) × fS} {N : Nat} {s : fS} {p0 : Int} {p1 : Int} {p2 : Int} {p3 : Int} {p4 : Int} (E : bE 0 σo s) (hF : FX3_add N p0 p1 p2 p3 p4 s = some q) : bE 0 σo q.2 := by
  unfold FX3_add at hF
  refine b_call E (fun _ hq => (BX3_isVertical (bE.rf E.S) hq)) hF (fun _ hq2 D2 E2 hF => ?_)
  refine b_if hF (fun hF => ?_) (fun hF => ?_)
  ·
    refine b_tB E2 (fun _ hq => BX3_put (bE.rf E2.S) hq) hF (fun _ _ D4 E4 hF => ?_)
    exact BX3_add_b33 (N := N) E4 hF
  ·
    refine b_tB E2 (fun _ hq => BX3_addVertical (N := N) (bE.rf E2.S) hq) hF (fun _ _ D6 E6 hF => ?_)
    exact BX3_add_b33 (N := N) E6 hF
theorem BX3_addBox_b71 {σo : fS} {q : (Unit ⊕ Nat) × fS} {N : Nat} {s : fS} {l1 : Int} {l2 : Int} (E : bE 0 σo s) (hF : FX3_addBox_b71 N l1 l2 s = some q) : bE 0 σo q.2 := by
  unfold FX3_addBox_b71 at hF
  refine b_tB E (fun _ hq => BX3_add (N := N) (bE.rf E.S) hq) hF (fun _ _ D2 E2 hF => ?_)
  exact b_ret E2 hF
theorem BX3_addBox_b53 {σo : fS} {q : (Unit ⊕ Nat) × fS} {N : Nat} {s : fS} {l1 : Int} {l2 : Int} (E : bE 0 σo s) (hF : FX3_addBox_b53 N l1 l2 s = some q) : bE 0 σo q.2 := by
  unfold FX3_addBox_b53 at hF
  refine b_rO E (E.S.c0 (Nat.le_of_ble_eq_true rfl)) hF (fun _ o4 hF => ?_)
  refine b_K hF (fun hF => ?_)
  refine b_qI E (E.S.c0 (Nat.le_of_ble_eq_true rfl)) hF (fun _ D6 E6 hF => ?_)
  exact BX3_addBox_b71 (N := N) E6 hF
theorem BX3_addBox {σo : fS} {q : (Unit ⊕ Nat) × fS} {N : Nat} {s : fS} {p0 : Int} {p1 : Int} (E : bE 0 σo s) (hF : FX3_addBox N p0 p1 s = some q) : bE 0 σo q.2 := by
  unfold FX3_addBox at hF
  refine b_call E (fun _ hq => (BX3_isVertical (bE.rf E.S) hq)) hF (fun _ hq2 D2 E2 hF => ?_)
  refine b_if hF (fun hF => ?_) (fun hF => ?_)
  ·
    exact BX3_addBox_b71 (N := N) E2 hF
  ·
    refine b_rv hF (fun _ hF => ?_)
    refine b_if hF (fun hF => ?_) (fun hF => ?_)
    ·
      exact BX3_addBox_b53 (N := N) E2 hF
    ·
      refine b_rv hF (fun _ hF => ?_)
      refine b_rO E2 (E2.S.c0 (Nat.le_of_ble_eq_true rfl)) hF (fun _ o10 hF => ?_)
      refine b_K hF (fun hF => ?_)
      refine b_tB E2 (fun _ hq => BX3_addBetween (N := N) (bE.rf E2.S) hq) hF (fun _ _ D13 E13 hF => ?_)
      exact BX3_addBox_b53 (N := N) E13 hF
theorem BX3_line_b83 {σo : fS} {q : (Unit ⊕ Nat) × fS} {N : Nat} {K33 : Int → Int → fS → Option ((Unit ⊕ Nat) × fS)} (hk33 : ∀ {s : fS} {l2 : Int} {l3 : Int}, bE 0 σo s → K33 l2 l3 s = some q → bE 0 σo q.2) {s : fS} {l2 : Int} {l3 : Int} (E : bE 0 σo s) (hF : FX3_line_b83 N K33 l2 l3 s = some q) : bE 0 σo q.2 := by
  unfold FX3_line_b83 at hF
  exact hk33 E hF
theorem BX3_line_b184 {σo : fS} {q : (Unit ⊕ Nat) × fS} {N : Nat} {s : fS} (E : bE 0 σo s) (hF : FX3_line_b184 N s = some q) : bE 0 σo q.2 := by
  unfold FX3_line_b184 at hF
  refine b_call E (fun _ hq => (BX3_rowGlue (bE.rf E.S) hq)) hF (fun _ hq2 D2 E2 hF => ?_)
  refine b_rv hF (fun _ hF => ?_)
  refine b_tB E2 (fun _ hq => BX3_pack (N := N) (bE.rf E2.S) (E2.S.c0 (Nat.le_of_ble_eq_true rfl)) hq) hF (fun _ _ D8 E8 hF => ?_)
  refine b_tB E8 (fun _ hq => BX3_addBox (N := N) (bE.rf E8.S) hq) hF (fun _ _ D10 E10 hF => ?_)
  exact b_ret E10 hF
theorem BX3_line_b33 {σo : fS} {q : (Unit ⊕ Nat) × fS} {N : Nat} : ∀ {n : Nat} {s : fS} {l2 : Int} {l3 : Int}, bE 0 σo s → FX3_line_b33 N n l2 l3 s = some q → bE 0 σo q.2 := by
  intro n
  induction n with
  | zero => intro s l2 l3 E  hF; simp [FX3_line_b33] at hF
  | succ n ih =>
    intro s l2 l3 E  hF
    rw [FX3_line_b33] at hF
    refine b_if hF (fun hF => ?_) (fun hF => ?_)
    ·
      refine b_if hF (fun hF => ?_) (fun hF => ?_)
      ·
        exact BX3_line_b184 (N := N) E hF
      ·
        refine b_call E (fun _ hq => (BX34_kind (bE.rf E.S) (E.S.c0 (Nat.le_of_ble_eq_true rfl)) hq)) hF (fun _ hq5 D5 E5 hF => ?_)
        refine b_if hF (fun hF => ?_) (fun hF => ?_)
        ·
          exact BX3_line_b184 (N := N) E5 hF
        ·
          refine b_call E5 (fun _ hq => (BX34_of (bE.rf E5.S) (E5.S.c0 (Nat.le_of_ble_eq_true rfl)) hq)) hF (fun _ hq8 D8 E8 hF => ?_)
          refine b_if hF (fun hF => ?_) (fun hF => ?_)
          ·
            exact BX3_line_b184 (N := N) E8 hF
          ·
            refine b_call E8 (fun _ hq => (BX34_of (bE.rf E8.S) (E8.S.c0 (Nat.le_of_ble_eq_true rfl)) hq)) hF (fun _ hq11 D11 E11 hF => ?_)
            refine b_rO E11 (E11.S.c0 (Nat.le_of_ble_eq_true rfl)) hF (fun _ o14 hF => ?_)
            refine b_K hF (fun hF => ?_)
            refine b_call E11 (fun _ hq => (BX6_of (bE.rf E11.S) o14 hq)) hF (fun _ hq17 D17 E17 hF => ?_)
            refine b_K hF (fun hF => ?_)
            refine b_call E17 (fun _ hq => (BX6_of (bE.rf E17.S) (o14.up D17) hq)) hF (fun _ hq19 D19 E19 hF => ?_)
            refine b_K hF (fun hF => ?_)
            refine b_call E19 (fun _ hq => (BX6_of (bE.rf E19.S) ((o14.up D17).up D19) hq)) hF (fun _ hq21 D21 E21 hF => ?_)
            refine b_call E21 (fun _ hq => (BX34_add (bE.rf E21.S) (E21.S.c0 (Nat.le_of_ble_eq_true rfl)) hq)) hF (fun _ hq23 D23 E23 hF => ?_)
            exact BX3_line_b184 (N := N) E23 hF
    ·
      refine b_if hF (fun hF => ?_) (fun hF => ?_)
      ·
        refine b_if hF (fun hF => ?_) (fun hF => ?_)
        ·
          exact BX3_line_b83 (N := N) (K33 := FX3_line_b33 N n) @ih E hF
        ·
          refine b_call E (fun _ hq => (BX3_rowGlue (bE.rf E.S) hq)) hF (fun _ hq29 D29 E29 hF => ?_)
          exact BX3_line_b83 (N := N) (K33 := FX3_line_b33 N n) @ih E29 hF
      ·
        refine b_call E (fun _ hq => (BX34_copy (bE.rf E.S) (E.S.c0 (Nat.le_of_ble_eq_true rfl)) (E.S.c0 (Nat.le_of_ble_eq_true rfl)) hq)) hF (fun _ hq33 D33 E33 hF => ?_)
        exact BX3_line_b83 (N := N) (K33 := FX3_line_b33 N n) @ih E33 hF
theorem BX3_line {σo : fS} {q : (Unit ⊕ Nat) × fS} {N : Nat} {s : fS} {p0 : Int} (E : bE 0 σo s) (hF : FX3_line N p0 s = some q) : bE 0 σo q.2 := by
  unfold FX3_line at hF
  refine b_pI E (E.S.c0 (Nat.le_of_ble_eq_true rfl)) hF (fun _ D2 E2 hF => ?_)
  refine b_call E2 (fun _ hq => (BX3_rowGlue (bE.rf E2.S) hq)) hF (fun _ hq4 D4 E4 hF => ?_)
  refine b_rv hF (fun _ hF => ?_)
  refine b_rv hF (fun _ hF => ?_)
  exact BX3_line_b33 (N := N) E4 hF
theorem BX3_clipped {σo : fS} {q : Int × fS} {s : fS} {p0 : Int} (E : bE 0 σo s) (hF : FX3_clipped p0 s = some q) : bE 0 σo q.2 := by
  unfold FX3_clipped at hF
  exact b_ret E hF
theorem BX3_between_b100 {σo : fS} {q : (Unit ⊕ Nat) × fS} {N : Nat} {s : fS} (E : bE 0 σo s) (hF : FX3_between_b100 N s = some q) : bE 0 σo q.2 := by
  unfold FX3_between_b100 at hF
  exact b_ret E hF
theorem BX3_between_b80 {σo : fS} {q : (Unit ⊕ Nat) × fS} {N : Nat} {s : fS} {s0 : Int} {s1 : Int} (E : bE 0 σo s) (hF : FX3_between_b80 N s0 s1 s = some q) : bE 0 σo q.2 := by
  unfold FX3_between_b80 at hF
  refine b_if hF (fun hF => ?_) (fun hF => ?_)
  ·
    exact BX3_between_b100 (N := N) E hF
  ·
    refine b_call E (fun _ hq => (BX3_clipped (bE.rf E.S) hq)) hF (fun _ hq1 D1 E1 hF => ?_)
    refine b_tB E1 (fun _ hq => BX3_addVertical (N := N) (bE.rf E1.S) hq) hF (fun _ _ D3 E3 hF => ?_)
    exact BX3_between_b100 (N := N) E3 hF
theorem BX3_between_b56 {σo : fS} {q : (Unit ⊕ Nat) × fS} {N : Nat} {s : fS} {l1 : Int} {s0 : Int} {s1 : Int} (E : bE 0 σo s) (hF : FX3_between_b56 N l1 s0 s1 s = some q) : bE 0 σo q.2 := by
  unfold FX3_between_b56 at hF
  refine b_call E (fun _ hq => (BX21_isHyphen (bE.rf E.S) hq)) hF (fun _ hq3 D3 E3 hF => ?_)
  refine b_if hF (fun hF => ?_) (fun hF => ?_)
  ·
    exact BX3_between_b80 (N := N) E3 hF
  ·
    refine b_rv hF (fun _ hF => ?_)
    exact BX3_between_b80 (N := N) E3 hF
theorem BX3_between_b30 {σo : fS} {q : (Unit ⊕ Nat) × fS} {N : Nat} {s : fS} {l1 : Int} {s0 : Int} {s1 : Int} (E : bE 0 σo s) (hF : FX3_between_b30 N l1 s0 s1 s = some q) : bE 0 σo q.2 := by
  unfold FX3_between_b30 at hF
  refine b_if hF (fun hF => ?_) (fun hF => ?_)
  ·
    exact BX3_between_b56 (N := N) E hF
  ·
    refine b_rv hF (fun _ hF => ?_)
    exact BX3_between_b56 (N := N) E hF
theorem BX3_between {σo : fS} {q : (Unit ⊕ Nat) × fS} {N : Nat} {s : fS} {p0 : Int} (E : bE 0 σo s) (hF : FX3_between N p0 s = some q) : bE 0 σo q.2 := by
  unfold FX3_between at hF
  refine b_rv hF (fun _ hF => ?_)
  refine b_if hF (fun hF => ?_) (fun hF => ?_)
  ·
    exact BX3_between_b30 (N := N) E hF
  ·
    refine b_rv hF (fun _ hF => ?_)
    exact BX3_between_b30 (N := N) E hF
theorem BX3_endParagraph_b298 {σo : fS} {q : (Unit ⊕ Nat) × fS} {N : Nat} {K263 : Int → fS → Option ((Unit ⊕ Nat) × fS)} (hk263 : ∀ {s : fS} {l2 : Int}, bE 0 σo s → K263 l2 s = some q → bE 0 σo q.2) {s : fS} {l2 : Int} {s1 : Int} {s2 : Int} {s3 : Int} (E : bE 0 σo s) (hF : FX3_endParagraph_b298 N K263 l2 s1 s2 s3 s = some q) : bE 0 σo q.2 := by
  unfold FX3_endParagraph_b298 at hF
  refine b_qI E (E.S.c0 (Nat.le_of_ble_eq_true rfl)) hF (fun _ D1 E1 hF => ?_)
  exact hk263 E1 hF
theorem BX3_endParagraph_b342 {σo : fS} {q : (Unit ⊕ Nat) × fS} {N : Nat} {K308 : Int → fS → Option ((Unit ⊕ Nat) × fS)} (hk308 : ∀ {s : fS} {l2 : Int}, bE 0 σo s → K308 l2 s = some q → bE 0 σo q.2) {s : fS} {l2 : Int} (E : bE 0 σo s) (hF : FX3_endParagraph_b342 N K308 l2 s = some q) : bE 0 σo q.2 := by
  unfold FX3_endParagraph_b342 at hF
  exact hk308 E hF
theorem BX3_endParagraph_b308 {σo : fS} {q : (Unit ⊕ Nat) × fS} {N : Nat} : ∀ {n : Nat} {s : fS} {l2 : Int}, bE 0 σo s → FX3_endParagraph_b308 N n l2 s = some q → bE 0 σo q.2 := by
  intro n
  induction n with
  | zero => intro s l2 E  hF; simp [FX3_endParagraph_b308] at hF
  | succ n ih =>
    intro s l2 E  hF
    rw [FX3_endParagraph_b308] at hF
    refine b_if hF (fun hF => ?_) (fun hF => ?_)
    ·
      exact b_ret E hF
    ·
      refine b_tB E (fun _ hq => BX3_line (N := N) (bE.rf E.S) hq) hF (fun _ _ D4 E4 hF => ?_)
      refine b_if hF (fun hF => ?_) (fun hF => ?_)
      ·
        exact BX3_endParagraph_b342 (N := N) (K308 := FX3_endParagraph_b308 N n) @ih E4 hF
      ·
        refine b_tB E4 (fun _ hq => BX3_between (N := N) (bE.rf E4.S) hq) hF (fun _ _ D8 E8 hF => ?_)
        exact BX3_endParagraph_b342 (N := N) (K308 := FX3_endParagraph_b308 N n) @ih E8 hF
theorem BX3_endParagraph_b263 {σo : fS} {q : (Unit ⊕ Nat) × fS} {N : Nat} : ∀ {n : Nat} {s : fS} {l2 : Int}, bE 0 σo s → FX3_endParagraph_b263 N n l2 s = some q → bE 0 σo q.2 := by
  intro n
  induction n with
  | zero => intro s l2 E  hF; simp [FX3_endParagraph_b263] at hF
  | succ n ih =>
    intro s l2 E  hF
    rw [FX3_endParagraph_b263] at hF
    refine b_if hF (fun hF => ?_) (fun hF => ?_)
    ·
      exact BX3_endParagraph_b308 (N := N) E hF
    ·
      refine b_rv hF (fun _ hF => ?_)
      refine b_call E (fun _ hq => (BX21_isHyphen (bE.rf E.S) hq)) hF (fun _ hq7 D7 E7 hF => ?_)
      refine b_if hF (fun hF => ?_) (fun hF => ?_)
      ·
        exact BX3_endParagraph_b298 (N := N) (K263 := FX3_endParagraph_b263 N n) @ih E7 hF
      ·
        exact BX3_endParagraph_b298 (N := N) (K263 := FX3_endParagraph_b263 N n) @ih E7 hF
theorem BX3_endParagraph_b171 {σo : fS} {q : (Unit ⊕ Nat) × fS} {N : Nat} {s : fS} {s0 : Int} (E : bE 0 σo s) (hF : FX3_endParagraph_b171 N s0 s = some q) : bE 0 σo q.2 := by
  unfold FX3_endParagraph_b171 at hF
  refine b_pI E (E.S.c0 (Nat.le_of_ble_eq_true rfl)) hF (fun _ D3 E3 hF => ?_)
  refine b_pI E3 (E3.S.c0 (Nat.le_of_ble_eq_true rfl)) hF (fun _ D7 E7 hF => ?_)
  refine b_call E7 (fun _ hq => (BX21_run (N := N) (bE.rf E7.S) hq)) hF (fun _ hq11 D11 E11 hF => ?_)
  refine b_tB E11 (fun _ hq => BX4_want (bE.rf E11.S) hq) hF (fun _ _ D13 E13 hF => ?_)
  refine b_call E13 (fun _ hq => (BX9_set (N := N) (bE.rf E13.S) hq)) hF (fun _ hq16 D16 E16 hF => ?_)
  refine b_rv hF (fun _ hF => ?_)
  refine b_qI E16 (E16.S.c0 (Nat.le_of_ble_eq_true rfl)) hF (fun _ D21 E21 hF => ?_)
  refine b_rv hF (fun _ hF => ?_)
  refine b_qI E21 (E21.S.c0 (Nat.le_of_ble_eq_true rfl)) hF (fun _ D26 E26 hF => ?_)
  exact BX3_endParagraph_b263 (N := N) E26 hF
theorem BX3_endParagraph_b104 {σo : fS} {q : (Unit ⊕ Nat) × fS} {N : Nat} : ∀ {n : Nat} {s : fS} {l1 : Int}, bE 0 σo s → FX3_endParagraph_b104 N n l1 s = some q → bE 0 σo q.2 := by
  intro n
  induction n with
  | zero => intro s l1 E  hF; simp [FX3_endParagraph_b104] at hF
  | succ n ih =>
    intro s l1 E  hF
    rw [FX3_endParagraph_b104] at hF
    refine b_if hF (fun hF => ?_) (fun hF => ?_)
    ·
      refine b_call E (fun _ hq => (BX21_areSizes (N := N) (bE.rf E.S) hq)) hF (fun _ hq6 D6 E6 hF => ?_)
      refine b_tB E6 (fun _ hq => BX4_want (bE.rf E6.S) hq) hF (fun _ _ D8 E8 hF => ?_)
      refine b_call E8 (fun _ hq => (BX34_kind (bE.rf E8.S) (E8.S.c0 (Nat.le_of_ble_eq_true rfl)) hq)) hF (fun _ hq13 D13 E13 hF => ?_)
      refine b_if hF (fun hF => ?_) (fun hF => ?_)
      ·
        exact BX3_endParagraph_b171 (N := N) E13 hF
      ·
        exact BX3_endParagraph_b171 (N := N) E13 hF
    ·
      refine b_call E (fun _ hq => (BX3_takeItem (bE.rf E.S) hq)) hF (fun _ hq16 D16 E16 hF => ?_)
      exact ih E16 hF
theorem BX3_endParagraph_b84 {σo : fS} {q : (Unit ⊕ Nat) × fS} {N : Nat} {s : fS} {s1 : Int} (E : bE 0 σo s) (hF : FX3_endParagraph_b84 N s1 s = some q) : bE 0 σo q.2 := by
  unfold FX3_endParagraph_b84 at hF
  refine b_tB E (fun _ hq => BX4_want (bE.rf E.S) hq) hF (fun _ _ D2 E2 hF => ?_)
  refine b_call E2 (fun _ hq => (BX21_prepare (N := N) (bE.rf E2.S) hq)) hF (fun _ hq7 D7 E7 hF => ?_)
  exact BX3_endParagraph_b104 (N := N) E7 hF
theorem BX3_endParagraph_b18 {σo : fS} {q : (Unit ⊕ Nat) × fS} {N : Nat} : ∀ {n : Nat} {s : fS} {l1 : Int}, bE 0 σo s → FX3_endParagraph_b18 N n l1 s = some q → bE 0 σo q.2 := by
  intro n
  induction n with
  | zero => intro s l1 E  hF; simp [FX3_endParagraph_b18] at hF
  | succ n ih =>
    intro s l1 E  hF
    rw [FX3_endParagraph_b18] at hF
    refine b_if hF (fun hF => ?_) (fun hF => ?_)
    ·
      refine b_call E (fun _ hq => (BX3_pop (bE.rf E.S) hq)) hF (fun _ hq4 D4 E4 hF => ?_)
      refine b_if hF (fun hF => ?_) (fun hF => ?_)
      ·
        refine b_if hF (fun hF => ?_) (fun hF => ?_)
        ·
          exact BX3_endParagraph_b84 (N := N) E4 hF
        ·
          exact BX3_endParagraph_b84 (N := N) E4 hF
      ·
        exact b_ret E4 hF
    ·
      refine b_call E (fun _ hq => (BX34_copy (bE.rf E.S) (E.S.c0 (Nat.le_of_ble_eq_true rfl)) (E.S.c0 (Nat.le_of_ble_eq_true rfl)) hq)) hF (fun _ hq13 D13 E13 hF => ?_)
      exact ih E13 hF
theorem BX3_endParagraph {σo : fS} {q : (Unit ⊕ Nat) × fS} {N : Nat} {s : fS} (E : bE 0 σo s) (hF : FX3_endParagraph N s = some q) : bE 0 σo q.2 := by
  unfold FX3_endParagraph at hF
  refine b_pI E (E.S.c0 (Nat.le_of_ble_eq_true rfl)) hF (fun _ D2 E2 hF => ?_)
  refine b_rv hF (fun _ hF => ?_)
  exact BX3_endParagraph_b18 (N := N) E2 hF
theorem BX9_close_b161 {σo : fS} {q : Unit × fS} {N : Nat} {K10 : fS → Option (Unit × fS)} (hk10 : ∀ {s : fS} , bE 0 σo s → K10 s = some q → bE 0 σo q.2) {s : fS} (E : bE 0 σo s) (hF : FX9_close_b161 N K10 s = some q) : bE 0 σo q.2 := by
  unfold FX9_close_b161 at hF
  exact hk10 E hF
theorem BX9_close_b121 {σo : fS} {q : Unit × fS} {N : Nat} {K10 : fS → Option (Unit × fS)} (hk10 : ∀ {s : fS} , bE 0 σo s → K10 s = some q → bE 0 σo q.2) {s : fS} {l1 : Int} {l2 : Int} {l3 : Int} (E : bE 0 σo s) (hF : FX9_close_b121 N K10 l1 l2 l3 s = some q) : bE 0 σo q.2 := by
  unfold FX9_close_b121 at hF
  refine b_if hF (fun hF => ?_) (fun hF => ?_)
  ·
    exact BX9_close_b161 (N := N) (K10 := K10) @hk10 E hF
  ·
    refine b_rv hF (fun _ hF => ?_)
    refine b_if hF (fun hF => ?_) (fun hF => ?_)
    ·
      exact BX9_close_b161 (N := N) (K10 := K10) @hk10 E hF
    ·
      refine b_rv hF (fun _ hF => ?_)
      refine b_qI E (E.S.c0 (Nat.le_of_ble_eq_true rfl)) hF (fun _ D6 E6 hF => ?_)
      refine b_qI E6 (E6.S.c0 (Nat.le_of_ble_eq_true rfl)) hF (fun _ D8 E8 hF => ?_)
      exact BX9_close_b161 (N := N) (K10 := K10) @hk10 E8 hF
theorem BX9_close_b10 {σo : fS} {q : Unit × fS} {N : Nat} : ∀ {n : Nat} {s : fS} , bE 0 σo s → FX9_close_b10 N n s = some q → bE 0 σo q.2 := by
  intro n
  induction n with
  | zero => intro s  E  hF; simp [FX9_close_b10] at hF
  | succ n ih =>
    intro s  E  hF
    rw [FX9_close_b10] at hF
    refine b_rv hF (fun _ hF => ?_)
    refine b_if hF (fun hF => ?_) (fun hF => ?_)
    ·
      exact b_ret E hF
    ·
      refine b_pI E (E.S.c0 (Nat.le_of_ble_eq_true rfl)) hF (fun _ D6 E6 hF => ?_)
      refine b_rv hF (fun _ hF => ?_)
      refine b_rv hF (fun _ hF => ?_)
      refine b_if hF (fun hF => ?_) (fun hF => ?_)
      ·
        exact BX9_close_b121 (N := N) (K10 := FX9_close_b10 N n) @ih E6 hF
      ·
        refine b_rv hF (fun _ hF => ?_)
        refine b_if hF (fun hF => ?_) (fun hF => ?_)
        ·
          exact BX9_close_b121 (N := N) (K10 := FX9_close_b10 N n) @ih E6 hF
        ·
          refine b_rv hF (fun _ hF => ?_)
          refine b_qI E6 (E6.S.c0 (Nat.le_of_ble_eq_true rfl)) hF (fun _ D17 E17 hF => ?_)
          refine b_rv hF (fun _ hF => ?_)
          refine b_qI E17 (E17.S.c0 (Nat.le_of_ble_eq_true rfl)) hF (fun _ D21 E21 hF => ?_)
          refine b_qI E21 (E21.S.c0 (Nat.le_of_ble_eq_true rfl)) hF (fun _ D23 E23 hF => ?_)
          exact BX9_close_b161 (N := N) (K10 := FX9_close_b10 N n) @ih E23 hF
theorem BX9_close {σo : fS} {q : Unit × fS} {N : Nat} {s : fS} (E : bE 0 σo s) (hF : FX9_close N s = some q) : bE 0 σo q.2 := by
  unfold FX9_close at hF
  refine b_pI E (E.S.c0 (Nat.le_of_ble_eq_true rfl)) hF (fun _ D2 E2 hF => ?_)
  exact BX9_close_b10 (N := N) E2 hF
theorem BX3_deliver_b33 {σo : fS} {q : (Unit ⊕ Nat) × fS} {N : Nat} {s : fS} (E : bE 0 σo s) (hF : FX3_deliver_b33 N s = some q) : bE 0 σo q.2 := by
  unfold FX3_deliver_b33 at hF
  exact b_ret E hF
theorem BX3_deliver {σo : fS} {q : (Unit ⊕ Nat) × fS} {N : Nat} {s : fS} {p0 : Int} {p1 : Int} {p2 : Int} {p3 : Int} (E : bE 0 σo s) (hF : FX3_deliver N p0 p1 p2 p3 s = some q) : bE 0 σo q.2 := by
  unfold FX3_deliver at hF
  refine b_if hF (fun hF => ?_) (fun hF => ?_)
  ·
    refine b_if hF (fun hF => ?_) (fun hF => ?_)
    ·
      exact BX3_deliver_b33 (N := N) E hF
    ·
      refine b_tB E (fun _ hq => BX3_addBox (N := N) (bE.rf E.S) hq) hF (fun _ _ D2 E2 hF => ?_)
      exact BX3_deliver_b33 (N := N) E2 hF
  ·
    refine b_call E (fun _ hq => (BX9_set (N := N) (bE.rf E.S) hq)) hF (fun _ hq5 D5 E5 hF => ?_)
    exact BX3_deliver_b33 (N := N) E5 hF
theorem BX3_closeBox_b49 {σo : fS} {q : (Unit ⊕ Nat) × fS} {N : Nat} {s : fS} {s2 : Int} {s3 : Int} (E : bE 0 σo s) (hF : FX3_closeBox_b49 N s2 s3 s = some q) : bE 0 σo q.2 := by
  unfold FX3_closeBox_b49 at hF
  refine b_rv hF (fun _ hF => ?_)
  refine b_rv hF (fun _ hF => ?_)
  refine b_tB E (fun _ hq => BX3_pack (N := N) (bE.rf E.S) (E.S.c0 (Nat.le_of_ble_eq_true rfl)) hq) hF (fun _ _ D8 E8 hF => ?_)
  refine b_call E8 (fun _ hq => (BX3_pop (bE.rf E8.S) hq)) hF (fun _ hq10 D10 E10 hF => ?_)
  refine b_call E10 (fun _ hq => (BX9_close (N := N) (bE.rf E10.S) hq)) hF (fun _ hq13 D13 E13 hF => ?_)
  refine b_rv hF (fun _ hF => ?_)
  refine b_rv hF (fun _ hF => ?_)
  refine b_rv hF (fun _ hF => ?_)
  refine b_tB E13 (fun _ hq => BX3_deliver (N := N) (bE.rf E13.S) hq) hF (fun _ _ D24 E24 hF => ?_)
  exact b_ret E24 hF
theorem BX3_closeBox_b17 {σo : fS} {q : (Unit ⊕ Nat) × fS} {N : Nat} {s : fS} (E : bE 0 σo s) (hF : FX3_closeBox_b17 N s = some q) : bE 0 σo q.2 := by
  unfold FX3_closeBox_b17 at hF
  refine b_rv hF (fun _ hF => ?_)
  refine b_rv hF (fun _ hF => ?_)
  refine b_if hF (fun hF => ?_) (fun hF => ?_)
  ·
    exact BX3_closeBox_b49 (N := N) E hF
  ·
    exact BX3_closeBox_b49 (N := N) E hF
theorem BX3_closeBox {σo : fS} {q : (Unit ⊕ Nat) × fS} {N : Nat} {s : fS} (E : bE 0 σo s) (hF : FX3_closeBox N s = some q) : bE 0 σo q.2 := by
  unfold FX3_closeBox at hF
  refine b_rv hF (fun _ hF => ?_)
  refine b_if hF (fun hF => ?_) (fun hF => ?_)
  ·
    exact BX3_closeBox_b17 (N := N) E hF
  ·
    refine b_tB E (fun _ hq => BX3_endParagraph (N := N) (bE.rf E.S) hq) hF (fun _ _ D5 E5 hF => ?_)
    exact BX3_closeBox_b17 (N := N) E5 hF
theorem BX3_close_b40 {σo : fS} {q : (Unit ⊕ Nat) × fS} {N : Nat} {s : fS} {s1 : Int} (E : bE 0 σo s) (hF : FX3_close_b40 N s1 s = some q) : bE 0 σo q.2 := by
  unfold FX3_close_b40 at hF
  refine b_tB E (fun _ hq => BX4_want (bE.rf E.S) hq) hF (fun _ _ D2 E2 hF => ?_)
  refine b_call E2 (fun _ hq => (BX9_close (N := N) (bE.rf E2.S) hq)) hF (fun _ hq5 D5 E5 hF => ?_)
  exact b_ret E5 hF
theorem BX3_close_b39 {σo : fS} {q : (Unit ⊕ Nat) × fS} {N : Nat} {s : fS} (E : bE 0 σo s) (hF : FX3_close_b39 N s = some q) : bE 0 σo q.2 := by
  unfold FX3_close_b39 at hF
  exact BX3_close_b40 (N := N) E hF
theorem BX3_close {σo : fS} {q : (Unit ⊕ Nat) × fS} {N : Nat} {s : fS} {p0 : Int} (E : bE 0 σo s) (hF : FX3_close N p0 s = some q) : bE 0 σo q.2 := by
  unfold FX3_close at hF
  refine b_if hF (fun hF => ?_) (fun hF => ?_)
  ·
    exact BX3_close_b39 (N := N) E hF
  ·
    refine b_rv hF (fun _ hF => ?_)
    refine b_if hF (fun hF => ?_) (fun hF => ?_)
    ·
      exact BX3_close_b39 (N := N) E hF
    ·
      exact BX3_close_b40 (N := N) E hF
theorem BX5_parameter_b38 {σo : fS} {q : Int × fS} {s : fS} {s0 : Int} (E : bE 0 σo s) (hF : FX5_parameter_b38 s0 s = some q) : bE 0 σo q.2 := by
  unfold FX5_parameter_b38 at hF
  exact b_ret E hF
theorem BX5_parameter {σo : fS} {q : Int × fS} {s : fS} {p0 : Int} {p1 : Int} (E : bE 0 σo s) (hF : FX5_parameter p0 p1 s = some q) : bE 0 σo q.2 := by
  unfold FX5_parameter at hF
  refine b_rO E (E.S.c0 (Nat.le_of_ble_eq_true rfl)) hF (fun _ o2 hF => ?_)
  refine b_K hF (fun hF => ?_)
  refine b_o E o2 hF (fun _ o3 hF => ?_)
  refine b_KA hF (fun hF => ?_)
  refine b_rv hF (fun _ hF => ?_)
  refine b_if hF (fun hF => ?_) (fun hF => ?_)
  ·
    refine b_K hF (fun hF => ?_)
    refine b_o E o2 hF (fun _ o5 hF => ?_)
    refine b_K hF (fun hF => ?_)
    refine b_o E o2 hF (fun _ o6 hF => ?_)
    refine b_KA hF (fun hF => ?_)
    refine b_rv hF (fun _ hF => ?_)
    refine b_KA hF (fun hF => ?_)
    refine b_rv hF (fun _ hF => ?_)
    exact BX5_parameter_b38 E hF
  ·
    exact BX5_parameter_b38 E hF
theorem BX3_space_b26 {σo : fS} {q : (Unit ⊕ Nat) × fS} {s : fS} {l1 : Int} {s1 : Int} (E : bE 0 σo s) (hF : FX3_space_b26 l1 s1 s = some q) : bE 0 σo q.2 := by
  unfold FX3_space_b26 at hF
  refine b_tB E (fun _ hq => BX4_want (bE.rf E.S) hq) hF (fun _ _ D2 E2 hF => ?_)
  refine b_call E2 (fun _ hq => (BX5_parameter (bE.rf E2.S) hq)) hF (fun _ hq5 D5 E5 hF => ?_)
  refine b_call E5 (fun _ hq => (BX5_parameter (bE.rf E5.S) hq)) hF (fun _ hq8 D8 E8 hF => ?_)
  refine b_call E8 (fun _ hq => (BX5_parameter (bE.rf E8.S) hq)) hF (fun _ hq11 D11 E11 hF => ?_)
  refine b_tB E11 (fun _ hq => BX3_put (bE.rf E11.S) hq) hF (fun _ _ D13 E13 hF => ?_)
  exact b_ret E13 hF
theorem BX3_space {σo : fS} {q : (Unit ⊕ Nat) × fS} {s : fS} (E : bE 0 σo s) (hF : FX3_space s = some q) : bE 0 σo q.2 := by
  unfold FX3_space at hF
  refine b_rv hF (fun _ hF => ?_)
  refine b_if hF (fun hF => ?_) (fun hF => ?_)
  ·
    exact BX3_space_b26 E hF
  ·
    exact BX3_space_b26 E hF
theorem BX3_actCharacter_b145 {σo : fS} {q : (Unit ⊕ Nat) × fS} {N : Nat} {s : fS} (E : bE 0 σo s) (hF : FX3_actCharacter_b145 N s = some q) : bE 0 σo q.2 := by
  unfold FX3_actCharacter_b145 at hF
  exact b_ret E hF
theorem BX3_actCharacter_b102 {σo : fS} {q : (Unit ⊕ Nat) × fS} {N : Nat} {s : fS} (E : bE 0 σo s) (hF : FX3_actCharacter_b102 N s = some q) : bE 0 σo q.2 := by
  unfold FX3_actCharacter_b102 at hF
  refine b_tB E (fun _ hq => BX3_close (N := N) (bE.rf E.S) hq) hF (fun _ _ D2 E2 hF => ?_)
  exact BX3_actCharacter_b145 (N := N) E2 hF
theorem BX3_actCharacter {σo : fS} {q : (Unit ⊕ Nat) × fS} {N : Nat} {s : fS} {p0 : Int} (E : bE 0 σo s) (hF : FX3_actCharacter N p0 s = some q) : bE 0 σo q.2 := by
  unfold FX3_actCharacter at hF
  refine b_if hF (fun hF => ?_) (fun hF => ?_)
  ·
    refine b_tB E (fun _ hq => BX3_open (bE.rf E.S) hq) hF (fun _ _ D2 E2 hF => ?_)
    exact BX3_actCharacter_b145 (N := N) E2 hF
  ·
    refine b_if hF (fun hF => ?_) (fun hF => ?_)
    ·
      refine b_if hF (fun hF => ?_) (fun hF => ?_)
      ·
        exact BX3_actCharacter_b102 (N := N) E hF
      ·
        refine b_rv hF (fun _ hF => ?_)
        refine b_if hF (fun hF => ?_) (fun hF => ?_)
        ·
          exact BX3_actCharacter_b102 (N := N) E hF
        ·
          refine b_tB E (fun _ hq => BX3_closeBox (N := N) (bE.rf E.S) hq) hF (fun _ _ D11 E11 hF => ?_)
          exact BX3_actCharacter_b145 (N := N) E11 hF
    ·
      refine b_if hF (fun hF => ?_) (fun hF => ?_)
      ·
        refine b_tB E (fun _ hq => BX4_fail (bE.rf E.S) hq) hF (fun _ _ D14 E14 hF => ?_)
        exact BX3_actCharacter_b145 (N := N) E14 hF
      ·
        refine b_if hF (fun hF => ?_) (fun hF => ?_)
        ·
          refine b_tB E (fun _ hq => BX4_fail (bE.rf E.S) hq) hF (fun _ _ D17 E17 hF => ?_)
          exact BX3_actCharacter_b145 (N := N) E17 hF
        ·
          refine b_if hF (fun hF => ?_) (fun hF => ?_)
          ·
            refine b_tB E (fun _ hq => BX4_fail (bE.rf E.S) hq) hF (fun _ _ D20 E20 hF => ?_)
            exact BX3_actCharacter_b145 (N := N) E20 hF
          ·
            refine b_if hF (fun hF => ?_) (fun hF => ?_)
            ·
              refine b_tB E (fun _ hq => BX4_fail (bE.rf E.S) hq) hF (fun _ _ D23 E23 hF => ?_)
              exact BX3_actCharacter_b145 (N := N) E23 hF
            ·
              refine b_if hF (fun hF => ?_) (fun hF => ?_)
              ·
                refine b_tB E (fun _ hq => BX4_fail (bE.rf E.S) hq) hF (fun _ _ D26 E26 hF => ?_)
                exact BX3_actCharacter_b145 (N := N) E26 hF
              ·
                refine b_if hF (fun hF => ?_) (fun hF => ?_)
                ·
                  refine b_tB E (fun _ hq => BX4_fail (bE.rf E.S) hq) hF (fun _ _ D29 E29 hF => ?_)
                  exact BX3_actCharacter_b145 (N := N) E29 hF
                ·
                  refine b_if hF (fun hF => ?_) (fun hF => ?_)
                  ·
                    refine b_tB E (fun _ hq => BX4_fail (bE.rf E.S) hq) hF (fun _ _ D32 E32 hF => ?_)
                    exact BX3_actCharacter_b145 (N := N) E32 hF
                  ·
                    refine b_if hF (fun hF => ?_) (fun hF => ?_)
                    ·
                      refine b_call E (fun _ hq => (BX3_isVertical (bE.rf E.S) hq)) hF (fun _ hq34 D34 E34 hF => ?_)
                      refine b_if hF (fun hF => ?_) (fun hF => ?_)
                      ·
                        exact BX3_actCharacter_b145 (N := N) E34 hF
                      ·
                        refine b_tB E34 (fun _ hq => BX3_space (bE.rf E34.S) hq) hF (fun _ _ D36 E36 hF => ?_)
                        exact BX3_actCharacter_b145 (N := N) E36 hF
                    ·
                      refine b_tB E (fun _ hq => BX4_fail (bE.rf E.S) hq) hF (fun _ _ D39 E39 hF => ?_)
                      exact BX3_actCharacter_b145 (N := N) E39 hF
theorem BX8_within_b23 {σo : fS} {q : (Int ⊕ Nat) × fS} {RN : fS → Option ((Int ⊕ Nat) × fS)} (hrN : ∀ {s : fS} {q}, bS 0 s → RN s = some q → bE 0 s q.2) {s : fS} {l2 : Int} {s1 : Int} (E : bE 0 σo s) (hF : FX8_within_b23 RN l2 s1 s = some q) : bE 0 σo q.2 := by
  unfold FX8_within_b23 at hF
  refine b_tB E (fun _ hq => BX4_want (bE.rf E.S) hq) hF (fun _ _ D2 E2 hF => ?_)
  exact b_ret E2 hF
theorem BX8_within_b22 {σo : fS} {q : (Int ⊕ Nat) × fS} {RN : fS → Option ((Int ⊕ Nat) × fS)} (hrN : ∀ {s : fS} {q}, bS 0 s → RN s = some q → bE 0 s q.2) {s : fS} {l2 : Int} (E : bE 0 σo s) (hF : FX8_within_b22 RN l2 s = some q) : bE 0 σo q.2 := by
  unfold FX8_within_b22 at hF
  exact BX8_within_b23 (RN := RN) @hrN E hF
theorem BX8_within {σo : fS} {q : (Int ⊕ Nat) × fS} {RN : fS → Option ((Int ⊕ Nat) × fS)} (hrN : ∀ {s : fS} {q}, bS 0 s → RN s = some q → bE 0 s q.2) {s : fS} {p0 : Int} (E : bE 0 σo s) (hF : FX8_within RN p0 s = some q) : bE 0 σo q.2 := by
  unfold FX8_within at hF
  refine b_tB E (fun _ hq => hrN E.S hq) hF (fun _ _ D2 E2 hF => ?_)
  refine b_if hF (fun hF => ?_) (fun hF => ?_)
  ·
    exact BX8_within_b22 (RN := RN) @hrN E2 hF
  ·
    refine b_if hF (fun hF => ?_) (fun hF => ?_)
    ·
      exact BX8_within_b22 (RN := RN) @hrN E2 hF
    ·
      exact BX8_within_b23 (RN := RN) @hrN E2 hF
theorem BX8_needExpanded_b19 {σo : fS} {q : (Int ⊕ Nat) × fS} {N : Nat} {RE : Int → fS → Option ((Unit ⊕ Nat) × fS)} (hrE : ∀ {s : fS} {x1 : Int} {q}, bS 0 s → RE x1 s = some q → bE 0 s q.2) {s : fS} {l1 : Int} {s1 : Int} (E : bE 0 σo s) (hF : FX8_needExpanded_b19 N RE l1 s1 s = some q) : bE 0 σo q.2 := by
  unfold FX8_needExpanded_b19 at hF
  refine b_tB E (fun _ hq => BX4_want (bE.rf E.S) hq) hF (fun _ _ D2 E2 hF => ?_)
  exact b_ret E2 hF
theorem BX8_needExpanded {σo : fS} {q : (Int ⊕ Nat) × fS} {N : Nat} {RE : Int → fS → Option ((Unit ⊕ Nat) × fS)} (hrE : ∀ {s : fS} {x1 : Int} {q}, bS 0 s → RE x1 s = some q → bE 0 s q.2) {s : fS} (E : bE 0 σo s) (hF : FX8_needExpanded N RE s = some q) : bE 0 σo q.2 := by
  unfold FX8_needExpanded at hF
  refine b_tB E (fun _ hq => BX8_getExpanded (N := N) (RE := RE) @hrE (bE.rf E.S) hq) hF (fun _ _ D2 E2 hF => ?_)
  refine b_if hF (fun hF => ?_) (fun hF => ?_)
  ·
    exact BX8_needExpanded_b19 (N := N) (RE := RE) @hrE E2 hF
  ·
    exact BX8_needExpanded_b19 (N := N) (RE := RE) @hrE E2 hF
theorem BX1_is_b20 {σo : fS} {q : Int × fS} {s : fS} {s0 : Int} (E : bE 0 σo s) (hF : FX1_is_b20 s0 s = some q) : bE 0 σo q.2 := by
  unfold FX1_is_b20 at hF
  exact b_z E hF
theorem BX1_is_b19 {σo : fS} {q : Int × fS} {s : fS} (E : bE 0 σo s) (hF : FX1_is_b19 s = some q) : bE 0 σo q.2 := by
  unfold FX1_is_b19 at hF
  exact BX1_is_b20 E hF
theorem BX1_is {σo : fS} {q : Int × fS} {s : fS} {p0 : Int} {p1 : Int} (E : bE 0 σo s) (hF : FX1_is p0 p1 s = some q) : bE 0 σo q.2 := by
  unfold FX1_is at hF
  refine b_call E (fun _ hq => (BX1_isCharacter (bE.rf E.S) hq)) hF (fun _ hq1 D1 E1 hF => ?_)
  refine b_if hF (fun hF => ?_) (fun hF => ?_)
  ·
    exact BX1_is_b19 E1 hF
  ·
    refine b_call E1 (fun _ hq => (BX1_category (bE.rf E1.S) hq)) hF (fun _ hq2 D2 E2 hF => ?_)
    refine b_if hF (fun hF => ?_) (fun hF => ?_)
    ·
      exact BX1_is_b19 E2 hF
    ·
      exact BX1_is_b20 E2 hF
theorem BX8_primitive_b23 {σo : fS} {q : Int × fS} {s : fS} {s0 : Int} (E : bE 0 σo s) (hF : FX8_primitive_b23 s0 s = some q) : bE 0 σo q.2 := by
  unfold FX8_primitive_b23 at hF
  exact b_ret E hF
theorem BX8_primitive_b22 {σo : fS} {q : Int × fS} {s : fS} (E : bE 0 σo s) (hF : FX8_primitive_b22 s = some q) : bE 0 σo q.2 := by
  unfold FX8_primitive_b22 at hF
  exact BX8_primitive_b23 E hF
theorem BX8_primitive {σo : fS} {q : Int × fS} {s : fS} {p0 : Int} (E : bE 0 σo s) (hF : FX8_primitive p0 s = some q) : bE 0 σo q.2 := by
  unfold FX8_primitive at hF
  refine b_if hF (fun hF => ?_) (fun hF => ?_)
  ·
    exact BX8_primitive_b22 E hF
  ·
    refine b_call E (fun _ hq => (BX8_kind (bE.rf E.S) hq)) hF (fun _ hq2 D2 E2 hF => ?_)
    refine b_if hF (fun hF => ?_) (fun hF => ?_)
    ·
      exact BX8_primitive_b22 E2 hF
    ·
      refine b_call E2 (fun _ hq => (BX8_value (bE.rf E2.S) hq)) hF (fun _ hq4 D4 E4 hF => ?_)
      exact BX8_primitive_b23 E4 hF
theorem BX3_solid_b30 {σo : fS} {q : (Int ⊕ Nat) × fS} {N : Nat} {RE : Int → fS → Option ((Unit ⊕ Nat) × fS)} {K8 : Int → fS → Option ((Int ⊕ Nat) × fS)} (hrE : ∀ {s : fS} {x1 : Int} {q}, bS 0 s → RE x1 s = some q → bE 0 s q.2) (hk8 : ∀ {s : fS} {l1 : Int}, bE 0 σo s → K8 l1 s = some q → bE 0 σo q.2) {s : fS} (E : bE 0 σo s) (hF : FX3_solid_b30 N RE K8 s = some q) : bE 0 σo q.2 := by
  unfold FX3_solid_b30 at hF
  refine b_tB E (fun _ hq => BX8_needExpanded (N := N) (RE := RE) @hrE (bE.rf E.S) hq) hF (fun _ _ D3 E3 hF => ?_)
  exact hk8 E3 hF
theorem BX3_solid_b8 {σo : fS} {q : (Int ⊕ Nat) × fS} {N : Nat} {RE : Int → fS → Option ((Unit ⊕ Nat) × fS)} (hrE : ∀ {s : fS} {x1 : Int} {q}, bS 0 s → RE x1 s = some q → bE 0 s q.2) : ∀ {n : Nat} {s : fS} {l1 : Int}, bE 0 σo s → FX3_solid_b8 N RE n l1 s = some q → bE 0 σo q.2 := by
  intro n
  induction n with
  | zero => intro s l1 E  hF; simp [FX3_solid_b8] at hF
  | succ n ih =>
    intro s l1 E  hF
    rw [FX3_solid_b8] at hF
    refine b_call E (fun _ hq => (BX1_is (bE.rf E.S) hq)) hF (fun _ hq1 D1 E1 hF => ?_)
    refine b_if hF (fun hF => ?_) (fun hF => ?_)
    ·
      exact BX3_solid_b30 (N := N) (RE := RE) (K8 := FX3_solid_b8 N RE n) @hrE @ih E1 hF
    ·
      refine b_call E1 (fun _ hq => (BX8_primitive (bE.rf E1.S) hq)) hF (fun _ hq4 D4 E4 hF => ?_)
      refine b_if hF (fun hF => ?_) (fun hF => ?_)
      ·
        exact b_ret E4 hF
      ·
        exact BX3_solid_b30 (N := N) (RE := RE) (K8 := FX3_solid_b8 N RE n) @hrE @ih E4 hF
theorem BX3_solid {σo : fS} {q : (Int ⊕ Nat) × fS} {N : Nat} {RE : Int → fS → Option ((Unit ⊕ Nat) × fS)} (hrE : ∀ {s : fS} {x1 : Int} {q}, bS 0 s → RE x1 s = some q → bE 0 s q.2) {s : fS} (E : bE 0 σo s) (hF : FX3_solid N RE s = some q) : bE 0 σo q.2 := by
  unfold FX3_solid at hF
  refine b_tB E (fun _ hq => BX8_needExpanded (N := N) (RE := RE) @hrE (bE.rf E.S) hq) hF (fun _ _ D3 E3 hF => ?_)
  exact BX3_solid_b8 (N := N) (RE := RE) @hrE E3 hF
theorem BX8_need_b19 {σo : fS} {q : (Int ⊕ Nat) × fS} {N : Nat} {s : fS} {l1 : Int} {s1 : Int} (E : bE 0 σo s) (hF : FX8_need_b19 N l1 s1 s = some q) : bE 0 σo q.2 := by
  unfold FX8_need_b19 at hF
  refine b_tB E (fun _ hq => BX4_want (bE.rf E.S) hq) hF (fun _ _ D2 E2 hF => ?_)
  exact b_ret E2 hF
theorem BX8_need {σo : fS} {q : (Int ⊕ Nat) × fS} {N : Nat} {s : fS} (E : bE 0 σo s) (hF : FX8_need N s = some q) : bE 0 σo q.2 := by
  unfold FX8_need at hF
  refine b_tB E (fun _ hq => BX8_get (N := N) (bE.rf E.S) hq) hF (fun _ _ D2 E2 hF => ?_)
  refine b_if hF (fun hF => ?_) (fun hF => ?_)
  ·
    exact BX8_need_b19 (N := N) E2 hF
  ·
    exact BX8_need_b19 (N := N) E2 hF
theorem BX8_bare_b13 {σo : fS} {q : Int × fS} {s : fS} {s0 : Int} (E : bE 0 σo s) (hF : FX8_bare_b13 s0 s = some q) : bE 0 σo q.2 := by
  unfold FX8_bare_b13 at hF
  exact b_ret E hF
theorem BX8_bare {σo : fS} {q : Int × fS} {s : fS} {p0 : Int} (E : bE 0 σo s) (hF : FX8_bare p0 s = some q) : bE 0 σo q.2 := by
  unfold FX8_bare at hF
  refine b_if hF (fun hF => ?_) (fun hF => ?_)
  ·
    exact BX8_bare_b13 E hF
  ·
    exact BX8_bare_b13 E hF
