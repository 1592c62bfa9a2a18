set_option maxRecDepth 100000
set_option maxHeartbeats 4000000
theorem BX35_quoted_b78 {σo : fS} {q : Int × fS} {N : Nat} {SE : Int → fS → Option (Unit × fS)} (hsE : ∀ {s : fS} {x1 : Int} {q}, bS 1 s → SE x1 s = some q → bE 1 s q.2) {s : fS} {l3 : Int} (E : bE 1 σo s) (hF : FX35_quoted_b78 N SE l3 s = some q) : bE 1 σo q.2 := by
  unfold FX35_quoted_b78 at hF
  refine b_call E (fun _ hq => (BX35_dropSpace (N := N) (SE := SE) @hsE (bE.rf E.S) hq)) hF (fun _ hq2 D2 E2 hF => ?_)
  exact b_ret E2 hF
theorem BX35_quoted {σo : fS} {q : Int × fS} {N : Nat} {SE : Int → fS → Option (Unit × fS)} (hsE : ∀ {s : fS} {x1 : Int} {q}, bS 1 s → SE x1 s = some q → bE 1 s q.2) {s : fS} (E : bE 1 σo s) (hF : FX35_quoted N SE s = some q) : bE 1 σo q.2 := by
  unfold FX35_quoted at hF
  refine b_call E (fun _ hq => (BX35_need (N := N) (bE.rf E.S) hq)) hF (fun _ hq2 D2 E2 hF => ?_)
  refine b_if hF (fun hF => ?_) (fun hF => ?_)
  ·
    refine b_call E2 (fun _ hq => (BX35_bare (bE.rf E2.S) hq)) hF (fun _ hq4 D4 E4 hF => ?_)
    refine b_if hF (fun hF => ?_) (fun hF => ?_)
    ·
      exact BX35_quoted_b78 (N := N) (SE := SE) @hsE E4 hF
    ·
      refine b_if hF (fun hF => ?_) (fun hF => ?_)
      ·
        exact BX35_quoted_b78 (N := N) (SE := SE) @hsE E4 hF
      ·
        refine b_rv hF (fun _ hF => ?_)
        refine b_if hF (fun hF => ?_) (fun hF => ?_)
        ·
          refine b_rv hF (fun _ hF => ?_)
          exact BX35_quoted_b78 (N := N) (SE := SE) @hsE E4 hF
        ·
          refine b_call E4 (fun _ hq => (BX35_fail (bE.rf E4.S) hq)) hF (fun _ hq10 D10 E10 hF => ?_)
          exact b_ret E10 hF
  ·
    exact b_ret E2 hF
theorem BX35_isCounter_b23 {σo : fS} {q : Int × fS} {s : fS} {s0 : Int} (E : bE 1 σo s) (hF : FX35_isCounter_b23 s0 s = some q) : bE 1 σo q.2 := by
  unfold FX35_isCounter_b23 at hF
  exact b_z E hF
theorem BX35_isCounter_b18 {σo : fS} {q : Int × fS} {s : fS} (E : bE 1 σo s) (hF : FX35_isCounter_b18 s = some q) : bE 1 σo q.2 := by
  unfold FX35_isCounter_b18 at hF
  exact BX35_isCounter_b23 E hF
theorem BX35_isCounter_b22 {σo : fS} {q : Int × fS} {s : fS} (E : bE 1 σo s) (hF : FX35_isCounter_b22 s = some q) : bE 1 σo q.2 := by
  unfold FX35_isCounter_b22 at hF
  exact BX35_isCounter_b23 E hF
theorem BX35_isCounter {σo : fS} {q : Int × fS} {s : fS} {p0 : Int} (E : bE 1 σo s) (hF : FX35_isCounter p0 s = some q) : bE 1 σo q.2 := by
  unfold FX35_isCounter at hF
  refine b_if hF (fun hF => ?_) (fun hF => ?_)
  ·
    exact BX35_isCounter_b18 E hF
  ·
    refine b_if hF (fun hF => ?_) (fun hF => ?_)
    ·
      exact BX35_isCounter_b22 E hF
    ·
      refine b_if hF (fun hF => ?_) (fun hF => ?_)
      ·
        exact BX35_isCounter_b22 E hF
      ·
        exact BX35_isCounter_b18 E hF
theorem BX35_isNumber_b32 {σo : fS} {q : Int × fS} {s : fS} {s0 : Int} (E : bE 1 σo s) (hF : FX35_isNumber_b32 s0 s = some q) : bE 1 σo q.2 := by
  unfold FX35_isNumber_b32 at hF
  exact b_z E hF
theorem BX35_isNumber_b31 {σo : fS} {q : Int × fS} {s : fS} (E : bE 1 σo s) (hF : FX35_isNumber_b31 s = some q) : bE 1 σo q.2 := by
  unfold FX35_isNumber_b31 at hF
  exact BX35_isNumber_b32 E hF
theorem BX35_isNumber {σo : fS} {q : Int × fS} {s : fS} {p0 : Int} (E : bE 1 σo s) (hF : FX35_isNumber p0 s = some q) : bE 1 σo q.2 := by
  unfold FX35_isNumber at hF
  refine b_if hF (fun hF => ?_) (fun hF => ?_)
  ·
    exact BX35_isNumber_b31 E hF
  ·
    refine b_call E (fun _ hq => (BX35_meaning (bE.rf E.S) hq)) hF (fun _ hq2 D2 E2 hF => ?_)
    refine b_if hF (fun hF => ?_) (fun hF => ?_)
    ·
      exact BX35_isNumber_b31 E2 hF
    ·
      refine b_call E2 (fun _ hq => (BX35_meaning (bE.rf E2.S) hq)) hF (fun _ hq4 D4 E4 hF => ?_)
      refine b_if hF (fun hF => ?_) (fun hF => ?_)
      ·
        exact BX35_isNumber_b31 E4 hF
      ·
        exact BX35_isNumber_b32 E4 hF
theorem BX35_hasValue_b32 {σo : fS} {q : Int × fS} {s : fS} {s0 : Int} (E : bE 1 σo s) (hF : FX35_hasValue_b32 s0 s = some q) : bE 1 σo q.2 := by
  unfold FX35_hasValue_b32 at hF
  exact b_z E hF
theorem BX35_hasValue_b27 {σo : fS} {q : Int × fS} {s : fS} (E : bE 1 σo s) (hF : FX35_hasValue_b27 s = some q) : bE 1 σo q.2 := by
  unfold FX35_hasValue_b27 at hF
  exact BX35_hasValue_b32 E hF
theorem BX35_hasValue {σo : fS} {q : Int × fS} {s : fS} {p0 : Int} (E : bE 1 σo s) (hF : FX35_hasValue p0 s = some q) : bE 1 σo q.2 := by
  unfold FX35_hasValue at hF
  refine b_call E (fun _ hq => (BX35_primitiveOf (bE.rf E.S) hq)) hF (fun _ hq2 D2 E2 hF => ?_)
  refine b_call E2 (fun _ hq => (BX35_isCounter (bE.rf E2.S) hq)) hF (fun _ hq3 D3 E3 hF => ?_)
  refine b_if hF (fun hF => ?_) (fun hF => ?_)
  ·
    exact BX35_hasValue_b27 E3 hF
  ·
    refine b_if hF (fun hF => ?_) (fun hF => ?_)
    ·
      exact BX35_hasValue_b27 E3 hF
    ·
      refine b_call E3 (fun _ hq => (BX35_isNumber (bE.rf E3.S) hq)) hF (fun _ hq5 D5 E5 hF => ?_)
      refine b_if hF (fun hF => ?_) (fun hF => ?_)
      ·
        exact BX35_hasValue_b32 E5 hF
      ·
        exact BX35_hasValue_b27 E5 hF
theorem BX35_value_b57 {σo : fS} {q : Int × fS} {SN : fS → Option (Int × fS)} (hsN : ∀ {s : fS} {q}, bS 1 s → SN s = some q → bE 1 s q.2) {s : fS} {s0 : Int} (E : bE 1 σo s) (hF : FX35_value_b57 SN s0 s = some q) : bE 1 σo q.2 := by
  unfold FX35_value_b57 at hF
  exact b_ret E hF
theorem BX35_value {σo : fS} {q : Int × fS} {SN : fS → Option (Int × fS)} (hsN : ∀ {s : fS} {q}, bS 1 s → SN s = some q → bE 1 s q.2) {s : fS} {p0 : Int} (E : bE 1 σo s) (hF : FX35_value SN p0 s = some q) : bE 1 σo q.2 := by
  unfold FX35_value at hF
  refine b_call E (fun _ hq => (BX35_isNumber (bE.rf E.S) hq)) hF (fun _ hq2 D2 E2 hF => ?_)
  refine b_if hF (fun hF => ?_) (fun hF => ?_)
  ·
    refine b_call E2 (fun _ hq => (BX35_primitiveOf (bE.rf E2.S) hq)) hF (fun _ hq4 D4 E4 hF => ?_)
    refine b_if hF (fun hF => ?_) (fun hF => ?_)
    ·
      refine b_call E4 (fun _ hq => (BX35_at (SN := SN) @hsN (bE.rf E4.S) hq)) hF (fun _ hq6 D6 E6 hF => ?_)
      refine b_call E6 (fun _ hq => (BX35_now (bE.rf E6.S) hq)) hF (fun _ hq8 D8 E8 hF => ?_)
      exact BX35_value_b57 (SN := SN) @hsN E8 hF
    ·
      refine b_call E4 (fun _ hq => (BX35_small (SN := SN) @hsN (bE.rf E4.S) hq)) hF (fun _ hq10 D10 E10 hF => ?_)
      refine b_call E10 (fun _ hq => (BX35_now (bE.rf E10.S) hq)) hF (fun _ hq12 D12 E12 hF => ?_)
      exact BX35_value_b57 (SN := SN) @hsN E12 hF
  ·
    refine b_call E2 (fun _ hq => (BX35_meaning (bE.rf E2.S) hq)) hF (fun _ hq14 D14 E14 hF => ?_)
    exact b_ret E14 hF
theorem BX35_factor_b84 {σo : fS} {q : Unit × fS} {N : Nat} {SE : Int → fS → Option (Unit × fS)} {SN : fS → Option (Int × fS)} {K37 : Int → Int → Int → fS → Option (Unit × fS)} (hsE : ∀ {s : fS} {x1 : Int} {q}, bS 1 s → SE x1 s = some q → bE 1 s q.2) (hsN : ∀ {s : fS} {q}, bS 1 s → SN s = some q → bE 1 s q.2) (hk37 : ∀ {s : fS} {l2 : Int} {l4 : Int} {l6 : Int}, bE 1 σo s → K37 l2 l4 l6 s = some q → bE 1 σo q.2) {s : fS} {l2 : Int} {l4 : Int} (E : bE 1 σo s) (hF : FX35_factor_b84 N SE SN K37 l2 l4 s = some q) : bE 1 σo q.2 := by
  unfold FX35_factor_b84 at hF
  refine b_call E (fun _ hq => (BX35_getExpanded (N := N) (SE := SE) @hsE (bE.rf E.S) hq)) hF (fun _ hq2 D2 E2 hF => ?_)
  exact hk37 E2 hF
theorem BX35_factor_b153 {σo : fS} {q : Unit × fS} {N : Nat} {SE : Int → fS → Option (Unit × fS)} {SN : fS → Option (Int × fS)} {K123 : Int → Int → Int → fS → Option (Unit × fS)} (hsE : ∀ {s : fS} {x1 : Int} {q}, bS 1 s → SE x1 s = some q → bE 1 s q.2) (hsN : ∀ {s : fS} {q}, bS 1 s → SN s = some q → bE 1 s q.2) (hk123 : ∀ {s : fS} {l2 : Int} {l4 : Int} {l6 : Int}, bE 1 σo s → K123 l2 l4 l6 s = some q → bE 1 σo q.2) {s : fS} {l2 : Int} {l4 : Int} {l6 : Int} (E : bE 1 σo s) (hF : FX35_factor_b153 N SE SN K123 l2 l4 l6 s = some q) : bE 1 σo q.2 := by
  unfold FX35_factor_b153 at hF
  refine b_call E (fun _ hq => (BX35_getExpanded (N := N) (SE := SE) @hsE (bE.rf E.S) hq)) hF (fun _ hq2 D2 E2 hF => ?_)
  exact hk123 E2 hF
theorem BX35_factor_b241 {σo : fS} {q : Unit × fS} {N : Nat} {SE : Int → fS → Option (Unit × fS)} {SN : fS → Option (Int × fS)} (hsE : ∀ {s : fS} {x1 : Int} {q}, bS 1 s → SE x1 s = some q → bE 1 s q.2) (hsN : ∀ {s : fS} {q}, bS 1 s → SN s = some q → bE 1 s q.2) {s : fS} {l2 : Int} {l4 : Int} (E : bE 1 σo s) (hF : FX35_factor_b241 N SE SN l2 l4 s = some q) : bE 1 σo q.2 := by
  unfold FX35_factor_b241 at hF
  refine b_pJ E (E.S.m1 (Nat.le_of_ble_eq_true rfl) (Nat.le_of_ble_eq_true rfl)) hF (fun _ D1 E1 hF => ?_)
  refine b_pJ E1 (E1.S.m1 (Nat.le_of_ble_eq_true rfl) (Nat.le_of_ble_eq_true rfl)) hF (fun _ D2 E2 hF => ?_)
  exact b_ret E2 hF
theorem BX35_factor_b188 {σo : fS} {q : Unit × fS} {N : Nat} {SE : Int → fS → Option (Unit × fS)} {SN : fS → Option (Int × fS)} (hsE : ∀ {s : fS} {x1 : Int} {q}, bS 1 s → SE x1 s = some q → bE 1 s q.2) (hsN : ∀ {s : fS} {q}, bS 1 s → SN s = some q → bE 1 s q.2) {s : fS} {l2 : Int} {l4 : Int} {l6 : Int} (E : bE 1 σo s) (hF : FX35_factor_b188 N SE SN l2 l4 l6 s = some q) : bE 1 σo q.2 := by
  unfold FX35_factor_b188 at hF
  refine b_call E (fun _ hq => (BX35_put (bE.rf E.S) hq)) hF (fun _ hq2 D2 E2 hF => ?_)
  exact BX35_factor_b241 (N := N) (SE := SE) (SN := SN) @hsE @hsN E2 hF
theorem BX35_factor_b123 {σo : fS} {q : Unit × fS} {N : Nat} {SE : Int → fS → Option (Unit × fS)} {SN : fS → Option (Int × fS)} (hsE : ∀ {s : fS} {x1 : Int} {q}, bS 1 s → SE x1 s = some q → bE 1 s q.2) (hsN : ∀ {s : fS} {q}, bS 1 s → SN s = some q → bE 1 s q.2) : ∀ {n : Nat} {s : fS} {l2 : Int} {l4 : Int} {l6 : Int}, bE 1 σo s → FX35_factor_b123 N SE SN n l2 l4 l6 s = some q → bE 1 σo q.2 := by
  intro n
  induction n with
  | zero => intro s l2 l4 l6 E  hF; simp [FX35_factor_b123] at hF
  | succ n ih =>
    intro s l2 l4 l6 E  hF
    rw [FX35_factor_b123] at hF
    refine b_call E (fun _ hq => (BX35_isDigit (bE.rf E.S) hq)) hF (fun _ hq1 D1 E1 hF => ?_)
    refine b_if hF (fun hF => ?_) (fun hF => ?_)
    ·
      exact BX35_factor_b188 (N := N) (SE := SE) (SN := SN) @hsE @hsN E1 hF
    ·
      refine b_if hF (fun hF => ?_) (fun hF => ?_)
      ·
        exact BX35_factor_b188 (N := N) (SE := SE) (SN := SN) @hsE @hsN E1 hF
      ·
        refine b_if hF (fun hF => ?_) (fun hF => ?_)
        ·
          exact BX35_factor_b153 (N := N) (SE := SE) (SN := SN) (K123 := FX35_factor_b123 N SE SN n) @hsE @hsN @ih E1 hF
        ·
          refine b_call E1 (fun _ hq => (BX35_fail (bE.rf E1.S) hq)) hF (fun _ hq4 D4 E4 hF => ?_)
          exact BX35_factor_b153 (N := N) (SE := SE) (SN := SN) (K123 := FX35_factor_b123 N SE SN n) @hsE @hsN @ih E4 hF
theorem BX35_factor_b117 {σo : fS} {q : Unit × fS} {N : Nat} {SE : Int → fS → Option (Unit × fS)} {SN : fS → Option (Int × fS)} (hsE : ∀ {s : fS} {x1 : Int} {q}, bS 1 s → SE x1 s = some q → bE 1 s q.2) (hsN : ∀ {s : fS} {q}, bS 1 s → SN s = some q → bE 1 s q.2) {s : fS} {l2 : Int} {l4 : Int} (E : bE 1 σo s) (hF : FX35_factor_b117 N SE SN l2 l4 s = some q) : bE 1 σo q.2 := by
  unfold FX35_factor_b117 at hF
  refine b_call E (fun _ hq => (BX35_getExpanded (N := N) (SE := SE) @hsE (bE.rf E.S) hq)) hF (fun _ hq2 D2 E2 hF => ?_)
  exact BX35_factor_b123 (N := N) (SE := SE) (SN := SN) @hsE @hsN E2 hF
theorem BX35_factor_b93 {σo : fS} {q : Unit × fS} {N : Nat} {SE : Int → fS → Option (Unit × fS)} {SN : fS → Option (Int × fS)} (hsE : ∀ {s : fS} {x1 : Int} {q}, bS 1 s → SE x1 s = some q → bE 1 s q.2) (hsN : ∀ {s : fS} {q}, bS 1 s → SN s = some q → bE 1 s q.2) {s : fS} {l2 : Int} {l4 : Int} {l6 : Int} (E : bE 1 σo s) (hF : FX35_factor_b93 N SE SN l2 l4 l6 s = some q) : bE 1 σo q.2 := by
  unfold FX35_factor_b93 at hF
  refine b_call E (fun _ hq => (BX35_is (bE.rf E.S) hq)) hF (fun _ hq1 D1 E1 hF => ?_)
  refine b_if hF (fun hF => ?_) (fun hF => ?_)
  ·
    exact BX35_factor_b117 (N := N) (SE := SE) (SN := SN) @hsE @hsN E1 hF
  ·
    refine b_call E1 (fun _ hq => (BX35_is (bE.rf E1.S) hq)) hF (fun _ hq2 D2 E2 hF => ?_)
    refine b_if hF (fun hF => ?_) (fun hF => ?_)
    ·
      exact BX35_factor_b188 (N := N) (SE := SE) (SN := SN) @hsE @hsN E2 hF
    ·
      exact BX35_factor_b117 (N := N) (SE := SE) (SN := SN) @hsE @hsN E2 hF
theorem BX35_factor_b37 {σo : fS} {q : Unit × fS} {N : Nat} {SE : Int → fS → Option (Unit × fS)} {SN : fS → Option (Int × fS)} (hsE : ∀ {s : fS} {x1 : Int} {q}, bS 1 s → SE x1 s = some q → bE 1 s q.2) (hsN : ∀ {s : fS} {q}, bS 1 s → SN s = some q → bE 1 s q.2) : ∀ {n : Nat} {s : fS} {l2 : Int} {l4 : Int} {l6 : Int}, bE 1 σo s → FX35_factor_b37 N SE SN n l2 l4 l6 s = some q → bE 1 σo q.2 := by
  intro n
  induction n with
  | zero => intro s l2 l4 l6 E  hF; simp [FX35_factor_b37] at hF
  | succ n ih =>
    intro s l2 l4 l6 E  hF
    rw [FX35_factor_b37] at hF
    refine b_call E (fun _ hq => (BX35_isDigit (bE.rf E.S) hq)) hF (fun _ hq1 D1 E1 hF => ?_)
    refine b_if hF (fun hF => ?_) (fun hF => ?_)
    ·
      exact BX35_factor_b93 (N := N) (SE := SE) (SN := SN) @hsE @hsN E1 hF
    ·
      refine b_if hF (fun hF => ?_) (fun hF => ?_)
      ·
        exact BX35_factor_b93 (N := N) (SE := SE) (SN := SN) @hsE @hsN E1 hF
      ·
        refine b_if hF (fun hF => ?_) (fun hF => ?_)
        ·
          exact BX35_factor_b84 (N := N) (SE := SE) (SN := SN) (K37 := FX35_factor_b37 N SE SN n) @hsE @hsN @ih E1 hF
        ·
          refine b_call E1 (fun _ hq => (BX35_fail (bE.rf E1.S) hq)) hF (fun _ hq4 D4 E4 hF => ?_)
          exact BX35_factor_b84 (N := N) (SE := SE) (SN := SN) (K37 := FX35_factor_b37 N SE SN n) @hsE @hsN @ih E4 hF
theorem BX35_factor_b34 {σo : fS} {q : Unit × fS} {N : Nat} {SE : Int → fS → Option (Unit × fS)} {SN : fS → Option (Int × fS)} (hsE : ∀ {s : fS} {x1 : Int} {q}, bS 1 s → SE x1 s = some q → bE 1 s q.2) (hsN : ∀ {s : fS} {q}, bS 1 s → SN s = some q → bE 1 s q.2) {s : fS} {l1 : Int} {l2 : Int} {l4 : Int} (E : bE 1 σo s) (hF : FX35_factor_b34 N SE SN l1 l2 l4 s = some q) : bE 1 σo q.2 := by
  unfold FX35_factor_b34 at hF
  exact BX35_factor_b37 (N := N) (SE := SE) (SN := SN) @hsE @hsN E hF
theorem BX35_factor {σo : fS} {q : Unit × fS} {N : Nat} {SE : Int → fS → Option (Unit × fS)} {SN : fS → Option (Int × fS)} (hsE : ∀ {s : fS} {x1 : Int} {q}, bS 1 s → SE x1 s = some q → bE 1 s q.2) (hsN : ∀ {s : fS} {q}, bS 1 s → SN s = some q → bE 1 s q.2) {s : fS} {p0 : Int} (E : bE 1 σo s) (hF : FX35_factor N SE SN p0 s = some q) : bE 1 σo q.2 := by
  unfold FX35_factor at hF
  refine b_call E (fun _ hq => (BX35_isDigit (bE.rf E.S) hq)) hF (fun _ hq1 D1 E1 hF => ?_)
  refine b_if hF (fun hF => ?_) (fun hF => ?_)
  ·
    exact BX35_factor_b34 (N := N) (SE := SE) (SN := SN) @hsE @hsN E1 hF
  ·
    refine b_call E1 (fun _ hq => (BX35_is (bE.rf E1.S) hq)) hF (fun _ hq2 D2 E2 hF => ?_)
    refine b_if hF (fun hF => ?_) (fun hF => ?_)
    ·
      exact BX35_factor_b34 (N := N) (SE := SE) (SN := SN) @hsE @hsN E2 hF
    ·
      refine b_call E2 (fun _ hq => (BX35_is (bE.rf E2.S) hq)) hF (fun _ hq3 D3 E3 hF => ?_)
      refine b_if hF (fun hF => ?_) (fun hF => ?_)
      ·
        refine b_call E3 (fun _ hq => (BX35_is (bE.rf E3.S) hq)) hF (fun _ hq4 D4 E4 hF => ?_)
        refine b_if hF (fun hF => ?_) (fun hF => ?_)
        ·
          refine b_call E4 (fun _ hq => (BX35_hasValue (bE.rf E4.S) hq)) hF (fun _ hq6 D6 E6 hF => ?_)
          refine b_if hF (fun hF => ?_) (fun hF => ?_)
          ·
            refine b_call E6 (fun _ hq => (BX35_fail (bE.rf E6.S) hq)) hF (fun _ hq8 D8 E8 hF => ?_)
            exact BX35_factor_b241 (N := N) (SE := SE) (SN := SN) @hsE @hsN E8 hF
          ·
            refine b_call E6 (fun _ hq => (BX35_value (SN := SN) @hsN (bE.rf E6.S) hq)) hF (fun _ hq10 D10 E10 hF => ?_)
            exact BX35_factor_b241 (N := N) (SE := SE) (SN := SN) @hsE @hsN E10 hF
        ·
          refine b_call E4 (fun _ hq => (BX35_quoted (N := N) (SE := SE) @hsE (bE.rf E4.S) hq)) hF (fun _ hq12 D12 E12 hF => ?_)
          exact BX35_factor_b241 (N := N) (SE := SE) (SN := SN) @hsE @hsN E12 hF
      ·
        exact BX35_factor_b34 (N := N) (SE := SE) (SN := SN) @hsE @hsN E3 hF
theorem BX35_isLetter_b33 {σo : fS} {q : Int × fS} {s : fS} {s0 : Int} (E : bE 1 σo s) (hF : FX35_isLetter_b33 s0 s = some q) : bE 1 σo q.2 := by
  unfold FX35_isLetter_b33 at hF
  exact b_z E hF
theorem BX35_isLetter_b28 {σo : fS} {q : Int × fS} {s : fS} (E : bE 1 σo s) (hF : FX35_isLetter_b28 s = some q) : bE 1 σo q.2 := by
  unfold FX35_isLetter_b28 at hF
  exact BX35_isLetter_b33 E hF
theorem BX35_isLetter_b32 {σo : fS} {q : Int × fS} {s : fS} (E : bE 1 σo s) (hF : FX35_isLetter_b32 s = some q) : bE 1 σo q.2 := by
  unfold FX35_isLetter_b32 at hF
  exact BX35_isLetter_b33 E hF
theorem BX35_isLetter {σo : fS} {q : Int × fS} {s : fS} {p0 : Int} {p1 : Int} (E : bE 1 σo s) (hF : FX35_isLetter p0 p1 s = some q) : bE 1 σo q.2 := by
  unfold FX35_isLetter at hF
  refine b_call E (fun _ hq => (BX35_isCharacter (bE.rf E.S) hq)) hF (fun _ hq1 D1 E1 hF => ?_)
  refine b_if hF (fun hF => ?_) (fun hF => ?_)
  ·
    exact BX35_isLetter_b32 E1 hF
  ·
    refine b_if hF (fun hF => ?_) (fun hF => ?_)
    ·
      exact BX35_isLetter_b28 E1 hF
    ·
      refine b_if hF (fun hF => ?_) (fun hF => ?_)
      ·
        exact BX35_isLetter_b32 E1 hF
      ·
        exact BX35_isLetter_b28 E1 hF
theorem BX35_keyword_b92 {σo : fS} {q : Int × fS} {N : Nat} {SE : Int → fS → Option (Unit × fS)} (hsE : ∀ {s : fS} {x1 : Int} {q}, bS 1 s → SE x1 s = some q → bE 1 s q.2) : ∀ {n : Nat} {s : fS} {l2 : Int} {l5 : Int}, bE 1 σo s → FX35_keyword_b92 N SE n l2 l5 s = some q → bE 1 σo q.2 := by
  intro n
  induction n with
  | zero => intro s l2 l5 E  hF; simp [FX35_keyword_b92] at hF
  | succ n ih =>
    intro s l2 l5 E  hF
    rw [FX35_keyword_b92] at hF
    refine b_if hF (fun hF => ?_) (fun hF => ?_)
    ·
      exact b_ret E hF
    ·
      refine b_rv hF (fun _ hF => ?_)
      refine b_call E (fun _ hq => (BX35_put (bE.rf E.S) hq)) hF (fun _ hq4 D4 E4 hF => ?_)
      exact ih E4 hF
theorem BX35_keyword_b35 {σo : fS} {q : Int × fS} {N : Nat} {SE : Int → fS → Option (Unit × fS)} (hsE : ∀ {s : fS} {x1 : Int} {q}, bS 1 s → SE x1 s = some q → bE 1 s q.2) : ∀ {n : Nat} {s : fS} {l1 : Nat} {l2 : Int} {l3 : Int} {l4 : Int}, bE 1 σo s → FX35_keyword_b35 N SE n l1 l2 l3 l4 s = some q → bE 1 σo q.2 := by
  intro n
  induction n with
  | zero => intro s l1 l2 l3 l4 E  hF; simp [FX35_keyword_b35] at hF
  | succ n ih =>
    intro s l1 l2 l3 l4 E  hF
    rw [FX35_keyword_b35] at hF
    refine b_rv hF (fun _ hF => ?_)
    refine b_call E (fun _ hq => (BJ1_charAt (d := 1) (bE.rf E.S) hq)) hF (fun _ hq2 D2 E2 hF => ?_)
    refine b_call E2 (fun _ hq => (BX35_isLetter (bE.rf E2.S) hq)) hF (fun _ hq4 D4 E4 hF => ?_)
    refine b_if hF (fun hF => ?_) (fun hF => ?_)
    ·
      refine b_call E4 (fun _ hq => (BX35_put (bE.rf E4.S) hq)) hF (fun _ hq6 D6 E6 hF => ?_)
      exact BX35_keyword_b92 (N := N) (SE := SE) @hsE E6 hF
    ·
      refine b_qI E4 (E4.S.m1 (Nat.le_of_ble_eq_true rfl) (Nat.le_of_ble_eq_true rfl)) hF (fun _ D8 E8 hF => ?_)
      refine b_rv hF (fun _ hF => ?_)
      refine b_call E8 (fun _ hq => (BJ1_length (d := 1) (bE.rf E8.S) hq)) hF (fun _ hq10 D10 E10 hF => ?_)
      refine b_if hF (fun hF => ?_) (fun hF => ?_)
      ·
        refine b_call E10 (fun _ hq => (BX35_getExpanded (N := N) (SE := SE) @hsE (bE.rf E10.S) hq)) hF (fun _ hq12 D12 E12 hF => ?_)
        exact ih E12 hF
      ·
        exact b_ret E10 hF
theorem BX35_keyword_b16 {σo : fS} {q : Int × fS} {N : Nat} {SE : Int → fS → Option (Unit × fS)} (hsE : ∀ {s : fS} {x1 : Int} {q}, bS 1 s → SE x1 s = some q → bE 1 s q.2) : ∀ {n : Nat} {s : fS} {l1 : Nat} {l2 : Int} {l3 : Int} {l4 : Int}, bE 1 σo s → FX35_keyword_b16 N SE n l1 l2 l3 l4 s = some q → bE 1 σo q.2 := by
  intro n
  induction n with
  | zero => intro s l1 l2 l3 l4 E  hF; simp [FX35_keyword_b16] at hF
  | succ n ih =>
    intro s l1 l2 l3 l4 E  hF
    rw [FX35_keyword_b16] at hF
    refine b_call E (fun _ hq => (BX35_isOf (bE.rf E.S) hq)) hF (fun _ hq1 D1 E1 hF => ?_)
    refine b_if hF (fun hF => ?_) (fun hF => ?_)
    ·
      exact BX35_keyword_b35 (N := N) (SE := SE) @hsE E1 hF
    ·
      refine b_call E1 (fun _ hq => (BX35_getExpanded (N := N) (SE := SE) @hsE (bE.rf E1.S) hq)) hF (fun _ hq3 D3 E3 hF => ?_)
      exact ih E3 hF
theorem BX35_keyword {σo : fS} {q : Int × fS} {N : Nat} {SE : Int → fS → Option (Unit × fS)} (hsE : ∀ {s : fS} {x1 : Int} {q}, bS 1 s → SE x1 s = some q → bE 1 s q.2) {s : fS} {p0 : Nat} (E : bE 1 σo s) (hF : FX35_keyword N SE p0 s = some q) : bE 1 σo q.2 := by
  unfold FX35_keyword at hF
  refine b_call E (fun _ hq => (BX35_getExpanded (N := N) (SE := SE) @hsE (bE.rf E.S) hq)) hF (fun _ hq3 D3 E3 hF => ?_)
  exact BX35_keyword_b16 (N := N) (SE := SE) @hsE E3 hF
theorem BX35_times_b80 {σo : fS} {q : Int × fS} {s : fS} {s0 : Int} (E : bE 1 σo s) (hF : FX35_times_b80 s0 s = some q) : bE 1 σo q.2 := by
  unfold FX35_times_b80 at hF
  exact b_ret E hF
theorem BX35_times_b63 {σo : fS} {q : Int × fS} {s : fS} {l8 : Int} {s0 : Int} (E : bE 1 σo s) (hF : FX35_times_b63 l8 s0 s = some q) : bE 1 σo q.2 := by
  unfold FX35_times_b63 at hF
  refine b_if hF (fun hF => ?_) (fun hF => ?_)
  ·
    exact BX35_times_b80 E hF
  ·
    exact BX35_times_b80 E hF
theorem BX35_times_b27 {σo : fS} {q : Int × fS} {s : fS} {l8 : Int} {l10 : Int} {s0 : Int} (E : bE 1 σo s) (hF : FX35_times_b27 l8 l10 s0 s = some q) : bE 1 σo q.2 := by
  unfold FX35_times_b27 at hF
  refine b_dv hF (fun hF => ?_)
  refine b_dv hF (fun hF => ?_)
  refine b_if hF (fun hF => ?_) (fun hF => ?_)
  ·
    exact BX35_times_b63 E hF
  ·
    exact BX35_times_b63 E hF
theorem BX35_times {σo : fS} {q : Int × fS} {s : fS} {p0 : Int} {p1 : Int} {p2 : Int} {p3 : Int} (E : bE 1 σo s) (hF : FX35_times p0 p1 p2 p3 s = some q) : bE 1 σo q.2 := by
  unfold FX35_times at hF
  refine b_if hF (fun hF => ?_) (fun hF => ?_)
  ·
    exact BX35_times_b27 E hF
  ·
    exact BX35_times_b27 E hF
theorem BX35_unitName_b87 {σo : fS} {q : Nat × fS} {s : fS} {s0 : Nat} (E : bE 1 σo s) (hF : FX35_unitName_b87 s0 s = some q) : bE 1 σo q.2 := by
  unfold FX35_unitName_b87 at hF
  exact b_ret E hF
theorem BX35_unitName {σo : fS} {q : Nat × fS} {s : fS} {p0 : Int} (E : bE 1 σo s) (hF : FX35_unitName p0 s = some q) : bE 1 σo q.2 := by
  unfold FX35_unitName at hF
  refine b_if hF (fun hF => ?_) (fun hF => ?_)
  ·
    exact b_ret E hF
  ·
    refine b_if hF (fun hF => ?_) (fun hF => ?_)
    ·
      exact b_ret E hF
    ·
      refine b_if hF (fun hF => ?_) (fun hF => ?_)
      ·
        exact b_ret E hF
      ·
        refine b_if hF (fun hF => ?_) (fun hF => ?_)
        ·
          exact b_ret E hF
        ·
          refine b_if hF (fun hF => ?_) (fun hF => ?_)
          ·
            exact b_ret E hF
          ·
            refine b_if hF (fun hF => ?_) (fun hF => ?_)
            ·
              exact b_ret E hF
            ·
              refine b_if hF (fun hF => ?_) (fun hF => ?_)
              ·
                exact b_ret E hF
              ·
                refine b_if hF (fun hF => ?_) (fun hF => ?_)
                ·
                  exact BX35_unitName_b87 E hF
                ·
                  exact BX35_unitName_b87 E hF
theorem BX35_unit_b2 {σo : fS} {q : Int × fS} {N : Nat} {SE : Int → fS → Option (Unit × fS)} (hsE : ∀ {s : fS} {x1 : Int} {q}, bS 1 s → SE x1 s = some q → bE 1 s q.2) : ∀ {n : Nat} {s : fS} {l1 : Int}, bE 1 σo s → FX35_unit_b2 N SE n l1 s = some q → bE 1 σo q.2 := by
  intro n
  induction n with
  | zero => intro s l1 E  hF; simp [FX35_unit_b2] at hF
  | succ n ih =>
    intro s l1 E  hF
    rw [FX35_unit_b2] at hF
    refine b_if hF (fun hF => ?_) (fun hF => ?_)
    ·
      exact b_ret E hF
    ·
      refine b_call E (fun _ hq => (BX35_unitName (bE.rf E.S) hq)) hF (fun _ hq1 D1 E1 hF => ?_)
      refine b_call E1 (fun _ hq => (BX35_keyword (N := N) (SE := SE) @hsE (bE.rf E1.S) hq)) hF (fun _ hq3 D3 E3 hF => ?_)
      refine b_if hF (fun hF => ?_) (fun hF => ?_)
      ·
        exact ih E3 hF
      ·
        exact b_ret E3 hF
theorem BX35_unit {σo : fS} {q : Int × fS} {N : Nat} {SE : Int → fS → Option (Unit × fS)} (hsE : ∀ {s : fS} {x1 : Int} {q}, bS 1 s → SE x1 s = some q → bE 1 s q.2) {s : fS} (E : bE 1 σo s) (hF : FX35_unit N SE s = some q) : bE 1 σo q.2 := by
  unfold FX35_unit at hF
  exact BX35_unit_b2 (N := N) (SE := SE) @hsE E hF
theorem BX40_parameter_b27 {σo : fS} {q : Int × fS} {N : Nat} {s : fS} {s0 : Int} (E : bE 1 σo s) (hF : FX40_parameter_b27 N s0 s = some q) : bE 1 σo q.2 := by
  unfold FX40_parameter_b27 at hF
  exact b_ret E hF
theorem BX40_parameter {σo : fS} {q : Int × fS} {N : Nat} {s : fS} {this : Nat} {p0 : Int} {p1 : Int} (E : bE 1 σo s) (othis : bO 1 s this) (hF : FX40_parameter N this p0 p1 s = some q) : bE 1 σo q.2 := by
  unfold FX40_parameter at hF
  refine b_K hF (fun hF => ?_)
  refine b_o E othis hF (fun _ o1 hF => ?_)
  refine b_call E (fun _ hq => (BX40_words (bE.rf E.S) o1 hq)) hF (fun _ hq2 D2 E2 hF => ?_)
  refine b_if hF (fun hF => ?_) (fun hF => ?_)
  ·
    refine b_K hF (fun hF => ?_)
    refine b_call E2 (fun _ hq => (BX40_scaled (N := N) (bE.rf E2.S) (othis.up D2) hq)) hF (fun _ hq4 D4 E4 hF => ?_)
    exact BX40_parameter_b27 (N := N) E4 hF
  ·
    exact BX40_parameter_b27 (N := N) E2 hF
theorem BX35_parameter_b37 {σo : fS} {q : Int × fS} {N : Nat} {s : fS} {s0 : Int} (E : bE 1 σo s) (hF : FX35_parameter_b37 N s0 s = some q) : bE 1 σo q.2 := by
  unfold FX35_parameter_b37 at hF
  exact b_ret E hF
theorem BX35_parameter {σo : fS} {q : Int × fS} {N : Nat} {s : fS} {p0 : Int} (E : bE 1 σo s) (hF : FX35_parameter N p0 s = some q) : bE 1 σo q.2 := by
  unfold FX35_parameter at hF
  refine b_call E (fun _ hq => (BX35_now (bE.rf E.S) hq)) hF (fun _ hq2 D2 E2 hF => ?_)
  refine b_if hF (fun hF => ?_) (fun hF => ?_)
  ·
    refine b_rv hF (fun _ hF => ?_)
    refine b_rO E2 (E2.S.m1 (Nat.le_of_ble_eq_true rfl) (Nat.le_of_ble_eq_true rfl)) hF (fun _ o6 hF => ?_)
    refine b_rv hF (fun _ hF => ?_)
    refine b_K hF (fun hF => ?_)
    refine b_call E2 (fun _ hq => (BX40_parameter (N := N) (bE.rf E2.S) o6 hq)) hF (fun _ hq10 D10 E10 hF => ?_)
    exact BX35_parameter_b37 (N := N) E10 hF
  ·
    exact BX35_parameter_b37 (N := N) E2 hF
theorem BX35_measured_b251 {σo : fS} {q : Int × fS} {N : Nat} {SE : Int → fS → Option (Unit × fS)} {SN : fS → Option (Int × fS)} (hsE : ∀ {s : fS} {x1 : Int} {q}, bS 1 s → SE x1 s = some q → bE 1 s q.2) (hsN : ∀ {s : fS} {q}, bS 1 s → SN s = some q → bE 1 s q.2) {s : fS} {s0 : Int} (E : bE 1 σo s) (hF : FX35_measured_b251 N SE SN s0 s = some q) : bE 1 σo q.2 := by
  unfold FX35_measured_b251 at hF
  exact b_ret E hF
theorem BX35_measured_b231 {σo : fS} {q : Int × fS} {N : Nat} {SE : Int → fS → Option (Unit × fS)} {SN : fS → Option (Int × fS)} (hsE : ∀ {s : fS} {x1 : Int} {q}, bS 1 s → SE x1 s = some q → bE 1 s q.2) (hsN : ∀ {s : fS} {q}, bS 1 s → SN s = some q → bE 1 s q.2) {s : fS} {l1 : Int} {l3 : Int} {l6 : Int} {l8 : Int} (E : bE 1 σo s) (hF : FX35_measured_b231 N SE SN l1 l3 l6 l8 s = some q) : bE 1 σo q.2 := by
  unfold FX35_measured_b231 at hF
  refine b_if hF (fun hF => ?_) (fun hF => ?_)
  ·
    refine b_call E (fun _ hq => (BX35_times (bE.rf E.S) hq)) hF (fun _ hq2 D2 E2 hF => ?_)
    exact BX35_measured_b251 (N := N) (SE := SE) (SN := SN) @hsE @hsN E2 hF
  ·
    exact BX35_measured_b251 (N := N) (SE := SE) (SN := SN) @hsE @hsN E hF
theorem BX35_measured_b201 {σo : fS} {q : Int × fS} {N : Nat} {SE : Int → fS → Option (Unit × fS)} {SN : fS → Option (Int × fS)} (hsE : ∀ {s : fS} {x1 : Int} {q}, bS 1 s → SE x1 s = some q → bE 1 s q.2) (hsN : ∀ {s : fS} {q}, bS 1 s → SN s = some q → bE 1 s q.2) {s : fS} {l1 : Int} {l3 : Int} {l6 : Int} {l8 : Int} {l10 : Int} (E : bE 1 σo s) (hF : FX35_measured_b201 N SE SN l1 l3 l6 l8 l10 s = some q) : bE 1 σo q.2 := by
  unfold FX35_measured_b201 at hF
  refine b_if hF (fun hF => ?_) (fun hF => ?_)
  ·
    exact BX35_measured_b231 (N := N) (SE := SE) (SN := SN) @hsE @hsN E hF
  ·
    refine b_if hF (fun hF => ?_) (fun hF => ?_)
    ·
      exact BX35_measured_b231 (N := N) (SE := SE) (SN := SN) @hsE @hsN E hF
    ·
      refine b_if hF (fun hF => ?_) (fun hF => ?_)
      ·
        exact BX35_measured_b231 (N := N) (SE := SE) (SN := SN) @hsE @hsN E hF
      ·
        refine b_call E (fun _ hq => (BX35_fail (bE.rf E.S) hq)) hF (fun _ hq3 D3 E3 hF => ?_)
        exact BX35_measured_b231 (N := N) (SE := SE) (SN := SN) @hsE @hsN E3 hF
theorem BX35_measured_b42 {σo : fS} {q : Int × fS} {N : Nat} {SE : Int → fS → Option (Unit × fS)} {SN : fS → Option (Int × fS)} (hsE : ∀ {s : fS} {x1 : Int} {q}, bS 1 s → SE x1 s = some q → bE 1 s q.2) (hsN : ∀ {s : fS} {q}, bS 1 s → SN s = some q → bE 1 s q.2) {s : fS} {l1 : Int} {l3 : Int} {l5 : Int} {l8 : Int} {l10 : Int} (E : bE 1 σo s) (hF : FX35_measured_b42 N SE SN l1 l3 l5 l8 l10 s = some q) : bE 1 σo q.2 := by
  unfold FX35_measured_b42 at hF
  refine b_call E (fun _ hq => (BX35_lengthOf (SN := SN) @hsN (bE.rf E.S) hq)) hF (fun _ hq2 D2 E2 hF => ?_)
  exact BX35_measured_b201 (N := N) (SE := SE) (SN := SN) @hsE @hsN E2 hF
theorem BX35_measured_b195 {σo : fS} {q : Int × fS} {N : Nat} {SE : Int → fS → Option (Unit × fS)} {SN : fS → Option (Int × fS)} (hsE : ∀ {s : fS} {x1 : Int} {q}, bS 1 s → SE x1 s = some q → bE 1 s q.2) (hsN : ∀ {s : fS} {q}, bS 1 s → SN s = some q → bE 1 s q.2) {s : fS} {l1 : Int} {l3 : Int} {l6 : Int} {l10 : Int} {s0 : Int} (E : bE 1 σo s) (hF : FX35_measured_b195 N SE SN l1 l3 l6 l10 s0 s = some q) : bE 1 σo q.2 := by
  unfold FX35_measured_b195 at hF
  refine b_call E (fun _ hq => (BX35_dropSpace (N := N) (SE := SE) @hsE (bE.rf E.S) hq)) hF (fun _ hq2 D2 E2 hF => ?_)
  exact BX35_measured_b201 (N := N) (SE := SE) (SN := SN) @hsE @hsN E2 hF
theorem BX35_measured_b144 {σo : fS} {q : Int × fS} {N : Nat} {SE : Int → fS → Option (Unit × fS)} {SN : fS → Option (Int × fS)} (hsE : ∀ {s : fS} {x1 : Int} {q}, bS 1 s → SE x1 s = some q → bE 1 s q.2) (hsN : ∀ {s : fS} {q}, bS 1 s → SN s = some q → bE 1 s q.2) {s : fS} {l1 : Int} {l3 : Int} {l10 : Int} {s0 : Int} (E : bE 1 σo s) (hF : FX35_measured_b144 N SE SN l1 l3 l10 s0 s = some q) : bE 1 σo q.2 := by
  unfold FX35_measured_b144 at hF
  refine b_if hF (fun hF => ?_) (fun hF => ?_)
  ·
    refine b_if hF (fun hF => ?_) (fun hF => ?_)
    ·
      refine b_if hF (fun hF => ?_) (fun hF => ?_)
      ·
        refine b_if hF (fun hF => ?_) (fun hF => ?_)
        ·
          exact BX35_measured_b195 (N := N) (SE := SE) (SN := SN) @hsE @hsN E hF
        ·
          exact BX35_measured_b195 (N := N) (SE := SE) (SN := SN) @hsE @hsN E hF
      ·
        exact BX35_measured_b195 (N := N) (SE := SE) (SN := SN) @hsE @hsN E hF
    ·
      exact BX35_measured_b195 (N := N) (SE := SE) (SN := SN) @hsE @hsN E hF
  ·
    exact BX35_measured_b195 (N := N) (SE := SE) (SN := SN) @hsE @hsN E hF
theorem BX35_measured_b140 {σo : fS} {q : Int × fS} {N : Nat} {SE : Int → fS → Option (Unit × fS)} {SN : fS → Option (Int × fS)} (hsE : ∀ {s : fS} {x1 : Int} {q}, bS 1 s → SE x1 s = some q → bE 1 s q.2) (hsN : ∀ {s : fS} {q}, bS 1 s → SN s = some q → bE 1 s q.2) {s : fS} {l1 : Int} {l3 : Int} {l10 : Int} {s1 : Int} (E : bE 1 σo s) (hF : FX35_measured_b140 N SE SN l1 l3 l10 s1 s = some q) : bE 1 σo q.2 := by
  unfold FX35_measured_b140 at hF
  refine b_call E (fun _ hq => (BX35_parameter (N := N) (bE.rf E.S) hq)) hF (fun _ hq2 D2 E2 hF => ?_)
  exact BX35_measured_b144 (N := N) (SE := SE) (SN := SN) @hsE @hsN E2 hF
theorem BX35_measured {σo : fS} {q : Int × fS} {N : Nat} {SE : Int → fS → Option (Unit × fS)} {SN : fS → Option (Int × fS)} (hsE : ∀ {s : fS} {x1 : Int} {q}, bS 1 s → SE x1 s = some q → bE 1 s q.2) (hsN : ∀ {s : fS} {q}, bS 1 s → SN s = some q → bE 1 s q.2) {s : fS} {p0 : Int} {p1 : Int} (E : bE 1 σo s) (hF : FX35_measured N SE SN p0 p1 s = some q) : bE 1 σo q.2 := by
  unfold FX35_measured at hF
  refine b_call E (fun _ hq => (BX35_needExpandedNoSpace (N := N) (SE := SE) @hsE (bE.rf E.S) hq)) hF (fun _ hq2 D2 E2 hF => ?_)
  refine b_if hF (fun hF => ?_) (fun hF => ?_)
  ·
    refine b_call E2 (fun _ hq => (BX35_hasLength (bE.rf E2.S) hq)) hF (fun _ hq5 D5 E5 hF => ?_)
    refine b_if hF (fun hF => ?_) (fun hF => ?_)
    ·
      exact BX35_measured_b42 (N := N) (SE := SE) (SN := SN) @hsE @hsN E5 hF
    ·
      refine b_call E5 (fun _ hq => (BX35_hasGlue (bE.rf E5.S) hq)) hF (fun _ hq7 D7 E7 hF => ?_)
      refine b_if hF (fun hF => ?_) (fun hF => ?_)
      ·
        refine b_call E7 (fun _ hq => (BX35_put (bE.rf E7.S) hq)) hF (fun _ hq9 D9 E9 hF => ?_)
        refine b_call E9 (fun _ hq => (BX35_unit (N := N) (SE := SE) @hsE (bE.rf E9.S) hq)) hF (fun _ hq11 D11 E11 hF => ?_)
        refine b_if hF (fun hF => ?_) (fun hF => ?_)
        ·
          refine b_if hF (fun hF => ?_) (fun hF => ?_)
          ·
            refine b_if hF (fun hF => ?_) (fun hF => ?_)
            ·
              refine b_if hF (fun hF => ?_) (fun hF => ?_)
              ·
                refine b_if hF (fun hF => ?_) (fun hF => ?_)
                ·
                  refine b_if hF (fun hF => ?_) (fun hF => ?_)
                  ·
                    exact BX35_measured_b140 (N := N) (SE := SE) (SN := SN) @hsE @hsN E11 hF
                  ·
                    exact BX35_measured_b140 (N := N) (SE := SE) (SN := SN) @hsE @hsN E11 hF
                ·
                  exact BX35_measured_b144 (N := N) (SE := SE) (SN := SN) @hsE @hsN E11 hF
              ·
                exact BX35_measured_b144 (N := N) (SE := SE) (SN := SN) @hsE @hsN E11 hF
            ·
              exact BX35_measured_b144 (N := N) (SE := SE) (SN := SN) @hsE @hsN E11 hF
          ·
            exact BX35_measured_b144 (N := N) (SE := SE) (SN := SN) @hsE @hsN E11 hF
        ·
          refine b_call E11 (fun _ hq => (BX35_fail (bE.rf E11.S) hq)) hF (fun _ hq13 D13 E13 hF => ?_)
          exact b_ret E13 hF
      ·
        exact BX35_measured_b42 (N := N) (SE := SE) (SN := SN) @hsE @hsN E7 hF
  ·
    exact b_ret E2 hF
theorem BX35_sized_b33 {σo : fS} {q : Int × fS} {s : fS} {s0 : Int} (E : bE 1 σo s) (hF : FX35_sized_b33 s0 s = some q) : bE 1 σo q.2 := by
  unfold FX35_sized_b33 at hF
  exact b_ret E hF
theorem BX35_sized_b20 {σo : fS} {q : Int × fS} {s : fS} {l1 : Int} (E : bE 1 σo s) (hF : FX35_sized_b20 l1 s = some q) : bE 1 σo q.2 := by
  unfold FX35_sized_b20 at hF
  refine b_if hF (fun hF => ?_) (fun hF => ?_)
  ·
    exact BX35_sized_b33 E hF
  ·
    exact BX35_sized_b33 E hF
theorem BX35_sized {σo : fS} {q : Int × fS} {s : fS} {p0 : Int} (E : bE 1 σo s) (hF : FX35_sized p0 s = some q) : bE 1 σo q.2 := by
  unfold FX35_sized at hF
  refine b_if hF (fun hF => ?_) (fun hF => ?_)
  ·
    exact BX35_sized_b20 E hF
  ·
    refine b_call E (fun _ hq => (BX35_isSize (bE.rf E.S) hq)) hF (fun _ hq2 D2 E2 hF => ?_)
    refine b_if hF (fun hF => ?_) (fun hF => ?_)
    ·
      exact BX35_sized_b20 E2 hF
    ·
      refine b_call E2 (fun _ hq => (BX35_fail (bE.rf E2.S) hq)) hF (fun _ hq4 D4 E4 hF => ?_)
      exact BX35_sized_b20 E4 hF
theorem BX35_sizeFrom_b209 {σo : fS} {q : Int × fS} {N : Nat} {SE : Int → fS → Option (Unit × fS)} {SN : fS → Option (Int × fS)} (hsE : ∀ {s : fS} {x1 : Int} {q}, bS 1 s → SE x1 s = some q → bE 1 s q.2) (hsN : ∀ {s : fS} {q}, bS 1 s → SN s = some q → bE 1 s q.2) {s : fS} {s1 : Int} (E : bE 1 σo s) (hF : FX35_sizeFrom_b209 N SE SN s1 s = some q) : bE 1 σo q.2 := by
  unfold FX35_sizeFrom_b209 at hF
  refine b_call E (fun _ hq => (BX35_sized (bE.rf E.S) hq)) hF (fun _ hq2 D2 E2 hF => ?_)
  exact b_ret E2 hF
theorem BX35_sizeFrom_b190 {σo : fS} {q : Int × fS} {N : Nat} {SE : Int → fS → Option (Unit × fS)} {SN : fS → Option (Int × fS)} (hsE : ∀ {s : fS} {x1 : Int} {q}, bS 1 s → SE x1 s = some q → bE 1 s q.2) (hsN : ∀ {s : fS} {q}, bS 1 s → SN s = some q → bE 1 s q.2) {s : fS} {l2 : Int} {l4 : Int} {l5 : Int} (E : bE 1 σo s) (hF : FX35_sizeFrom_b190 N SE SN l2 l4 l5 s = some q) : bE 1 σo q.2 := by
  unfold FX35_sizeFrom_b190 at hF
  refine b_pI E (E.S.m1 (Nat.le_of_ble_eq_true rfl) (Nat.le_of_ble_eq_true rfl)) hF (fun _ D1 E1 hF => ?_)
  refine b_if hF (fun hF => ?_) (fun hF => ?_)
  ·
    exact BX35_sizeFrom_b209 (N := N) (SE := SE) (SN := SN) @hsE @hsN E1 hF
  ·
    exact BX35_sizeFrom_b209 (N := N) (SE := SE) (SN := SN) @hsE @hsN E1 hF
theorem BX35_sizeFrom_b29 {σo : fS} {q : Int × fS} {N : Nat} {SE : Int → fS → Option (Unit × fS)} {SN : fS → Option (Int × fS)} (hsE : ∀ {s : fS} {x1 : Int} {q}, bS 1 s → SE x1 s = some q → bE 1 s q.2) (hsN : ∀ {s : fS} {q}, bS 1 s → SN s = some q → bE 1 s q.2) {s : fS} {l1 : Int} {l2 : Int} {l4 : Int} (E : bE 1 σo s) (hF : FX35_sizeFrom_b29 N SE SN l1 l2 l4 s = some q) : bE 1 σo q.2 := by
  unfold FX35_sizeFrom_b29 at hF
  refine b_call E (fun _ hq => (BX35_lengthOf (SN := SN) @hsN (bE.rf E.S) hq)) hF (fun _ hq2 D2 E2 hF => ?_)
  exact BX35_sizeFrom_b190 (N := N) (SE := SE) (SN := SN) @hsE @hsN E2 hF
theorem BX35_sizeFrom_b168 {σo : fS} {q : Int × fS} {N : Nat} {SE : Int → fS → Option (Unit × fS)} {SN : fS → Option (Int × fS)} (hsE : ∀ {s : fS} {x1 : Int} {q}, bS 1 s → SE x1 s = some q → bE 1 s q.2) (hsN : ∀ {s : fS} {q}, bS 1 s → SN s = some q → bE 1 s q.2) {s : fS} {l2 : Int} {l4 : Int} {s0 : Int} (E : bE 1 σo s) (hF : FX35_sizeFrom_b168 N SE SN l2 l4 s0 s = some q) : bE 1 σo q.2 := by
  unfold FX35_sizeFrom_b168 at hF
  exact BX35_sizeFrom_b190 (N := N) (SE := SE) (SN := SN) @hsE @hsN E hF
theorem BX35_sizeFrom_b146 {σo : fS} {q : Int × fS} {N : Nat} {SE : Int → fS → Option (Unit × fS)} {SN : fS → Option (Int × fS)} (hsE : ∀ {s : fS} {x1 : Int} {q}, bS 1 s → SE x1 s = some q → bE 1 s q.2) (hsN : ∀ {s : fS} {q}, bS 1 s → SN s = some q → bE 1 s q.2) {s : fS} {l2 : Int} {l4 : Int} {l7 : Int} {l9 : Int} (E : bE 1 σo s) (hF : FX35_sizeFrom_b146 N SE SN l2 l4 l7 l9 s = some q) : bE 1 σo q.2 := by
  unfold FX35_sizeFrom_b146 at hF
  refine b_if hF (fun hF => ?_) (fun hF => ?_)
  ·
    refine b_call E (fun _ hq => (BX35_times (bE.rf E.S) hq)) hF (fun _ hq2 D2 E2 hF => ?_)
    exact BX35_sizeFrom_b168 (N := N) (SE := SE) (SN := SN) @hsE @hsN E2 hF
  ·
    exact BX35_sizeFrom_b168 (N := N) (SE := SE) (SN := SN) @hsE @hsN E hF
theorem BX35_sizeFrom_b117 {σo : fS} {q : Int × fS} {N : Nat} {SE : Int → fS → Option (Unit × fS)} {SN : fS → Option (Int × fS)} (hsE : ∀ {s : fS} {x1 : Int} {q}, bS 1 s → SE x1 s = some q → bE 1 s q.2) (hsN : ∀ {s : fS} {q}, bS 1 s → SN s = some q → bE 1 s q.2) {s : fS} {l2 : Int} {l4 : Int} {l7 : Int} {l9 : Int} (E : bE 1 σo s) (hF : FX35_sizeFrom_b117 N SE SN l2 l4 l7 l9 s = some q) : bE 1 σo q.2 := by
  unfold FX35_sizeFrom_b117 at hF
  refine b_call E (fun _ hq => (BX35_dropSpace (N := N) (SE := SE) @hsE (bE.rf E.S) hq)) hF (fun _ hq2 D2 E2 hF => ?_)
  refine b_if hF (fun hF => ?_) (fun hF => ?_)
  ·
    exact BX35_sizeFrom_b146 (N := N) (SE := SE) (SN := SN) @hsE @hsN E2 hF
  ·
    refine b_if hF (fun hF => ?_) (fun hF => ?_)
    ·
      exact BX35_sizeFrom_b146 (N := N) (SE := SE) (SN := SN) @hsE @hsN E2 hF
    ·
      refine b_call E2 (fun _ hq => (BX35_fail (bE.rf E2.S) hq)) hF (fun _ hq5 D5 E5 hF => ?_)
      exact BX35_sizeFrom_b146 (N := N) (SE := SE) (SN := SN) @hsE @hsN E5 hF
theorem BX35_sizeFrom_b88 {σo : fS} {q : Int × fS} {N : Nat} {SE : Int → fS → Option (Unit × fS)} {SN : fS → Option (Int × fS)} (hsE : ∀ {s : fS} {x1 : Int} {q}, bS 1 s → SE x1 s = some q → bE 1 s q.2) (hsN : ∀ {s : fS} {q}, bS 1 s → SN s = some q → bE 1 s q.2) : ∀ {n : Nat} {s : fS} {l2 : Int} {l4 : Int} {l7 : Int} {l9 : Int}, bE 1 σo s → FX35_sizeFrom_b88 N SE SN n l2 l4 l7 l9 s = some q → bE 1 σo q.2 := by
  intro n
  induction n with
  | zero => intro s l2 l4 l7 l9 E  hF; simp [FX35_sizeFrom_b88] at hF
  | succ n ih =>
    intro s l2 l4 l7 l9 E  hF
    rw [FX35_sizeFrom_b88] at hF
    refine b_if hF (fun hF => ?_) (fun hF => ?_)
    ·
      exact BX35_sizeFrom_b117 (N := N) (SE := SE) (SN := SN) @hsE @hsN E hF
    ·
      refine b_if hF (fun hF => ?_) (fun hF => ?_)
      ·
        exact BX35_sizeFrom_b117 (N := N) (SE := SE) (SN := SN) @hsE @hsN E hF
      ·
        refine b_call E (fun _ hq => (BX35_keyword (N := N) (SE := SE) @hsE (bE.rf E.S) hq)) hF (fun _ hq3 D3 E3 hF => ?_)
        refine b_if hF (fun hF => ?_) (fun hF => ?_)
        ·
          exact BX35_sizeFrom_b117 (N := N) (SE := SE) (SN := SN) @hsE @hsN E3 hF
        ·
          exact ih E3 hF
theorem BX35_sizeFrom_b173 {σo : fS} {q : Int × fS} {N : Nat} {SE : Int → fS → Option (Unit × fS)} {SN : fS → Option (Int × fS)} (hsE : ∀ {s : fS} {x1 : Int} {q}, bS 1 s → SE x1 s = some q → bE 1 s q.2) (hsN : ∀ {s : fS} {q}, bS 1 s → SN s = some q → bE 1 s q.2) {s : fS} {l2 : Int} {l4 : Int} {l5 : Int} {l7 : Int} {l9 : Int} (E : bE 1 σo s) (hF : FX35_sizeFrom_b173 N SE SN l2 l4 l5 l7 l9 s = some q) : bE 1 σo q.2 := by
  unfold FX35_sizeFrom_b173 at hF
  refine b_if hF (fun hF => ?_) (fun hF => ?_)
  ·
    exact BX35_sizeFrom_b190 (N := N) (SE := SE) (SN := SN) @hsE @hsN E hF
  ·
    refine b_call E (fun _ hq => (BX35_measured (N := N) (SE := SE) (SN := SN) @hsE @hsN (bE.rf E.S) hq)) hF (fun _ hq3 D3 E3 hF => ?_)
    exact BX35_sizeFrom_b190 (N := N) (SE := SE) (SN := SN) @hsE @hsN E3 hF
theorem BX35_sizeFrom_b40 {σo : fS} {q : Int × fS} {N : Nat} {SE : Int → fS → Option (Unit × fS)} {SN : fS → Option (Int × fS)} (hsE : ∀ {s : fS} {x1 : Int} {q}, bS 1 s → SE x1 s = some q → bE 1 s q.2) (hsN : ∀ {s : fS} {q}, bS 1 s → SN s = some q → bE 1 s q.2) {s : fS} {l1 : Int} {l2 : Int} {l3 : Int} {l4 : Int} {l5 : Int} (E : bE 1 σo s) (hF : FX35_sizeFrom_b40 N SE SN l1 l2 l3 l4 l5 s = some q) : bE 1 σo q.2 := by
  unfold FX35_sizeFrom_b40 at hF
  refine b_if hF (fun hF => ?_) (fun hF => ?_)
  ·
    exact BX35_sizeFrom_b190 (N := N) (SE := SE) (SN := SN) @hsE @hsN E hF
  ·
    refine b_call E (fun _ hq => (BX35_factor (N := N) (SE := SE) (SN := SN) @hsE @hsN (bE.rf E.S) hq)) hF (fun _ hq3 D3 E3 hF => ?_)
    refine b_if hF (fun hF => ?_) (fun hF => ?_)
    ·
      exact BX35_sizeFrom_b173 (N := N) (SE := SE) (SN := SN) @hsE @hsN E3 hF
    ·
      refine b_if hF (fun hF => ?_) (fun hF => ?_)
      ·
        exact BX35_sizeFrom_b173 (N := N) (SE := SE) (SN := SN) @hsE @hsN E3 hF
      ·
        refine b_call E3 (fun _ hq => (BX35_keyword (N := N) (SE := SE) @hsE (bE.rf E3.S) hq)) hF (fun _ hq8 D8 E8 hF => ?_)
        refine b_if hF (fun hF => ?_) (fun hF => ?_)
        ·
          exact BX35_sizeFrom_b173 (N := N) (SE := SE) (SN := SN) @hsE @hsN E8 hF
        ·
          exact BX35_sizeFrom_b88 (N := N) (SE := SE) (SN := SN) @hsE @hsN E8 hF
theorem BX35_sizeFrom {σo : fS} {q : Int × fS} {N : Nat} {SE : Int → fS → Option (Unit × fS)} {SN : fS → Option (Int × fS)} (hsE : ∀ {s : fS} {x1 : Int} {q}, bS 1 s → SE x1 s = some q → bE 1 s q.2) (hsN : ∀ {s : fS} {q}, bS 1 s → SN s = some q → bE 1 s q.2) {s : fS} {p0 : Int} {p1 : Int} {p2 : Int} (E : bE 1 σo s) (hF : FX35_sizeFrom N SE SN p0 p1 p2 s = some q) : bE 1 σo q.2 := by
  unfold FX35_sizeFrom at hF
  refine b_if hF (fun hF => ?_) (fun hF => ?_)
  ·
    exact BX35_sizeFrom_b40 (N := N) (SE := SE) (SN := SN) @hsE @hsN E hF
  ·
    refine b_call E (fun _ hq => (BX35_hasLength (bE.rf E.S) hq)) hF (fun _ hq3 D3 E3 hF => ?_)
    refine b_if hF (fun hF => ?_) (fun hF => ?_)
    ·
      exact BX35_sizeFrom_b29 (N := N) (SE := SE) (SN := SN) @hsE @hsN E3 hF
    ·
      refine b_call E3 (fun _ hq => (BX35_hasGlue (bE.rf E3.S) hq)) hF (fun _ hq5 D5 E5 hF => ?_)
      refine b_if hF (fun hF => ?_) (fun hF => ?_)
      ·
        exact BX35_sizeFrom_b40 (N := N) (SE := SE) (SN := SN) @hsE @hsN E5 hF
      ·
        exact BX35_sizeFrom_b29 (N := N) (SE := SE) (SN := SN) @hsE @hsN E5 hF
theorem BX35_dimension {σo : fS} {q : Int × fS} {N : Nat} {SE : Int → fS → Option (Unit × fS)} {SN : fS → Option (Int × fS)} (hsE : ∀ {s : fS} {x1 : Int} {q}, bS 1 s → SE x1 s = some q → bE 1 s q.2) (hsN : ∀ {s : fS} {q}, bS 1 s → SN s = some q → bE 1 s q.2) {s : fS} (E : bE 1 σo s) (hF : FX35_dimension N SE SN s = some q) : bE 1 σo q.2 := by
  unfold FX35_dimension at hF
  refine b_call E (fun _ hq => (BX35_signs (N := N) (SE := SE) @hsE (bE.rf E.S) hq)) hF (fun _ hq2 D2 E2 hF => ?_)
  refine b_call E2 (fun _ hq => (BX35_sizeFrom (N := N) (SE := SE) (SN := SN) @hsE @hsN (bE.rf E2.S) hq)) hF (fun _ hq6 D6 E6 hF => ?_)
  exact b_ret E6 hF
theorem BX35_compareSizes_b113 {σo : fS} {q : Int × fS} {N : Nat} {SE : Int → fS → Option (Unit × fS)} {SN : fS → Option (Int × fS)} (hsE : ∀ {s : fS} {x1 : Int} {q}, bS 1 s → SE x1 s = some q → bE 1 s q.2) (hsN : ∀ {s : fS} {q}, bS 1 s → SN s = some q → bE 1 s q.2) {s : fS} {s0 : Int} (E : bE 1 σo s) (hF : FX35_compareSizes_b113 N SE SN s0 s = some q) : bE 1 σo q.2 := by
  unfold FX35_compareSizes_b113 at hF
  exact b_z E hF
theorem BX35_compareSizes_b108 {σo : fS} {q : Int × fS} {N : Nat} {SE : Int → fS → Option (Unit × fS)} {SN : fS → Option (Int × fS)} (hsE : ∀ {s : fS} {x1 : Int} {q}, bS 1 s → SE x1 s = some q → bE 1 s q.2) (hsN : ∀ {s : fS} {q}, bS 1 s → SN s = some q → bE 1 s q.2) {s : fS} (E : bE 1 σo s) (hF : FX35_compareSizes_b108 N SE SN s = some q) : bE 1 σo q.2 := by
  unfold FX35_compareSizes_b108 at hF
  exact BX35_compareSizes_b113 (N := N) (SE := SE) (SN := SN) @hsE @hsN E hF
theorem BX35_compareSizes_b112 {σo : fS} {q : Int × fS} {N : Nat} {SE : Int → fS → Option (Unit × fS)} {SN : fS → Option (Int × fS)} (hsE : ∀ {s : fS} {x1 : Int} {q}, bS 1 s → SE x1 s = some q → bE 1 s q.2) (hsN : ∀ {s : fS} {q}, bS 1 s → SN s = some q → bE 1 s q.2) {s : fS} (E : bE 1 σo s) (hF : FX35_compareSizes_b112 N SE SN s = some q) : bE 1 σo q.2 := by
  unfold FX35_compareSizes_b112 at hF
  exact BX35_compareSizes_b113 (N := N) (SE := SE) (SN := SN) @hsE @hsN E hF
theorem BX35_compareSizes_b62 {σo : fS} {q : Int × fS} {N : Nat} {SE : Int → fS → Option (Unit × fS)} {SN : fS → Option (Int × fS)} (hsE : ∀ {s : fS} {x1 : Int} {q}, bS 1 s → SE x1 s = some q → bE 1 s q.2) (hsN : ∀ {s : fS} {q}, bS 1 s → SN s = some q → bE 1 s q.2) {s : fS} {l1 : Int} {l3 : Int} {l4 : Int} (E : bE 1 σo s) (hF : FX35_compareSizes_b62 N SE SN l1 l3 l4 s = some q) : bE 1 σo q.2 := by
  unfold FX35_compareSizes_b62 at hF
  refine b_call E (fun _ hq => (BX35_dimension (N := N) (SE := SE) (SN := SN) @hsE @hsN (bE.rf E.S) hq)) hF (fun _ hq2 D2 E2 hF => ?_)
  refine b_if hF (fun hF => ?_) (fun hF => ?_)
  ·
    exact BX35_compareSizes_b112 (N := N) (SE := SE) (SN := SN) @hsE @hsN E2 hF
  ·
    refine b_if hF (fun hF => ?_) (fun hF => ?_)
    ·
      refine b_if hF (fun hF => ?_) (fun hF => ?_)
      ·
        refine b_if hF (fun hF => ?_) (fun hF => ?_)
        ·
          exact BX35_compareSizes_b112 (N := N) (SE := SE) (SN := SN) @hsE @hsN E2 hF
        ·
          exact BX35_compareSizes_b108 (N := N) (SE := SE) (SN := SN) @hsE @hsN E2 hF
      ·
        refine b_if hF (fun hF => ?_) (fun hF => ?_)
        ·
          exact BX35_compareSizes_b112 (N := N) (SE := SE) (SN := SN) @hsE @hsN E2 hF
        ·
          exact BX35_compareSizes_b108 (N := N) (SE := SE) (SN := SN) @hsE @hsN E2 hF
    ·
      refine b_if hF (fun hF => ?_) (fun hF => ?_)
      ·
        exact BX35_compareSizes_b112 (N := N) (SE := SE) (SN := SN) @hsE @hsN E2 hF
      ·
        exact BX35_compareSizes_b108 (N := N) (SE := SE) (SN := SN) @hsE @hsN E2 hF
theorem BX35_compareSizes {σo : fS} {q : Int × fS} {N : Nat} {SE : Int → fS → Option (Unit × fS)} {SN : fS → Option (Int × fS)} (hsE : ∀ {s : fS} {x1 : Int} {q}, bS 1 s → SE x1 s = some q → bE 1 s q.2) (hsN : ∀ {s : fS} {q}, bS 1 s → SN s = some q → bE 1 s q.2) {s : fS} (E : bE 1 σo s) (hF : FX35_compareSizes N SE SN s = some q) : bE 1 σo q.2 := by
  unfold FX35_compareSizes at hF
  refine b_call E (fun _ hq => (BX35_dimension (N := N) (SE := SE) (SN := SN) @hsE @hsN (bE.rf E.S) hq)) hF (fun _ hq2 D2 E2 hF => ?_)
  refine b_call E2 (fun _ hq => (BX35_needExpandedNoSpace (N := N) (SE := SE) @hsE (bE.rf E2.S) hq)) hF (fun _ hq4 D4 E4 hF => ?_)
  refine b_call E4 (fun _ hq => (BX35_is (bE.rf E4.S) hq)) hF (fun _ hq5 D5 E5 hF => ?_)
  refine b_call E5 (fun _ hq => (BX35_is (bE.rf E5.S) hq)) hF (fun _ hq6 D6 E6 hF => ?_)
  refine b_if hF (fun hF => ?_) (fun hF => ?_)
  ·
    exact BX35_compareSizes_b62 (N := N) (SE := SE) (SN := SN) @hsE @hsN E6 hF
  ·
    refine b_if hF (fun hF => ?_) (fun hF => ?_)
    ·
      exact BX35_compareSizes_b62 (N := N) (SE := SE) (SN := SN) @hsE @hsN E6 hF
    ·
      refine b_if hF (fun hF => ?_) (fun hF => ?_)
      ·
        exact BX35_compareSizes_b62 (N := N) (SE := SE) (SN := SN) @hsE @hsN E6 hF
      ·
        refine b_call E6 (fun _ hq => (BX35_is (bE.rf E6.S) hq)) hF (fun _ hq8 D8 E8 hF => ?_)
        refine b_if hF (fun hF => ?_) (fun hF => ?_)
        ·
          exact BX35_compareSizes_b62 (N := N) (SE := SE) (SN := SN) @hsE @hsN E8 hF
        ·
          refine b_call E8 (fun _ hq => (BX35_fail (bE.rf E8.S) hq)) hF (fun _ hq10 D10 E10 hF => ?_)
          exact BX35_compareSizes_b62 (N := N) (SE := SE) (SN := SN) @hsE @hsN E10 hF
theorem BX35_shape_b32 {σo : fS} {q : Int × fS} {s : fS} {s0 : Int} (E : bE 1 σo s) (hF : FX35_shape_b32 s0 s = some q) : bE 1 σo q.2 := by
  unfold FX35_shape_b32 at hF
  exact b_ret E hF
theorem BX35_shape_b20 {σo : fS} {q : Int × fS} {s : fS} {l2 : Int} (E : bE 1 σo s) (hF : FX35_shape_b20 l2 s = some q) : bE 1 σo q.2 := by
  unfold FX35_shape_b20 at hF
  refine b_if hF (fun hF => ?_) (fun hF => ?_)
  ·
    exact BX35_shape_b32 E hF
  ·
    exact BX35_shape_b32 E hF
theorem BX35_shape_b58 {σo : fS} {q : Int × fS} {s : fS} {s0 : Int} (E : bE 1 σo s) (hF : FX35_shape_b58 s0 s = some q) : bE 1 σo q.2 := by
  unfold FX35_shape_b58 at hF
  exact b_ret E hF
theorem BX35_shape {σo : fS} {q : Int × fS} {s : fS} {p0 : Int} {p1 : Int} (E : bE 1 σo s) (hF : FX35_shape p0 p1 s = some q) : bE 1 σo q.2 := by
  unfold FX35_shape at hF
  refine b_call E (fun _ hq => (BX35_meaning (bE.rf E.S) hq)) hF (fun _ hq2 D2 E2 hF => ?_)
  refine b_if hF (fun hF => ?_) (fun hF => ?_)
  ·
    exact BX35_shape_b20 E2 hF
  ·
    refine b_if hF (fun hF => ?_) (fun hF => ?_)
    ·
      refine b_if hF (fun hF => ?_) (fun hF => ?_)
      ·
        exact BX35_shape_b58 E2 hF
      ·
        exact BX35_shape_b58 E2 hF
    ·
      exact BX35_shape_b20 E2 hF
theorem BX35_meanSame_b33 {σo : fS} {q : Int × fS} {N : Nat} {s : fS} (E : bE 1 σo s) (hF : FX35_meanSame_b33 N s = some q) : bE 1 σo q.2 := by
  unfold FX35_meanSame_b33 at hF
  exact b_ret E hF
theorem BX35_meanSame_b178 {σo : fS} {q : Int × fS} {N : Nat} {K118 : Int → Int → Int → Int → fS → Option (Int × fS)} (hk118 : ∀ {s : fS} {l3 : Int} {l4 : Int} {l5 : Int} {l6 : Int}, bE 1 σo s → K118 l3 l4 l5 l6 s = some q → bE 1 σo q.2) {s : fS} {l3 : Int} {l4 : Int} {l6 : Int} {s0 : Int} (E : bE 1 σo s) (hF : FX35_meanSame_b178 N K118 l3 l4 l6 s0 s = some q) : bE 1 σo q.2 := by
  unfold FX35_meanSame_b178 at hF
  exact hk118 E hF
theorem BX35_meanSame_b186 {σo : fS} {q : Int × fS} {N : Nat} {s : fS} {l5 : Int} (E : bE 1 σo s) (hF : FX35_meanSame_b186 N l5 s = some q) : bE 1 σo q.2 := by
  unfold FX35_meanSame_b186 at hF
  exact b_z E hF
theorem BX35_meanSame_b118 {σo : fS} {q : Int × fS} {N : Nat} : ∀ {n : Nat} {s : fS} {l3 : Int} {l4 : Int} {l5 : Int} {l6 : Int}, bE 1 σo s → FX35_meanSame_b118 N n l3 l4 l5 l6 s = some q → bE 1 σo q.2 := by
  intro n
  induction n with
  | zero => intro s l3 l4 l5 l6 E  hF; simp [FX35_meanSame_b118] at hF
  | succ n ih =>
    intro s l3 l4 l5 l6 E  hF
    rw [FX35_meanSame_b118] at hF
    refine b_if hF (fun hF => ?_) (fun hF => ?_)
    ·
      exact BX35_meanSame_b186 (N := N) E hF
    ·
      refine b_rv hF (fun _ hF => ?_)
      refine b_rv hF (fun _ hF => ?_)
      refine b_if hF (fun hF => ?_) (fun hF => ?_)
      ·
        exact BX35_meanSame_b186 (N := N) E hF
      ·
        refine b_rv hF (fun _ hF => ?_)
        refine b_rv hF (fun _ hF => ?_)
        refine b_rv hF (fun _ hF => ?_)
        refine b_rv hF (fun _ hF => ?_)
        refine b_if hF (fun hF => ?_) (fun hF => ?_)
        ·
          exact BX35_meanSame_b178 (N := N) (K118 := FX35_meanSame_b118 N n) @ih E hF
        ·
          exact BX35_meanSame_b178 (N := N) (K118 := FX35_meanSame_b118 N n) @ih E hF
theorem BX35_meanSame_b113 {σo : fS} {q : Int × fS} {N : Nat} {s : fS} {l3 : Int} {l4 : Int} {s0 : Int} (E : bE 1 σo s) (hF : FX35_meanSame_b113 N l3 l4 s0 s = some q) : bE 1 σo q.2 := by
  unfold FX35_meanSame_b113 at hF
  exact BX35_meanSame_b118 (N := N) E hF
theorem BX35_meanSame_b112 {σo : fS} {q : Int × fS} {N : Nat} {s : fS} {l3 : Int} {l4 : Int} (E : bE 1 σo s) (hF : FX35_meanSame_b112 N l3 l4 s = some q) : bE 1 σo q.2 := by
  unfold FX35_meanSame_b112 at hF
  exact BX35_meanSame_b113 (N := N) E hF
theorem BX35_meanSame {σo : fS} {q : Int × fS} {N : Nat} {s : fS} {p0 : Int} {p1 : Int} (E : bE 1 σo s) (hF : FX35_meanSame N p0 p1 s = some q) : bE 1 σo q.2 := by
  unfold FX35_meanSame at hF
  refine b_if hF (fun hF => ?_) (fun hF => ?_)
  ·
    refine b_if hF (fun hF => ?_) (fun hF => ?_)
    ·
      exact BX35_meanSame_b33 (N := N) E hF
    ·
      refine b_if hF (fun hF => ?_) (fun hF => ?_)
      ·
        exact BX35_meanSame_b33 (N := N) E hF
      ·
        refine b_if hF (fun hF => ?_) (fun hF => ?_)
        ·
          exact BX35_meanSame_b33 (N := N) E hF
        ·
          refine b_if hF (fun hF => ?_) (fun hF => ?_)
          ·
            refine b_rv hF (fun _ hF => ?_)
            refine b_rv hF (fun _ hF => ?_)
            refine b_rv hF (fun _ hF => ?_)
            refine b_rv hF (fun _ hF => ?_)
            refine b_if hF (fun hF => ?_) (fun hF => ?_)
            ·
              exact BX35_meanSame_b112 (N := N) E hF
            ·
              refine b_rv hF (fun _ hF => ?_)
              refine b_rv hF (fun _ hF => ?_)
              refine b_rv hF (fun _ hF => ?_)
              refine b_rv hF (fun _ hF => ?_)
              refine b_if hF (fun hF => ?_) (fun hF => ?_)
              ·
                exact BX35_meanSame_b112 (N := N) E hF
              ·
                exact BX35_meanSame_b113 (N := N) E hF
          ·
            exact BX35_meanSame_b33 (N := N) E hF
  ·
    exact b_ret E hF
theorem BX35_drop_b198 {σo : fS} {q : Unit × fS} {N : Nat} {K15 : Int → Int → Int → Int → Int → fS → Option (Unit × fS)} (hk15 : ∀ {s : fS} {l1 : Int} {l2 : Int} {l3 : Int} {l4 : Int} {l5 : Int}, bE 1 σo s → K15 l1 l2 l3 l4 l5 s = some q → bE 1 σo q.2) {s : fS} {l1 : Int} {l2 : Int} {l3 : Int} {l4 : Int} {l5 : Int} (E : bE 1 σo s) (hF : FX35_drop_b198 N K15 l1 l2 l3 l4 l5 s = some q) : bE 1 σo q.2 := by
  unfold FX35_drop_b198 at hF
  exact hk15 E hF
theorem BX35_drop_b85 {σo : fS} {q : Unit × fS} {N : Nat} {K15 : Int → Int → Int → Int → Int → fS → Option (Unit × fS)} (hk15 : ∀ {s : fS} {l1 : Int} {l2 : Int} {l3 : Int} {l4 : Int} {l5 : Int}, bE 1 σo s → K15 l1 l2 l3 l4 l5 s = some q → bE 1 σo q.2) {s : fS} {l1 : Int} {l2 : Int} {l3 : Int} {l4 : Int} {l5 : Int} {s1 : Int} (E : bE 1 σo s) (hF : FX35_drop_b85 N K15 l1 l2 l3 l4 l5 s1 s = some q) : bE 1 σo q.2 := by
  unfold FX35_drop_b85 at hF
  refine b_pI E (E.S.m1 (Nat.le_of_ble_eq_true rfl) (Nat.le_of_ble_eq_true rfl)) hF (fun _ D1 E1 hF => ?_)
  exact BX35_drop_b198 (N := N) (K15 := K15) @hk15 E1 hF
theorem BX35_drop_b69 {σo : fS} {q : Unit × fS} {N : Nat} {K15 : Int → Int → Int → Int → Int → fS → Option (Unit × fS)} (hk15 : ∀ {s : fS} {l1 : Int} {l2 : Int} {l3 : Int} {l4 : Int} {l5 : Int}, bE 1 σo s → K15 l1 l2 l3 l4 l5 s = some q → bE 1 σo q.2) {s : fS} {l1 : Int} {l2 : Int} {l3 : Int} {l4 : Int} {s0 : Int} (E : bE 1 σo s) (hF : FX35_drop_b69 N K15 l1 l2 l3 l4 s0 s = some q) : bE 1 σo q.2 := by
  unfold FX35_drop_b69 at hF
  refine b_if hF (fun hF => ?_) (fun hF => ?_)
  ·
    exact BX35_drop_b85 (N := N) (K15 := K15) @hk15 E hF
  ·
    exact BX35_drop_b85 (N := N) (K15 := K15) @hk15 E hF
theorem BX35_drop_b195 {σo : fS} {q : Unit × fS} {N : Nat} {K15 : Int → Int → Int → Int → Int → fS → Option (Unit × fS)} (hk15 : ∀ {s : fS} {l1 : Int} {l2 : Int} {l3 : Int} {l4 : Int} {l5 : Int}, bE 1 σo s → K15 l1 l2 l3 l4 l5 s = some q → bE 1 σo q.2) {s : fS} {l1 : Int} {l2 : Int} {l3 : Int} {l4 : Int} {l5 : Int} {s1 : Int} (E : bE 1 σo s) (hF : FX35_drop_b195 N K15 l1 l2 l3 l4 l5 s1 s = some q) : bE 1 σo q.2 := by
  unfold FX35_drop_b195 at hF
  refine b_pI E (E.S.m1 (Nat.le_of_ble_eq_true rfl) (Nat.le_of_ble_eq_true rfl)) hF (fun _ D1 E1 hF => ?_)
  exact BX35_drop_b198 (N := N) (K15 := K15) @hk15 E1 hF
theorem BX35_drop_b177 {σo : fS} {q : Unit × fS} {N : Nat} {K15 : Int → Int → Int → Int → Int → fS → Option (Unit × fS)} (hk15 : ∀ {s : fS} {l1 : Int} {l2 : Int} {l3 : Int} {l4 : Int} {l5 : Int}, bE 1 σo s → K15 l1 l2 l3 l4 l5 s = some q → bE 1 σo q.2) {s : fS} {l1 : Int} {l2 : Int} {l3 : Int} {l4 : Int} {s0 : Int} (E : bE 1 σo s) (hF : FX35_drop_b177 N K15 l1 l2 l3 l4 s0 s = some q) : bE 1 σo q.2 := by
  unfold FX35_drop_b177 at hF
  refine b_if hF (fun hF => ?_) (fun hF => ?_)
  ·
    exact BX35_drop_b195 (N := N) (K15 := K15) @hk15 E hF
  ·
    exact BX35_drop_b195 (N := N) (K15 := K15) @hk15 E hF
theorem BX35_drop_b172 {σo : fS} {q : Unit × fS} {N : Nat} {K15 : Int → Int → Int → Int → Int → fS → Option (Unit × fS)} (hk15 : ∀ {s : fS} {l1 : Int} {l2 : Int} {l3 : Int} {l4 : Int} {l5 : Int}, bE 1 σo s → K15 l1 l2 l3 l4 l5 s = some q → bE 1 σo q.2) {s : fS} {l1 : Int} {l2 : Int} {l3 : Int} {l4 : Int} (E : bE 1 σo s) (hF : FX35_drop_b172 N K15 l1 l2 l3 l4 s = some q) : bE 1 σo q.2 := by
  unfold FX35_drop_b172 at hF
  exact BX35_drop_b177 (N := N) (K15 := K15) @hk15 E hF
theorem BX35_drop_b159 {σo : fS} {q : Unit × fS} {N : Nat} {K15 : Int → Int → Int → Int → Int → fS → Option (Unit × fS)} (hk15 : ∀ {s : fS} {l1 : Int} {l2 : Int} {l3 : Int} {l4 : Int} {l5 : Int}, bE 1 σo s → K15 l1 l2 l3 l4 l5 s = some q → bE 1 σo q.2) {s : fS} {l1 : Int} {l2 : Int} {l3 : Int} {l4 : Int} (E : bE 1 σo s) (hF : FX35_drop_b159 N K15 l1 l2 l3 l4 s = some q) : bE 1 σo q.2 := by
  unfold FX35_drop_b159 at hF
  refine b_if hF (fun hF => ?_) (fun hF => ?_)
  ·
    exact BX35_drop_b172 (N := N) (K15 := K15) @hk15 E hF
  ·
    refine b_if hF (fun hF => ?_) (fun hF => ?_)
    ·
      exact BX35_drop_b177 (N := N) (K15 := K15) @hk15 E hF
    ·
      exact BX35_drop_b172 (N := N) (K15 := K15) @hk15 E hF
theorem BX35_drop_b129 {σo : fS} {q : Unit × fS} {N : Nat} {K15 : Int → Int → Int → Int → Int → fS → Option (Unit × fS)} (hk15 : ∀ {s : fS} {l1 : Int} {l2 : Int} {l3 : Int} {l4 : Int} {l5 : Int}, bE 1 σo s → K15 l1 l2 l3 l4 l5 s = some q → bE 1 σo q.2) {s : fS} {l1 : Int} {l2 : Int} {l3 : Int} {l4 : Int} {l5 : Int} {l6 : Int} (E : bE 1 σo s) (hF : FX35_drop_b129 N K15 l1 l2 l3 l4 l5 l6 s = some q) : bE 1 σo q.2 := by
  unfold FX35_drop_b129 at hF
  refine b_if hF (fun hF => ?_) (fun hF => ?_)
  ·
    exact BX35_drop_b198 (N := N) (K15 := K15) @hk15 E hF
  ·
    refine b_call E (fun _ hq => (BX35_means (bE.rf E.S) hq)) hF (fun _ hq2 D2 E2 hF => ?_)
    refine b_if hF (fun hF => ?_) (fun hF => ?_)
    ·
      exact BX35_drop_b198 (N := N) (K15 := K15) @hk15 E2 hF
    ·
      refine b_rv hF (fun _ hF => ?_)
      refine b_if hF (fun hF => ?_) (fun hF => ?_)
      ·
        exact BX35_drop_b159 (N := N) (K15 := K15) @hk15 E2 hF
      ·
        refine b_call E2 (fun _ hq => (BX35_fail (bE.rf E2.S) hq)) hF (fun _ hq6 D6 E6 hF => ?_)
        exact BX35_drop_b159 (N := N) (K15 := K15) @hk15 E6 hF
theorem BX35_drop_b15 {σo : fS} {q : Unit × fS} {N : Nat} : ∀ {n : Nat} {s : fS} {l1 : Int} {l2 : Int} {l3 : Int} {l4 : Int} {l5 : Int}, bE 1 σo s → FX35_drop_b15 N n l1 l2 l3 l4 l5 s = some q → bE 1 σo q.2 := by
  intro n
  induction n with
  | zero => intro s l1 l2 l3 l4 l5 E  hF; simp [FX35_drop_b15] at hF
  | succ n ih =>
    intro s l1 l2 l3 l4 l5 E  hF
    rw [FX35_drop_b15] at hF
    refine b_if hF (fun hF => ?_) (fun hF => ?_)
    ·
      exact b_ret E hF
    ·
      refine b_call E (fun _ hq => (BX35_need (N := N) (bE.rf E.S) hq)) hF (fun _ hq2 D2 E2 hF => ?_)
      refine b_if hF (fun hF => ?_) (fun hF => ?_)
      ·
        refine b_call E2 (fun _ hq => (BX35_isCondition (bE.rf E2.S) hq)) hF (fun _ hq5 D5 E5 hF => ?_)
        refine b_if hF (fun hF => ?_) (fun hF => ?_)
        ·
          refine b_call E5 (fun _ hq => (BX35_means (bE.rf E5.S) hq)) hF (fun _ hq7 D7 E7 hF => ?_)
          refine b_if hF (fun hF => ?_) (fun hF => ?_)
          ·
            refine b_if hF (fun hF => ?_) (fun hF => ?_)
            ·
              exact BX35_drop_b129 (N := N) (K15 := FX35_drop_b15 N n) @ih E7 hF
            ·
              refine b_call E7 (fun _ hq => (BX35_means (bE.rf E7.S) hq)) hF (fun _ hq9 D9 E9 hF => ?_)
              refine b_if hF (fun hF => ?_) (fun hF => ?_)
              ·
                exact BX35_drop_b129 (N := N) (K15 := FX35_drop_b15 N n) @ih E9 hF
              ·
                refine b_qI E9 (E9.S.m1 (Nat.le_of_ble_eq_true rfl) (Nat.le_of_ble_eq_true rfl)) hF (fun _ D11 E11 hF => ?_)
                refine b_pI E11 (E11.S.m1 (Nat.le_of_ble_eq_true rfl) (Nat.le_of_ble_eq_true rfl)) hF (fun _ D12 E12 hF => ?_)
                exact BX35_drop_b198 (N := N) (K15 := FX35_drop_b15 N n) @ih E12 hF
          ·
            refine b_if hF (fun hF => ?_) (fun hF => ?_)
            ·
              exact BX35_drop_b69 (N := N) (K15 := FX35_drop_b15 N n) @ih E7 hF
            ·
              exact BX35_drop_b69 (N := N) (K15 := FX35_drop_b15 N n) @ih E7 hF
        ·
          exact BX35_drop_b198 (N := N) (K15 := FX35_drop_b15 N n) @ih E5 hF
      ·
        exact b_ret E2 hF
theorem BX35_drop {σo : fS} {q : Unit × fS} {N : Nat} {s : fS} {p0 : Int} {p1 : Int} (E : bE 1 σo s) (hF : FX35_drop N p0 p1 s = some q) : bE 1 σo q.2 := by
  unfold FX35_drop at hF
  exact BX35_drop_b15 (N := N) E hF
theorem BX35_condition_b399 {σo : fS} {q : Unit × fS} {N : Nat} {SE : Int → fS → Option (Unit × fS)} {SN : fS → Option (Int × fS)} (hsE : ∀ {s : fS} {x1 : Int} {q}, bS 1 s → SE x1 s = some q → bE 1 s q.2) (hsN : ∀ {s : fS} {q}, bS 1 s → SN s = some q → bE 1 s q.2) {s : fS} (E : bE 1 σo s) (hF : FX35_condition_b399 N SE SN s = some q) : bE 1 σo q.2 := by
  unfold FX35_condition_b399 at hF
  exact b_ret E hF
theorem BX35_condition_b396 {σo : fS} {q : Unit × fS} {N : Nat} {SE : Int → fS → Option (Unit × fS)} {SN : fS → Option (Int × fS)} (hsE : ∀ {s : fS} {x1 : Int} {q}, bS 1 s → SE x1 s = some q → bE 1 s q.2) (hsN : ∀ {s : fS} {q}, bS 1 s → SN s = some q → bE 1 s q.2) {s : fS} {s1 : Int} {s2 : Int} (E : bE 1 σo s) (hF : FX35_condition_b396 N SE SN s1 s2 s = some q) : bE 1 σo q.2 := by
  unfold FX35_condition_b396 at hF
  refine b_call E (fun _ hq => (BX35_drop (N := N) (bE.rf E.S) hq)) hF (fun _ hq2 D2 E2 hF => ?_)
  exact BX35_condition_b399 (N := N) (SE := SE) (SN := SN) @hsE @hsN E2 hF
theorem BX35_condition_b363 {σo : fS} {q : Unit × fS} {N : Nat} {SE : Int → fS → Option (Unit × fS)} {SN : fS → Option (Int × fS)} (hsE : ∀ {s : fS} {x1 : Int} {q}, bS 1 s → SE x1 s = some q → bE 1 s q.2) (hsN : ∀ {s : fS} {q}, bS 1 s → SN s = some q → bE 1 s q.2) {s : fS} {l1 : Int} {l2 : Int} {l3 : Int} {l4 : Int} (E : bE 1 σo s) (hF : FX35_condition_b363 N SE SN l1 l2 l3 l4 s = some q) : bE 1 σo q.2 := by
  unfold FX35_condition_b363 at hF
  refine b_if hF (fun hF => ?_) (fun hF => ?_)
  ·
    refine b_qI E (E.S.m1 (Nat.le_of_ble_eq_true rfl) (Nat.le_of_ble_eq_true rfl)) hF (fun _ D3 E3 hF => ?_)
    refine b_if hF (fun hF => ?_) (fun hF => ?_)
    ·
      exact BX35_condition_b399 (N := N) (SE := SE) (SN := SN) @hsE @hsN E3 hF
    ·
      refine b_if hF (fun hF => ?_) (fun hF => ?_)
      ·
        exact BX35_condition_b396 (N := N) (SE := SE) (SN := SN) @hsE @hsN E3 hF
      ·
        exact BX35_condition_b396 (N := N) (SE := SE) (SN := SN) @hsE @hsN E3 hF
  ·
    exact b_ret E hF
theorem BX35_condition_b145 {σo : fS} {q : Unit × fS} {N : Nat} {SE : Int → fS → Option (Unit × fS)} {SN : fS → Option (Int × fS)} (hsE : ∀ {s : fS} {x1 : Int} {q}, bS 1 s → SE x1 s = some q → bE 1 s q.2) (hsN : ∀ {s : fS} {q}, bS 1 s → SN s = some q → bE 1 s q.2) {s : fS} {l1 : Int} {l2 : Int} {l4 : Int} {s0 : Int} (E : bE 1 σo s) (hF : FX35_condition_b145 N SE SN l1 l2 l4 s0 s = some q) : bE 1 σo q.2 := by
  unfold FX35_condition_b145 at hF
  exact BX35_condition_b363 (N := N) (SE := SE) (SN := SN) @hsE @hsN E hF
theorem BX35_condition_b162 {σo : fS} {q : Unit × fS} {N : Nat} {SE : Int → fS → Option (Unit × fS)} {SN : fS → Option (Int × fS)} (hsE : ∀ {s : fS} {x1 : Int} {q}, bS 1 s → SE x1 s = some q → bE 1 s q.2) (hsN : ∀ {s : fS} {q}, bS 1 s → SN s = some q → bE 1 s q.2) {s : fS} {l1 : Int} {l2 : Int} {l4 : Int} {s0 : Int} (E : bE 1 σo s) (hF : FX35_condition_b162 N SE SN l1 l2 l4 s0 s = some q) : bE 1 σo q.2 := by
  unfold FX35_condition_b162 at hF
  exact BX35_condition_b363 (N := N) (SE := SE) (SN := SN) @hsE @hsN E hF
theorem BX35_condition_b189 {σo : fS} {q : Unit × fS} {N : Nat} {SE : Int → fS → Option (Unit × fS)} {SN : fS → Option (Int × fS)} (hsE : ∀ {s : fS} {x1 : Int} {q}, bS 1 s → SE x1 s = some q → bE 1 s q.2) (hsN : ∀ {s : fS} {q}, bS 1 s → SN s = some q → bE 1 s q.2) {s : fS} {l1 : Int} {l2 : Int} {l4 : Int} {s0 : Int} (E : bE 1 σo s) (hF : FX35_condition_b189 N SE SN l1 l2 l4 s0 s = some q) : bE 1 σo q.2 := by
  unfold FX35_condition_b189 at hF
  exact BX35_condition_b363 (N := N) (SE := SE) (SN := SN) @hsE @hsN E hF
theorem BX35_condition_b254 {σo : fS} {q : Unit × fS} {N : Nat} {SE : Int → fS → Option (Unit × fS)} {SN : fS → Option (Int × fS)} (hsE : ∀ {s : fS} {x1 : Int} {q}, bS 1 s → SE x1 s = some q → bE 1 s q.2) (hsN : ∀ {s : fS} {q}, bS 1 s → SN s = some q → bE 1 s q.2) {s : fS} {l1 : Int} {l2 : Int} {l4 : Int} {s0 : Int} (E : bE 1 σo s) (hF : FX35_condition_b254 N SE SN l1 l2 l4 s0 s = some q) : bE 1 σo q.2 := by
  unfold FX35_condition_b254 at hF
  exact BX35_condition_b363 (N := N) (SE := SE) (SN := SN) @hsE @hsN E hF
theorem BX35_condition_b253 {σo : fS} {q : Unit × fS} {N : Nat} {SE : Int → fS → Option (Unit × fS)} {SN : fS → Option (Int × fS)} (hsE : ∀ {s : fS} {x1 : Int} {q}, bS 1 s → SE x1 s = some q → bE 1 s q.2) (hsN : ∀ {s : fS} {q}, bS 1 s → SN s = some q → bE 1 s q.2) {s : fS} {l1 : Int} {l2 : Int} {l4 : Int} (E : bE 1 σo s) (hF : FX35_condition_b253 N SE SN l1 l2 l4 s = some q) : bE 1 σo q.2 := by
  unfold FX35_condition_b253 at hF
  exact BX35_condition_b254 (N := N) (SE := SE) (SN := SN) @hsE @hsN E hF
theorem BX35_condition_b243 {σo : fS} {q : Unit × fS} {N : Nat} {SE : Int → fS → Option (Unit × fS)} {SN : fS → Option (Int × fS)} (hsE : ∀ {s : fS} {x1 : Int} {q}, bS 1 s → SE x1 s = some q → bE 1 s q.2) (hsN : ∀ {s : fS} {q}, bS 1 s → SN s = some q → bE 1 s q.2) {s : fS} {l1 : Int} {l2 : Int} {l4 : Int} {s0 : Int} {s2 : Int} {s3 : Int} (E : bE 1 σo s) (hF : FX35_condition_b243 N SE SN l1 l2 l4 s0 s2 s3 s = some q) : bE 1 σo q.2 := by
  unfold FX35_condition_b243 at hF
  refine b_call E (fun _ hq => (BX35_shape (bE.rf E.S) hq)) hF (fun _ hq2 D2 E2 hF => ?_)
  refine b_if hF (fun hF => ?_) (fun hF => ?_)
  ·
    exact BX35_condition_b253 (N := N) (SE := SE) (SN := SN) @hsE @hsN E2 hF
  ·
    exact BX35_condition_b254 (N := N) (SE := SE) (SN := SN) @hsE @hsN E2 hF
theorem BX35_condition_b226 {σo : fS} {q : Unit × fS} {N : Nat} {SE : Int → fS → Option (Unit × fS)} {SN : fS → Option (Int × fS)} (hsE : ∀ {s : fS} {x1 : Int} {q}, bS 1 s → SE x1 s = some q → bE 1 s q.2) (hsN : ∀ {s : fS} {q}, bS 1 s → SN s = some q → bE 1 s q.2) {s : fS} {l1 : Int} {l2 : Int} {l4 : Int} {l6 : Int} {s1 : Int} {s2 : Int} (E : bE 1 σo s) (hF : FX35_condition_b226 N SE SN l1 l2 l4 l6 s1 s2 s = some q) : bE 1 σo q.2 := by
  unfold FX35_condition_b226 at hF
  refine b_call E (fun _ hq => (BX35_shape (bE.rf E.S) hq)) hF (fun _ hq2 D2 E2 hF => ?_)
  refine b_if hF (fun hF => ?_) (fun hF => ?_)
  ·
    exact BX35_condition_b243 (N := N) (SE := SE) (SN := SN) @hsE @hsN E2 hF
  ·
    exact BX35_condition_b243 (N := N) (SE := SE) (SN := SN) @hsE @hsN E2 hF
theorem BX35_condition_b301 {σo : fS} {q : Unit × fS} {N : Nat} {SE : Int → fS → Option (Unit × fS)} {SN : fS → Option (Int × fS)} (hsE : ∀ {s : fS} {x1 : Int} {q}, bS 1 s → SE x1 s = some q → bE 1 s q.2) (hsN : ∀ {s : fS} {q}, bS 1 s → SN s = some q → bE 1 s q.2) {s : fS} {l1 : Int} {l2 : Int} {l4 : Int} {s0 : Int} (E : bE 1 σo s) (hF : FX35_condition_b301 N SE SN l1 l2 l4 s0 s = some q) : bE 1 σo q.2 := by
  unfold FX35_condition_b301 at hF
  exact BX35_condition_b363 (N := N) (SE := SE) (SN := SN) @hsE @hsN E hF
theorem BX35_condition_b300 {σo : fS} {q : Unit × fS} {N : Nat} {SE : Int → fS → Option (Unit × fS)} {SN : fS → Option (Int × fS)} (hsE : ∀ {s : fS} {x1 : Int} {q}, bS 1 s → SE x1 s = some q → bE 1 s q.2) (hsN : ∀ {s : fS} {q}, bS 1 s → SN s = some q → bE 1 s q.2) {s : fS} {l1 : Int} {l2 : Int} {l4 : Int} (E : bE 1 σo s) (hF : FX35_condition_b300 N SE SN l1 l2 l4 s = some q) : bE 1 σo q.2 := by
  unfold FX35_condition_b300 at hF
  exact BX35_condition_b301 (N := N) (SE := SE) (SN := SN) @hsE @hsN E hF
theorem BX35_condition_b327 {σo : fS} {q : Unit × fS} {N : Nat} {SE : Int → fS → Option (Unit × fS)} {SN : fS → Option (Int × fS)} (hsE : ∀ {s : fS} {x1 : Int} {q}, bS 1 s → SE x1 s = some q → bE 1 s q.2) (hsN : ∀ {s : fS} {q}, bS 1 s → SN s = some q → bE 1 s q.2) {s : fS} {l1 : Int} {l2 : Int} {l4 : Int} {s0 : Int} (E : bE 1 σo s) (hF : FX35_condition_b327 N SE SN l1 l2 l4 s0 s = some q) : bE 1 σo q.2 := by
  unfold FX35_condition_b327 at hF
  exact BX35_condition_b363 (N := N) (SE := SE) (SN := SN) @hsE @hsN E hF
theorem BX35_condition_b347 {σo : fS} {q : Unit × fS} {N : Nat} {SE : Int → fS → Option (Unit × fS)} {SN : fS → Option (Int × fS)} (hsE : ∀ {s : fS} {x1 : Int} {q}, bS 1 s → SE x1 s = some q → bE 1 s q.2) (hsN : ∀ {s : fS} {q}, bS 1 s → SN s = some q → bE 1 s q.2) {s : fS} {l1 : Int} {l2 : Int} {l4 : Int} {s0 : Int} (E : bE 1 σo s) (hF : FX35_condition_b347 N SE SN l1 l2 l4 s0 s = some q) : bE 1 σo q.2 := by
  unfold FX35_condition_b347 at hF
  exact BX35_condition_b363 (N := N) (SE := SE) (SN := SN) @hsE @hsN E hF
theorem BX35_condition_b362 {σo : fS} {q : Unit × fS} {N : Nat} {SE : Int → fS → Option (Unit × fS)} {SN : fS → Option (Int × fS)} (hsE : ∀ {s : fS} {x1 : Int} {q}, bS 1 s → SE x1 s = some q → bE 1 s q.2) (hsN : ∀ {s : fS} {q}, bS 1 s → SN s = some q → bE 1 s q.2) {s : fS} {l1 : Int} {l2 : Int} {l4 : Int} {s0 : Int} (E : bE 1 σo s) (hF : FX35_condition_b362 N SE SN l1 l2 l4 s0 s = some q) : bE 1 σo q.2 := by
  unfold FX35_condition_b362 at hF
  exact BX35_condition_b363 (N := N) (SE := SE) (SN := SN) @hsE @hsN E hF
theorem BX35_condition_b36 {σo : fS} {q : Unit × fS} {N : Nat} {SE : Int → fS → Option (Unit × fS)} {SN : fS → Option (Int × fS)} (hsE : ∀ {s : fS} {x1 : Int} {q}, bS 1 s → SE x1 s = some q → bE 1 s q.2) (hsN : ∀ {s : fS} {q}, bS 1 s → SN s = some q → bE 1 s q.2) {s : fS} {l1 : Int} {l2 : Int} {s1 : Int} {s2 : Int} (E : bE 1 σo s) (hF : FX35_condition_b36 N SE SN l1 l2 s1 s2 s = some q) : bE 1 σo q.2 := by
  unfold FX35_condition_b36 at hF
  refine b_qI E (E.S.m1 (Nat.le_of_ble_eq_true rfl) (Nat.le_of_ble_eq_true rfl)) hF (fun _ D1 E1 hF => ?_)
  refine b_qI E1 (E1.S.m1 (Nat.le_of_ble_eq_true rfl) (Nat.le_of_ble_eq_true rfl)) hF (fun _ D3 E3 hF => ?_)
  refine b_pI E3 (E3.S.m1 (Nat.le_of_ble_eq_true rfl) (Nat.le_of_ble_eq_true rfl)) hF (fun _ D5 E5 hF => ?_)
  refine b_if hF (fun hF => ?_) (fun hF => ?_)
  ·
    refine b_call E5 (fun _ hq => (BX35_needExpanded (N := N) (SE := SE) @hsE (bE.rf E5.S) hq)) hF (fun _ hq7 D7 E7 hF => ?_)
    refine b_call E7 (fun _ hq => (BX35_needExpanded (N := N) (SE := SE) @hsE (bE.rf E7.S) hq)) hF (fun _ hq9 D9 E9 hF => ?_)
    refine b_if hF (fun hF => ?_) (fun hF => ?_)
    ·
      exact BX35_condition_b253 (N := N) (SE := SE) (SN := SN) @hsE @hsN E9 hF
    ·
      refine b_if hF (fun hF => ?_) (fun hF => ?_)
      ·
        exact BX35_condition_b226 (N := N) (SE := SE) (SN := SN) @hsE @hsN E9 hF
      ·
        exact BX35_condition_b226 (N := N) (SE := SE) (SN := SN) @hsE @hsN E9 hF
  ·
    refine b_if hF (fun hF => ?_) (fun hF => ?_)
    ·
      refine b_call E5 (fun _ hq => (BX35_needExpanded (N := N) (SE := SE) @hsE (bE.rf E5.S) hq)) hF (fun _ hq12 D12 E12 hF => ?_)
      refine b_call E12 (fun _ hq => (BX35_needExpanded (N := N) (SE := SE) @hsE (bE.rf E12.S) hq)) hF (fun _ hq14 D14 E14 hF => ?_)
      refine b_if hF (fun hF => ?_) (fun hF => ?_)
      ·
        exact BX35_condition_b253 (N := N) (SE := SE) (SN := SN) @hsE @hsN E14 hF
      ·
        refine b_if hF (fun hF => ?_) (fun hF => ?_)
        ·
          exact BX35_condition_b226 (N := N) (SE := SE) (SN := SN) @hsE @hsN E14 hF
        ·
          exact BX35_condition_b226 (N := N) (SE := SE) (SN := SN) @hsE @hsN E14 hF
    ·
      refine b_if hF (fun hF => ?_) (fun hF => ?_)
      ·
        refine b_call E5 (fun _ hq => (BX35_need (N := N) (bE.rf E5.S) hq)) hF (fun _ hq17 D17 E17 hF => ?_)
        refine b_call E17 (fun _ hq => (BX35_need (N := N) (bE.rf E17.S) hq)) hF (fun _ hq19 D19 E19 hF => ?_)
        refine b_if hF (fun hF => ?_) (fun hF => ?_)
        ·
          exact BX35_condition_b300 (N := N) (SE := SE) (SN := SN) @hsE @hsN E19 hF
        ·
          refine b_call E19 (fun _ hq => (BX35_meaning (bE.rf E19.S) hq)) hF (fun _ hq22 D22 E22 hF => ?_)
          refine b_call E22 (fun _ hq => (BX35_meaning (bE.rf E22.S) hq)) hF (fun _ hq24 D24 E24 hF => ?_)
          refine b_call E24 (fun _ hq => (BX35_meanSame (N := N) (bE.rf E24.S) hq)) hF (fun _ hq26 D26 E26 hF => ?_)
          refine b_if hF (fun hF => ?_) (fun hF => ?_)
          ·
            exact BX35_condition_b300 (N := N) (SE := SE) (SN := SN) @hsE @hsN E26 hF
          ·
            exact BX35_condition_b301 (N := N) (SE := SE) (SN := SN) @hsE @hsN E26 hF
      ·
        refine b_if hF (fun hF => ?_) (fun hF => ?_)
        ·
          refine b_call E5 (fun _ hq => (BX35_compare (N := N) (SE := SE) (SN := SN) @hsE @hsN (bE.rf E5.S) hq)) hF (fun _ hq28 D28 E28 hF => ?_)
          exact BX35_condition_b363 (N := N) (SE := SE) (SN := SN) @hsE @hsN E28 hF
        ·
          refine b_if hF (fun hF => ?_) (fun hF => ?_)
          ·
            refine b_call E5 (fun _ hq => (BX35_compareSizes (N := N) (SE := SE) (SN := SN) @hsE @hsN (bE.rf E5.S) hq)) hF (fun _ hq30 D30 E30 hF => ?_)
            exact BX35_condition_b363 (N := N) (SE := SE) (SN := SN) @hsE @hsN E30 hF
          ·
            refine b_if hF (fun hF => ?_) (fun hF => ?_)
            ·
              refine b_call E5 (fun _ hq => (hsN E5.S hq)) hF (fun _ hq32 D32 E32 hF => ?_)
              refine b_if hF (fun hF => ?_) (fun hF => ?_)
              ·
                exact BX35_condition_b327 (N := N) (SE := SE) (SN := SN) @hsE @hsN E32 hF
              ·
                exact BX35_condition_b327 (N := N) (SE := SE) (SN := SN) @hsE @hsN E32 hF
            ·
              refine b_if hF (fun hF => ?_) (fun hF => ?_)
              ·
                refine b_call E5 (fun _ hq => (BX35_mode (bE.rf E5.S) hq)) hF (fun _ hq34 D34 E34 hF => ?_)
                refine b_if hF (fun hF => ?_) (fun hF => ?_)
                ·
                  exact BX35_condition_b145 (N := N) (SE := SE) (SN := SN) @hsE @hsN E34 hF
                ·
                  exact BX35_condition_b145 (N := N) (SE := SE) (SN := SN) @hsE @hsN E34 hF
              ·
                refine b_if hF (fun hF => ?_) (fun hF => ?_)
                ·
                  refine b_call E5 (fun _ hq => (BX35_mode (bE.rf E5.S) hq)) hF (fun _ hq36 D36 E36 hF => ?_)
                  refine b_if hF (fun hF => ?_) (fun hF => ?_)
                  ·
                    exact BX35_condition_b162 (N := N) (SE := SE) (SN := SN) @hsE @hsN E36 hF
                  ·
                    exact BX35_condition_b162 (N := N) (SE := SE) (SN := SN) @hsE @hsN E36 hF
                ·
                  refine b_if hF (fun hF => ?_) (fun hF => ?_)
                  ·
                    refine b_call E5 (fun _ hq => (BX35_small (SN := SN) @hsN (bE.rf E5.S) hq)) hF (fun _ hq38 D38 E38 hF => ?_)
                    refine b_call E38 (fun _ hq => (BX35_now (bE.rf E38.S) hq)) hF (fun _ hq40 D40 E40 hF => ?_)
                    refine b_if hF (fun hF => ?_) (fun hF => ?_)
                    ·
                      exact BX35_condition_b189 (N := N) (SE := SE) (SN := SN) @hsE @hsN E40 hF
                    ·
                      exact BX35_condition_b189 (N := N) (SE := SE) (SN := SN) @hsE @hsN E40 hF
                  ·
                    refine b_if hF (fun hF => ?_) (fun hF => ?_)
                    ·
                      refine b_if hF (fun hF => ?_) (fun hF => ?_)
                      ·
                        exact BX35_condition_b362 (N := N) (SE := SE) (SN := SN) @hsE @hsN E5 hF
                      ·
                        exact BX35_condition_b362 (N := N) (SE := SE) (SN := SN) @hsE @hsN E5 hF
                    ·
                      refine b_if hF (fun hF => ?_) (fun hF => ?_)
                      ·
                        refine b_if hF (fun hF => ?_) (fun hF => ?_)
                        ·
                          exact BX35_condition_b362 (N := N) (SE := SE) (SN := SN) @hsE @hsN E5 hF
                        ·
                          exact BX35_condition_b362 (N := N) (SE := SE) (SN := SN) @hsE @hsN E5 hF
                      ·
                        refine b_if hF (fun hF => ?_) (fun hF => ?_)
                        ·
                          refine b_call E5 (fun _ hq => (hsN E5.S hq)) hF (fun _ hq42 D42 E42 hF => ?_)
                          refine b_if hF (fun hF => ?_) (fun hF => ?_)
                          ·
                            exact BX35_condition_b347 (N := N) (SE := SE) (SN := SN) @hsE @hsN E42 hF
                          ·
                            exact BX35_condition_b347 (N := N) (SE := SE) (SN := SN) @hsE @hsN E42 hF
                        ·
                          refine b_if hF (fun hF => ?_) (fun hF => ?_)
                          ·
                            exact BX35_condition_b362 (N := N) (SE := SE) (SN := SN) @hsE @hsN E5 hF
                          ·
                            exact BX35_condition_b362 (N := N) (SE := SE) (SN := SN) @hsE @hsN E5 hF
theorem BX35_condition {σo : fS} {q : Unit × fS} {N : Nat} {SE : Int → fS → Option (Unit × fS)} {SN : fS → Option (Int × fS)} (hsE : ∀ {s : fS} {x1 : Int} {q}, bS 1 s → SE x1 s = some q → bE 1 s q.2) (hsN : ∀ {s : fS} {q}, bS 1 s → SN s = some q → bE 1 s q.2) {s : fS} {p0 : Int} (E : bE 1 σo s) (hF : FX35_condition N SE SN p0 s = some q) : bE 1 σo q.2 := by
  unfold FX35_condition at hF
  refine b_if hF (fun hF => ?_) (fun hF => ?_)
  ·
    refine b_if hF (fun hF => ?_) (fun hF => ?_)
    ·
      exact BX35_condition_b36 (N := N) (SE := SE) (SN := SN) @hsE @hsN E hF
    ·
      exact BX35_condition_b36 (N := N) (SE := SE) (SN := SN) @hsE @hsN E hF
  ·
    refine b_call E (fun _ hq => (BX35_fail (bE.rf E.S) hq)) hF (fun _ hq5 D5 E5 hF => ?_)
    exact b_ret E5 hF
theorem BX35_count_b41 {σo : fS} {q : Int × fS} {s : fS} {s0 : Int} (E : bE 1 σo s) (hF : FX35_count_b41 s0 s = some q) : bE 1 σo q.2 := by
  unfold FX35_count_b41 at hF
  exact b_ret E hF
theorem BX35_count_b17 {σo : fS} {q : Int × fS} {s : fS} {l1 : Int} {s1 : Int} (E : bE 1 σo s) (hF : FX35_count_b17 l1 s1 s = some q) : bE 1 σo q.2 := by
  unfold FX35_count_b17 at hF
  refine b_pI E (E.S.m1 (Nat.le_of_ble_eq_true rfl) (Nat.le_of_ble_eq_true rfl)) hF (fun _ D1 E1 hF => ?_)
  refine b_if hF (fun hF => ?_) (fun hF => ?_)
  ·
    refine b_rv hF (fun _ hF => ?_)
    exact BX35_count_b41 E1 hF
  ·
    exact BX35_count_b41 E1 hF
theorem BX35_count_b12 {σo : fS} {q : Int × fS} {s : fS} {l1 : Int} (E : bE 1 σo s) (hF : FX35_count_b12 l1 s = some q) : bE 1 σo q.2 := by
  unfold FX35_count_b12 at hF
  exact BX35_count_b17 E hF
theorem BX35_count {σo : fS} {q : Int × fS} {s : fS} {p0 : Int} (E : bE 1 σo s) (hF : FX35_count p0 s = some q) : bE 1 σo q.2 := by
  unfold FX35_count at hF
  refine b_if hF (fun hF => ?_) (fun hF => ?_)
  ·
    exact BX35_count_b12 E hF
  ·
    refine b_if hF (fun hF => ?_) (fun hF => ?_)
    ·
      exact BX35_count_b17 E hF
    ·
      exact BX35_count_b12 E hF
theorem BX35_target_b58 {σo : fS} {q : Int × fS} {N : Nat} {s : fS} {s0 : Int} (E : bE 1 σo s) (hF : FX35_target_b58 N s0 s = some q) : bE 1 σo q.2 := by
  unfold FX35_target_b58 at hF
  exact b_ret E hF
theorem BX35_target_b42 {σo : fS} {q : Int × fS} {N : Nat} {s : fS} {l1 : Int} (E : bE 1 σo s) (hF : FX35_target_b42 N l1 s = some q) : bE 1 σo q.2 := by
  unfold FX35_target_b42 at hF
  refine b_if hF (fun hF => ?_) (fun hF => ?_)
  ·
    refine b_call E (fun _ hq => (BX35_bare (bE.rf E.S) hq)) hF (fun _ hq2 D2 E2 hF => ?_)
    exact BX35_target_b58 (N := N) E2 hF
  ·
    exact BX35_target_b58 (N := N) E hF
theorem BX35_target_b5 {σo : fS} {q : Int × fS} {N : Nat} : ∀ {n : Nat} {s : fS} {l1 : Int}, bE 1 σo s → FX35_target_b5 N n l1 s = some q → bE 1 σo q.2 := by
  intro n
  induction n with
  | zero => intro s l1 E  hF; simp [FX35_target_b5] at hF
  | succ n ih =>
    intro s l1 E  hF
    rw [FX35_target_b5] at hF
    refine b_call E (fun _ hq => (BX35_isOf (bE.rf E.S) hq)) hF (fun _ hq1 D1 E1 hF => ?_)
    refine b_if hF (fun hF => ?_) (fun hF => ?_)
    ·
      refine b_if hF (fun hF => ?_) (fun hF => ?_)
      ·
        exact BX35_target_b42 (N := N) E1 hF
      ·
        refine b_call E1 (fun _ hq => (BX35_isCharacter (bE.rf E1.S) hq)) hF (fun _ hq3 D3 E3 hF => ?_)
        refine b_if hF (fun hF => ?_) (fun hF => ?_)
        ·
          exact BX35_target_b42 (N := N) E3 hF
        ·
          refine b_call E3 (fun _ hq => (BX35_fail (bE.rf E3.S) hq)) hF (fun _ hq5 D5 E5 hF => ?_)
          exact BX35_target_b42 (N := N) E5 hF
    ·
      refine b_call E1 (fun _ hq => (BX35_need (N := N) (bE.rf E1.S) hq)) hF (fun _ hq7 D7 E7 hF => ?_)
      exact ih E7 hF
theorem BX35_target {σo : fS} {q : Int × fS} {N : Nat} {s : fS} (E : bE 1 σo s) (hF : FX35_target N s = some q) : bE 1 σo q.2 := by
  unfold FX35_target at hF
  refine b_call E (fun _ hq => (BX35_need (N := N) (bE.rf E.S) hq)) hF (fun _ hq2 D2 E2 hF => ?_)
  exact BX35_target_b5 (N := N) E2 hF
theorem BX35_keep_b55 {σo : fS} {q : Unit × fS} {s : fS} (E : bE 1 σo s) (hF : FX35_keep_b55 s = some q) : bE 1 σo q.2 := by
  unfold FX35_keep_b55 at hF
  exact b_ret E hF
theorem BX35_keep {σo : fS} {q : Unit × fS} {s : fS} {p0 : Int} (E : bE 1 σo s) (hF : FX35_keep p0 s = some q) : bE 1 σo q.2 := by
  unfold FX35_keep at hF
  refine b_if hF (fun hF => ?_) (fun hF => ?_)
  ·
    refine b_if hF (fun hF => ?_) (fun hF => ?_)
    ·
      exact BX35_keep_b55 E hF
    ·
      refine b_call E (fun _ hq => (BX35_bare (bE.rf E.S) hq)) hF (fun _ hq6 D6 E6 hF => ?_)
      refine b_qI E6 (E6.S.m1 (Nat.le_of_ble_eq_true rfl) (Nat.le_of_ble_eq_true rfl)) hF (fun _ D7 E7 hF => ?_)
      refine b_pI E7 (E7.S.m1 (Nat.le_of_ble_eq_true rfl) (Nat.le_of_ble_eq_true rfl)) hF (fun _ D9 E9 hF => ?_)
      exact BX35_keep_b55 E9 hF
  ·
    refine b_call E (fun _ hq => (BX35_fail (bE.rf E.S) hq)) hF (fun _ hq11 D11 E11 hF => ?_)
    exact BX35_keep_b55 E11 hF
theorem BX35_mean {σo : fS} {q : Unit × fS} {N : Nat} {s : fS} {p0 : Int} {p1 : Int} {p2 : Int} (E : bE 1 σo s) (hF : FX35_mean N p0 p1 p2 s = some q) : bE 1 σo q.2 := by
  unfold FX35_mean at hF
  refine b_call E (fun _ hq => (BX35_idOf (bE.rf E.S) hq)) hF (fun _ hq2 D2 E2 hF => ?_)
  refine b_call E2 (fun _ hq => (BX35_setAt (N := N) (bE.rf E2.S) hq)) hF (fun _ hq4 D4 E4 hF => ?_)
  exact b_ret E4 hF
theorem BX35_define_b153 {σo : fS} {q : Unit × fS} {N : Nat} {SE : Int → fS → Option (Unit × fS)} {K47 : Int → Int → Int → Int → Int → Int → fS → Option (Unit × fS)} (hsE : ∀ {s : fS} {x1 : Int} {q}, bS 1 s → SE x1 s = some q → bE 1 s q.2) (hk47 : ∀ {s : fS} {l1 : Int} {l2 : Int} {l3 : Int} {l4 : Int} {l5 : Int} {l6 : Int}, bE 1 σo s → K47 l1 l2 l3 l4 l5 l6 s = some q → bE 1 σo q.2) {s : fS} {l1 : Int} {l2 : Int} {l3 : Int} {l4 : Int} {l5 : Int} (E : bE 1 σo s) (hF : FX35_define_b153 N SE K47 l1 l2 l3 l4 l5 s = some q) : bE 1 σo q.2 := by
  unfold FX35_define_b153 at hF
  refine b_call E (fun _ hq => (BX35_need (N := N) (bE.rf E.S) hq)) hF (fun _ hq2 D2 E2 hF => ?_)
  exact hk47 E2 hF
theorem BX35_define_b134 {σo : fS} {q : Unit × fS} {N : Nat} {SE : Int → fS → Option (Unit × fS)} {K47 : Int → Int → Int → Int → Int → Int → fS → Option (Unit × fS)} (hsE : ∀ {s : fS} {x1 : Int} {q}, bS 1 s → SE x1 s = some q → bE 1 s q.2) (hk47 : ∀ {s : fS} {l1 : Int} {l2 : Int} {l3 : Int} {l4 : Int} {l5 : Int} {l6 : Int}, bE 1 σo s → K47 l1 l2 l3 l4 l5 l6 s = some q → bE 1 σo q.2) {s : fS} {l1 : Int} {l2 : Int} {l3 : Int} {l4 : Int} {l5 : Int} (E : bE 1 σo s) (hF : FX35_define_b134 N SE K47 l1 l2 l3 l4 l5 s = some q) : bE 1 σo q.2 := by
  unfold FX35_define_b134 at hF
  refine b_call E (fun _ hq => (BX35_keep (bE.rf E.S) hq)) hF (fun _ hq2 D2 E2 hF => ?_)
  exact BX35_define_b153 (N := N) (SE := SE) (K47 := K47) @hsE @hk47 E2 hF
theorem BX35_define_b128 {σo : fS} {q : Unit × fS} {N : Nat} {SE : Int → fS → Option (Unit × fS)} {K47 : Int → Int → Int → Int → Int → Int → fS → Option (Unit × fS)} (hsE : ∀ {s : fS} {x1 : Int} {q}, bS 1 s → SE x1 s = some q → bE 1 s q.2) (hk47 : ∀ {s : fS} {l1 : Int} {l2 : Int} {l3 : Int} {l4 : Int} {l5 : Int} {l6 : Int}, bE 1 σo s → K47 l1 l2 l3 l4 l5 l6 s = some q → bE 1 σo q.2) {s : fS} {l1 : Int} {l2 : Int} {l3 : Int} {l4 : Int} {l5 : Int} (E : bE 1 σo s) (hF : FX35_define_b128 N SE K47 l1 l2 l3 l4 l5 s = some q) : bE 1 σo q.2 := by
  unfold FX35_define_b128 at hF
  refine b_call E (fun _ hq => (BX35_fail (bE.rf E.S) hq)) hF (fun _ hq2 D2 E2 hF => ?_)
  exact BX35_define_b134 (N := N) (SE := SE) (K47 := K47) @hsE @hk47 E2 hF
theorem BX35_define_b347 {σo : fS} {q : Unit × fS} {N : Nat} {SE : Int → fS → Option (Unit × fS)} {K171 : Int → Int → Int → Int → Int → Int → Int → fS → Option (Unit × fS)} (hsE : ∀ {s : fS} {x1 : Int} {q}, bS 1 s → SE x1 s = some q → bE 1 s q.2) (hk171 : ∀ {s : fS} {l1 : Int} {l2 : Int} {l3 : Int} {l4 : Int} {l5 : Int} {l7 : Int} {l8 : Int}, bE 1 σo s → K171 l1 l2 l3 l4 l5 l7 l8 s = some q → bE 1 σo q.2) {s : fS} {l1 : Int} {l2 : Int} {l3 : Int} {l4 : Int} {l5 : Int} {l6 : Int} {l7 : Int} {l8 : Int} (E : bE 1 σo s) (hF : FX35_define_b347 N SE K171 l1 l2 l3 l4 l5 l6 l7 l8 s = some q) : bE 1 σo q.2 := by
  unfold FX35_define_b347 at hF
  refine b_if hF (fun hF => ?_) (fun hF => ?_)
  ·
    exact hk171 E hF
  ·
    refine b_call E (fun _ hq => (BX35_keep (bE.rf E.S) hq)) hF (fun _ hq2 D2 E2 hF => ?_)
    exact hk171 E2 hF
theorem BX35_define_b345 {σo : fS} {q : Unit × fS} {N : Nat} {SE : Int → fS → Option (Unit × fS)} {K171 : Int → Int → Int → Int → Int → Int → Int → fS → Option (Unit × fS)} (hsE : ∀ {s : fS} {x1 : Int} {q}, bS 1 s → SE x1 s = some q → bE 1 s q.2) (hk171 : ∀ {s : fS} {l1 : Int} {l2 : Int} {l3 : Int} {l4 : Int} {l5 : Int} {l7 : Int} {l8 : Int}, bE 1 σo s → K171 l1 l2 l3 l4 l5 l7 l8 s = some q → bE 1 σo q.2) {s : fS} {l1 : Int} {l2 : Int} {l3 : Int} {l4 : Int} {l5 : Int} {l7 : Int} {l8 : Int} {s0 : Int} (E : bE 1 σo s) (hF : FX35_define_b345 N SE K171 l1 l2 l3 l4 l5 l7 l8 s0 s = some q) : bE 1 σo q.2 := by
  unfold FX35_define_b345 at hF
  exact BX35_define_b347 (N := N) (SE := SE) (K171 := K171) @hsE @hk171 E hF
theorem BX35_define_b329 {σo : fS} {q : Unit × fS} {N : Nat} {SE : Int → fS → Option (Unit × fS)} {K171 : Int → Int → Int → Int → Int → Int → Int → fS → Option (Unit × fS)} (hsE : ∀ {s : fS} {x1 : Int} {q}, bS 1 s → SE x1 s = some q → bE 1 s q.2) (hk171 : ∀ {s : fS} {l1 : Int} {l2 : Int} {l3 : Int} {l4 : Int} {l5 : Int} {l7 : Int} {l8 : Int}, bE 1 σo s → K171 l1 l2 l3 l4 l5 l7 l8 s = some q → bE 1 σo q.2) {s : fS} {l1 : Int} {l2 : Int} {l3 : Int} {l4 : Int} {l5 : Int} {l6 : Int} {l7 : Int} {l8 : Int} {l9 : Int} (E : bE 1 σo s) (hF : FX35_define_b329 N SE K171 l1 l2 l3 l4 l5 l6 l7 l8 l9 s = some q) : bE 1 σo q.2 := by
  unfold FX35_define_b329 at hF
  refine b_if hF (fun hF => ?_) (fun hF => ?_)
  ·
    exact BX35_define_b345 (N := N) (SE := SE) (K171 := K171) @hsE @hk171 E hF
  ·
    exact BX35_define_b345 (N := N) (SE := SE) (K171 := K171) @hsE @hk171 E hF
theorem BX35_define_b323 {σo : fS} {q : Unit × fS} {N : Nat} {SE : Int → fS → Option (Unit × fS)} {K171 : Int → Int → Int → Int → Int → Int → Int → fS → Option (Unit × fS)} (hsE : ∀ {s : fS} {x1 : Int} {q}, bS 1 s → SE x1 s = some q → bE 1 s q.2) (hk171 : ∀ {s : fS} {l1 : Int} {l2 : Int} {l3 : Int} {l4 : Int} {l5 : Int} {l7 : Int} {l8 : Int}, bE 1 σo s → K171 l1 l2 l3 l4 l5 l7 l8 s = some q → bE 1 σo q.2) {s : fS} {l1 : Int} {l2 : Int} {l3 : Int} {l4 : Int} {l5 : Int} {l6 : Int} {l7 : Int} {l8 : Int} {l9 : Int} (E : bE 1 σo s) (hF : FX35_define_b323 N SE K171 l1 l2 l3 l4 l5 l6 l7 l8 l9 s = some q) : bE 1 σo q.2 := by
  unfold FX35_define_b323 at hF
  refine b_call E (fun _ hq => (BX35_fail (bE.rf E.S) hq)) hF (fun _ hq2 D2 E2 hF => ?_)
  exact BX35_define_b329 (N := N) (SE := SE) (K171 := K171) @hsE @hk171 E2 hF
theorem BX35_define_b292 {σo : fS} {q : Unit × fS} {N : Nat} {SE : Int → fS → Option (Unit × fS)} {K171 : Int → Int → Int → Int → Int → Int → Int → fS → Option (Unit × fS)} (hsE : ∀ {s : fS} {x1 : Int} {q}, bS 1 s → SE x1 s = some q → bE 1 s q.2) (hk171 : ∀ {s : fS} {l1 : Int} {l2 : Int} {l3 : Int} {l4 : Int} {l5 : Int} {l7 : Int} {l8 : Int}, bE 1 σo s → K171 l1 l2 l3 l4 l5 l7 l8 s = some q → bE 1 σo q.2) {s : fS} {l1 : Int} {l2 : Int} {l3 : Int} {l4 : Int} {l5 : Int} {l6 : Int} {l7 : Int} {l8 : Int} {s0 : Int} (E : bE 1 σo s) (hF : FX35_define_b292 N SE K171 l1 l2 l3 l4 l5 l6 l7 l8 s0 s = some q) : bE 1 σo q.2 := by
  unfold FX35_define_b292 at hF
  refine b_if hF (fun hF => ?_) (fun hF => ?_)
  ·
    exact BX35_define_b329 (N := N) (SE := SE) (K171 := K171) @hsE @hk171 E hF
  ·
    refine b_call E (fun _ hq => (BX35_isOf (bE.rf E.S) hq)) hF (fun _ hq2 D2 E2 hF => ?_)
    refine b_if hF (fun hF => ?_) (fun hF => ?_)
    ·
      exact BX35_define_b329 (N := N) (SE := SE) (K171 := K171) @hsE @hk171 E2 hF
    ·
      refine b_if hF (fun hF => ?_) (fun hF => ?_)
      ·
        exact BX35_define_b323 (N := N) (SE := SE) (K171 := K171) @hsE @hk171 E2 hF
      ·
        refine b_if hF (fun hF => ?_) (fun hF => ?_)
        ·
          exact BX35_define_b329 (N := N) (SE := SE) (K171 := K171) @hsE @hk171 E2 hF
        ·
          exact BX35_define_b323 (N := N) (SE := SE) (K171 := K171) @hsE @hk171 E2 hF
theorem BX35_define_b269 {σo : fS} {q : Unit × fS} {N : Nat} {SE : Int → fS → Option (Unit × fS)} {K171 : Int → Int → Int → Int → Int → Int → Int → fS → Option (Unit × fS)} (hsE : ∀ {s : fS} {x1 : Int} {q}, bS 1 s → SE x1 s = some q → bE 1 s q.2) (hk171 : ∀ {s : fS} {l1 : Int} {l2 : Int} {l3 : Int} {l4 : Int} {l5 : Int} {l7 : Int} {l8 : Int}, bE 1 σo s → K171 l1 l2 l3 l4 l5 l7 l8 s = some q → bE 1 σo q.2) {s : fS} {l1 : Int} {l2 : Int} {l3 : Int} {l4 : Int} {l5 : Int} {l7 : Int} {l8 : Int} {s0 : Int} (E : bE 1 σo s) (hF : FX35_define_b269 N SE K171 l1 l2 l3 l4 l5 l7 l8 s0 s = some q) : bE 1 σo q.2 := by
  unfold FX35_define_b269 at hF
  refine b_call E (fun _ hq => (BX35_isDigit (bE.rf E.S) hq)) hF (fun _ hq1 D1 E1 hF => ?_)
  refine b_if hF (fun hF => ?_) (fun hF => ?_)
  ·
    exact BX35_define_b292 (N := N) (SE := SE) (K171 := K171) @hsE @hk171 E1 hF
  ·
    exact BX35_define_b292 (N := N) (SE := SE) (K171 := K171) @hsE @hk171 E1 hF
theorem BX35_define_b242 {σo : fS} {q : Unit × fS} {N : Nat} {SE : Int → fS → Option (Unit × fS)} {K171 : Int → Int → Int → Int → Int → Int → Int → fS → Option (Unit × fS)} (hsE : ∀ {s : fS} {x1 : Int} {q}, bS 1 s → SE x1 s = some q → bE 1 s q.2) (hk171 : ∀ {s : fS} {l1 : Int} {l2 : Int} {l3 : Int} {l4 : Int} {l5 : Int} {l7 : Int} {l8 : Int}, bE 1 σo s → K171 l1 l2 l3 l4 l5 l7 l8 s = some q → bE 1 σo q.2) {s : fS} {l1 : Int} {l2 : Int} {l3 : Int} {l4 : Int} {l5 : Int} {l6 : Int} {l7 : Int} {s0 : Int} (E : bE 1 σo s) (hF : FX35_define_b242 N SE K171 l1 l2 l3 l4 l5 l6 l7 s0 s = some q) : bE 1 σo q.2 := by
  unfold FX35_define_b242 at hF
  refine b_call E (fun _ hq => (BX35_isOf (bE.rf E.S) hq)) hF (fun _ hq1 D1 E1 hF => ?_)
  refine b_if hF (fun hF => ?_) (fun hF => ?_)
  ·
    exact BX35_define_b347 (N := N) (SE := SE) (K171 := K171) @hsE @hk171 E1 hF
  ·
    refine b_if hF (fun hF => ?_) (fun hF => ?_)
    ·
      refine b_call E1 (fun _ hq => (BX35_need (N := N) (bE.rf E1.S) hq)) hF (fun _ hq3 D3 E3 hF => ?_)
      exact BX35_define_b269 (N := N) (SE := SE) (K171 := K171) @hsE @hk171 E3 hF
    ·
      refine b_call E1 (fun _ hq => (BX35_needExpanded (N := N) (SE := SE) @hsE (bE.rf E1.S) hq)) hF (fun _ hq5 D5 E5 hF => ?_)
      exact BX35_define_b269 (N := N) (SE := SE) (K171 := K171) @hsE @hk171 E5 hF
theorem BX35_define_b198 {σo : fS} {q : Unit × fS} {N : Nat} {SE : Int → fS → Option (Unit × fS)} {K171 : Int → Int → Int → Int → Int → Int → Int → fS → Option (Unit × fS)} (hsE : ∀ {s : fS} {x1 : Int} {q}, bS 1 s → SE x1 s = some q → bE 1 s q.2) (hk171 : ∀ {s : fS} {l1 : Int} {l2 : Int} {l3 : Int} {l4 : Int} {l5 : Int} {l7 : Int} {l8 : Int}, bE 1 σo s → K171 l1 l2 l3 l4 l5 l7 l8 s = some q → bE 1 σo q.2) {s : fS} {l1 : Int} {l2 : Int} {l3 : Int} {l4 : Int} {l5 : Int} {l7 : Int} {l8 : Int} {s0 : Int} (E : bE 1 σo s) (hF : FX35_define_b198 N SE K171 l1 l2 l3 l4 l5 l7 l8 s0 s = some q) : bE 1 σo q.2 := by
  unfold FX35_define_b198 at hF
  refine b_if hF (fun hF => ?_) (fun hF => ?_)
  ·
    refine b_call E (fun _ hq => (BX35_isOf (bE.rf E.S) hq)) hF (fun _ hq2 D2 E2 hF => ?_)
    refine b_if hF (fun hF => ?_) (fun hF => ?_)
    ·
      refine b_call E2 (fun _ hq => (BX35_isOf (bE.rf E2.S) hq)) hF (fun _ hq3 D3 E3 hF => ?_)
      refine b_if hF (fun hF => ?_) (fun hF => ?_)
      ·
        exact BX35_define_b242 (N := N) (SE := SE) (K171 := K171) @hsE @hk171 E3 hF
      ·
        exact BX35_define_b242 (N := N) (SE := SE) (K171 := K171) @hsE @hk171 E3 hF
    ·
      exact BX35_define_b242 (N := N) (SE := SE) (K171 := K171) @hsE @hk171 E2 hF
  ·
    exact b_ret E hF
theorem BX35_define_b437 {σo : fS} {q : Unit × fS} {N : Nat} {SE : Int → fS → Option (Unit × fS)} (hsE : ∀ {s : fS} {x1 : Int} {q}, bS 1 s → SE x1 s = some q → bE 1 s q.2) {s : fS} (E : bE 1 σo s) (hF : FX35_define_b437 N SE s = some q) : bE 1 σo q.2 := by
  unfold FX35_define_b437 at hF
  exact b_ret E hF
theorem BX35_define_b361 {σo : fS} {q : Unit × fS} {N : Nat} {SE : Int → fS → Option (Unit × fS)} (hsE : ∀ {s : fS} {x1 : Int} {q}, bS 1 s → SE x1 s = some q → bE 1 s q.2) {s : fS} {l2 : Int} {l3 : Int} {l4 : Int} {l5 : Int} {l7 : Int} (E : bE 1 σo s) (hF : FX35_define_b361 N SE l2 l3 l4 l5 l7 s = some q) : bE 1 σo q.2 := by
  unfold FX35_define_b361 at hF
  refine b_if hF (fun hF => ?_) (fun hF => ?_)
  ·
    exact BX35_define_b437 (N := N) (SE := SE) @hsE E hF
  ·
    refine b_qI E (E.S.m1 (Nat.le_of_ble_eq_true rfl) (Nat.le_of_ble_eq_true rfl)) hF (fun _ D4 E4 hF => ?_)
    refine b_qI E4 (E4.S.m1 (Nat.le_of_ble_eq_true rfl) (Nat.le_of_ble_eq_true rfl)) hF (fun _ D7 E7 hF => ?_)
    refine b_qI E7 (E7.S.m1 (Nat.le_of_ble_eq_true rfl) (Nat.le_of_ble_eq_true rfl)) hF (fun _ D10 E10 hF => ?_)
    refine b_qI E10 (E10.S.m1 (Nat.le_of_ble_eq_true rfl) (Nat.le_of_ble_eq_true rfl)) hF (fun _ D14 E14 hF => ?_)
    refine b_call E14 (fun _ hq => (BX35_mean (N := N) (bE.rf E14.S) hq)) hF (fun _ hq17 D17 E17 hF => ?_)
    refine b_pI E17 (E17.S.m1 (Nat.le_of_ble_eq_true rfl) (Nat.le_of_ble_eq_true rfl)) hF (fun _ D19 E19 hF => ?_)
    exact BX35_define_b437 (N := N) (SE := SE) @hsE E19 hF
theorem BX35_define_b171 {σo : fS} {q : Unit × fS} {N : Nat} {SE : Int → fS → Option (Unit × fS)} (hsE : ∀ {s : fS} {x1 : Int} {q}, bS 1 s → SE x1 s = some q → bE 1 s q.2) : ∀ {n : Nat} {s : fS} {l1 : Int} {l2 : Int} {l3 : Int} {l4 : Int} {l5 : Int} {l7 : Int} {l8 : Int}, bE 1 σo s → FX35_define_b171 N SE n l1 l2 l3 l4 l5 l7 l8 s = some q → bE 1 σo q.2 := by
  intro n
  induction n with
  | zero => intro s l1 l2 l3 l4 l5 l7 l8 E  hF; simp [FX35_define_b171] at hF
  | succ n ih =>
    intro s l1 l2 l3 l4 l5 l7 l8 E  hF
    rw [FX35_define_b171] at hF
    refine b_if hF (fun hF => ?_) (fun hF => ?_)
    ·
      exact BX35_define_b361 (N := N) (SE := SE) @hsE E hF
    ·
      refine b_if hF (fun hF => ?_) (fun hF => ?_)
      ·
        exact BX35_define_b361 (N := N) (SE := SE) @hsE E hF
      ·
        refine b_if hF (fun hF => ?_) (fun hF => ?_)
        ·
          refine b_call E (fun _ hq => (BX35_need (N := N) (bE.rf E.S) hq)) hF (fun _ hq3 D3 E3 hF => ?_)
          exact BX35_define_b198 (N := N) (SE := SE) (K171 := FX35_define_b171 N SE n) @hsE @ih E3 hF
        ·
          refine b_call E (fun _ hq => (BX35_needExpanded (N := N) (SE := SE) @hsE (bE.rf E.S) hq)) hF (fun _ hq5 D5 E5 hF => ?_)
          exact BX35_define_b198 (N := N) (SE := SE) (K171 := FX35_define_b171 N SE n) @hsE @ih E5 hF
theorem BX35_define_b162 {σo : fS} {q : Unit × fS} {N : Nat} {SE : Int → fS → Option (Unit × fS)} (hsE : ∀ {s : fS} {x1 : Int} {q}, bS 1 s → SE x1 s = some q → bE 1 s q.2) {s : fS} {l1 : Int} {l2 : Int} {l3 : Int} {l4 : Int} {l5 : Int} (E : bE 1 σo s) (hF : FX35_define_b162 N SE l1 l2 l3 l4 l5 s = some q) : bE 1 σo q.2 := by
  unfold FX35_define_b162 at hF
  exact BX35_define_b171 (N := N) (SE := SE) @hsE E hF
theorem BX35_define_b47 {σo : fS} {q : Unit × fS} {N : Nat} {SE : Int → fS → Option (Unit × fS)} (hsE : ∀ {s : fS} {x1 : Int} {q}, bS 1 s → SE x1 s = some q → bE 1 s q.2) : ∀ {n : Nat} {s : fS} {l1 : Int} {l2 : Int} {l3 : Int} {l4 : Int} {l5 : Int} {l6 : Int}, bE 1 σo s → FX35_define_b47 N SE n l1 l2 l3 l4 l5 l6 s = some q → bE 1 σo q.2 := by
  intro n
  induction n with
  | zero => intro s l1 l2 l3 l4 l5 l6 E  hF; simp [FX35_define_b47] at hF
  | succ n ih =>
    intro s l1 l2 l3 l4 l5 l6 E  hF
    rw [FX35_define_b47] at hF
    refine b_if hF (fun hF => ?_) (fun hF => ?_)
    ·
      exact BX35_define_b162 (N := N) (SE := SE) @hsE E hF
    ·
      refine b_call E (fun _ hq => (BX35_isOf (bE.rf E.S) hq)) hF (fun _ hq2 D2 E2 hF => ?_)
      refine b_if hF (fun hF => ?_) (fun hF => ?_)
      ·
        exact BX35_define_b162 (N := N) (SE := SE) @hsE E2 hF
      ·
        refine b_call E2 (fun _ hq => (BX35_isOf (bE.rf E2.S) hq)) hF (fun _ hq3 D3 E3 hF => ?_)
        refine b_if hF (fun hF => ?_) (fun hF => ?_)
        ·
          refine b_call E3 (fun _ hq => (BX35_isOf (bE.rf E3.S) hq)) hF (fun _ hq4 D4 E4 hF => ?_)
          refine b_if hF (fun hF => ?_) (fun hF => ?_)
          ·
            refine b_call E4 (fun _ hq => (BX35_keep (bE.rf E4.S) hq)) hF (fun _ hq6 D6 E6 hF => ?_)
            exact BX35_define_b153 (N := N) (SE := SE) (K47 := FX35_define_b47 N SE n) @hsE @ih E6 hF
          ·
            refine b_call E4 (fun _ hq => (BX35_need (N := N) (bE.rf E4.S) hq)) hF (fun _ hq8 D8 E8 hF => ?_)
            refine b_if hF (fun hF => ?_) (fun hF => ?_)
            ·
              exact BX35_define_b134 (N := N) (SE := SE) (K47 := FX35_define_b47 N SE n) @hsE @ih E8 hF
            ·
              refine b_call E8 (fun _ hq => (BX35_isDigit (bE.rf E8.S) hq)) hF (fun _ hq10 D10 E10 hF => ?_)
              refine b_if hF (fun hF => ?_) (fun hF => ?_)
              ·
                exact BX35_define_b128 (N := N) (SE := SE) (K47 := FX35_define_b47 N SE n) @hsE @ih E10 hF
              ·
                refine b_if hF (fun hF => ?_) (fun hF => ?_)
                ·
                  exact BX35_define_b134 (N := N) (SE := SE) (K47 := FX35_define_b47 N SE n) @hsE @ih E10 hF
                ·
                  exact BX35_define_b128 (N := N) (SE := SE) (K47 := FX35_define_b47 N SE n) @hsE @ih E10 hF
        ·
          refine b_call E3 (fun _ hq => (BX35_fail (bE.rf E3.S) hq)) hF (fun _ hq12 D12 E12 hF => ?_)
          exact BX35_define_b153 (N := N) (SE := SE) (K47 := FX35_define_b47 N SE n) @hsE @ih E12 hF
theorem BX35_define_b32 {σo : fS} {q : Unit × fS} {N : Nat} {SE : Int → fS → Option (Unit × fS)} (hsE : ∀ {s : fS} {x1 : Int} {q}, bS 1 s → SE x1 s = some q → bE 1 s q.2) {s : fS} {l1 : Int} {l2 : Int} {l3 : Int} (E : bE 1 σo s) (hF : FX35_define_b32 N SE l1 l2 l3 s = some q) : bE 1 σo q.2 := by
  unfold FX35_define_b32 at hF
  refine b_call E (fun _ hq => (BX35_need (N := N) (bE.rf E.S) hq)) hF (fun _ hq3 D3 E3 hF => ?_)
  exact BX35_define_b47 (N := N) (SE := SE) @hsE E3 hF
theorem BX35_define {σo : fS} {q : Unit × fS} {N : Nat} {SE : Int → fS → Option (Unit × fS)} (hsE : ∀ {s : fS} {x1 : Int} {q}, bS 1 s → SE x1 s = some q → bE 1 s q.2) {s : fS} {p0 : Int} {p1 : Int} (E : bE 1 σo s) (hF : FX35_define N SE p0 p1 s = some q) : bE 1 σo q.2 := by
  unfold FX35_define at hF
  refine b_call E (fun _ hq => (BX35_target (N := N) (bE.rf E.S) hq)) hF (fun _ hq2 D2 E2 hF => ?_)
  refine b_if hF (fun hF => ?_) (fun hF => ?_)
  ·
    exact BX35_define_b32 (N := N) (SE := SE) @hsE E2 hF
  ·
    refine b_if hF (fun hF => ?_) (fun hF => ?_)
    ·
      exact BX35_define_b32 (N := N) (SE := SE) @hsE E2 hF
    ·
      refine b_call E2 (fun _ hq => (BX35_fail (bE.rf E2.S) hq)) hF (fun _ hq7 D7 E7 hF => ?_)
      exact BX35_define_b32 (N := N) (SE := SE) @hsE E7 hF
