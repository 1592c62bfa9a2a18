set_option maxRecDepth 100000
set_option maxHeartbeats 4000000
theorem BX35_primary_b129 {σo : fS} {q : Int × fS} {N : Nat} {SE : Int → fS → Option (Unit × fS)} {SN : fS → Option (Int × fS)} (hsE : ∀ {s : fS} {x1 : Int} {q}, bS 1 s → SE x1 s = some q → bE 1 s q.2) (hsN : ∀ {s : fS} {q}, bS 1 s → SN s = some q → bE 1 s q.2) {s : fS} {s0 : Int} (E : bE 1 σo s) (hF : FX35_primary_b129 N SE SN s0 s = some q) : bE 1 σo q.2 := by
  unfold FX35_primary_b129 at hF
  exact b_ret E hF
theorem BX35_primary_b108 {σo : fS} {q : Int × fS} {N : Nat} {SE : Int → fS → Option (Unit × fS)} {SN : fS → Option (Int × fS)} (hsE : ∀ {s : fS} {x1 : Int} {q}, bS 1 s → SE x1 s = some q → bE 1 s q.2) (hsN : ∀ {s : fS} {q}, bS 1 s → SN s = some q → bE 1 s q.2) {s : fS} {l2 : Int} {l3 : Int} (E : bE 1 σo s) (hF : FX35_primary_b108 N SE SN l2 l3 s = some q) : bE 1 σo q.2 := by
  unfold FX35_primary_b108 at hF
  refine b_if hF (fun hF => ?_) (fun hF => ?_)
  ·
    refine b_if hF (fun hF => ?_) (fun hF => ?_)
    ·
      exact BX35_primary_b129 (N := N) (SE := SE) (SN := SN) @hsE @hsN E hF
    ·
      exact BX35_primary_b129 (N := N) (SE := SE) (SN := SN) @hsE @hsN E hF
  ·
    exact BX35_primary_b129 (N := N) (SE := SE) (SN := SN) @hsE @hsN E hF
theorem BX35_primary_b93 {σo : fS} {q : Int × fS} {N : Nat} {SE : Int → fS → Option (Unit × fS)} {SN : fS → Option (Int × fS)} (hsE : ∀ {s : fS} {x1 : Int} {q}, bS 1 s → SE x1 s = some q → bE 1 s q.2) (hsN : ∀ {s : fS} {q}, bS 1 s → SN s = some q → bE 1 s q.2) {s : fS} {l1 : Int} {l2 : Int} (E : bE 1 σo s) (hF : FX35_primary_b93 N SE SN l1 l2 s = some q) : bE 1 σo q.2 := by
  unfold FX35_primary_b93 at hF
  refine b_call E (fun _ hq => (BX35_lengthOf (SN := SN) @hsN (bE.rf E.S) hq)) hF (fun _ hq2 D2 E2 hF => ?_)
  exact BX35_primary_b108 (N := N) (SE := SE) (SN := SN) @hsE @hsN E2 hF
theorem BX35_primary {σo : fS} {q : Int × fS} {N : Nat} {SE : Int → fS → Option (Unit × fS)} {SN : fS → Option (Int × fS)} (hsE : ∀ {s : fS} {x1 : Int} {q}, bS 1 s → SE x1 s = some q → bE 1 s q.2) (hsN : ∀ {s : fS} {q}, bS 1 s → SN s = some q → bE 1 s q.2) {s : fS} (E : bE 1 σo s) (hF : FX35_primary N SE SN s = some q) : bE 1 σo q.2 := by
  unfold FX35_primary at hF
  refine b_call E (fun _ hq => (BX35_signs (N := N) (SE := SE) @hsE (bE.rf E.S) hq)) hF (fun _ hq2 D2 E2 hF => ?_)
  refine b_if hF (fun hF => ?_) (fun hF => ?_)
  ·
    refine b_call E2 (fun _ hq => (BX35_isDigit (bE.rf E2.S) hq)) hF (fun _ hq6 D6 E6 hF => ?_)
    refine b_if hF (fun hF => ?_) (fun hF => ?_)
    ·
      refine b_call E6 (fun _ hq => (BX35_is (bE.rf E6.S) hq)) hF (fun _ hq7 D7 E7 hF => ?_)
      refine b_if hF (fun hF => ?_) (fun hF => ?_)
      ·
        refine b_call E7 (fun _ hq => (BX35_hasValue (bE.rf E7.S) hq)) hF (fun _ hq9 D9 E9 hF => ?_)
        refine b_if hF (fun hF => ?_) (fun hF => ?_)
        ·
          refine b_call E9 (fun _ hq => (BX35_hasLength (bE.rf E9.S) hq)) hF (fun _ hq11 D11 E11 hF => ?_)
          refine b_if hF (fun hF => ?_) (fun hF => ?_)
          ·
            exact BX35_primary_b93 (N := N) (SE := SE) (SN := SN) @hsE @hsN E11 hF
          ·
            refine b_call E11 (fun _ hq => (BX35_hasGlue (bE.rf E11.S) hq)) hF (fun _ hq13 D13 E13 hF => ?_)
            refine b_if hF (fun hF => ?_) (fun hF => ?_)
            ·
              refine b_call E13 (fun _ hq => (BX35_fail (bE.rf E13.S) hq)) hF (fun _ hq15 D15 E15 hF => ?_)
              exact BX35_primary_b108 (N := N) (SE := SE) (SN := SN) @hsE @hsN E15 hF
            ·
              exact BX35_primary_b93 (N := N) (SE := SE) (SN := SN) @hsE @hsN E13 hF
        ·
          refine b_call E9 (fun _ hq => (BX35_value (SN := SN) @hsN (bE.rf E9.S) hq)) hF (fun _ hq17 D17 E17 hF => ?_)
          exact BX35_primary_b108 (N := N) (SE := SE) (SN := SN) @hsE @hsN E17 hF
      ·
        refine b_call E7 (fun _ hq => (BX35_quoted (N := N) (SE := SE) @hsE (bE.rf E7.S) hq)) hF (fun _ hq19 D19 E19 hF => ?_)
        exact BX35_primary_b108 (N := N) (SE := SE) (SN := SN) @hsE @hsN E19 hF
    ·
      refine b_call E6 (fun _ hq => (BX35_digits (N := N) (SE := SE) @hsE (bE.rf E6.S) hq)) hF (fun _ hq21 D21 E21 hF => ?_)
      exact BX35_primary_b108 (N := N) (SE := SE) (SN := SN) @hsE @hsN E21 hF
  ·
    exact b_ret E2 hF
theorem BX35_number_b14 {σo : fS} {q : Int × fS} {N : Nat} {SE : Int → fS → Option (Unit × fS)} {SN : fS → Option (Int × fS)} (hsE : ∀ {s : fS} {x1 : Int} {q}, bS 1 s → SE x1 s = some q → bE 1 s q.2) (hsN : ∀ {s : fS} {q}, bS 1 s → SN s = some q → bE 1 s q.2) {s : fS} (E : bE 1 σo s) (hF : FX35_number_b14 N SE SN s = some q) : bE 1 σo q.2 := by
  unfold FX35_number_b14 at hF
  refine b_if hF (fun hF => ?_) (fun hF => ?_)
  ·
    refine b_pI E (E.S.m1 (Nat.le_of_ble_eq_true rfl) (Nat.le_of_ble_eq_true rfl)) hF (fun _ D3 E3 hF => ?_)
    refine b_call E3 (fun _ hq => (BX35_primary (N := N) (SE := SE) (SN := SN) @hsE @hsN (bE.rf E3.S) hq)) hF (fun _ hq5 D5 E5 hF => ?_)
    refine b_pI E5 (E5.S.m1 (Nat.le_of_ble_eq_true rfl) (Nat.le_of_ble_eq_true rfl)) hF (fun _ D7 E7 hF => ?_)
    exact b_ret E7 hF
  ·
    exact b_ret E hF
theorem BX35_number {σo : fS} {q : Int × fS} {N : Nat} {SE : Int → fS → Option (Unit × fS)} {SN : fS → Option (Int × fS)} (hsE : ∀ {s : fS} {x1 : Int} {q}, bS 1 s → SE x1 s = some q → bE 1 s q.2) (hsN : ∀ {s : fS} {q}, bS 1 s → SN s = some q → bE 1 s q.2) {s : fS} (E : bE 1 σo s) (hF : FX35_number N SE SN s = some q) : bE 1 σo q.2 := by
  unfold FX35_number at hF
  refine b_if hF (fun hF => ?_) (fun hF => ?_)
  ·
    exact BX35_number_b14 (N := N) (SE := SE) (SN := SN) @hsE @hsN E hF
  ·
    refine b_call E (fun _ hq => (BX35_fail (bE.rf E.S) hq)) hF (fun _ hq3 D3 E3 hF => ?_)
    exact BX35_number_b14 (N := N) (SE := SE) (SN := SN) @hsE @hsN E3 hF
theorem BX35_out_b48 {σo : fS} {q : Int × fS} {s : fS} {s0 : Int} (E : bE 1 σo s) (hF : FX35_out_b48 s0 s = some q) : bE 1 σo q.2 := by
  unfold FX35_out_b48 at hF
  exact b_ret E hF
theorem BX35_out_b21 {σo : fS} {q : Int × fS} {s : fS} {l1 : Int} {s1 : Int} (E : bE 1 σo s) (hF : FX35_out_b21 l1 s1 s = some q) : bE 1 σo q.2 := by
  unfold FX35_out_b21 at hF
  refine b_pI E (E.S.m1 (Nat.le_of_ble_eq_true rfl) (Nat.le_of_ble_eq_true rfl)) hF (fun _ D1 E1 hF => ?_)
  refine b_if hF (fun hF => ?_) (fun hF => ?_)
  ·
    refine b_rv hF (fun _ hF => ?_)
    exact BX35_out_b48 E1 hF
  ·
    exact BX35_out_b48 E1 hF
theorem BX35_out_b16 {σo : fS} {q : Int × fS} {s : fS} {l1 : Int} (E : bE 1 σo s) (hF : FX35_out_b16 l1 s = some q) : bE 1 σo q.2 := by
  unfold FX35_out_b16 at hF
  exact BX35_out_b21 E hF
theorem BX35_out {σo : fS} {q : Int × fS} {s : fS} {p0 : Int} (E : bE 1 σo s) (hF : FX35_out p0 s = some q) : bE 1 σo q.2 := by
  unfold FX35_out at hF
  refine b_if hF (fun hF => ?_) (fun hF => ?_)
  ·
    exact BX35_out_b16 E hF
  ·
    refine b_if hF (fun hF => ?_) (fun hF => ?_)
    ·
      exact BX35_out_b21 E hF
    ·
      exact BX35_out_b16 E hF
theorem BX35_size {σo : fS} {q : Int × fS} {s : fS} (E : bE 1 σo s) (hF : FX35_size s = some q) : bE 1 σo q.2 := by
  unfold FX35_size at hF
  refine b_pI E (E.S.m1 (Nat.le_of_ble_eq_true rfl) (Nat.le_of_ble_eq_true rfl)) hF (fun _ D1 E1 hF => ?_)
  exact b_ret E1 hF
theorem BX35_thrown {σo : fS} {q : Int × fS} {s : fS} (E : bE 1 σo s) (hF : FX35_thrown s = some q) : bE 1 σo q.2 := by
  unfold FX35_thrown at hF
  exact b_ret E hF
