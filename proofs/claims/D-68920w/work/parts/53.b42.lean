set_option maxRecDepth 100000
set_option maxHeartbeats 4000000
theorem BX35_digits_b52 {σo : fS} {q : Int × fS} {N : Nat} {SE : Int → fS → Option (Unit × fS)} {K5 : Int → Int → fS → Option (Int × fS)} (hsE : ∀ {s : fS} {x1 : Int} {q}, bS 1 s → SE x1 s = some q → bE 1 s q.2) (hk5 : ∀ {s : fS} {l2 : Int} {l4 : Int}, bE 1 σo s → K5 l2 l4 s = some q → bE 1 σo q.2) {s : fS} {l2 : Int} (E : bE 1 σo s) (hF : FX35_digits_b52 N SE K5 l2 s = some q) : bE 1 σo q.2 := by
  unfold FX35_digits_b52 at hF
  refine b_call E (fun _ hq => (BX35_getExpanded (N := N) (SE := SE) @hsE (bE.rf E.S) hq)) hF (fun _ hq2 D2 E2 hF => ?_)
  exact hk5 E2 hF
theorem BX35_digits_b97 {σo : fS} {q : Int × fS} {N : Nat} {SE : Int → fS → Option (Unit × fS)} (hsE : ∀ {s : fS} {x1 : Int} {q}, bS 1 s → SE x1 s = some q → bE 1 s q.2) {s : fS} {s0 : Int} (E : bE 1 σo s) (hF : FX35_digits_b97 N SE s0 s = some q) : bE 1 σo q.2 := by
  unfold FX35_digits_b97 at hF
  exact b_ret E hF
theorem BX35_digits_b84 {σo : fS} {q : Int × fS} {N : Nat} {SE : Int → fS → Option (Unit × fS)} (hsE : ∀ {s : fS} {x1 : Int} {q}, bS 1 s → SE x1 s = some q → bE 1 s q.2) {s : fS} {l2 : Int} (E : bE 1 σo s) (hF : FX35_digits_b84 N SE l2 s = some q) : bE 1 σo q.2 := by
  unfold FX35_digits_b84 at hF
  refine b_if hF (fun hF => ?_) (fun hF => ?_)
  ·
    exact BX35_digits_b97 (N := N) (SE := SE) @hsE E hF
  ·
    exact BX35_digits_b97 (N := N) (SE := SE) @hsE E hF
theorem BX35_digits_b61 {σo : fS} {q : Int × fS} {N : Nat} {SE : Int → fS → Option (Unit × fS)} (hsE : ∀ {s : fS} {x1 : Int} {q}, bS 1 s → SE x1 s = some q → bE 1 s q.2) {s : fS} {l2 : Int} {l4 : Int} (E : bE 1 σo s) (hF : FX35_digits_b61 N SE l2 l4 s = some q) : bE 1 σo q.2 := by
  unfold FX35_digits_b61 at hF
  refine b_if hF (fun hF => ?_) (fun hF => ?_)
  ·
    exact BX35_digits_b84 (N := N) (SE := SE) @hsE E hF
  ·
    refine b_call E (fun _ hq => (BX35_isOf (bE.rf E.S) hq)) hF (fun _ hq2 D2 E2 hF => ?_)
    refine b_if hF (fun hF => ?_) (fun hF => ?_)
    ·
      exact BX35_digits_b84 (N := N) (SE := SE) @hsE E2 hF
    ·
      refine b_call E2 (fun _ hq => (BX35_put (bE.rf E2.S) hq)) hF (fun _ hq4 D4 E4 hF => ?_)
      exact BX35_digits_b84 (N := N) (SE := SE) @hsE E4 hF
theorem BX35_digits_b5 {σo : fS} {q : Int × fS} {N : Nat} {SE : Int → fS → Option (Unit × fS)} (hsE : ∀ {s : fS} {x1 : Int} {q}, bS 1 s → SE x1 s = some q → bE 1 s q.2) : ∀ {n : Nat} {s : fS} {l2 : Int} {l4 : Int}, bE 1 σo s → FX35_digits_b5 N SE n l2 l4 s = some q → bE 1 σo q.2 := by
  intro n
  induction n with
  | zero => intro s l2 l4 E  hF; simp [FX35_digits_b5] at hF
  | succ n ih =>
    intro s l2 l4 E  hF
    rw [FX35_digits_b5] at hF
    refine b_call E (fun _ hq => (BX35_isDigit (bE.rf E.S) hq)) hF (fun _ hq1 D1 E1 hF => ?_)
    refine b_if hF (fun hF => ?_) (fun hF => ?_)
    ·
      exact BX35_digits_b61 (N := N) (SE := SE) @hsE E1 hF
    ·
      refine b_if hF (fun hF => ?_) (fun hF => ?_)
      ·
        exact BX35_digits_b61 (N := N) (SE := SE) @hsE E1 hF
      ·
        refine b_if hF (fun hF => ?_) (fun hF => ?_)
        ·
          exact BX35_digits_b52 (N := N) (SE := SE) (K5 := FX35_digits_b5 N SE n) @hsE @ih E1 hF
        ·
          refine b_call E1 (fun _ hq => (BX35_fail (bE.rf E1.S) hq)) hF (fun _ hq4 D4 E4 hF => ?_)
          exact BX35_digits_b52 (N := N) (SE := SE) (K5 := FX35_digits_b5 N SE n) @hsE @ih E4 hF
theorem BX35_digits {σo : fS} {q : Int × fS} {N : Nat} {SE : Int → fS → Option (Unit × fS)} (hsE : ∀ {s : fS} {x1 : Int} {q}, bS 1 s → SE x1 s = some q → bE 1 s q.2) {s : fS} {p0 : Int} (E : bE 1 σo s) (hF : FX35_digits N SE p0 s = some q) : bE 1 σo q.2 := by
  unfold FX35_digits at hF
  exact BX35_digits_b5 (N := N) (SE := SE) @hsE E hF
theorem BX35_openGroup_b24 {σo : fS} {q : Unit × fS} {N : Nat} : ∀ {n : Nat} {s : fS} {l1 : Int} {l2 : Int}, bE 1 σo s → FX35_openGroup_b24 N n l1 l2 s = some q → bE 1 σo q.2 := by
  intro n
  induction n with
  | zero => intro s l1 l2 E  hF; simp [FX35_openGroup_b24] at hF
  | succ n ih =>
    intro s l1 l2 E  hF
    rw [FX35_openGroup_b24] at hF
    refine b_if hF (fun hF => ?_) (fun hF => ?_)
    ·
      refine b_pI E (E.S.m1 (Nat.le_of_ble_eq_true rfl) (Nat.le_of_ble_eq_true rfl)) hF (fun _ D2 E2 hF => ?_)
      refine b_qI E2 (E2.S.m1 (Nat.le_of_ble_eq_true rfl) (Nat.le_of_ble_eq_true rfl)) hF (fun _ D5 E5 hF => ?_)
      exact b_ret E5 hF
    ·
      refine b_rv hF (fun _ hF => ?_)
      refine b_qI E (E.S.m1 (Nat.le_of_ble_eq_true rfl) (Nat.le_of_ble_eq_true rfl)) hF (fun _ D11 E11 hF => ?_)
      exact ih E11 hF
theorem BX35_openGroup_b14 {σo : fS} {q : Unit × fS} {N : Nat} {s : fS} {l1 : Int} (E : bE 1 σo s) (hF : FX35_openGroup_b14 N l1 s = some q) : bE 1 σo q.2 := by
  unfold FX35_openGroup_b14 at hF
  refine b_if hF (fun hF => ?_) (fun hF => ?_)
  ·
    exact BX35_openGroup_b24 (N := N) E hF
  ·
    exact b_ret E hF
theorem BX35_openGroup {σo : fS} {q : Unit × fS} {N : Nat} {s : fS} {p0 : Int} (E : bE 1 σo s) (hF : FX35_openGroup N p0 s = some q) : bE 1 σo q.2 := by
  unfold FX35_openGroup at hF
  refine b_if hF (fun hF => ?_) (fun hF => ?_)
  ·
    exact BX35_openGroup_b14 (N := N) E hF
  ·
    refine b_call E (fun _ hq => (BX35_fail (bE.rf E.S) hq)) hF (fun _ hq3 D3 E3 hF => ?_)
    exact BX35_openGroup_b14 (N := N) E3 hF
theorem BX35_space_b64 {σo : fS} {q : Unit × fS} {N : Nat} {SL : Int → Int → Int → fS → Option (Int × fS)} (hsL : ∀ {s : fS} {x1 : Int} {x2 : Int} {x3 : Int} {q}, bS 1 s → SL x1 x2 x3 s = some q → bE 1 s q.2) {s : fS} {s1 : Int} {s2 : Int} {s3 : Int} {s4 : Int} (E : bE 1 σo s) (hF : FX35_space_b64 N SL s1 s2 s3 s4 s = some q) : bE 1 σo q.2 := by
  unfold FX35_space_b64 at hF
  refine b_call E (fun _ hq => (BX35_glueItem (N := N) (SL := SL) @hsL (bE.rf E.S) hq)) hF (fun _ hq2 D2 E2 hF => ?_)
  exact b_ret E2 hF
theorem BX35_space_b54 {σo : fS} {q : Unit × fS} {N : Nat} {SL : Int → Int → Int → fS → Option (Int × fS)} (hsL : ∀ {s : fS} {x1 : Int} {x2 : Int} {x3 : Int} {q}, bS 1 s → SL x1 x2 x3 s = some q → bE 1 s q.2) {s : fS} {l3 : Int} {s1 : Int} {s2 : Int} (E : bE 1 σo s) (hF : FX35_space_b54 N SL l3 s1 s2 s = some q) : bE 1 σo q.2 := by
  unfold FX35_space_b54 at hF
  refine b_if hF (fun hF => ?_) (fun hF => ?_)
  ·
    exact BX35_space_b64 (N := N) (SL := SL) @hsL E hF
  ·
    exact BX35_space_b64 (N := N) (SL := SL) @hsL E hF
theorem BX35_space {σo : fS} {q : Unit × fS} {N : Nat} {SL : Int → Int → Int → fS → Option (Int × fS)} (hsL : ∀ {s : fS} {x1 : Int} {x2 : Int} {x3 : Int} {q}, bS 1 s → SL x1 x2 x3 s = some q → bE 1 s q.2) {s : fS} (E : bE 1 σo s) (hF : FX35_space N SL s = some q) : bE 1 σo q.2 := by
  unfold FX35_space at hF
  refine b_call E (fun _ hq => (BX35_isVertical (bE.rf E.S) hq)) hF (fun _ hq2 D2 E2 hF => ?_)
  refine b_if hF (fun hF => ?_) (fun hF => ?_)
  ·
    refine b_call E2 (fun _ hq => (BX35_now (bE.rf E2.S) hq)) hF (fun _ hq4 D4 E4 hF => ?_)
    refine b_if hF (fun hF => ?_) (fun hF => ?_)
    ·
      refine b_call E4 (fun _ hq => (BX35_parameter (N := N) (bE.rf E4.S) hq)) hF (fun _ hq6 D6 E6 hF => ?_)
      refine b_call E6 (fun _ hq => (BX35_parameter (N := N) (bE.rf E6.S) hq)) hF (fun _ hq8 D8 E8 hF => ?_)
      refine b_call E8 (fun _ hq => (BX35_parameter (N := N) (bE.rf E8.S) hq)) hF (fun _ hq10 D10 E10 hF => ?_)
      refine b_if hF (fun hF => ?_) (fun hF => ?_)
      ·
        exact BX35_space_b54 (N := N) (SL := SL) @hsL E10 hF
      ·
        exact BX35_space_b54 (N := N) (SL := SL) @hsL E10 hF
    ·
      refine b_call E4 (fun _ hq => (BX35_fail (bE.rf E4.S) hq)) hF (fun _ hq12 D12 E12 hF => ?_)
      exact b_ret E12 hF
  ·
    exact b_ret E2 hF
theorem BX35_doCharacter_b18 {σo : fS} {q : Unit × fS} {N : Nat} {SL : Int → Int → Int → fS → Option (Int × fS)} (hsL : ∀ {s : fS} {x1 : Int} {x2 : Int} {x3 : Int} {q}, bS 1 s → SL x1 x2 x3 s = some q → bE 1 s q.2) {s : fS} {l1 : Int} (E : bE 1 σo s) (hF : FX35_doCharacter_b18 N SL l1 s = some q) : bE 1 σo q.2 := by
  unfold FX35_doCharacter_b18 at hF
  refine b_call E (fun _ hq => (BX35_character (N := N) (SL := SL) @hsL (bE.rf E.S) hq)) hF (fun _ hq2 D2 E2 hF => ?_)
  exact b_ret E2 hF
theorem BX35_doCharacter_b95 {σo : fS} {q : Unit × fS} {N : Nat} {SL : Int → Int → Int → fS → Option (Int × fS)} (hsL : ∀ {s : fS} {x1 : Int} {x2 : Int} {x3 : Int} {q}, bS 1 s → SL x1 x2 x3 s = some q → bE 1 s q.2) {s : fS} (E : bE 1 σo s) (hF : FX35_doCharacter_b95 N SL s = some q) : bE 1 σo q.2 := by
  unfold FX35_doCharacter_b95 at hF
  exact b_ret E hF
theorem BX35_doCharacter_b92 {σo : fS} {q : Unit × fS} {N : Nat} {SL : Int → Int → Int → fS → Option (Int × fS)} (hsL : ∀ {s : fS} {x1 : Int} {x2 : Int} {x3 : Int} {q}, bS 1 s → SL x1 x2 x3 s = some q → bE 1 s q.2) {s : fS} {s1 : Int} (E : bE 1 σo s) (hF : FX35_doCharacter_b92 N SL s1 s = some q) : bE 1 σo q.2 := by
  unfold FX35_doCharacter_b92 at hF
  refine b_call E (fun _ hq => (BX35_fail (bE.rf E.S) hq)) hF (fun _ hq2 D2 E2 hF => ?_)
  exact BX35_doCharacter_b95 (N := N) (SL := SL) @hsL E2 hF
theorem BX35_doCharacter {σo : fS} {q : Unit × fS} {N : Nat} {SL : Int → Int → Int → fS → Option (Int × fS)} (hsL : ∀ {s : fS} {x1 : Int} {x2 : Int} {x3 : Int} {q}, bS 1 s → SL x1 x2 x3 s = some q → bE 1 s q.2) {s : fS} {p0 : Int} (E : bE 1 σo s) (hF : FX35_doCharacter N SL p0 s = some q) : bE 1 σo q.2 := by
  unfold FX35_doCharacter at hF
  refine b_if hF (fun hF => ?_) (fun hF => ?_)
  ·
    exact BX35_doCharacter_b18 (N := N) (SL := SL) @hsL E hF
  ·
    refine b_if hF (fun hF => ?_) (fun hF => ?_)
    ·
      refine b_call E (fun _ hq => (BX35_endWord (N := N) (bE.rf E.S) hq)) hF (fun _ hq2 D2 E2 hF => ?_)
      refine b_if hF (fun hF => ?_) (fun hF => ?_)
      ·
        refine b_if hF (fun hF => ?_) (fun hF => ?_)
        ·
          refine b_if hF (fun hF => ?_) (fun hF => ?_)
          ·
            refine b_if hF (fun hF => ?_) (fun hF => ?_)
            ·
              refine b_if hF (fun hF => ?_) (fun hF => ?_)
              ·
                exact BX35_doCharacter_b92 (N := N) (SL := SL) @hsL E2 hF
              ·
                exact BX35_doCharacter_b92 (N := N) (SL := SL) @hsL E2 hF
            ·
              refine b_call E2 (fun _ hq => (BX35_space (N := N) (SL := SL) @hsL (bE.rf E2.S) hq)) hF (fun _ hq5 D5 E5 hF => ?_)
              exact BX35_doCharacter_b95 (N := N) (SL := SL) @hsL E5 hF
          ·
            refine b_call E2 (fun _ hq => (BX35_closeBrace (N := N) (SL := SL) @hsL (bE.rf E2.S) hq)) hF (fun _ hq7 D7 E7 hF => ?_)
            exact BX35_doCharacter_b95 (N := N) (SL := SL) @hsL E7 hF
        ·
          refine b_call E2 (fun _ hq => (BX35_openGroup (N := N) (bE.rf E2.S) hq)) hF (fun _ hq9 D9 E9 hF => ?_)
          exact BX35_doCharacter_b95 (N := N) (SL := SL) @hsL E9 hF
      ·
        exact b_ret E2 hF
    ·
      exact BX35_doCharacter_b18 (N := N) (SL := SL) @hsL E hF
theorem BX35_needSolid_b24 {σo : fS} {q : Int × fS} {N : Nat} {SE : Int → fS → Option (Unit × fS)} {K5 : Int → fS → Option (Int × fS)} (hsE : ∀ {s : fS} {x1 : Int} {q}, bS 1 s → SE x1 s = some q → bE 1 s q.2) (hk5 : ∀ {s : fS} {l1 : Int}, bE 1 σo s → K5 l1 s = some q → bE 1 σo q.2) {s : fS} (E : bE 1 σo s) (hF : FX35_needSolid_b24 N SE K5 s = some q) : bE 1 σo q.2 := by
  unfold FX35_needSolid_b24 at hF
  refine b_call E (fun _ hq => (BX35_needExpanded (N := N) (SE := SE) @hsE (bE.rf E.S) hq)) hF (fun _ hq2 D2 E2 hF => ?_)
  exact hk5 E2 hF
theorem BX35_needSolid_b5 {σo : fS} {q : Int × fS} {N : Nat} {SE : Int → fS → Option (Unit × fS)} (hsE : ∀ {s : fS} {x1 : Int} {q}, bS 1 s → SE x1 s = some q → bE 1 s q.2) : ∀ {n : Nat} {s : fS} {l1 : Int}, bE 1 σo s → FX35_needSolid_b5 N SE n l1 s = some q → bE 1 σo q.2 := by
  intro n
  induction n with
  | zero => intro s l1 E  hF; simp [FX35_needSolid_b5] at hF
  | succ n ih =>
    intro s l1 E  hF
    rw [FX35_needSolid_b5] at hF
    refine b_call E (fun _ hq => (BX35_isOf (bE.rf E.S) hq)) hF (fun _ hq1 D1 E1 hF => ?_)
    refine b_if hF (fun hF => ?_) (fun hF => ?_)
    ·
      exact BX35_needSolid_b24 (N := N) (SE := SE) (K5 := FX35_needSolid_b5 N SE n) @hsE @ih E1 hF
    ·
      refine b_call E1 (fun _ hq => (BX35_means (bE.rf E1.S) hq)) hF (fun _ hq3 D3 E3 hF => ?_)
      refine b_if hF (fun hF => ?_) (fun hF => ?_)
      ·
        exact b_ret E3 hF
      ·
        exact BX35_needSolid_b24 (N := N) (SE := SE) (K5 := FX35_needSolid_b5 N SE n) @hsE @ih E3 hF
theorem BX35_needSolid {σo : fS} {q : Int × fS} {N : Nat} {SE : Int → fS → Option (Unit × fS)} (hsE : ∀ {s : fS} {x1 : Int} {q}, bS 1 s → SE x1 s = some q → bE 1 s q.2) {s : fS} (E : bE 1 σo s) (hF : FX35_needSolid N SE s = some q) : bE 1 σo q.2 := by
  unfold FX35_needSolid at hF
  refine b_call E (fun _ hq => (BX35_needExpanded (N := N) (SE := SE) @hsE (bE.rf E.S) hq)) hF (fun _ hq2 D2 E2 hF => ?_)
  exact BX35_needSolid_b5 (N := N) (SE := SE) @hsE E2 hF
theorem BX35_openBox_b200 {σo : fS} {q : Unit × fS} {N : Nat} {SE : Int → fS → Option (Unit × fS)} {SN : fS → Option (Int × fS)} (hsE : ∀ {s : fS} {x1 : Int} {q}, bS 1 s → SE x1 s = some q → bE 1 s q.2) (hsN : ∀ {s : fS} {q}, bS 1 s → SN s = some q → bE 1 s q.2) {s : fS} {s1 : Int} (E : bE 1 σo s) (hF : FX35_openBox_b200 N SE SN s1 s = some q) : bE 1 σo q.2 := by
  unfold FX35_openBox_b200 at hF
  refine b_call E (fun _ hq => (BX35_openList (bE.rf E.S) hq)) hF (fun _ hq2 D2 E2 hF => ?_)
  exact b_ret E2 hF
theorem BX35_openBox_b114 {σo : fS} {q : Unit × fS} {N : Nat} {SE : Int → fS → Option (Unit × fS)} {SN : fS → Option (Int × fS)} (hsE : ∀ {s : fS} {x1 : Int} {q}, bS 1 s → SE x1 s = some q → bE 1 s q.2) (hsN : ∀ {s : fS} {q}, bS 1 s → SN s = some q → bE 1 s q.2) {s : fS} {l1 : Int} {l2 : Int} {l3 : Int} {l4 : Int} {l5 : Int} {l6 : Int} (E : bE 1 σo s) (hF : FX35_openBox_b114 N SE SN l1 l2 l3 l4 l5 l6 s = some q) : bE 1 σo q.2 := by
  unfold FX35_openBox_b114 at hF
  refine b_call E (fun _ hq => (BX35_openGroup (N := N) (bE.rf E.S) hq)) hF (fun _ hq2 D2 E2 hF => ?_)
  refine b_if hF (fun hF => ?_) (fun hF => ?_)
  ·
    refine b_qI E2 (E2.S.m1 (Nat.le_of_ble_eq_true rfl) (Nat.le_of_ble_eq_true rfl)) hF (fun _ D6 E6 hF => ?_)
    refine b_qI E6 (E6.S.m1 (Nat.le_of_ble_eq_true rfl) (Nat.le_of_ble_eq_true rfl)) hF (fun _ D9 E9 hF => ?_)
    refine b_qI E9 (E9.S.m1 (Nat.le_of_ble_eq_true rfl) (Nat.le_of_ble_eq_true rfl)) hF (fun _ D12 E12 hF => ?_)
    refine b_qI E12 (E12.S.m1 (Nat.le_of_ble_eq_true rfl) (Nat.le_of_ble_eq_true rfl)) hF (fun _ D15 E15 hF => ?_)
    refine b_qI E15 (E15.S.m1 (Nat.le_of_ble_eq_true rfl) (Nat.le_of_ble_eq_true rfl)) hF (fun _ D18 E18 hF => ?_)
    refine b_qI E18 (E18.S.m1 (Nat.le_of_ble_eq_true rfl) (Nat.le_of_ble_eq_true rfl)) hF (fun _ D21 E21 hF => ?_)
    refine b_if hF (fun hF => ?_) (fun hF => ?_)
    ·
      exact BX35_openBox_b200 (N := N) (SE := SE) (SN := SN) @hsE @hsN E21 hF
    ·
      exact BX35_openBox_b200 (N := N) (SE := SE) (SN := SN) @hsE @hsN E21 hF
  ·
    exact b_ret E2 hF
theorem BX35_openBox_b108 {σo : fS} {q : Unit × fS} {N : Nat} {SE : Int → fS → Option (Unit × fS)} {SN : fS → Option (Int × fS)} (hsE : ∀ {s : fS} {x1 : Int} {q}, bS 1 s → SE x1 s = some q → bE 1 s q.2) (hsN : ∀ {s : fS} {q}, bS 1 s → SN s = some q → bE 1 s q.2) {s : fS} {l1 : Int} {l2 : Int} {l3 : Int} {l4 : Int} {l5 : Int} {l6 : Int} (E : bE 1 σo s) (hF : FX35_openBox_b108 N SE SN l1 l2 l3 l4 l5 l6 s = some q) : bE 1 σo q.2 := by
  unfold FX35_openBox_b108 at hF
  refine b_call E (fun _ hq => (BX35_fail (bE.rf E.S) hq)) hF (fun _ hq2 D2 E2 hF => ?_)
  exact BX35_openBox_b114 (N := N) (SE := SE) (SN := SN) @hsE @hsN E2 hF
theorem BX35_openBox_b51 {σo : fS} {q : Unit × fS} {N : Nat} {SE : Int → fS → Option (Unit × fS)} {SN : fS → Option (Int × fS)} (hsE : ∀ {s : fS} {x1 : Int} {q}, bS 1 s → SE x1 s = some q → bE 1 s q.2) (hsN : ∀ {s : fS} {q}, bS 1 s → SN s = some q → bE 1 s q.2) {s : fS} {l1 : Int} {l2 : Int} {l3 : Int} {l4 : Int} {l5 : Int} {s0 : Int} (E : bE 1 σo s) (hF : FX35_openBox_b51 N SE SN l1 l2 l3 l4 l5 s0 s = some q) : bE 1 σo q.2 := by
  unfold FX35_openBox_b51 at hF
  refine b_call E (fun _ hq => (BX35_needSolid (N := N) (SE := SE) @hsE (bE.rf E.S) hq)) hF (fun _ hq2 D2 E2 hF => ?_)
  refine b_if hF (fun hF => ?_) (fun hF => ?_)
  ·
    exact BX35_openBox_b114 (N := N) (SE := SE) (SN := SN) @hsE @hsN E2 hF
  ·
    refine b_call E2 (fun _ hq => (BX35_meaning (bE.rf E2.S) hq)) hF (fun _ hq5 D5 E5 hF => ?_)
    refine b_if hF (fun hF => ?_) (fun hF => ?_)
    ·
      exact BX35_openBox_b108 (N := N) (SE := SE) (SN := SN) @hsE @hsN E5 hF
    ·
      refine b_call E5 (fun _ hq => (BX35_meaning (bE.rf E5.S) hq)) hF (fun _ hq7 D7 E7 hF => ?_)
      refine b_if hF (fun hF => ?_) (fun hF => ?_)
      ·
        exact BX35_openBox_b108 (N := N) (SE := SE) (SN := SN) @hsE @hsN E7 hF
      ·
        refine b_call E7 (fun _ hq => (BX35_meaning (bE.rf E7.S) hq)) hF (fun _ hq9 D9 E9 hF => ?_)
        refine b_if hF (fun hF => ?_) (fun hF => ?_)
        ·
          exact BX35_openBox_b114 (N := N) (SE := SE) (SN := SN) @hsE @hsN E9 hF
        ·
          exact BX35_openBox_b108 (N := N) (SE := SE) (SN := SN) @hsE @hsN E9 hF
theorem BX35_openBox_b50 {σo : fS} {q : Unit × fS} {N : Nat} {SE : Int → fS → Option (Unit × fS)} {SN : fS → Option (Int × fS)} (hsE : ∀ {s : fS} {x1 : Int} {q}, bS 1 s → SE x1 s = some q → bE 1 s q.2) (hsN : ∀ {s : fS} {q}, bS 1 s → SN s = some q → bE 1 s q.2) {s : fS} {l1 : Int} {l2 : Int} {l3 : Int} {l4 : Int} {l5 : Int} (E : bE 1 σo s) (hF : FX35_openBox_b50 N SE SN l1 l2 l3 l4 l5 s = some q) : bE 1 σo q.2 := by
  unfold FX35_openBox_b50 at hF
  exact BX35_openBox_b51 (N := N) (SE := SE) (SN := SN) @hsE @hsN E hF
theorem BX35_openBox_b29 {σo : fS} {q : Unit × fS} {N : Nat} {SE : Int → fS → Option (Unit × fS)} {SN : fS → Option (Int × fS)} (hsE : ∀ {s : fS} {x1 : Int} {q}, bS 1 s → SE x1 s = some q → bE 1 s q.2) (hsN : ∀ {s : fS} {q}, bS 1 s → SN s = some q → bE 1 s q.2) {s : fS} {l1 : Int} {l2 : Int} {l3 : Int} {l4 : Int} {s0 : Int} (E : bE 1 σo s) (hF : FX35_openBox_b29 N SE SN l1 l2 l3 l4 s0 s = some q) : bE 1 σo q.2 := by
  unfold FX35_openBox_b29 at hF
  refine b_if hF (fun hF => ?_) (fun hF => ?_)
  ·
    exact BX35_openBox_b50 (N := N) (SE := SE) (SN := SN) @hsE @hsN E hF
  ·
    refine b_if hF (fun hF => ?_) (fun hF => ?_)
    ·
      exact BX35_openBox_b50 (N := N) (SE := SE) (SN := SN) @hsE @hsN E hF
    ·
      refine b_call E (fun _ hq => (BX35_dimension (N := N) (SE := SE) (SN := SN) @hsE @hsN (bE.rf E.S) hq)) hF (fun _ hq3 D3 E3 hF => ?_)
      exact BX35_openBox_b51 (N := N) (SE := SE) (SN := SN) @hsE @hsN E3 hF
theorem BX35_openBox {σo : fS} {q : Unit × fS} {N : Nat} {SE : Int → fS → Option (Unit × fS)} {SN : fS → Option (Int × fS)} (hsE : ∀ {s : fS} {x1 : Int} {q}, bS 1 s → SE x1 s = some q → bE 1 s q.2) (hsN : ∀ {s : fS} {q}, bS 1 s → SN s = some q → bE 1 s q.2) {s : fS} {p0 : Int} {p1 : Int} {p2 : Int} {p3 : Int} (E : bE 1 σo s) (hF : FX35_openBox N SE SN p0 p1 p2 p3 s = some q) : bE 1 σo q.2 := by
  unfold FX35_openBox at hF
  refine b_call E (fun _ hq => (BX35_keyword (N := N) (SE := SE) @hsE (bE.rf E.S) hq)) hF (fun _ hq2 D2 E2 hF => ?_)
  refine b_if hF (fun hF => ?_) (fun hF => ?_)
  ·
    refine b_call E2 (fun _ hq => (BX35_keyword (N := N) (SE := SE) @hsE (bE.rf E2.S) hq)) hF (fun _ hq4 D4 E4 hF => ?_)
    refine b_if hF (fun hF => ?_) (fun hF => ?_)
    ·
      exact BX35_openBox_b29 (N := N) (SE := SE) (SN := SN) @hsE @hsN E4 hF
    ·
      exact BX35_openBox_b29 (N := N) (SE := SE) (SN := SN) @hsE @hsN E4 hF
  ·
    exact BX35_openBox_b29 (N := N) (SE := SE) (SN := SN) @hsE @hsN E2 hF
theorem BX35_readFrom_b146 {σo : fS} {q : Unit × fS} {N : Nat} {SE : Int → fS → Option (Unit × fS)} {SL : Int → Int → Int → fS → Option (Int × fS)} {SN : fS → Option (Int × fS)} (hsE : ∀ {s : fS} {x1 : Int} {q}, bS 1 s → SE x1 s = some q → bE 1 s q.2) (hsL : ∀ {s : fS} {x1 : Int} {x2 : Int} {x3 : Int} {q}, bS 1 s → SL x1 x2 x3 s = some q → bE 1 s q.2) (hsN : ∀ {s : fS} {q}, bS 1 s → SN s = some q → bE 1 s q.2) {s : fS} (E : bE 1 σo s) (hF : FX35_readFrom_b146 N SE SL SN s = some q) : bE 1 σo q.2 := by
  unfold FX35_readFrom_b146 at hF
  exact b_ret E hF
theorem BX35_readFrom_b93 {σo : fS} {q : Unit × fS} {N : Nat} {SE : Int → fS → Option (Unit × fS)} {SL : Int → Int → Int → fS → Option (Int × fS)} {SN : fS → Option (Int × fS)} (hsE : ∀ {s : fS} {x1 : Int} {q}, bS 1 s → SE x1 s = some q → bE 1 s q.2) (hsL : ∀ {s : fS} {x1 : Int} {x2 : Int} {x3 : Int} {q}, bS 1 s → SL x1 x2 x3 s = some q → bE 1 s q.2) (hsN : ∀ {s : fS} {q}, bS 1 s → SN s = some q → bE 1 s q.2) {s : fS} {l2 : Int} {l3 : Int} {l4 : Int} {l6 : Int} (E : bE 1 σo s) (hF : FX35_readFrom_b93 N SE SL SN l2 l3 l4 l6 s = some q) : bE 1 σo q.2 := by
  unfold FX35_readFrom_b93 at hF
  refine b_call E (fun _ hq => (BX35_goesTo (N := N) (SL := SL) @hsL (bE.rf E.S) hq)) hF (fun _ hq2 D2 E2 hF => ?_)
  exact BX35_readFrom_b146 (N := N) (SE := SE) (SL := SL) (SN := SN) @hsE @hsL @hsN E2 hF
theorem BX35_readFrom_b53 {σo : fS} {q : Unit × fS} {N : Nat} {SE : Int → fS → Option (Unit × fS)} {SL : Int → Int → Int → fS → Option (Int × fS)} {SN : fS → Option (Int × fS)} (hsE : ∀ {s : fS} {x1 : Int} {q}, bS 1 s → SE x1 s = some q → bE 1 s q.2) (hsL : ∀ {s : fS} {x1 : Int} {x2 : Int} {x3 : Int} {q}, bS 1 s → SL x1 x2 x3 s = some q → bE 1 s q.2) (hsN : ∀ {s : fS} {q}, bS 1 s → SN s = some q → bE 1 s q.2) : ∀ {n : Nat} {s : fS} {l1 : Int} {l2 : Int} {l3 : Int} {l4 : Int} {l5 : Int} {l6 : Int} {l7 : Int}, bE 1 σo s → FX35_readFrom_b53 N SE SL SN n l1 l2 l3 l4 l5 l6 l7 s = some q → bE 1 σo q.2 := by
  intro n
  induction n with
  | zero => intro s l1 l2 l3 l4 l5 l6 l7 E  hF; simp [FX35_readFrom_b53] at hF
  | succ n ih =>
    intro s l1 l2 l3 l4 l5 l6 l7 E  hF
    rw [FX35_readFrom_b53] at hF
    refine b_if hF (fun hF => ?_) (fun hF => ?_)
    ·
      exact BX35_readFrom_b93 (N := N) (SE := SE) (SL := SL) (SN := SN) @hsE @hsL @hsN E hF
    ·
      refine b_if hF (fun hF => ?_) (fun hF => ?_)
      ·
        exact BX35_readFrom_b93 (N := N) (SE := SE) (SL := SL) (SN := SN) @hsE @hsL @hsN E hF
      ·
        refine b_qI E (E.S.m1 (Nat.le_of_ble_eq_true rfl) (Nat.le_of_ble_eq_true rfl)) hF (fun _ D3 E3 hF => ?_)
        exact ih E3 hF
theorem BX35_readFrom_b12 {σo : fS} {q : Unit × fS} {N : Nat} {SE : Int → fS → Option (Unit × fS)} {SL : Int → Int → Int → fS → Option (Int × fS)} {SN : fS → Option (Int × fS)} (hsE : ∀ {s : fS} {x1 : Int} {q}, bS 1 s → SE x1 s = some q → bE 1 s q.2) (hsL : ∀ {s : fS} {x1 : Int} {x2 : Int} {x3 : Int} {q}, bS 1 s → SL x1 x2 x3 s = some q → bE 1 s q.2) (hsN : ∀ {s : fS} {q}, bS 1 s → SN s = some q → bE 1 s q.2) {s : fS} {l1 : Int} {l2 : Int} {l3 : Int} {l4 : Int} (E : bE 1 σo s) (hF : FX35_readFrom_b12 N SE SL SN l1 l2 l3 l4 s = some q) : bE 1 σo q.2 := by
  unfold FX35_readFrom_b12 at hF
  refine b_call E (fun _ hq => (BX35_small (SN := SN) @hsN (bE.rf E.S) hq)) hF (fun _ hq2 D2 E2 hF => ?_)
  refine b_if hF (fun hF => ?_) (fun hF => ?_)
  ·
    refine b_call E2 (fun _ hq => (BX35_now (bE.rf E2.S) hq)) hF (fun _ hq5 D5 E5 hF => ?_)
    refine b_call E5 (fun _ hq => (BX35_now (bE.rf E5.S) hq)) hF (fun _ hq7 D7 E7 hF => ?_)
    exact BX35_readFrom_b53 (N := N) (SE := SE) (SL := SL) (SN := SN) @hsE @hsL @hsN E7 hF
  ·
    exact b_ret E2 hF
theorem BX35_readFrom_b130 {σo : fS} {q : Unit × fS} {N : Nat} {SE : Int → fS → Option (Unit × fS)} {SL : Int → Int → Int → fS → Option (Int × fS)} {SN : fS → Option (Int × fS)} (hsE : ∀ {s : fS} {x1 : Int} {q}, bS 1 s → SE x1 s = some q → bE 1 s q.2) (hsL : ∀ {s : fS} {x1 : Int} {x2 : Int} {x3 : Int} {q}, bS 1 s → SL x1 x2 x3 s = some q → bE 1 s q.2) (hsN : ∀ {s : fS} {q}, bS 1 s → SN s = some q → bE 1 s q.2) {s : fS} {l2 : Int} {l3 : Int} {l4 : Int} {s1 : Int} (E : bE 1 σo s) (hF : FX35_readFrom_b130 N SE SL SN l2 l3 l4 s1 s = some q) : bE 1 σo q.2 := by
  unfold FX35_readFrom_b130 at hF
  refine b_call E (fun _ hq => (BX35_openBox (N := N) (SE := SE) (SN := SN) @hsE @hsN (bE.rf E.S) hq)) hF (fun _ hq2 D2 E2 hF => ?_)
  exact BX35_readFrom_b146 (N := N) (SE := SE) (SL := SL) (SN := SN) @hsE @hsL @hsN E2 hF
theorem BX35_readFrom_b118 {σo : fS} {q : Unit × fS} {N : Nat} {SE : Int → fS → Option (Unit × fS)} {SL : Int → Int → Int → fS → Option (Int × fS)} {SN : fS → Option (Int × fS)} (hsE : ∀ {s : fS} {x1 : Int} {q}, bS 1 s → SE x1 s = some q → bE 1 s q.2) (hsL : ∀ {s : fS} {x1 : Int} {x2 : Int} {x3 : Int} {q}, bS 1 s → SL x1 x2 x3 s = some q → bE 1 s q.2) (hsN : ∀ {s : fS} {q}, bS 1 s → SN s = some q → bE 1 s q.2) {s : fS} {l1 : Int} {l2 : Int} {l3 : Int} {l4 : Int} (E : bE 1 σo s) (hF : FX35_readFrom_b118 N SE SL SN l1 l2 l3 l4 s = some q) : bE 1 σo q.2 := by
  unfold FX35_readFrom_b118 at hF
  refine b_if hF (fun hF => ?_) (fun hF => ?_)
  ·
    exact BX35_readFrom_b130 (N := N) (SE := SE) (SL := SL) (SN := SN) @hsE @hsL @hsN E hF
  ·
    exact BX35_readFrom_b130 (N := N) (SE := SE) (SL := SL) (SN := SN) @hsE @hsL @hsN E hF
theorem BX35_readFrom {σo : fS} {q : Unit × fS} {N : Nat} {SE : Int → fS → Option (Unit × fS)} {SL : Int → Int → Int → fS → Option (Int × fS)} {SN : fS → Option (Int × fS)} (hsE : ∀ {s : fS} {x1 : Int} {q}, bS 1 s → SE x1 s = some q → bE 1 s q.2) (hsL : ∀ {s : fS} {x1 : Int} {x2 : Int} {x3 : Int} {q}, bS 1 s → SL x1 x2 x3 s = some q → bE 1 s q.2) (hsN : ∀ {s : fS} {q}, bS 1 s → SN s = some q → bE 1 s q.2) {s : fS} {p0 : Int} {p1 : Int} {p2 : Int} {p3 : Int} (E : bE 1 σo s) (hF : FX35_readFrom N SE SL SN p0 p1 p2 p3 s = some q) : bE 1 σo q.2 := by
  unfold FX35_readFrom at hF
  refine b_if hF (fun hF => ?_) (fun hF => ?_)
  ·
    exact BX35_readFrom_b12 (N := N) (SE := SE) (SL := SL) (SN := SN) @hsE @hsL @hsN E hF
  ·
    refine b_if hF (fun hF => ?_) (fun hF => ?_)
    ·
      refine b_if hF (fun hF => ?_) (fun hF => ?_)
      ·
        exact BX35_readFrom_b118 (N := N) (SE := SE) (SL := SL) (SN := SN) @hsE @hsL @hsN E hF
      ·
        refine b_if hF (fun hF => ?_) (fun hF => ?_)
        ·
          refine b_call E (fun _ hq => (BX35_fail (bE.rf E.S) hq)) hF (fun _ hq2 D2 E2 hF => ?_)
          exact BX35_readFrom_b146 (N := N) (SE := SE) (SL := SL) (SN := SN) @hsE @hsL @hsN E2 hF
        ·
          exact BX35_readFrom_b118 (N := N) (SE := SE) (SL := SL) (SN := SN) @hsE @hsL @hsN E hF
    ·
      exact BX35_readFrom_b12 (N := N) (SE := SE) (SL := SL) (SN := SN) @hsE @hsL @hsN E hF
theorem BX35_horizontally_b24 {σo : fS} {q : Int × fS} {N : Nat} {SL : Int → Int → Int → fS → Option (Int × fS)} (hsL : ∀ {s : fS} {x1 : Int} {x2 : Int} {x3 : Int} {q}, bS 1 s → SL x1 x2 x3 s = some q → bE 1 s q.2) {s : fS} {s0 : Int} (E : bE 1 σo s) (hF : FX35_horizontally_b24 N SL s0 s = some q) : bE 1 σo q.2 := by
  unfold FX35_horizontally_b24 at hF
  exact b_z E hF
theorem BX35_horizontally_b12 {σo : fS} {q : Int × fS} {N : Nat} {SL : Int → Int → Int → fS → Option (Int × fS)} (hsL : ∀ {s : fS} {x1 : Int} {x2 : Int} {x3 : Int} {q}, bS 1 s → SL x1 x2 x3 s = some q → bE 1 s q.2) {s : fS} (E : bE 1 σo s) (hF : FX35_horizontally_b12 N SL s = some q) : bE 1 σo q.2 := by
  unfold FX35_horizontally_b12 at hF
  refine b_if hF (fun hF => ?_) (fun hF => ?_)
  ·
    exact BX35_horizontally_b24 (N := N) (SL := SL) @hsL E hF
  ·
    exact BX35_horizontally_b24 (N := N) (SL := SL) @hsL E hF
theorem BX35_horizontally {σo : fS} {q : Int × fS} {N : Nat} {SL : Int → Int → Int → fS → Option (Int × fS)} (hsL : ∀ {s : fS} {x1 : Int} {x2 : Int} {x3 : Int} {q}, bS 1 s → SL x1 x2 x3 s = some q → bE 1 s q.2) {s : fS} (E : bE 1 σo s) (hF : FX35_horizontally N SL s = some q) : bE 1 σo q.2 := by
  unfold FX35_horizontally at hF
  refine b_call E (fun _ hq => (BX35_isVertical (bE.rf E.S) hq)) hF (fun _ hq2 D2 E2 hF => ?_)
  refine b_if hF (fun hF => ?_) (fun hF => ?_)
  ·
    exact BX35_horizontally_b12 (N := N) (SL := SL) @hsL E2 hF
  ·
    refine b_call E2 (fun _ hq => (BX35_beginParagraph (N := N) (SL := SL) @hsL (bE.rf E2.S) hq)) hF (fun _ hq4 D4 E4 hF => ?_)
    exact BX35_horizontally_b12 (N := N) (SL := SL) @hsL E4 hF
theorem BX35_readGlue_b125 {σo : fS} {q : Unit × fS} {N : Nat} {SE : Int → fS → Option (Unit × fS)} {SN : fS → Option (Int × fS)} (hsE : ∀ {s : fS} {x1 : Int} {q}, bS 1 s → SE x1 s = some q → bE 1 s q.2) (hsN : ∀ {s : fS} {q}, bS 1 s → SN s = some q → bE 1 s q.2) {s : fS} (E : bE 1 σo s) (hF : FX35_readGlue_b125 N SE SN s = some q) : bE 1 σo q.2 := by
  unfold FX35_readGlue_b125 at hF
  exact b_ret E hF
theorem BX35_readGlue_b119 {σo : fS} {q : Unit × fS} {N : Nat} {SE : Int → fS → Option (Unit × fS)} {SN : fS → Option (Int × fS)} (hsE : ∀ {s : fS} {x1 : Int} {q}, bS 1 s → SE x1 s = some q → bE 1 s q.2) (hsN : ∀ {s : fS} {q}, bS 1 s → SN s = some q → bE 1 s q.2) {s : fS} (E : bE 1 σo s) (hF : FX35_readGlue_b119 N SE SN s = some q) : bE 1 σo q.2 := by
  unfold FX35_readGlue_b119 at hF
  refine b_call E (fun _ hq => (BX35_fail (bE.rf E.S) hq)) hF (fun _ hq2 D2 E2 hF => ?_)
  exact BX35_readGlue_b125 (N := N) (SE := SE) (SN := SN) @hsE @hsN E2 hF
theorem BX35_readGlue_b58 {σo : fS} {q : Unit × fS} {N : Nat} {SE : Int → fS → Option (Unit × fS)} {SN : fS → Option (Int × fS)} (hsE : ∀ {s : fS} {x1 : Int} {q}, bS 1 s → SE x1 s = some q → bE 1 s q.2) (hsN : ∀ {s : fS} {q}, bS 1 s → SN s = some q → bE 1 s q.2) {s : fS} {l1 : Int} {l3 : Int} {s1 : Int} (E : bE 1 σo s) (hF : FX35_readGlue_b58 N SE SN l1 l3 s1 s = some q) : bE 1 σo q.2 := by
  unfold FX35_readGlue_b58 at hF
  refine b_pI E (E.S.m1 (Nat.le_of_ble_eq_true rfl) (Nat.le_of_ble_eq_true rfl)) hF (fun _ D1 E1 hF => ?_)
  refine b_call E1 (fun _ hq => (BX35_now (bE.rf E1.S) hq)) hF (fun _ hq3 D3 E3 hF => ?_)
  refine b_pI E3 (E3.S.m1 (Nat.le_of_ble_eq_true rfl) (Nat.le_of_ble_eq_true rfl)) hF (fun _ D4 E4 hF => ?_)
  refine b_call E4 (fun _ hq => (BX35_now (bE.rf E4.S) hq)) hF (fun _ hq6 D6 E6 hF => ?_)
  refine b_pI E6 (E6.S.m1 (Nat.le_of_ble_eq_true rfl) (Nat.le_of_ble_eq_true rfl)) hF (fun _ D7 E7 hF => ?_)
  refine b_call E7 (fun _ hq => (BX35_now (bE.rf E7.S) hq)) hF (fun _ hq9 D9 E9 hF => ?_)
  refine b_pI E9 (E9.S.m1 (Nat.le_of_ble_eq_true rfl) (Nat.le_of_ble_eq_true rfl)) hF (fun _ D10 E10 hF => ?_)
  refine b_if hF (fun hF => ?_) (fun hF => ?_)
  ·
    exact BX35_readGlue_b125 (N := N) (SE := SE) (SN := SN) @hsE @hsN E10 hF
  ·
    refine b_if hF (fun hF => ?_) (fun hF => ?_)
    ·
      exact BX35_readGlue_b125 (N := N) (SE := SE) (SN := SN) @hsE @hsN E10 hF
    ·
      refine b_if hF (fun hF => ?_) (fun hF => ?_)
      ·
        exact BX35_readGlue_b119 (N := N) (SE := SE) (SN := SN) @hsE @hsN E10 hF
      ·
        refine b_if hF (fun hF => ?_) (fun hF => ?_)
        ·
          exact BX35_readGlue_b125 (N := N) (SE := SE) (SN := SN) @hsE @hsN E10 hF
        ·
          exact BX35_readGlue_b119 (N := N) (SE := SE) (SN := SN) @hsE @hsN E10 hF
theorem BX35_readGlue_b267 {σo : fS} {q : Unit × fS} {N : Nat} {SE : Int → fS → Option (Unit × fS)} {SN : fS → Option (Int × fS)} (hsE : ∀ {s : fS} {x1 : Int} {q}, bS 1 s → SE x1 s = some q → bE 1 s q.2) (hsN : ∀ {s : fS} {q}, bS 1 s → SN s = some q → bE 1 s q.2) {s : fS} {l6 : Int} {s1 : Int} (E : bE 1 σo s) (hF : FX35_readGlue_b267 N SE SN l6 s1 s = some q) : bE 1 σo q.2 := by
  unfold FX35_readGlue_b267 at hF
  refine b_pI E (E.S.m1 (Nat.le_of_ble_eq_true rfl) (Nat.le_of_ble_eq_true rfl)) hF (fun _ D1 E1 hF => ?_)
  refine b_pI E1 (E1.S.m1 (Nat.le_of_ble_eq_true rfl) (Nat.le_of_ble_eq_true rfl)) hF (fun _ D2 E2 hF => ?_)
  exact b_ret E2 hF
theorem BX35_readGlue_b244 {σo : fS} {q : Unit × fS} {N : Nat} {SE : Int → fS → Option (Unit × fS)} {SN : fS → Option (Int × fS)} (hsE : ∀ {s : fS} {x1 : Int} {q}, bS 1 s → SE x1 s = some q → bE 1 s q.2) (hsN : ∀ {s : fS} {q}, bS 1 s → SN s = some q → bE 1 s q.2) {s : fS} {l3 : Int} {l4 : Int} {l5 : Int} {l6 : Int} (E : bE 1 σo s) (hF : FX35_readGlue_b244 N SE SN l3 l4 l5 l6 s = some q) : bE 1 σo q.2 := by
  unfold FX35_readGlue_b244 at hF
  refine b_pI E (E.S.m1 (Nat.le_of_ble_eq_true rfl) (Nat.le_of_ble_eq_true rfl)) hF (fun _ D1 E1 hF => ?_)
  refine b_pI E1 (E1.S.m1 (Nat.le_of_ble_eq_true rfl) (Nat.le_of_ble_eq_true rfl)) hF (fun _ D2 E2 hF => ?_)
  refine b_if hF (fun hF => ?_) (fun hF => ?_)
  ·
    exact BX35_readGlue_b267 (N := N) (SE := SE) (SN := SN) @hsE @hsN E2 hF
  ·
    exact BX35_readGlue_b267 (N := N) (SE := SE) (SN := SN) @hsE @hsN E2 hF
theorem BX35_readGlue_b203 {σo : fS} {q : Unit × fS} {N : Nat} {SE : Int → fS → Option (Unit × fS)} {SN : fS → Option (Int × fS)} (hsE : ∀ {s : fS} {x1 : Int} {q}, bS 1 s → SE x1 s = some q → bE 1 s q.2) (hsN : ∀ {s : fS} {q}, bS 1 s → SN s = some q → bE 1 s q.2) {s : fS} {l3 : Int} {l4 : Int} {l5 : Int} {l6 : Int} (E : bE 1 σo s) (hF : FX35_readGlue_b203 N SE SN l3 l4 l5 l6 s = some q) : bE 1 σo q.2 := by
  unfold FX35_readGlue_b203 at hF
  refine b_if hF (fun hF => ?_) (fun hF => ?_)
  ·
    exact BX35_readGlue_b244 (N := N) (SE := SE) (SN := SN) @hsE @hsN E hF
  ·
    refine b_call E (fun _ hq => (BX35_keyword (N := N) (SE := SE) @hsE (bE.rf E.S) hq)) hF (fun _ hq3 D3 E3 hF => ?_)
    refine b_if hF (fun hF => ?_) (fun hF => ?_)
    ·
      exact BX35_readGlue_b244 (N := N) (SE := SE) (SN := SN) @hsE @hsN E3 hF
    ·
      refine b_call E3 (fun _ hq => (BX35_dimension (N := N) (SE := SE) (SN := SN) @hsE @hsN (bE.rf E3.S) hq)) hF (fun _ hq5 D5 E5 hF => ?_)
      refine b_if hF (fun hF => ?_) (fun hF => ?_)
      ·
        exact BX35_readGlue_b244 (N := N) (SE := SE) (SN := SN) @hsE @hsN E5 hF
      ·
        refine b_if hF (fun hF => ?_) (fun hF => ?_)
        ·
          exact BX35_readGlue_b244 (N := N) (SE := SE) (SN := SN) @hsE @hsN E5 hF
        ·
          refine b_call E5 (fun _ hq => (BX35_fail (bE.rf E5.S) hq)) hF (fun _ hq8 D8 E8 hF => ?_)
          exact BX35_readGlue_b244 (N := N) (SE := SE) (SN := SN) @hsE @hsN E8 hF
theorem BX35_readGlue_b126 {σo : fS} {q : Unit × fS} {N : Nat} {SE : Int → fS → Option (Unit × fS)} {SN : fS → Option (Int × fS)} (hsE : ∀ {s : fS} {x1 : Int} {q}, bS 1 s → SE x1 s = some q → bE 1 s q.2) (hsN : ∀ {s : fS} {q}, bS 1 s → SN s = some q → bE 1 s q.2) {s : fS} {l1 : Int} {l2 : Int} (E : bE 1 σo s) (hF : FX35_readGlue_b126 N SE SN l1 l2 s = some q) : bE 1 σo q.2 := by
  unfold FX35_readGlue_b126 at hF
  refine b_call E (fun _ hq => (BX35_sizeFrom (N := N) (SE := SE) (SN := SN) @hsE @hsN (bE.rf E.S) hq)) hF (fun _ hq2 D2 E2 hF => ?_)
  refine b_if hF (fun hF => ?_) (fun hF => ?_)
  ·
    exact BX35_readGlue_b203 (N := N) (SE := SE) (SN := SN) @hsE @hsN E2 hF
  ·
    refine b_call E2 (fun _ hq => (BX35_keyword (N := N) (SE := SE) @hsE (bE.rf E2.S) hq)) hF (fun _ hq5 D5 E5 hF => ?_)
    refine b_if hF (fun hF => ?_) (fun hF => ?_)
    ·
      exact BX35_readGlue_b203 (N := N) (SE := SE) (SN := SN) @hsE @hsN E5 hF
    ·
      refine b_call E5 (fun _ hq => (BX35_signs (N := N) (SE := SE) @hsE (bE.rf E5.S) hq)) hF (fun _ hq7 D7 E7 hF => ?_)
      refine b_call E7 (fun _ hq => (BX35_sizeFrom (N := N) (SE := SE) (SN := SN) @hsE @hsN (bE.rf E7.S) hq)) hF (fun _ hq11 D11 E11 hF => ?_)
      refine b_if hF (fun hF => ?_) (fun hF => ?_)
      ·
        exact BX35_readGlue_b203 (N := N) (SE := SE) (SN := SN) @hsE @hsN E11 hF
      ·
        refine b_if hF (fun hF => ?_) (fun hF => ?_)
        ·
          exact BX35_readGlue_b203 (N := N) (SE := SE) (SN := SN) @hsE @hsN E11 hF
        ·
          refine b_call E11 (fun _ hq => (BX35_fail (bE.rf E11.S) hq)) hF (fun _ hq15 D15 E15 hF => ?_)
          exact BX35_readGlue_b203 (N := N) (SE := SE) (SN := SN) @hsE @hsN E15 hF
theorem BX35_readGlue {σo : fS} {q : Unit × fS} {N : Nat} {SE : Int → fS → Option (Unit × fS)} {SN : fS → Option (Int × fS)} (hsE : ∀ {s : fS} {x1 : Int} {q}, bS 1 s → SE x1 s = some q → bE 1 s q.2) (hsN : ∀ {s : fS} {q}, bS 1 s → SN s = some q → bE 1 s q.2) {s : fS} (E : bE 1 σo s) (hF : FX35_readGlue N SE SN s = some q) : bE 1 σo q.2 := by
  unfold FX35_readGlue at hF
  refine b_call E (fun _ hq => (BX35_signs (N := N) (SE := SE) @hsE (bE.rf E.S) hq)) hF (fun _ hq2 D2 E2 hF => ?_)
  refine b_if hF (fun hF => ?_) (fun hF => ?_)
  ·
    exact BX35_readGlue_b126 (N := N) (SE := SE) (SN := SN) @hsE @hsN E2 hF
  ·
    refine b_call E2 (fun _ hq => (BX35_hasGlue (bE.rf E2.S) hq)) hF (fun _ hq7 D7 E7 hF => ?_)
    refine b_if hF (fun hF => ?_) (fun hF => ?_)
    ·
      exact BX35_readGlue_b126 (N := N) (SE := SE) (SN := SN) @hsE @hsN E7 hF
    ·
      refine b_call E7 (fun _ hq => (BX35_primitiveOf (bE.rf E7.S) hq)) hF (fun _ hq9 D9 E9 hF => ?_)
      refine b_call E9 (fun _ hq => (BX35_at (SN := SN) @hsN (bE.rf E9.S) hq)) hF (fun _ hq11 D11 E11 hF => ?_)
      refine b_if hF (fun hF => ?_) (fun hF => ?_)
      ·
        refine b_call E11 (fun _ hq => (BX35_now (bE.rf E11.S) hq)) hF (fun _ hq13 D13 E13 hF => ?_)
        exact BX35_readGlue_b58 (N := N) (SE := SE) (SN := SN) @hsE @hsN E13 hF
      ·
        refine b_call E11 (fun _ hq => (BX35_now (bE.rf E11.S) hq)) hF (fun _ hq15 D15 E15 hF => ?_)
        exact BX35_readGlue_b58 (N := N) (SE := SE) (SN := SN) @hsE @hsN E15 hF
theorem BX35_skip_b31 {σo : fS} {q : Unit × fS} {N : Nat} {SE : Int → fS → Option (Unit × fS)} {SL : Int → Int → Int → fS → Option (Int × fS)} {SN : fS → Option (Int × fS)} (hsE : ∀ {s : fS} {x1 : Int} {q}, bS 1 s → SE x1 s = some q → bE 1 s q.2) (hsL : ∀ {s : fS} {x1 : Int} {x2 : Int} {x3 : Int} {q}, bS 1 s → SL x1 x2 x3 s = some q → bE 1 s q.2) (hsN : ∀ {s : fS} {q}, bS 1 s → SN s = some q → bE 1 s q.2) {s : fS} (E : bE 1 σo s) (hF : FX35_skip_b31 N SE SL SN s = some q) : bE 1 σo q.2 := by
  unfold FX35_skip_b31 at hF
  exact b_ret E hF
theorem BX35_skip {σo : fS} {q : Unit × fS} {N : Nat} {SE : Int → fS → Option (Unit × fS)} {SL : Int → Int → Int → fS → Option (Int × fS)} {SN : fS → Option (Int × fS)} (hsE : ∀ {s : fS} {x1 : Int} {q}, bS 1 s → SE x1 s = some q → bE 1 s q.2) (hsL : ∀ {s : fS} {x1 : Int} {x2 : Int} {x3 : Int} {q}, bS 1 s → SL x1 x2 x3 s = some q → bE 1 s q.2) (hsN : ∀ {s : fS} {q}, bS 1 s → SN s = some q → bE 1 s q.2) {s : fS} (E : bE 1 σo s) (hF : FX35_skip N SE SL SN s = some q) : bE 1 σo q.2 := by
  unfold FX35_skip at hF
  refine b_call E (fun _ hq => (BX35_readGlue (N := N) (SE := SE) (SN := SN) @hsE @hsN (bE.rf E.S) hq)) hF (fun _ hq2 D2 E2 hF => ?_)
  refine b_if hF (fun hF => ?_) (fun hF => ?_)
  ·
    exact BX35_skip_b31 (N := N) (SE := SE) (SL := SL) (SN := SN) @hsE @hsL @hsN E2 hF
  ·
    refine b_call E2 (fun _ hq => (BX35_glueItem (N := N) (SL := SL) @hsL (bE.rf E2.S) hq)) hF (fun _ hq9 D9 E9 hF => ?_)
    exact BX35_skip_b31 (N := N) (SE := SE) (SL := SL) (SN := SN) @hsE @hsL @hsN E9 hF
theorem BX35_vertically_b41 {σo : fS} {q : Int × fS} {N : Nat} {SL : Int → Int → Int → fS → Option (Int × fS)} (hsL : ∀ {s : fS} {x1 : Int} {x2 : Int} {x3 : Int} {q}, bS 1 s → SL x1 x2 x3 s = some q → bE 1 s q.2) {s : fS} {s0 : Int} (E : bE 1 σo s) (hF : FX35_vertically_b41 N SL s0 s = some q) : bE 1 σo q.2 := by
  unfold FX35_vertically_b41 at hF
  exact b_z E hF
theorem BX35_vertically_b29 {σo : fS} {q : Int × fS} {N : Nat} {SL : Int → Int → Int → fS → Option (Int × fS)} (hsL : ∀ {s : fS} {x1 : Int} {x2 : Int} {x3 : Int} {q}, bS 1 s → SL x1 x2 x3 s = some q → bE 1 s q.2) {s : fS} (E : bE 1 σo s) (hF : FX35_vertically_b29 N SL s = some q) : bE 1 σo q.2 := by
  unfold FX35_vertically_b29 at hF
  refine b_if hF (fun hF => ?_) (fun hF => ?_)
  ·
    exact BX35_vertically_b41 (N := N) (SL := SL) @hsL E hF
  ·
    exact BX35_vertically_b41 (N := N) (SL := SL) @hsL E hF
theorem BX35_vertically {σo : fS} {q : Int × fS} {N : Nat} {SL : Int → Int → Int → fS → Option (Int × fS)} (hsL : ∀ {s : fS} {x1 : Int} {x2 : Int} {x3 : Int} {q}, bS 1 s → SL x1 x2 x3 s = some q → bE 1 s q.2) {s : fS} (E : bE 1 σo s) (hF : FX35_vertically N SL s = some q) : bE 1 σo q.2 := by
  unfold FX35_vertically at hF
  refine b_call E (fun _ hq => (BX35_mode (bE.rf E.S) hq)) hF (fun _ hq2 D2 E2 hF => ?_)
  refine b_if hF (fun hF => ?_) (fun hF => ?_)
  ·
    refine b_call E2 (fun _ hq => (BX35_mode (bE.rf E2.S) hq)) hF (fun _ hq4 D4 E4 hF => ?_)
    refine b_if hF (fun hF => ?_) (fun hF => ?_)
    ·
      exact BX35_vertically_b29 (N := N) (SL := SL) @hsL E4 hF
    ·
      refine b_call E4 (fun _ hq => (BX35_endParagraph (N := N) (SL := SL) @hsL (bE.rf E4.S) hq)) hF (fun _ hq6 D6 E6 hF => ?_)
      exact BX35_vertically_b29 (N := N) (SL := SL) @hsL E6 hF
  ·
    refine b_call E2 (fun _ hq => (BX35_fail (bE.rf E2.S) hq)) hF (fun _ hq8 D8 E8 hF => ?_)
    exact BX35_vertically_b29 (N := N) (SL := SL) @hsL E8 hF
theorem BX35_kernItem_b31 {σo : fS} {q : Unit × fS} {N : Nat} {SL : Int → Int → Int → fS → Option (Int × fS)} (hsL : ∀ {s : fS} {x1 : Int} {x2 : Int} {x3 : Int} {q}, bS 1 s → SL x1 x2 x3 s = some q → bE 1 s q.2) {s : fS} (E : bE 1 σo s) (hF : FX35_kernItem_b31 N SL s = some q) : bE 1 σo q.2 := by
  unfold FX35_kernItem_b31 at hF
  exact b_ret E hF
theorem BX35_kernItem {σo : fS} {q : Unit × fS} {N : Nat} {SL : Int → Int → Int → fS → Option (Int × fS)} (hsL : ∀ {s : fS} {x1 : Int} {x2 : Int} {x3 : Int} {q}, bS 1 s → SL x1 x2 x3 s = some q → bE 1 s q.2) {s : fS} {p0 : Int} (E : bE 1 σo s) (hF : FX35_kernItem N SL p0 s = some q) : bE 1 σo q.2 := by
  unfold FX35_kernItem at hF
  refine b_call E (fun _ hq => (BX35_mode (bE.rf E.S) hq)) hF (fun _ hq2 D2 E2 hF => ?_)
  refine b_if hF (fun hF => ?_) (fun hF => ?_)
  ·
    refine b_call E2 (fun _ hq => (BX35_item (N := N) (bE.rf E2.S) hq)) hF (fun _ hq4 D4 E4 hF => ?_)
    exact BX35_kernItem_b31 (N := N) (SL := SL) @hsL E4 hF
  ·
    refine b_call E2 (fun _ hq => (BX35_outer (N := N) (SL := SL) @hsL (bE.rf E2.S) hq)) hF (fun _ hq6 D6 E6 hF => ?_)
    exact BX35_kernItem_b31 (N := N) (SL := SL) @hsL E6 hF
theorem BX35_ruleItem_b74 {σo : fS} {q : Unit × fS} {N : Nat} {SL : Int → Int → Int → fS → Option (Int × fS)} (hsL : ∀ {s : fS} {x1 : Int} {x2 : Int} {x3 : Int} {q}, bS 1 s → SL x1 x2 x3 s = some q → bE 1 s q.2) {s : fS} (E : bE 1 σo s) (hF : FX35_ruleItem_b74 N SL s = some q) : bE 1 σo q.2 := by
  unfold FX35_ruleItem_b74 at hF
  exact b_ret E hF
theorem BX35_ruleItem_b53 {σo : fS} {q : Unit × fS} {N : Nat} {SL : Int → Int → Int → fS → Option (Int × fS)} (hsL : ∀ {s : fS} {x1 : Int} {x2 : Int} {x3 : Int} {q}, bS 1 s → SL x1 x2 x3 s = some q → bE 1 s q.2) {s : fS} (E : bE 1 σo s) (hF : FX35_ruleItem_b53 N SL s = some q) : bE 1 σo q.2 := by
  unfold FX35_ruleItem_b53 at hF
  refine b_call E (fun _ hq => (BX35_isVertical (bE.rf E.S) hq)) hF (fun _ hq2 D2 E2 hF => ?_)
  refine b_if hF (fun hF => ?_) (fun hF => ?_)
  ·
    exact BX35_ruleItem_b74 (N := N) (SL := SL) @hsL E2 hF
  ·
    refine b_qI E2 (E2.S.m1 (Nat.le_of_ble_eq_true rfl) (Nat.le_of_ble_eq_true rfl)) hF (fun _ D5 E5 hF => ?_)
    exact BX35_ruleItem_b74 (N := N) (SL := SL) @hsL E5 hF
theorem BX35_ruleItem_b34 {σo : fS} {q : Unit × fS} {N : Nat} {SL : Int → Int → Int → fS → Option (Int × fS)} (hsL : ∀ {s : fS} {x1 : Int} {x2 : Int} {x3 : Int} {q}, bS 1 s → SL x1 x2 x3 s = some q → bE 1 s q.2) {s : fS} {l1 : Int} {s1 : Int} {s2 : Int} {s3 : Int} {s4 : Int} (E : bE 1 σo s) (hF : FX35_ruleItem_b34 N SL l1 s1 s2 s3 s4 s = some q) : bE 1 σo q.2 := by
  unfold FX35_ruleItem_b34 at hF
  refine b_call E (fun _ hq => (BX35_outer (N := N) (SL := SL) @hsL (bE.rf E.S) hq)) hF (fun _ hq2 D2 E2 hF => ?_)
  exact BX35_ruleItem_b53 (N := N) (SL := SL) @hsL E2 hF
theorem BX35_ruleItem_b22 {σo : fS} {q : Unit × fS} {N : Nat} {SL : Int → Int → Int → fS → Option (Int × fS)} (hsL : ∀ {s : fS} {x1 : Int} {x2 : Int} {x3 : Int} {q}, bS 1 s → SL x1 x2 x3 s = some q → bE 1 s q.2) {s : fS} {l1 : Int} {l3 : Int} {s1 : Int} {s2 : Int} {s3 : Int} (E : bE 1 σo s) (hF : FX35_ruleItem_b22 N SL l1 l3 s1 s2 s3 s = some q) : bE 1 σo q.2 := by
  unfold FX35_ruleItem_b22 at hF
  refine b_if hF (fun hF => ?_) (fun hF => ?_)
  ·
    exact BX35_ruleItem_b34 (N := N) (SL := SL) @hsL E hF
  ·
    exact BX35_ruleItem_b34 (N := N) (SL := SL) @hsL E hF
theorem BX35_ruleItem {σo : fS} {q : Unit × fS} {N : Nat} {SL : Int → Int → Int → fS → Option (Int × fS)} (hsL : ∀ {s : fS} {x1 : Int} {x2 : Int} {x3 : Int} {q}, bS 1 s → SL x1 x2 x3 s = some q → bE 1 s q.2) {s : fS} {p0 : Int} {p1 : Int} {p2 : Int} (E : bE 1 σo s) (hF : FX35_ruleItem N SL p0 p1 p2 s = some q) : bE 1 σo q.2 := by
  unfold FX35_ruleItem at hF
  refine b_call E (fun _ hq => (BX35_mode (bE.rf E.S) hq)) hF (fun _ hq2 D2 E2 hF => ?_)
  refine b_if hF (fun hF => ?_) (fun hF => ?_)
  ·
    refine b_call E2 (fun _ hq => (BX35_item (N := N) (bE.rf E2.S) hq)) hF (fun _ hq4 D4 E4 hF => ?_)
    exact BX35_ruleItem_b53 (N := N) (SL := SL) @hsL E4 hF
  ·
    refine b_if hF (fun hF => ?_) (fun hF => ?_)
    ·
      exact BX35_ruleItem_b22 (N := N) (SL := SL) @hsL E2 hF
    ·
      exact BX35_ruleItem_b22 (N := N) (SL := SL) @hsL E2 hF
theorem BX35_rule_b95 {σo : fS} {q : Unit × fS} {N : Nat} {SE : Int → fS → Option (Unit × fS)} {SL : Int → Int → Int → fS → Option (Int × fS)} {SN : fS → Option (Int × fS)} {K12 : Int → Int → Int → Int → fS → Option (Unit × fS)} (hsE : ∀ {s : fS} {x1 : Int} {q}, bS 1 s → SE x1 s = some q → bE 1 s q.2) (hsL : ∀ {s : fS} {x1 : Int} {x2 : Int} {x3 : Int} {q}, bS 1 s → SL x1 x2 x3 s = some q → bE 1 s q.2) (hsN : ∀ {s : fS} {q}, bS 1 s → SN s = some q → bE 1 s q.2) (hk12 : ∀ {s : fS} {l4 : Int} {l5 : Int} {l6 : Int} {l7 : Int}, bE 1 σo s → K12 l4 l5 l6 l7 s = some q → bE 1 σo q.2) {s : fS} {l4 : Int} {l5 : Int} {l6 : Int} (E : bE 1 σo s) (hF : FX35_rule_b95 N SE SL SN K12 l4 l5 l6 s = some q) : bE 1 σo q.2 := by
  unfold FX35_rule_b95 at hF
  exact hk12 E hF
theorem BX35_rule_b69 {σo : fS} {q : Unit × fS} {N : Nat} {SE : Int → fS → Option (Unit × fS)} {SL : Int → Int → Int → fS → Option (Int × fS)} {SN : fS → Option (Int × fS)} {K12 : Int → Int → Int → Int → fS → Option (Unit × fS)} (hsE : ∀ {s : fS} {x1 : Int} {q}, bS 1 s → SE x1 s = some q → bE 1 s q.2) (hsL : ∀ {s : fS} {x1 : Int} {x2 : Int} {x3 : Int} {q}, bS 1 s → SL x1 x2 x3 s = some q → bE 1 s q.2) (hsN : ∀ {s : fS} {q}, bS 1 s → SN s = some q → bE 1 s q.2) (hk12 : ∀ {s : fS} {l4 : Int} {l5 : Int} {l6 : Int} {l7 : Int}, bE 1 σo s → K12 l4 l5 l6 l7 s = some q → bE 1 σo q.2) {s : fS} {l4 : Int} {l5 : Int} {l6 : Int} {l7 : Int} (E : bE 1 σo s) (hF : FX35_rule_b69 N SE SL SN K12 l4 l5 l6 l7 s = some q) : bE 1 σo q.2 := by
  unfold FX35_rule_b69 at hF
  refine b_if hF (fun hF => ?_) (fun hF => ?_)
  ·
    exact BX35_rule_b95 (N := N) (SE := SE) (SL := SL) (SN := SN) (K12 := K12) @hsE @hsL @hsN @hk12 E hF
  ·
    refine b_call E (fun _ hq => (BX35_keyword (N := N) (SE := SE) @hsE (bE.rf E.S) hq)) hF (fun _ hq3 D3 E3 hF => ?_)
    refine b_if hF (fun hF => ?_) (fun hF => ?_)
    ·
      exact BX35_rule_b95 (N := N) (SE := SE) (SL := SL) (SN := SN) (K12 := K12) @hsE @hsL @hsN @hk12 E3 hF
    ·
      refine b_call E3 (fun _ hq => (BX35_dimension (N := N) (SE := SE) (SN := SN) @hsE @hsN (bE.rf E3.S) hq)) hF (fun _ hq5 D5 E5 hF => ?_)
      exact hk12 E5 hF
theorem BX35_rule_b118 {σo : fS} {q : Unit × fS} {N : Nat} {SE : Int → fS → Option (Unit × fS)} {SL : Int → Int → Int → fS → Option (Int × fS)} {SN : fS → Option (Int × fS)} (hsE : ∀ {s : fS} {x1 : Int} {q}, bS 1 s → SE x1 s = some q → bE 1 s q.2) (hsL : ∀ {s : fS} {x1 : Int} {x2 : Int} {x3 : Int} {q}, bS 1 s → SL x1 x2 x3 s = some q → bE 1 s q.2) (hsN : ∀ {s : fS} {q}, bS 1 s → SN s = some q → bE 1 s q.2) {s : fS} (E : bE 1 σo s) (hF : FX35_rule_b118 N SE SL SN s = some q) : bE 1 σo q.2 := by
  unfold FX35_rule_b118 at hF
  exact b_ret E hF
theorem BX35_rule_b101 {σo : fS} {q : Unit × fS} {N : Nat} {SE : Int → fS → Option (Unit × fS)} {SL : Int → Int → Int → fS → Option (Int × fS)} {SN : fS → Option (Int × fS)} (hsE : ∀ {s : fS} {x1 : Int} {q}, bS 1 s → SE x1 s = some q → bE 1 s q.2) (hsL : ∀ {s : fS} {x1 : Int} {x2 : Int} {x3 : Int} {q}, bS 1 s → SL x1 x2 x3 s = some q → bE 1 s q.2) (hsN : ∀ {s : fS} {q}, bS 1 s → SN s = some q → bE 1 s q.2) {s : fS} {l4 : Int} {l5 : Int} {l6 : Int} (E : bE 1 σo s) (hF : FX35_rule_b101 N SE SL SN l4 l5 l6 s = some q) : bE 1 σo q.2 := by
  unfold FX35_rule_b101 at hF
  refine b_if hF (fun hF => ?_) (fun hF => ?_)
  ·
    exact BX35_rule_b118 (N := N) (SE := SE) (SL := SL) (SN := SN) @hsE @hsL @hsN E hF
  ·
    refine b_call E (fun _ hq => (BX35_ruleItem (N := N) (SL := SL) @hsL (bE.rf E.S) hq)) hF (fun _ hq3 D3 E3 hF => ?_)
    exact BX35_rule_b118 (N := N) (SE := SE) (SL := SL) (SN := SN) @hsE @hsL @hsN E3 hF
theorem BX35_rule_b12 {σo : fS} {q : Unit × fS} {N : Nat} {SE : Int → fS → Option (Unit × fS)} {SL : Int → Int → Int → fS → Option (Int × fS)} {SN : fS → Option (Int × fS)} (hsE : ∀ {s : fS} {x1 : Int} {q}, bS 1 s → SE x1 s = some q → bE 1 s q.2) (hsL : ∀ {s : fS} {x1 : Int} {x2 : Int} {x3 : Int} {q}, bS 1 s → SL x1 x2 x3 s = some q → bE 1 s q.2) (hsN : ∀ {s : fS} {q}, bS 1 s → SN s = some q → bE 1 s q.2) : ∀ {n : Nat} {s : fS} {l4 : Int} {l5 : Int} {l6 : Int} {l7 : Int}, bE 1 σo s → FX35_rule_b12 N SE SL SN n l4 l5 l6 l7 s = some q → bE 1 σo q.2 := by
  intro n
  induction n with
  | zero => intro s l4 l5 l6 l7 E  hF; simp [FX35_rule_b12] at hF
  | succ n ih =>
    intro s l4 l5 l6 l7 E  hF
    rw [FX35_rule_b12] at hF
    refine b_if hF (fun hF => ?_) (fun hF => ?_)
    ·
      exact BX35_rule_b101 (N := N) (SE := SE) (SL := SL) (SN := SN) @hsE @hsL @hsN E hF
    ·
      refine b_if hF (fun hF => ?_) (fun hF => ?_)
      ·
        exact BX35_rule_b101 (N := N) (SE := SE) (SL := SL) (SN := SN) @hsE @hsL @hsN E hF
      ·
        refine b_call E (fun _ hq => (BX35_keyword (N := N) (SE := SE) @hsE (bE.rf E.S) hq)) hF (fun _ hq3 D3 E3 hF => ?_)
        refine b_if hF (fun hF => ?_) (fun hF => ?_)
        ·
          refine b_if hF (fun hF => ?_) (fun hF => ?_)
          ·
            exact BX35_rule_b69 (N := N) (SE := SE) (SL := SL) (SN := SN) (K12 := FX35_rule_b12 N SE SL SN n) @hsE @hsL @hsN @ih E3 hF
          ·
            refine b_call E3 (fun _ hq => (BX35_keyword (N := N) (SE := SE) @hsE (bE.rf E3.S) hq)) hF (fun _ hq6 D6 E6 hF => ?_)
            refine b_if hF (fun hF => ?_) (fun hF => ?_)
            ·
              exact BX35_rule_b69 (N := N) (SE := SE) (SL := SL) (SN := SN) (K12 := FX35_rule_b12 N SE SL SN n) @hsE @hsL @hsN @ih E6 hF
            ·
              refine b_call E6 (fun _ hq => (BX35_dimension (N := N) (SE := SE) (SN := SN) @hsE @hsN (bE.rf E6.S) hq)) hF (fun _ hq8 D8 E8 hF => ?_)
              exact ih E8 hF
        ·
          refine b_call E3 (fun _ hq => (BX35_dimension (N := N) (SE := SE) (SN := SN) @hsE @hsN (bE.rf E3.S) hq)) hF (fun _ hq10 D10 E10 hF => ?_)
          exact ih E10 hF
theorem BX35_rule {σo : fS} {q : Unit × fS} {N : Nat} {SE : Int → fS → Option (Unit × fS)} {SL : Int → Int → Int → fS → Option (Int × fS)} {SN : fS → Option (Int × fS)} (hsE : ∀ {s : fS} {x1 : Int} {q}, bS 1 s → SE x1 s = some q → bE 1 s q.2) (hsL : ∀ {s : fS} {x1 : Int} {x2 : Int} {x3 : Int} {q}, bS 1 s → SL x1 x2 x3 s = some q → bE 1 s q.2) (hsN : ∀ {s : fS} {q}, bS 1 s → SN s = some q → bE 1 s q.2) {s : fS} {p0 : Int} {p1 : Int} {p2 : Int} (E : bE 1 σo s) (hF : FX35_rule N SE SL SN p0 p1 p2 s = some q) : bE 1 σo q.2 := by
  unfold FX35_rule at hF
  exact BX35_rule_b12 (N := N) (SE := SE) (SL := SL) (SN := SN) @hsE @hsL @hsN E hF
theorem BX35_indent_b52 {σo : fS} {q : Unit × fS} {N : Nat} {SL : Int → Int → Int → fS → Option (Int × fS)} (hsL : ∀ {s : fS} {x1 : Int} {x2 : Int} {x3 : Int} {q}, bS 1 s → SL x1 x2 x3 s = some q → bE 1 s q.2) {s : fS} (E : bE 1 σo s) (hF : FX35_indent_b52 N SL s = some q) : bE 1 σo q.2 := by
  unfold FX35_indent_b52 at hF
  exact b_ret E hF
theorem BX35_indent {σo : fS} {q : Unit × fS} {N : Nat} {SL : Int → Int → Int → fS → Option (Int × fS)} (hsL : ∀ {s : fS} {x1 : Int} {x2 : Int} {x3 : Int} {q}, bS 1 s → SL x1 x2 x3 s = some q → bE 1 s q.2) {s : fS} (E : bE 1 σo s) (hF : FX35_indent N SL s = some q) : bE 1 σo q.2 := by
  unfold FX35_indent at hF
  refine b_call E (fun _ hq => (BX35_isVertical (bE.rf E.S) hq)) hF (fun _ hq2 D2 E2 hF => ?_)
  refine b_if hF (fun hF => ?_) (fun hF => ?_)
  ·
    refine b_call E2 (fun _ hq => (BX35_now (bE.rf E2.S) hq)) hF (fun _ hq7 D7 E7 hF => ?_)
    refine b_call E7 (fun _ hq => (BX35_pack (N := N) (bE.rf E7.S) E7.S.p1 hq)) hF (fun _ hq9 D9 E9 hF => ?_)
    refine b_if hF (fun hF => ?_) (fun hF => ?_)
    ·
      exact BX35_indent_b52 (N := N) (SL := SL) @hsL E9 hF
    ·
      refine b_call E9 (fun _ hq => (BX35_boxItem (N := N) (SL := SL) @hsL (bE.rf E9.S) hq)) hF (fun _ hq12 D12 E12 hF => ?_)
      exact BX35_indent_b52 (N := N) (SL := SL) @hsL E12 hF
  ·
    refine b_call E2 (fun _ hq => (BX35_beginParagraph (N := N) (SL := SL) @hsL (bE.rf E2.S) hq)) hF (fun _ hq14 D14 E14 hF => ?_)
    exact b_ret E14 hF
theorem BX35_readBox_b26 {σo : fS} {q : Unit × fS} {N : Nat} {SE : Int → fS → Option (Unit × fS)} {SL : Int → Int → Int → fS → Option (Int × fS)} {SN : fS → Option (Int × fS)} (hsE : ∀ {s : fS} {x1 : Int} {q}, bS 1 s → SE x1 s = some q → bE 1 s q.2) (hsL : ∀ {s : fS} {x1 : Int} {x2 : Int} {x3 : Int} {q}, bS 1 s → SL x1 x2 x3 s = some q → bE 1 s q.2) (hsN : ∀ {s : fS} {q}, bS 1 s → SN s = some q → bE 1 s q.2) {s : fS} (E : bE 1 σo s) (hF : FX35_readBox_b26 N SE SL SN s = some q) : bE 1 σo q.2 := by
  unfold FX35_readBox_b26 at hF
  exact b_ret E hF
theorem BX35_readBox {σo : fS} {q : Unit × fS} {N : Nat} {SE : Int → fS → Option (Unit × fS)} {SL : Int → Int → Int → fS → Option (Int × fS)} {SN : fS → Option (Int × fS)} (hsE : ∀ {s : fS} {x1 : Int} {q}, bS 1 s → SE x1 s = some q → bE 1 s q.2) (hsL : ∀ {s : fS} {x1 : Int} {x2 : Int} {x3 : Int} {q}, bS 1 s → SL x1 x2 x3 s = some q → bE 1 s q.2) (hsN : ∀ {s : fS} {q}, bS 1 s → SN s = some q → bE 1 s q.2) {s : fS} {p0 : Int} {p1 : Int} {p2 : Int} (E : bE 1 σo s) (hF : FX35_readBox N SE SL SN p0 p1 p2 s = some q) : bE 1 σo q.2 := by
  unfold FX35_readBox at hF
  refine b_call E (fun _ hq => (BX35_needSolid (N := N) (SE := SE) @hsE (bE.rf E.S) hq)) hF (fun _ hq2 D2 E2 hF => ?_)
  refine b_call E2 (fun _ hq => (BX35_primitiveOf (bE.rf E2.S) hq)) hF (fun _ hq4 D4 E4 hF => ?_)
  refine b_if hF (fun hF => ?_) (fun hF => ?_)
  ·
    exact BX35_readBox_b26 (N := N) (SE := SE) (SL := SL) (SN := SN) @hsE @hsL @hsN E4 hF
  ·
    refine b_call E4 (fun _ hq => (BX35_readFrom (N := N) (SE := SE) (SL := SL) (SN := SN) @hsE @hsL @hsN (bE.rf E4.S) hq)) hF (fun _ hq7 D7 E7 hF => ?_)
    exact BX35_readBox_b26 (N := N) (SE := SE) (SL := SL) (SN := SN) @hsE @hsL @hsN E7 hF
theorem BX35_shifted_b39 {σo : fS} {q : Unit × fS} {N : Nat} {SE : Int → fS → Option (Unit × fS)} {SL : Int → Int → Int → fS → Option (Int × fS)} {SN : fS → Option (Int × fS)} (hsE : ∀ {s : fS} {x1 : Int} {q}, bS 1 s → SE x1 s = some q → bE 1 s q.2) (hsL : ∀ {s : fS} {x1 : Int} {x2 : Int} {x3 : Int} {q}, bS 1 s → SL x1 x2 x3 s = some q → bE 1 s q.2) (hsN : ∀ {s : fS} {q}, bS 1 s → SN s = some q → bE 1 s q.2) {s : fS} (E : bE 1 σo s) (hF : FX35_shifted_b39 N SE SL SN s = some q) : bE 1 σo q.2 := by
  unfold FX35_shifted_b39 at hF
  exact b_ret E hF
theorem BX35_shifted_b35 {σo : fS} {q : Unit × fS} {N : Nat} {SE : Int → fS → Option (Unit × fS)} {SL : Int → Int → Int → fS → Option (Int × fS)} {SN : fS → Option (Int × fS)} (hsE : ∀ {s : fS} {x1 : Int} {q}, bS 1 s → SE x1 s = some q → bE 1 s q.2) (hsL : ∀ {s : fS} {x1 : Int} {x2 : Int} {x3 : Int} {q}, bS 1 s → SL x1 x2 x3 s = some q → bE 1 s q.2) (hsN : ∀ {s : fS} {q}, bS 1 s → SN s = some q → bE 1 s q.2) {s : fS} {s1 : Int} {s2 : Int} (E : bE 1 σo s) (hF : FX35_shifted_b35 N SE SL SN s1 s2 s = some q) : bE 1 σo q.2 := by
  unfold FX35_shifted_b35 at hF
  refine b_call E (fun _ hq => (BX35_readBox (N := N) (SE := SE) (SL := SL) (SN := SN) @hsE @hsL @hsN (bE.rf E.S) hq)) hF (fun _ hq2 D2 E2 hF => ?_)
  exact BX35_shifted_b39 (N := N) (SE := SE) (SL := SL) (SN := SN) @hsE @hsL @hsN E2 hF
theorem BX35_shifted {σo : fS} {q : Unit × fS} {N : Nat} {SE : Int → fS → Option (Unit × fS)} {SL : Int → Int → Int → fS → Option (Int × fS)} {SN : fS → Option (Int × fS)} (hsE : ∀ {s : fS} {x1 : Int} {q}, bS 1 s → SE x1 s = some q → bE 1 s q.2) (hsL : ∀ {s : fS} {x1 : Int} {x2 : Int} {x3 : Int} {q}, bS 1 s → SL x1 x2 x3 s = some q → bE 1 s q.2) (hsN : ∀ {s : fS} {q}, bS 1 s → SN s = some q → bE 1 s q.2) {s : fS} {p0 : Int} {p1 : Int} (E : bE 1 σo s) (hF : FX35_shifted N SE SL SN p0 p1 s = some q) : bE 1 σo q.2 := by
  unfold FX35_shifted at hF
  refine b_if hF (fun hF => ?_) (fun hF => ?_)
  ·
    refine b_call E (fun _ hq => (BX35_dimension (N := N) (SE := SE) (SN := SN) @hsE @hsN (bE.rf E.S) hq)) hF (fun _ hq2 D2 E2 hF => ?_)
    refine b_if hF (fun hF => ?_) (fun hF => ?_)
    ·
      exact BX35_shifted_b39 (N := N) (SE := SE) (SL := SL) (SN := SN) @hsE @hsL @hsN E2 hF
    ·
      refine b_if hF (fun hF => ?_) (fun hF => ?_)
      ·
        exact BX35_shifted_b35 (N := N) (SE := SE) (SL := SL) (SN := SN) @hsE @hsL @hsN E2 hF
      ·
        exact BX35_shifted_b35 (N := N) (SE := SE) (SL := SL) (SN := SN) @hsE @hsL @hsN E2 hF
  ·
    refine b_call E (fun _ hq => (BX35_fail (bE.rf E.S) hq)) hF (fun _ hq5 D5 E5 hF => ?_)
    exact b_ret E5 hF
theorem BX35_soft_b78 {σo : fS} {q : Unit × fS} {N : Nat} {s : fS} {s1 : Int} {s2 : Int} {s3 : Int} {s4 : Int} (E : bE 1 σo s) (hF : FX35_soft_b78 N s1 s2 s3 s4 s = some q) : bE 1 σo q.2 := by
  unfold FX35_soft_b78 at hF
  refine b_call E (fun _ hq => (BX35_item (N := N) (bE.rf E.S) hq)) hF (fun _ hq2 D2 E2 hF => ?_)
  exact b_ret E2 hF
theorem BX35_soft_b52 {σo : fS} {q : Unit × fS} {N : Nat} {s : fS} {l1 : Int} {l2 : Int} {s1 : Int} {s2 : Int} (E : bE 1 σo s) (hF : FX35_soft_b52 N l1 l2 s1 s2 s = some q) : bE 1 σo q.2 := by
  unfold FX35_soft_b52 at hF
  refine b_if hF (fun hF => ?_) (fun hF => ?_)
  ·
    exact BX35_soft_b78 (N := N) E hF
  ·
    refine b_call E (fun _ hq => (BX35_metrics (bE.rf E.S) hq).1) hF (fun _ hq2 D2 E2 hF => ?_)
    refine b_rv hF (fun _ hF => ?_)
    refine b_K hF (fun hF => ?_)
    refine b_call E2 (fun _ hq => (BX40_of (N := N) (bE.rf E2.S) (BX35_metrics (bE.rf E.S) hq2).2 hq)) hF (fun _ hq6 D6 E6 hF => ?_)
    exact BX35_soft_b78 (N := N) E6 hF
theorem BX35_soft_b39 {σo : fS} {q : Unit × fS} {N : Nat} {s : fS} {l1 : Int} {s0 : Int} (E : bE 1 σo s) (hF : FX35_soft_b39 N l1 s0 s = some q) : bE 1 σo q.2 := by
  unfold FX35_soft_b39 at hF
  refine b_if hF (fun hF => ?_) (fun hF => ?_)
  ·
    exact BX35_soft_b52 (N := N) E hF
  ·
    exact BX35_soft_b52 (N := N) E hF
theorem BX35_soft_b38 {σo : fS} {q : Unit × fS} {N : Nat} {s : fS} {l1 : Int} (E : bE 1 σo s) (hF : FX35_soft_b38 N l1 s = some q) : bE 1 σo q.2 := by
  unfold FX35_soft_b38 at hF
  exact BX35_soft_b39 (N := N) E hF
theorem BX35_soft {σo : fS} {q : Unit × fS} {N : Nat} {s : fS} (E : bE 1 σo s) (hF : FX35_soft N s = some q) : bE 1 σo q.2 := by
  unfold FX35_soft at hF
  refine b_call E (fun _ hq => (BX35_mode (bE.rf E.S) hq)) hF (fun _ hq2 D2 E2 hF => ?_)
  refine b_if hF (fun hF => ?_) (fun hF => ?_)
  ·
    refine b_call E2 (fun _ hq => (BX35_now (bE.rf E2.S) hq)) hF (fun _ hq4 D4 E4 hF => ?_)
    refine b_if hF (fun hF => ?_) (fun hF => ?_)
    ·
      exact BX35_soft_b38 (N := N) E4 hF
    ·
      refine b_call E4 (fun _ hq => (BX35_metrics (bE.rf E4.S) hq).1) hF (fun _ hq6 D6 E6 hF => ?_)
      refine b_K hF (fun hF => ?_)
      refine b_call E6 (fun _ hq => (BX40_isThere_2 (N := N) (bE.rf E6.S) (BX35_metrics (bE.rf E4.S) hq6).2 hq)) hF (fun _ hq8 D8 E8 hF => ?_)
      refine b_if hF (fun hF => ?_) (fun hF => ?_)
      ·
        exact BX35_soft_b38 (N := N) E8 hF
      ·
        exact BX35_soft_b39 (N := N) E8 hF
  ·
    exact b_ret E2 hF
theorem BX35_doMore_b143 {σo : fS} {q : Unit × fS} {N : Nat} {SE : Int → fS → Option (Unit × fS)} {SL : Int → Int → Int → fS → Option (Int × fS)} {SN : fS → Option (Int × fS)} (hsE : ∀ {s : fS} {x1 : Int} {q}, bS 1 s → SE x1 s = some q → bE 1 s q.2) (hsL : ∀ {s : fS} {x1 : Int} {x2 : Int} {x3 : Int} {q}, bS 1 s → SL x1 x2 x3 s = some q → bE 1 s q.2) (hsN : ∀ {s : fS} {q}, bS 1 s → SN s = some q → bE 1 s q.2) {s : fS} (E : bE 1 σo s) (hF : FX35_doMore_b143 N SE SL SN s = some q) : bE 1 σo q.2 := by
  unfold FX35_doMore_b143 at hF
  exact b_ret E hF
theorem BX35_doMore_b82 {σo : fS} {q : Unit × fS} {N : Nat} {SE : Int → fS → Option (Unit × fS)} {SL : Int → Int → Int → fS → Option (Int × fS)} {SN : fS → Option (Int × fS)} (hsE : ∀ {s : fS} {x1 : Int} {q}, bS 1 s → SE x1 s = some q → bE 1 s q.2) (hsL : ∀ {s : fS} {x1 : Int} {x2 : Int} {x3 : Int} {q}, bS 1 s → SL x1 x2 x3 s = some q → bE 1 s q.2) (hsN : ∀ {s : fS} {q}, bS 1 s → SN s = some q → bE 1 s q.2) {s : fS} {s1 : Int} {s2 : Int} (E : bE 1 σo s) (hF : FX35_doMore_b82 N SE SL SN s1 s2 s = some q) : bE 1 σo q.2 := by
  unfold FX35_doMore_b82 at hF
  refine b_call E (fun _ hq => (BX35_shifted (N := N) (SE := SE) (SL := SL) (SN := SN) @hsE @hsL @hsN (bE.rf E.S) hq)) hF (fun _ hq2 D2 E2 hF => ?_)
  exact BX35_doMore_b143 (N := N) (SE := SE) (SL := SL) (SN := SN) @hsE @hsL @hsN E2 hF
theorem BX35_doMore_b112 {σo : fS} {q : Unit × fS} {N : Nat} {SE : Int → fS → Option (Unit × fS)} {SL : Int → Int → Int → fS → Option (Int × fS)} {SN : fS → Option (Int × fS)} (hsE : ∀ {s : fS} {x1 : Int} {q}, bS 1 s → SE x1 s = some q → bE 1 s q.2) (hsL : ∀ {s : fS} {x1 : Int} {x2 : Int} {x3 : Int} {q}, bS 1 s → SL x1 x2 x3 s = some q → bE 1 s q.2) (hsN : ∀ {s : fS} {q}, bS 1 s → SN s = some q → bE 1 s q.2) {s : fS} {s1 : Int} {s2 : Int} (E : bE 1 σo s) (hF : FX35_doMore_b112 N SE SL SN s1 s2 s = some q) : bE 1 σo q.2 := by
  unfold FX35_doMore_b112 at hF
  refine b_call E (fun _ hq => (BX35_shifted (N := N) (SE := SE) (SL := SL) (SN := SN) @hsE @hsL @hsN (bE.rf E.S) hq)) hF (fun _ hq2 D2 E2 hF => ?_)
  exact BX35_doMore_b143 (N := N) (SE := SE) (SL := SL) (SN := SN) @hsE @hsL @hsN E2 hF
theorem BX35_doMore_b101 {σo : fS} {q : Unit × fS} {N : Nat} {SE : Int → fS → Option (Unit × fS)} {SL : Int → Int → Int → fS → Option (Int × fS)} {SN : fS → Option (Int × fS)} (hsE : ∀ {s : fS} {x1 : Int} {q}, bS 1 s → SE x1 s = some q → bE 1 s q.2) (hsL : ∀ {s : fS} {x1 : Int} {x2 : Int} {x3 : Int} {q}, bS 1 s → SL x1 x2 x3 s = some q → bE 1 s q.2) (hsN : ∀ {s : fS} {q}, bS 1 s → SN s = some q → bE 1 s q.2) {s : fS} {l1 : Int} {s1 : Int} (E : bE 1 σo s) (hF : FX35_doMore_b101 N SE SL SN l1 s1 s = some q) : bE 1 σo q.2 := by
  unfold FX35_doMore_b101 at hF
  refine b_if hF (fun hF => ?_) (fun hF => ?_)
  ·
    exact BX35_doMore_b112 (N := N) (SE := SE) (SL := SL) (SN := SN) @hsE @hsL @hsN E hF
  ·
    exact BX35_doMore_b112 (N := N) (SE := SE) (SL := SL) (SN := SN) @hsE @hsL @hsN E hF
theorem BX35_doMore {σo : fS} {q : Unit × fS} {N : Nat} {SE : Int → fS → Option (Unit × fS)} {SL : Int → Int → Int → fS → Option (Int × fS)} {SN : fS → Option (Int × fS)} (hsE : ∀ {s : fS} {x1 : Int} {q}, bS 1 s → SE x1 s = some q → bE 1 s q.2) (hsL : ∀ {s : fS} {x1 : Int} {x2 : Int} {x3 : Int} {q}, bS 1 s → SL x1 x2 x3 s = some q → bE 1 s q.2) (hsN : ∀ {s : fS} {q}, bS 1 s → SN s = some q → bE 1 s q.2) {s : fS} {p0 : Int} (E : bE 1 σo s) (hF : FX35_doMore N SE SL SN p0 s = some q) : bE 1 σo q.2 := by
  unfold FX35_doMore at hF
  refine b_if hF (fun hF => ?_) (fun hF => ?_)
  ·
    refine b_call E (fun _ hq => (BX35_indent (N := N) (SL := SL) @hsL (bE.rf E.S) hq)) hF (fun _ hq2 D2 E2 hF => ?_)
    exact BX35_doMore_b143 (N := N) (SE := SE) (SL := SL) (SN := SN) @hsE @hsL @hsN E2 hF
  ·
    refine b_if hF (fun hF => ?_) (fun hF => ?_)
    ·
      refine b_call E (fun _ hq => (BX35_isVertical (bE.rf E.S) hq)) hF (fun _ hq4 D4 E4 hF => ?_)
      refine b_if hF (fun hF => ?_) (fun hF => ?_)
      ·
        exact BX35_doMore_b143 (N := N) (SE := SE) (SL := SL) (SN := SN) @hsE @hsL @hsN E4 hF
      ·
        refine b_call E4 (fun _ hq => (BX35_beginParagraph (N := N) (SL := SL) @hsL (bE.rf E4.S) hq)) hF (fun _ hq6 D6 E6 hF => ?_)
        exact BX35_doMore_b143 (N := N) (SE := SE) (SL := SL) (SN := SN) @hsE @hsL @hsN E6 hF
    ·
      refine b_if hF (fun hF => ?_) (fun hF => ?_)
      ·
        refine b_call E (fun _ hq => (BX35_isVertical (bE.rf E.S) hq)) hF (fun _ hq8 D8 E8 hF => ?_)
        refine b_if hF (fun hF => ?_) (fun hF => ?_)
        ·
          exact BX35_doMore_b82 (N := N) (SE := SE) (SL := SL) (SN := SN) @hsE @hsL @hsN E8 hF
        ·
          exact BX35_doMore_b82 (N := N) (SE := SE) (SL := SL) (SN := SN) @hsE @hsL @hsN E8 hF
      ·
        refine b_if hF (fun hF => ?_) (fun hF => ?_)
        ·
          refine b_call E (fun _ hq => (BX35_isVertical (bE.rf E.S) hq)) hF (fun _ hq10 D10 E10 hF => ?_)
          refine b_if hF (fun hF => ?_) (fun hF => ?_)
          ·
            exact BX35_doMore_b82 (N := N) (SE := SE) (SL := SL) (SN := SN) @hsE @hsL @hsN E10 hF
          ·
            exact BX35_doMore_b82 (N := N) (SE := SE) (SL := SL) (SN := SN) @hsE @hsL @hsN E10 hF
        ·
          refine b_if hF (fun hF => ?_) (fun hF => ?_)
          ·
            refine b_call E (fun _ hq => (BX35_isVertical (bE.rf E.S) hq)) hF (fun _ hq12 D12 E12 hF => ?_)
            refine b_if hF (fun hF => ?_) (fun hF => ?_)
            ·
              exact BX35_doMore_b101 (N := N) (SE := SE) (SL := SL) (SN := SN) @hsE @hsL @hsN E12 hF
            ·
              exact BX35_doMore_b101 (N := N) (SE := SE) (SL := SL) (SN := SN) @hsE @hsL @hsN E12 hF
          ·
            refine b_if hF (fun hF => ?_) (fun hF => ?_)
            ·
              refine b_call E (fun _ hq => (BX35_isVertical (bE.rf E.S) hq)) hF (fun _ hq14 D14 E14 hF => ?_)
              refine b_if hF (fun hF => ?_) (fun hF => ?_)
              ·
                exact BX35_doMore_b101 (N := N) (SE := SE) (SL := SL) (SN := SN) @hsE @hsL @hsN E14 hF
              ·
                exact BX35_doMore_b101 (N := N) (SE := SE) (SL := SL) (SN := SN) @hsE @hsL @hsN E14 hF
            ·
              refine b_if hF (fun hF => ?_) (fun hF => ?_)
              ·
                refine b_call E (fun _ hq => (BX35_horizontally (N := N) (SL := SL) @hsL (bE.rf E.S) hq)) hF (fun _ hq16 D16 E16 hF => ?_)
                refine b_if hF (fun hF => ?_) (fun hF => ?_)
                ·
                  exact BX35_doMore_b143 (N := N) (SE := SE) (SL := SL) (SN := SN) @hsE @hsL @hsN E16 hF
                ·
                  refine b_call E16 (fun _ hq => (BX35_soft (N := N) (bE.rf E16.S) hq)) hF (fun _ hq18 D18 E18 hF => ?_)
                  exact BX35_doMore_b143 (N := N) (SE := SE) (SL := SL) (SN := SN) @hsE @hsL @hsN E18 hF
              ·
                refine b_call E (fun _ hq => (BX35_horizontally (N := N) (SL := SL) @hsL (bE.rf E.S) hq)) hF (fun _ hq20 D20 E20 hF => ?_)
                refine b_if hF (fun hF => ?_) (fun hF => ?_)
                ·
                  exact BX35_doMore_b143 (N := N) (SE := SE) (SL := SL) (SN := SN) @hsE @hsL @hsN E20 hF
                ·
                  refine b_call E20 (fun _ hq => (BX35_space (N := N) (SL := SL) @hsL (bE.rf E20.S) hq)) hF (fun _ hq22 D22 E22 hF => ?_)
                  exact BX35_doMore_b143 (N := N) (SE := SE) (SL := SL) (SN := SN) @hsE @hsL @hsN E22 hF
theorem BX35_doList_b263 {σo : fS} {q : Unit × fS} {N : Nat} {SE : Int → fS → Option (Unit × fS)} {SL : Int → Int → Int → fS → Option (Int × fS)} {SN : fS → Option (Int × fS)} (hsE : ∀ {s : fS} {x1 : Int} {q}, bS 1 s → SE x1 s = some q → bE 1 s q.2) (hsL : ∀ {s : fS} {x1 : Int} {x2 : Int} {x3 : Int} {q}, bS 1 s → SL x1 x2 x3 s = some q → bE 1 s q.2) (hsN : ∀ {s : fS} {q}, bS 1 s → SN s = some q → bE 1 s q.2) {s : fS} (E : bE 1 σo s) (hF : FX35_doList_b263 N SE SL SN s = some q) : bE 1 σo q.2 := by
  unfold FX35_doList_b263 at hF
  exact b_ret E hF
theorem BX35_doList_b137 {σo : fS} {q : Unit × fS} {N : Nat} {SE : Int → fS → Option (Unit × fS)} {SL : Int → Int → Int → fS → Option (Int × fS)} {SN : fS → Option (Int × fS)} (hsE : ∀ {s : fS} {x1 : Int} {q}, bS 1 s → SE x1 s = some q → bE 1 s q.2) (hsL : ∀ {s : fS} {x1 : Int} {x2 : Int} {x3 : Int} {q}, bS 1 s → SL x1 x2 x3 s = some q → bE 1 s q.2) (hsN : ∀ {s : fS} {q}, bS 1 s → SN s = some q → bE 1 s q.2) {s : fS} {s1 : Int} {s2 : Int} {s3 : Int} (E : bE 1 σo s) (hF : FX35_doList_b137 N SE SL SN s1 s2 s3 s = some q) : bE 1 σo q.2 := by
  unfold FX35_doList_b137 at hF
  refine b_call E (fun _ hq => (BX35_glueItem (N := N) (SL := SL) @hsL (bE.rf E.S) hq)) hF (fun _ hq2 D2 E2 hF => ?_)
  exact BX35_doList_b263 (N := N) (SE := SE) (SL := SL) (SN := SN) @hsE @hsL @hsN E2 hF
theorem BX35_doList_b166 {σo : fS} {q : Unit × fS} {N : Nat} {SE : Int → fS → Option (Unit × fS)} {SL : Int → Int → Int → fS → Option (Int × fS)} {SN : fS → Option (Int × fS)} (hsE : ∀ {s : fS} {x1 : Int} {q}, bS 1 s → SE x1 s = some q → bE 1 s q.2) (hsL : ∀ {s : fS} {x1 : Int} {x2 : Int} {x3 : Int} {q}, bS 1 s → SL x1 x2 x3 s = some q → bE 1 s q.2) (hsN : ∀ {s : fS} {q}, bS 1 s → SN s = some q → bE 1 s q.2) {s : fS} {s1 : Int} {s2 : Int} {s3 : Int} (E : bE 1 σo s) (hF : FX35_doList_b166 N SE SL SN s1 s2 s3 s = some q) : bE 1 σo q.2 := by
  unfold FX35_doList_b166 at hF
  refine b_call E (fun _ hq => (BX35_glueItem (N := N) (SL := SL) @hsL (bE.rf E.S) hq)) hF (fun _ hq2 D2 E2 hF => ?_)
  exact BX35_doList_b263 (N := N) (SE := SE) (SL := SL) (SN := SN) @hsE @hsL @hsN E2 hF
theorem BX35_doList {σo : fS} {q : Unit × fS} {N : Nat} {SE : Int → fS → Option (Unit × fS)} {SL : Int → Int → Int → fS → Option (Int × fS)} {SN : fS → Option (Int × fS)} (hsE : ∀ {s : fS} {x1 : Int} {q}, bS 1 s → SE x1 s = some q → bE 1 s q.2) (hsL : ∀ {s : fS} {x1 : Int} {x2 : Int} {x3 : Int} {q}, bS 1 s → SL x1 x2 x3 s = some q → bE 1 s q.2) (hsN : ∀ {s : fS} {q}, bS 1 s → SN s = some q → bE 1 s q.2) {s : fS} {p0 : Int} (E : bE 1 σo s) (hF : FX35_doList N SE SL SN p0 s = some q) : bE 1 σo q.2 := by
  unfold FX35_doList at hF
  refine b_if hF (fun hF => ?_) (fun hF => ?_)
  ·
    refine b_call E (fun _ hq => (BX35_readFrom (N := N) (SE := SE) (SL := SL) (SN := SN) @hsE @hsL @hsN (bE.rf E.S) hq)) hF (fun _ hq2 D2 E2 hF => ?_)
    exact BX35_doList_b263 (N := N) (SE := SE) (SL := SL) (SN := SN) @hsE @hsL @hsN E2 hF
  ·
    refine b_if hF (fun hF => ?_) (fun hF => ?_)
    ·
      refine b_call E (fun _ hq => (BX35_readFrom (N := N) (SE := SE) (SL := SL) (SN := SN) @hsE @hsL @hsN (bE.rf E.S) hq)) hF (fun _ hq4 D4 E4 hF => ?_)
      exact BX35_doList_b263 (N := N) (SE := SE) (SL := SL) (SN := SN) @hsE @hsL @hsN E4 hF
    ·
      refine b_if hF (fun hF => ?_) (fun hF => ?_)
      ·
        refine b_call E (fun _ hq => (BX35_readFrom (N := N) (SE := SE) (SL := SL) (SN := SN) @hsE @hsL @hsN (bE.rf E.S) hq)) hF (fun _ hq6 D6 E6 hF => ?_)
        exact BX35_doList_b263 (N := N) (SE := SE) (SL := SL) (SN := SN) @hsE @hsL @hsN E6 hF
      ·
        refine b_if hF (fun hF => ?_) (fun hF => ?_)
        ·
          refine b_call E (fun _ hq => (BX35_readFrom (N := N) (SE := SE) (SL := SL) (SN := SN) @hsE @hsL @hsN (bE.rf E.S) hq)) hF (fun _ hq8 D8 E8 hF => ?_)
          exact BX35_doList_b263 (N := N) (SE := SE) (SL := SL) (SN := SN) @hsE @hsL @hsN E8 hF
        ·
          refine b_if hF (fun hF => ?_) (fun hF => ?_)
          ·
            refine b_call E (fun _ hq => (BX35_doMore (N := N) (SE := SE) (SL := SL) (SN := SN) @hsE @hsL @hsN (bE.rf E.S) hq)) hF (fun _ hq10 D10 E10 hF => ?_)
            exact BX35_doList_b263 (N := N) (SE := SE) (SL := SL) (SN := SN) @hsE @hsL @hsN E10 hF
          ·
            refine b_if hF (fun hF => ?_) (fun hF => ?_)
            ·
              refine b_call E (fun _ hq => (BX35_horizontally (N := N) (SL := SL) @hsL (bE.rf E.S) hq)) hF (fun _ hq12 D12 E12 hF => ?_)
              refine b_if hF (fun hF => ?_) (fun hF => ?_)
              ·
                exact BX35_doList_b263 (N := N) (SE := SE) (SL := SL) (SN := SN) @hsE @hsL @hsN E12 hF
              ·
                refine b_call E12 (fun _ hq => (BX35_skip (N := N) (SE := SE) (SL := SL) (SN := SN) @hsE @hsL @hsN (bE.rf E12.S) hq)) hF (fun _ hq14 D14 E14 hF => ?_)
                exact BX35_doList_b263 (N := N) (SE := SE) (SL := SL) (SN := SN) @hsE @hsL @hsN E14 hF
            ·
              refine b_if hF (fun hF => ?_) (fun hF => ?_)
              ·
                refine b_call E (fun _ hq => (BX35_horizontally (N := N) (SL := SL) @hsL (bE.rf E.S) hq)) hF (fun _ hq16 D16 E16 hF => ?_)
                refine b_if hF (fun hF => ?_) (fun hF => ?_)
                ·
                  exact BX35_doList_b263 (N := N) (SE := SE) (SL := SL) (SN := SN) @hsE @hsL @hsN E16 hF
                ·
                  refine b_if hF (fun hF => ?_) (fun hF => ?_)
                  ·
                    exact BX35_doList_b137 (N := N) (SE := SE) (SL := SL) (SN := SN) @hsE @hsL @hsN E16 hF
                  ·
                    exact BX35_doList_b137 (N := N) (SE := SE) (SL := SL) (SN := SN) @hsE @hsL @hsN E16 hF
              ·
                refine b_if hF (fun hF => ?_) (fun hF => ?_)
                ·
                  refine b_call E (fun _ hq => (BX35_horizontally (N := N) (SL := SL) @hsL (bE.rf E.S) hq)) hF (fun _ hq18 D18 E18 hF => ?_)
                  refine b_if hF (fun hF => ?_) (fun hF => ?_)
                  ·
                    exact BX35_doList_b263 (N := N) (SE := SE) (SL := SL) (SN := SN) @hsE @hsL @hsN E18 hF
                  ·
                    refine b_if hF (fun hF => ?_) (fun hF => ?_)
                    ·
                      exact BX35_doList_b137 (N := N) (SE := SE) (SL := SL) (SN := SN) @hsE @hsL @hsN E18 hF
                    ·
                      exact BX35_doList_b137 (N := N) (SE := SE) (SL := SL) (SN := SN) @hsE @hsL @hsN E18 hF
                ·
                  refine b_if hF (fun hF => ?_) (fun hF => ?_)
                  ·
                    refine b_call E (fun _ hq => (BX35_vertically (N := N) (SL := SL) @hsL (bE.rf E.S) hq)) hF (fun _ hq20 D20 E20 hF => ?_)
                    refine b_if hF (fun hF => ?_) (fun hF => ?_)
                    ·
                      exact BX35_doList_b263 (N := N) (SE := SE) (SL := SL) (SN := SN) @hsE @hsL @hsN E20 hF
                    ·
                      refine b_call E20 (fun _ hq => (BX35_skip (N := N) (SE := SE) (SL := SL) (SN := SN) @hsE @hsL @hsN (bE.rf E20.S) hq)) hF (fun _ hq22 D22 E22 hF => ?_)
                      exact BX35_doList_b263 (N := N) (SE := SE) (SL := SL) (SN := SN) @hsE @hsL @hsN E22 hF
                  ·
                    refine b_if hF (fun hF => ?_) (fun hF => ?_)
                    ·
                      refine b_call E (fun _ hq => (BX35_vertically (N := N) (SL := SL) @hsL (bE.rf E.S) hq)) hF (fun _ hq24 D24 E24 hF => ?_)
                      refine b_if hF (fun hF => ?_) (fun hF => ?_)
                      ·
                        exact BX35_doList_b263 (N := N) (SE := SE) (SL := SL) (SN := SN) @hsE @hsL @hsN E24 hF
                      ·
                        refine b_if hF (fun hF => ?_) (fun hF => ?_)
                        ·
                          exact BX35_doList_b166 (N := N) (SE := SE) (SL := SL) (SN := SN) @hsE @hsL @hsN E24 hF
                        ·
                          exact BX35_doList_b166 (N := N) (SE := SE) (SL := SL) (SN := SN) @hsE @hsL @hsN E24 hF
                    ·
                      refine b_if hF (fun hF => ?_) (fun hF => ?_)
                      ·
                        refine b_call E (fun _ hq => (BX35_vertically (N := N) (SL := SL) @hsL (bE.rf E.S) hq)) hF (fun _ hq26 D26 E26 hF => ?_)
                        refine b_if hF (fun hF => ?_) (fun hF => ?_)
                        ·
                          exact BX35_doList_b263 (N := N) (SE := SE) (SL := SL) (SN := SN) @hsE @hsL @hsN E26 hF
                        ·
                          refine b_if hF (fun hF => ?_) (fun hF => ?_)
                          ·
                            exact BX35_doList_b166 (N := N) (SE := SE) (SL := SL) (SN := SN) @hsE @hsL @hsN E26 hF
                          ·
                            exact BX35_doList_b166 (N := N) (SE := SE) (SL := SL) (SN := SN) @hsE @hsL @hsN E26 hF
                      ·
                        refine b_if hF (fun hF => ?_) (fun hF => ?_)
                        ·
                          refine b_call E (fun _ hq => (BX35_dimension (N := N) (SE := SE) (SN := SN) @hsE @hsN (bE.rf E.S) hq)) hF (fun _ hq28 D28 E28 hF => ?_)
                          refine b_if hF (fun hF => ?_) (fun hF => ?_)
                          ·
                            exact BX35_doList_b263 (N := N) (SE := SE) (SL := SL) (SN := SN) @hsE @hsL @hsN E28 hF
                          ·
                            refine b_call E28 (fun _ hq => (BX35_kernItem (N := N) (SL := SL) @hsL (bE.rf E28.S) hq)) hF (fun _ hq31 D31 E31 hF => ?_)
                            exact BX35_doList_b263 (N := N) (SE := SE) (SL := SL) (SN := SN) @hsE @hsL @hsN E31 hF
                        ·
                          refine b_if hF (fun hF => ?_) (fun hF => ?_)
                          ·
                            refine b_call E (fun _ hq => (hsN E.S hq)) hF (fun _ hq33 D33 E33 hF => ?_)
                            refine b_if hF (fun hF => ?_) (fun hF => ?_)
                            ·
                              exact BX35_doList_b263 (N := N) (SE := SE) (SL := SL) (SN := SN) @hsE @hsL @hsN E33 hF
                            ·
                              refine b_call E33 (fun _ hq => (BX35_penaltyItem (N := N) (SL := SL) @hsL (bE.rf E33.S) hq)) hF (fun _ hq36 D36 E36 hF => ?_)
                              exact BX35_doList_b263 (N := N) (SE := SE) (SL := SL) (SN := SN) @hsE @hsL @hsN E36 hF
                          ·
                            refine b_if hF (fun hF => ?_) (fun hF => ?_)
                            ·
                              refine b_call E (fun _ hq => (BX35_vertically (N := N) (SL := SL) @hsL (bE.rf E.S) hq)) hF (fun _ hq38 D38 E38 hF => ?_)
                              refine b_if hF (fun hF => ?_) (fun hF => ?_)
                              ·
                                exact BX35_doList_b263 (N := N) (SE := SE) (SL := SL) (SN := SN) @hsE @hsL @hsN E38 hF
                              ·
                                refine b_call E38 (fun _ hq => (BX35_rule (N := N) (SE := SE) (SL := SL) (SN := SN) @hsE @hsL @hsN (bE.rf E38.S) hq)) hF (fun _ hq40 D40 E40 hF => ?_)
                                exact BX35_doList_b263 (N := N) (SE := SE) (SL := SL) (SN := SN) @hsE @hsL @hsN E40 hF
                            ·
                              refine b_if hF (fun hF => ?_) (fun hF => ?_)
                              ·
                                refine b_call E (fun _ hq => (BX35_horizontally (N := N) (SL := SL) @hsL (bE.rf E.S) hq)) hF (fun _ hq42 D42 E42 hF => ?_)
                                refine b_if hF (fun hF => ?_) (fun hF => ?_)
                                ·
                                  exact BX35_doList_b263 (N := N) (SE := SE) (SL := SL) (SN := SN) @hsE @hsL @hsN E42 hF
                                ·
                                  refine b_call E42 (fun _ hq => (BX35_rule (N := N) (SE := SE) (SL := SL) (SN := SN) @hsE @hsL @hsN (bE.rf E42.S) hq)) hF (fun _ hq44 D44 E44 hF => ?_)
                                  exact BX35_doList_b263 (N := N) (SE := SE) (SL := SL) (SN := SN) @hsE @hsL @hsN E44 hF
                              ·
                                refine b_call E (fun _ hq => (BX35_doMore (N := N) (SE := SE) (SL := SL) (SN := SN) @hsE @hsL @hsN (bE.rf E.S) hq)) hF (fun _ hq46 D46 E46 hF => ?_)
                                exact BX35_doList_b263 (N := N) (SE := SE) (SL := SL) (SN := SN) @hsE @hsL @hsN E46 hF
theorem BX35_isSettable_b44 {σo : fS} {q : Int × fS} {s : fS} {s0 : Int} (E : bE 1 σo s) (hF : FX35_isSettable_b44 s0 s = some q) : bE 1 σo q.2 := by
  unfold FX35_isSettable_b44 at hF
  exact b_z E hF
theorem BX35_isSettable_b39 {σo : fS} {q : Int × fS} {s : fS} (E : bE 1 σo s) (hF : FX35_isSettable_b39 s = some q) : bE 1 σo q.2 := by
  unfold FX35_isSettable_b39 at hF
  exact BX35_isSettable_b44 E hF
theorem BX35_isSettable_b12 {σo : fS} {q : Int × fS} {s : fS} {l0 : Int} (E : bE 1 σo s) (hF : FX35_isSettable_b12 l0 s = some q) : bE 1 σo q.2 := by
  unfold FX35_isSettable_b12 at hF
  refine b_if hF (fun hF => ?_) (fun hF => ?_)
  ·
    exact BX35_isSettable_b39 E hF
  ·
    refine b_call E (fun _ hq => (BX35_isCounter (bE.rf E.S) hq)) hF (fun _ hq1 D1 E1 hF => ?_)
    refine b_if hF (fun hF => ?_) (fun hF => ?_)
    ·
      exact BX35_isSettable_b39 E1 hF
    ·
      refine b_call E1 (fun _ hq => (BX35_isLength (bE.rf E1.S) hq)) hF (fun _ hq2 D2 E2 hF => ?_)
      refine b_if hF (fun hF => ?_) (fun hF => ?_)
      ·
        exact BX35_isSettable_b39 E2 hF
      ·
        refine b_call E2 (fun _ hq => (BX35_isGlue (bE.rf E2.S) hq)) hF (fun _ hq3 D3 E3 hF => ?_)
        refine b_if hF (fun hF => ?_) (fun hF => ?_)
        ·
          exact BX35_isSettable_b44 E3 hF
        ·
          exact BX35_isSettable_b39 E3 hF
theorem BX35_isSettable {σo : fS} {q : Int × fS} {s : fS} {p0 : Int} (E : bE 1 σo s) (hF : FX35_isSettable p0 s = some q) : bE 1 σo q.2 := by
  unfold FX35_isSettable at hF
  refine b_if hF (fun hF => ?_) (fun hF => ?_)
  ·
    exact BX35_isSettable_b12 E hF
  ·
    refine b_if hF (fun hF => ?_) (fun hF => ?_)
    ·
      exact BX35_isSettable_b39 E hF
    ·
      exact BX35_isSettable_b12 E hF
theorem BX35_let_b79 {σo : fS} {q : Unit × fS} {N : Nat} {s : fS} (E : bE 1 σo s) (hF : FX35_let_b79 N s = some q) : bE 1 σo q.2 := by
  unfold FX35_let_b79 at hF
  exact b_ret E hF
theorem BX35_let_b61 {σo : fS} {q : Unit × fS} {N : Nat} {s : fS} {l1 : Int} {l2 : Int} {l3 : Int} (E : bE 1 σo s) (hF : FX35_let_b61 N l1 l2 l3 s = some q) : bE 1 σo q.2 := by
  unfold FX35_let_b61 at hF
  refine b_if hF (fun hF => ?_) (fun hF => ?_)
  ·
    exact BX35_let_b79 (N := N) E hF
  ·
    refine b_call E (fun _ hq => (BX35_meaning (bE.rf E.S) hq)) hF (fun _ hq3 D3 E3 hF => ?_)
    refine b_call E3 (fun _ hq => (BX35_mean (N := N) (bE.rf E3.S) hq)) hF (fun _ hq5 D5 E5 hF => ?_)
    exact BX35_let_b79 (N := N) E5 hF
theorem BX35_let_b60 {σo : fS} {q : Unit × fS} {N : Nat} {s : fS} {l1 : Int} {l2 : Int} {s0 : Int} (E : bE 1 σo s) (hF : FX35_let_b60 N l1 l2 s0 s = some q) : bE 1 σo q.2 := by
  unfold FX35_let_b60 at hF
  exact BX35_let_b61 (N := N) E hF
theorem BX35_let_b10 {σo : fS} {q : Unit × fS} {N : Nat} : ∀ {n : Nat} {s : fS} {l1 : Int} {l2 : Int} {l3 : Int}, bE 1 σo s → FX35_let_b10 N n l1 l2 l3 s = some q → bE 1 σo q.2 := by
  intro n
  induction n with
  | zero => intro s l1 l2 l3 E  hF; simp [FX35_let_b10] at hF
  | succ n ih =>
    intro s l1 l2 l3 E  hF
    rw [FX35_let_b10] at hF
    refine b_call E (fun _ hq => (BX35_isOf (bE.rf E.S) hq)) hF (fun _ hq1 D1 E1 hF => ?_)
    refine b_if hF (fun hF => ?_) (fun hF => ?_)
    ·
      refine b_call E1 (fun _ hq => (BX35_is (bE.rf E1.S) hq)) hF (fun _ hq2 D2 E2 hF => ?_)
      refine b_if hF (fun hF => ?_) (fun hF => ?_)
      ·
        exact BX35_let_b61 (N := N) E2 hF
      ·
        refine b_call E2 (fun _ hq => (BX35_need (N := N) (bE.rf E2.S) hq)) hF (fun _ hq4 D4 E4 hF => ?_)
        refine b_call E4 (fun _ hq => (BX35_isOf (bE.rf E4.S) hq)) hF (fun _ hq5 D5 E5 hF => ?_)
        refine b_if hF (fun hF => ?_) (fun hF => ?_)
        ·
          exact BX35_let_b60 (N := N) E5 hF
        ·
          refine b_call E5 (fun _ hq => (BX35_need (N := N) (bE.rf E5.S) hq)) hF (fun _ hq7 D7 E7 hF => ?_)
          exact BX35_let_b60 (N := N) E7 hF
    ·
      refine b_call E1 (fun _ hq => (BX35_need (N := N) (bE.rf E1.S) hq)) hF (fun _ hq9 D9 E9 hF => ?_)
      exact ih E9 hF
theorem BX35_let {σo : fS} {q : Unit × fS} {N : Nat} {s : fS} {p0 : Int} (E : bE 1 σo s) (hF : FX35_let N p0 s = some q) : bE 1 σo q.2 := by
  unfold FX35_let at hF
  refine b_call E (fun _ hq => (BX35_target (N := N) (bE.rf E.S) hq)) hF (fun _ hq2 D2 E2 hF => ?_)
  refine b_call E2 (fun _ hq => (BX35_need (N := N) (bE.rf E2.S) hq)) hF (fun _ hq4 D4 E4 hF => ?_)
  exact BX35_let_b10 (N := N) E4 hF
theorem BX35_equals_b38 {σo : fS} {q : Unit × fS} {N : Nat} {SE : Int → fS → Option (Unit × fS)} (hsE : ∀ {s : fS} {x1 : Int} {q}, bS 1 s → SE x1 s = some q → bE 1 s q.2) {s : fS} (E : bE 1 σo s) (hF : FX35_equals_b38 N SE s = some q) : bE 1 σo q.2 := by
  unfold FX35_equals_b38 at hF
  exact b_ret E hF
theorem BX35_equals_b5 {σo : fS} {q : Unit × fS} {N : Nat} {SE : Int → fS → Option (Unit × fS)} (hsE : ∀ {s : fS} {x1 : Int} {q}, bS 1 s → SE x1 s = some q → bE 1 s q.2) : ∀ {n : Nat} {s : fS} {l1 : Int}, bE 1 σo s → FX35_equals_b5 N SE n l1 s = some q → bE 1 σo q.2 := by
  intro n
  induction n with
  | zero => intro s l1 E  hF; simp [FX35_equals_b5] at hF
  | succ n ih =>
    intro s l1 E  hF
    rw [FX35_equals_b5] at hF
    refine b_call E (fun _ hq => (BX35_isOf (bE.rf E.S) hq)) hF (fun _ hq1 D1 E1 hF => ?_)
    refine b_if hF (fun hF => ?_) (fun hF => ?_)
    ·
      refine b_call E1 (fun _ hq => (BX35_is (bE.rf E1.S) hq)) hF (fun _ hq2 D2 E2 hF => ?_)
      refine b_if hF (fun hF => ?_) (fun hF => ?_)
      ·
        exact BX35_equals_b38 (N := N) (SE := SE) @hsE E2 hF
      ·
        refine b_call E2 (fun _ hq => (BX35_put (bE.rf E2.S) hq)) hF (fun _ hq4 D4 E4 hF => ?_)
        exact BX35_equals_b38 (N := N) (SE := SE) @hsE E4 hF
    ·
      refine b_call E1 (fun _ hq => (BX35_getExpanded (N := N) (SE := SE) @hsE (bE.rf E1.S) hq)) hF (fun _ hq6 D6 E6 hF => ?_)
      exact ih E6 hF
theorem BX35_equals {σo : fS} {q : Unit × fS} {N : Nat} {SE : Int → fS → Option (Unit × fS)} (hsE : ∀ {s : fS} {x1 : Int} {q}, bS 1 s → SE x1 s = some q → bE 1 s q.2) {s : fS} (E : bE 1 σo s) (hF : FX35_equals N SE s = some q) : bE 1 σo q.2 := by
  unfold FX35_equals at hF
  refine b_call E (fun _ hq => (BX35_getExpanded (N := N) (SE := SE) @hsE (bE.rf E.S) hq)) hF (fun _ hq2 D2 E2 hF => ?_)
  exact BX35_equals_b5 (N := N) (SE := SE) @hsE E2 hF
theorem BX40_designOf_b4 {σo : fS} {q : Int × fS} {N : Nat} : ∀ {n : Nat} {s : fS} {l0 : Nat} {l1 : Int} {l2 : Int}, bE 1 σo s → bO 1 s l0 → FX40_designOf_b4 N n l0 l1 l2 s = some q → bE 1 σo q.2 := by
  intro n
  induction n with
  | zero => intro s l0 l1 l2 E ol0 hF; simp [FX40_designOf_b4] at hF
  | succ n ih =>
    intro s l0 l1 l2 E ol0 hF
    rw [FX40_designOf_b4] at hF
    refine b_if hF (fun hF => ?_) (fun hF => ?_)
    ·
      exact b_ret E hF
    ·
      refine b_call E (fun _ hq => (BX40_at (N := N) (bE.rf E.S) ol0 hq)) hF (fun _ hq1 D1 E1 hF => ?_)
      exact ih E1 (ol0.up D1) hF
theorem BX40_designOf {σo : fS} {q : Int × fS} {N : Nat} {s : fS} {p0 : Nat} (E : bE 1 σo s) (op0 : bO 1 s p0) (hF : FX40_designOf N p0 s = some q) : bE 1 σo q.2 := by
  unfold FX40_designOf at hF
  exact BX40_designOf_b4 (N := N) E op0 hF
theorem BX40_design {σo : fS} {q : Int × fS} {N : Nat} {s : fS} {this : Nat} (E : bE 1 σo s) (othis : bO 1 s this) (hF : FX40_design N this s = some q) : bE 1 σo q.2 := by
  unfold FX40_design at hF
  refine b_K hF (fun hF => ?_)
  refine b_o E othis hF (fun _ o1 hF => ?_)
  refine b_call E (fun _ hq => (BX40_designOf (N := N) (bE.rf E.S) o1 hq)) hF (fun _ hq2 D2 E2 hF => ?_)
  exact b_ret E2 hF
theorem BX40_check_b4 {σo : fS} {q : Int × fS} {N : Nat} : ∀ {n : Nat} {s : fS} {l0 : Nat} {l1 : Int} {l2 : Int}, bE 1 σo s → bO 1 s l0 → FX40_check_b4 N n l0 l1 l2 s = some q → bE 1 σo q.2 := by
  intro n
  induction n with
  | zero => intro s l0 l1 l2 E ol0 hF; simp [FX40_check_b4] at hF
  | succ n ih =>
    intro s l0 l1 l2 E ol0 hF
    rw [FX40_check_b4] at hF
    refine b_if hF (fun hF => ?_) (fun hF => ?_)
    ·
      exact b_ret E hF
    ·
      refine b_K hF (fun hF => ?_)
      refine b_o E ol0 hF (fun _ o1 hF => ?_)
      refine b_call E (fun _ hq => (BX40_at (N := N) (bE.rf E.S) o1 hq)) hF (fun _ hq2 D2 E2 hF => ?_)
      exact ih E2 (ol0.up D2) hF
theorem BX40_check {σo : fS} {q : Int × fS} {N : Nat} {s : fS} {this : Nat} (E : bE 1 σo s) (othis : bO 1 s this) (hF : FX40_check N this s = some q) : bE 1 σo q.2 := by
  unfold FX40_check at hF
  exact BX40_check_b4 (N := N) E othis hF
theorem BX38_font {σo : fS} {q : Unit × fS} {s : fS} {p0 : Int} {p1 : Int} {p2 : Int} {p3 : Int} {p4 : Int} (E : bE 1 σo s) (hF : FX38_font p0 p1 p2 p3 p4 s = some q) : bE 1 σo q.2 := by
  unfold FX38_font at hF
  refine b_qI E (E.S.m1 (Nat.le_of_ble_eq_true rfl) (Nat.le_of_ble_eq_true rfl)) hF (fun _ D2 E2 hF => ?_)
  refine b_qI E2 (E2.S.m1 (Nat.le_of_ble_eq_true rfl) (Nat.le_of_ble_eq_true rfl)) hF (fun _ D4 E4 hF => ?_)
  refine b_qI E4 (E4.S.m1 (Nat.le_of_ble_eq_true rfl) (Nat.le_of_ble_eq_true rfl)) hF (fun _ D6 E6 hF => ?_)
  refine b_qI E6 (E6.S.m1 (Nat.le_of_ble_eq_true rfl) (Nat.le_of_ble_eq_true rfl)) hF (fun _ D8 E8 hF => ?_)
  exact b_ret E8 hF
theorem BX35_font_b155 {σo : fS} {q : Unit × fS} {N : Nat} {SE : Int → fS → Option (Unit × fS)} {SN : fS → Option (Int × fS)} {K123 : Int → Int → Int → Int → Int → fS → Option (Unit × fS)} (hsE : ∀ {s : fS} {x1 : Int} {q}, bS 1 s → SE x1 s = some q → bE 1 s q.2) (hsN : ∀ {s : fS} {q}, bS 1 s → SN s = some q → bE 1 s q.2) (hk123 : ∀ {s : fS} {l1 : Int} {l2 : Int} {l3 : Int} {l4 : Int} {l5 : Int}, bE 1 σo s → K123 l1 l2 l3 l4 l5 s = some q → bE 1 σo q.2) {s : fS} {l1 : Int} {l2 : Int} {l3 : Int} {l4 : Int} {l5 : Int} (E : bE 1 σo s) (hF : FX35_font_b155 N SE SN K123 l1 l2 l3 l4 l5 s = some q) : bE 1 σo q.2 := by
  unfold FX35_font_b155 at hF
  exact hk123 E hF
theorem BX35_font_b240 {σo : fS} {q : Unit × fS} {N : Nat} {SE : Int → fS → Option (Unit × fS)} {SN : fS → Option (Int × fS)} (hsE : ∀ {s : fS} {x1 : Int} {q}, bS 1 s → SE x1 s = some q → bE 1 s q.2) (hsN : ∀ {s : fS} {q}, bS 1 s → SN s = some q → bE 1 s q.2) {s : fS} {l1 : Int} {l2 : Int} {l5 : Int} (E : bE 1 σo s) (hF : FX35_font_b240 N SE SN l1 l2 l5 s = some q) : bE 1 σo q.2 := by
  unfold FX35_font_b240 at hF
  refine b_call E (fun _ hq => (BX35_mean (N := N) (bE.rf E.S) hq)) hF (fun _ hq2 D2 E2 hF => ?_)
  exact b_ret E2 hF
theorem BX35_font_b161 {σo : fS} {q : Unit × fS} {N : Nat} {SE : Int → fS → Option (Unit × fS)} {SN : fS → Option (Int × fS)} (hsE : ∀ {s : fS} {x1 : Int} {q}, bS 1 s → SE x1 s = some q → bE 1 s q.2) (hsN : ∀ {s : fS} {q}, bS 1 s → SN s = some q → bE 1 s q.2) {s : fS} {l1 : Int} {l2 : Int} {l3 : Int} {l4 : Int} {l5 : Int} (E : bE 1 σo s) (hF : FX35_font_b161 N SE SN l1 l2 l3 l4 l5 s = some q) : bE 1 σo q.2 := by
  unfold FX35_font_b161 at hF
  refine b_if hF (fun hF => ?_) (fun hF => ?_)
  ·
    refine b_if hF (fun hF => ?_) (fun hF => ?_)
    ·
      exact BX35_font_b240 (N := N) (SE := SE) (SN := SN) @hsE @hsN E hF
    ·
      refine b_qI E (E.S.m1 (Nat.le_of_ble_eq_true rfl) (Nat.le_of_ble_eq_true rfl)) hF (fun _ D3 E3 hF => ?_)
      refine b_qI E3 (E3.S.m1 (Nat.le_of_ble_eq_true rfl) (Nat.le_of_ble_eq_true rfl)) hF (fun _ D5 E5 hF => ?_)
      refine b_rO E5 (E5.S.m1 (Nat.le_of_ble_eq_true rfl) (Nat.le_of_ble_eq_true rfl)) hF (fun _ o8 hF => ?_)
      refine b_K hF (fun hF => ?_)
      refine b_call E5 (fun _ hq => (BX40_check (N := N) (bE.rf E5.S) o8 hq)) hF (fun _ hq10 D10 E10 hF => ?_)
      refine b_rO E10 (E10.S.m1 (Nat.le_of_ble_eq_true rfl) (Nat.le_of_ble_eq_true rfl)) hF (fun _ o12 hF => ?_)
      refine b_K hF (fun hF => ?_)
      refine b_call E10 (fun _ hq => (BX40_design (N := N) (bE.rf E10.S) o12 hq)) hF (fun _ hq14 D14 E14 hF => ?_)
      refine b_call E14 (fun _ hq => (BX38_font (bE.rf E14.S) hq)) hF (fun _ hq16 D16 E16 hF => ?_)
      refine b_pI E16 (E16.S.m1 (Nat.le_of_ble_eq_true rfl) (Nat.le_of_ble_eq_true rfl)) hF (fun _ D18 E18 hF => ?_)
      exact BX35_font_b240 (N := N) (SE := SE) (SN := SN) @hsE @hsN E18 hF
  ·
    refine b_call E (fun _ hq => (BX35_fail (bE.rf E.S) hq)) hF (fun _ hq20 D20 E20 hF => ?_)
    exact b_ret E20 hF
theorem BX35_font_b123 {σo : fS} {q : Unit × fS} {N : Nat} {SE : Int → fS → Option (Unit × fS)} {SN : fS → Option (Int × fS)} (hsE : ∀ {s : fS} {x1 : Int} {q}, bS 1 s → SE x1 s = some q → bE 1 s q.2) (hsN : ∀ {s : fS} {q}, bS 1 s → SN s = some q → bE 1 s q.2) : ∀ {n : Nat} {s : fS} {l1 : Int} {l2 : Int} {l3 : Int} {l4 : Int} {l5 : Int}, bE 1 σo s → FX35_font_b123 N SE SN n l1 l2 l3 l4 l5 s = some q → bE 1 σo q.2 := by
  intro n
  induction n with
  | zero => intro s l1 l2 l3 l4 l5 E  hF; simp [FX35_font_b123] at hF
  | succ n ih =>
    intro s l1 l2 l3 l4 l5 E  hF
    rw [FX35_font_b123] at hF
    refine b_if hF (fun hF => ?_) (fun hF => ?_)
    ·
      exact BX35_font_b161 (N := N) (SE := SE) (SN := SN) @hsE @hsN E hF
    ·
      refine b_rv hF (fun _ hF => ?_)
      refine b_if hF (fun hF => ?_) (fun hF => ?_)
      ·
        exact BX35_font_b155 (N := N) (SE := SE) (SN := SN) (K123 := FX35_font_b123 N SE SN n) @hsE @hsN @ih E hF
      ·
        refine b_rv hF (fun _ hF => ?_)
        refine b_if hF (fun hF => ?_) (fun hF => ?_)
        ·
          exact BX35_font_b161 (N := N) (SE := SE) (SN := SN) @hsE @hsN E hF
        ·
          exact BX35_font_b155 (N := N) (SE := SE) (SN := SN) (K123 := FX35_font_b123 N SE SN n) @hsE @hsN @ih E hF
theorem BX35_font_b112 {σo : fS} {q : Unit × fS} {N : Nat} {SE : Int → fS → Option (Unit × fS)} {SN : fS → Option (Int × fS)} (hsE : ∀ {s : fS} {x1 : Int} {q}, bS 1 s → SE x1 s = some q → bE 1 s q.2) (hsN : ∀ {s : fS} {q}, bS 1 s → SN s = some q → bE 1 s q.2) {s : fS} {l1 : Int} {l2 : Int} {l3 : Int} {l4 : Int} (E : bE 1 σo s) (hF : FX35_font_b112 N SE SN l1 l2 l3 l4 s = some q) : bE 1 σo q.2 := by
  unfold FX35_font_b112 at hF
  refine b_if hF (fun hF => ?_) (fun hF => ?_)
  ·
    exact BX35_font_b123 (N := N) (SE := SE) (SN := SN) @hsE @hsN E hF
  ·
    exact b_ret E hF
theorem BX35_font_b85 {σo : fS} {q : Unit × fS} {N : Nat} {SE : Int → fS → Option (Unit × fS)} {SN : fS → Option (Int × fS)} (hsE : ∀ {s : fS} {x1 : Int} {q}, bS 1 s → SE x1 s = some q → bE 1 s q.2) (hsN : ∀ {s : fS} {q}, bS 1 s → SN s = some q → bE 1 s q.2) {s : fS} {l1 : Int} {l2 : Int} {l3 : Int} {l4 : Int} (E : bE 1 σo s) (hF : FX35_font_b85 N SE SN l1 l2 l3 l4 s = some q) : bE 1 σo q.2 := by
  unfold FX35_font_b85 at hF
  refine b_call E (fun _ hq => (BX35_fail (bE.rf E.S) hq)) hF (fun _ hq2 D2 E2 hF => ?_)
  exact BX35_font_b112 (N := N) (SE := SE) (SN := SN) @hsE @hsN E2 hF
theorem BX35_font_b94 {σo : fS} {q : Unit × fS} {N : Nat} {SE : Int → fS → Option (Unit × fS)} {SN : fS → Option (Int × fS)} (hsE : ∀ {s : fS} {x1 : Int} {q}, bS 1 s → SE x1 s = some q → bE 1 s q.2) (hsN : ∀ {s : fS} {q}, bS 1 s → SN s = some q → bE 1 s q.2) {s : fS} {l1 : Int} {l2 : Int} {l3 : Int} {l4 : Int} (E : bE 1 σo s) (hF : FX35_font_b94 N SE SN l1 l2 l3 l4 s = some q) : bE 1 σo q.2 := by
  unfold FX35_font_b94 at hF
  refine b_if hF (fun hF => ?_) (fun hF => ?_)
  ·
    exact BX35_font_b112 (N := N) (SE := SE) (SN := SN) @hsE @hsN E hF
  ·
    refine b_rO E (E.S.m1 (Nat.le_of_ble_eq_true rfl) (Nat.le_of_ble_eq_true rfl)) hF (fun _ o3 hF => ?_)
    refine b_K hF (fun hF => ?_)
    refine b_call E (fun _ hq => (BX40_design (N := N) (bE.rf E.S) o3 hq)) hF (fun _ hq5 D5 E5 hF => ?_)
    exact BX35_font_b112 (N := N) (SE := SE) (SN := SN) @hsE @hsN E5 hF
theorem BX35_font_b38 {σo : fS} {q : Unit × fS} {N : Nat} {SE : Int → fS → Option (Unit × fS)} {SN : fS → Option (Int × fS)} (hsE : ∀ {s : fS} {x1 : Int} {q}, bS 1 s → SE x1 s = some q → bE 1 s q.2) (hsN : ∀ {s : fS} {q}, bS 1 s → SN s = some q → bE 1 s q.2) {s : fS} {l1 : Int} {l2 : Int} {l3 : Int} (E : bE 1 σo s) (hF : FX35_font_b38 N SE SN l1 l2 l3 s = some q) : bE 1 σo q.2 := by
  unfold FX35_font_b38 at hF
  refine b_if hF (fun hF => ?_) (fun hF => ?_)
  ·
    exact BX35_font_b94 (N := N) (SE := SE) (SN := SN) @hsE @hsN E hF
  ·
    refine b_call E (fun _ hq => (BX35_keyword (N := N) (SE := SE) @hsE (bE.rf E.S) hq)) hF (fun _ hq3 D3 E3 hF => ?_)
    refine b_if hF (fun hF => ?_) (fun hF => ?_)
    ·
      exact BX35_font_b94 (N := N) (SE := SE) (SN := SN) @hsE @hsN E3 hF
    ·
      refine b_call E3 (fun _ hq => (BX35_dimension (N := N) (SE := SE) (SN := SN) @hsE @hsN (bE.rf E3.S) hq)) hF (fun _ hq5 D5 E5 hF => ?_)
      refine b_if hF (fun hF => ?_) (fun hF => ?_)
      ·
        exact BX35_font_b112 (N := N) (SE := SE) (SN := SN) @hsE @hsN E5 hF
      ·
        refine b_if hF (fun hF => ?_) (fun hF => ?_)
        ·
          exact BX35_font_b85 (N := N) (SE := SE) (SN := SN) @hsE @hsN E5 hF
        ·
          refine b_if hF (fun hF => ?_) (fun hF => ?_)
          ·
            exact BX35_font_b112 (N := N) (SE := SE) (SN := SN) @hsE @hsN E5 hF
          ·
            exact BX35_font_b85 (N := N) (SE := SE) (SN := SN) @hsE @hsN E5 hF
theorem BX35_font {σo : fS} {q : Unit × fS} {N : Nat} {SE : Int → fS → Option (Unit × fS)} {SN : fS → Option (Int × fS)} (hsE : ∀ {s : fS} {x1 : Int} {q}, bS 1 s → SE x1 s = some q → bE 1 s q.2) (hsN : ∀ {s : fS} {q}, bS 1 s → SN s = some q → bE 1 s q.2) {s : fS} {p0 : Int} (E : bE 1 σo s) (hF : FX35_font N SE SN p0 s = some q) : bE 1 σo q.2 := by
  unfold FX35_font at hF
  refine b_call E (fun _ hq => (BX35_target (N := N) (bE.rf E.S) hq)) hF (fun _ hq2 D2 E2 hF => ?_)
  refine b_call E2 (fun _ hq => (BX35_equals (N := N) (SE := SE) @hsE (bE.rf E2.S) hq)) hF (fun _ hq4 D4 E4 hF => ?_)
  refine b_call E4 (fun _ hq => (BX35_small (SN := SN) @hsN (bE.rf E4.S) hq)) hF (fun _ hq6 D6 E6 hF => ?_)
  refine b_if hF (fun hF => ?_) (fun hF => ?_)
  ·
    exact BX35_font_b38 (N := N) (SE := SE) (SN := SN) @hsE @hsN E6 hF
  ·
    refine b_rQ E6 (E6.S.m1 (Nat.le_of_ble_eq_true rfl) (Nat.le_of_ble_eq_true rfl)) hF (fun a12 o9 hF => ?_)
    cases a12 with
    | none =>
      dsimp only at hF
      refine b_call E6 (fun _ hq => (BX35_fail (bE.rf E6.S) hq)) hF (fun _ hq11 D11 E11 hF => ?_)
      exact BX35_font_b38 (N := N) (SE := SE) (SN := SN) @hsE @hsN E11 hF
    | some a14 =>
      dsimp only at hF
      exact BX35_font_b38 (N := N) (SE := SE) (SN := SN) @hsE @hsN E6 hF
theorem BX35_reckoned_b89 {σo : fS} {q : Int × fS} {s : fS} {s0 : Int} (E : bE 1 σo s) (hF : FX35_reckoned_b89 s0 s = some q) : bE 1 σo q.2 := by
  unfold FX35_reckoned_b89 at hF
  exact b_ret E hF
theorem BX35_reckoned_b75 {σo : fS} {q : Int × fS} {s : fS} {l8 : Int} (E : bE 1 σo s) (hF : FX35_reckoned_b75 l8 s = some q) : bE 1 σo q.2 := by
  unfold FX35_reckoned_b75 at hF
  refine b_if hF (fun hF => ?_) (fun hF => ?_)
  ·
    exact BX35_reckoned_b89 E hF
  ·
    exact BX35_reckoned_b89 E hF
theorem BX35_reckoned_b69 {σo : fS} {q : Int × fS} {s : fS} {l8 : Int} (E : bE 1 σo s) (hF : FX35_reckoned_b69 l8 s = some q) : bE 1 σo q.2 := by
  unfold FX35_reckoned_b69 at hF
  refine b_call E (fun _ hq => (BX35_fail (bE.rf E.S) hq)) hF (fun _ hq2 D2 E2 hF => ?_)
  exact BX35_reckoned_b75 E2 hF
theorem BX35_reckoned_b50 {σo : fS} {q : Int × fS} {s : fS} {l6 : Int} {s0 : Int} (E : bE 1 σo s) (hF : FX35_reckoned_b50 l6 s0 s = some q) : bE 1 σo q.2 := by
  unfold FX35_reckoned_b50 at hF
  refine b_if hF (fun hF => ?_) (fun hF => ?_)
  ·
    exact BX35_reckoned_b69 E hF
  ·
    refine b_if hF (fun hF => ?_) (fun hF => ?_)
    ·
      exact BX35_reckoned_b75 E hF
    ·
      exact BX35_reckoned_b69 E hF
theorem BX35_reckoned_b21 {σo : fS} {q : Int × fS} {s : fS} {l1 : Int} {l3 : Int} {l5 : Int} {l6 : Int} (E : bE 1 σo s) (hF : FX35_reckoned_b21 l1 l3 l5 l6 s = some q) : bE 1 σo q.2 := by
  unfold FX35_reckoned_b21 at hF
  refine b_if hF (fun hF => ?_) (fun hF => ?_)
  ·
    refine b_if hF (fun hF => ?_) (fun hF => ?_)
    ·
      refine b_dv hF (fun hF => ?_)
      exact BX35_reckoned_b50 E hF
    ·
      exact BX35_reckoned_b50 E hF
  ·
    exact BX35_reckoned_b50 E hF
theorem BX35_reckoned {σo : fS} {q : Int × fS} {s : fS} {p0 : Int} {p1 : Int} {p2 : Int} {p3 : Int} (E : bE 1 σo s) (hF : FX35_reckoned p0 p1 p2 p3 s = some q) : bE 1 σo q.2 := by
  unfold FX35_reckoned at hF
  refine b_if hF (fun hF => ?_) (fun hF => ?_)
  ·
    exact BX35_reckoned_b21 E hF
  ·
    refine b_if hF (fun hF => ?_) (fun hF => ?_)
    ·
      exact BX35_reckoned_b21 E hF
    ·
      refine b_call E (fun _ hq => (BX35_fail (bE.rf E.S) hq)) hF (fun _ hq2 D2 E2 hF => ?_)
      exact b_ret E2 hF
theorem BX35_setGlue_2_b41 {σo : fS} {q : Unit × fS} {N : Nat} {s : fS} {l1 : Int} {l2 : Int} {s1 : Int} {s2 : Int} (E : bE 1 σo s) (hF : FX35_setGlue_2_b41 N l1 l2 s1 s2 s = some q) : bE 1 σo q.2 := by
  unfold FX35_setGlue_2_b41 at hF
  refine b_call E (fun _ hq => (BX35_setAt (N := N) (bE.rf E.S) hq)) hF (fun _ hq2 D2 E2 hF => ?_)
  refine b_call E2 (fun _ hq => (BX35_setAt (N := N) (bE.rf E2.S) hq)) hF (fun _ hq5 D5 E5 hF => ?_)
  exact b_ret E5 hF
theorem BX35_setGlue_2 {σo : fS} {q : Unit × fS} {N : Nat} {s : fS} {p0 : Int} {p1 : Int} (E : bE 1 σo s) (hF : FX35_setGlue_2 N p0 p1 s = some q) : bE 1 σo q.2 := by
  unfold FX35_setGlue_2 at hF
  refine b_call E (fun _ hq => (BX35_setAt (N := N) (bE.rf E.S) hq)) hF (fun _ hq3 D3 E3 hF => ?_)
  refine b_call E3 (fun _ hq => (BX35_setAt (N := N) (bE.rf E3.S) hq)) hF (fun _ hq6 D6 E6 hF => ?_)
  refine b_if hF (fun hF => ?_) (fun hF => ?_)
  ·
    exact BX35_setGlue_2_b41 (N := N) E6 hF
  ·
    exact BX35_setGlue_2_b41 (N := N) E6 hF
theorem BX35_reckonGlue_b307 {σo : fS} {q : Unit × fS} {N : Nat} {SE : Int → fS → Option (Unit × fS)} {SN : fS → Option (Int × fS)} (hsE : ∀ {s : fS} {x1 : Int} {q}, bS 1 s → SE x1 s = some q → bE 1 s q.2) (hsN : ∀ {s : fS} {q}, bS 1 s → SN s = some q → bE 1 s q.2) {s : fS} {l1 : Int} {l3 : Int} (E : bE 1 σo s) (hF : FX35_reckonGlue_b307 N SE SN l1 l3 s = some q) : bE 1 σo q.2 := by
  unfold FX35_reckonGlue_b307 at hF
  refine b_call E (fun _ hq => (BX35_setGlue_2 (N := N) (bE.rf E.S) hq)) hF (fun _ hq2 D2 E2 hF => ?_)
  exact b_ret E2 hF
theorem BX35_reckonGlue_b301 {σo : fS} {q : Unit × fS} {N : Nat} {SE : Int → fS → Option (Unit × fS)} {SN : fS → Option (Int × fS)} (hsE : ∀ {s : fS} {x1 : Int} {q}, bS 1 s → SE x1 s = some q → bE 1 s q.2) (hsN : ∀ {s : fS} {q}, bS 1 s → SN s = some q → bE 1 s q.2) {s : fS} {l1 : Int} {l3 : Int} (E : bE 1 σo s) (hF : FX35_reckonGlue_b301 N SE SN l1 l3 s = some q) : bE 1 σo q.2 := by
  unfold FX35_reckonGlue_b301 at hF
  refine b_call E (fun _ hq => (BX35_fail (bE.rf E.S) hq)) hF (fun _ hq2 D2 E2 hF => ?_)
  exact BX35_reckonGlue_b307 (N := N) (SE := SE) (SN := SN) @hsE @hsN E2 hF
theorem BX35_reckonGlue_b280 {σo : fS} {q : Unit × fS} {N : Nat} {SE : Int → fS → Option (Unit × fS)} {SN : fS → Option (Int × fS)} (hsE : ∀ {s : fS} {x1 : Int} {q}, bS 1 s → SE x1 s = some q → bE 1 s q.2) (hsN : ∀ {s : fS} {q}, bS 1 s → SN s = some q → bE 1 s q.2) {s : fS} {l1 : Int} {l3 : Int} (E : bE 1 σo s) (hF : FX35_reckonGlue_b280 N SE SN l1 l3 s = some q) : bE 1 σo q.2 := by
  unfold FX35_reckonGlue_b280 at hF
  refine b_if hF (fun hF => ?_) (fun hF => ?_)
  ·
    exact BX35_reckonGlue_b307 (N := N) (SE := SE) (SN := SN) @hsE @hsN E hF
  ·
    refine b_if hF (fun hF => ?_) (fun hF => ?_)
    ·
      exact BX35_reckonGlue_b301 (N := N) (SE := SE) (SN := SN) @hsE @hsN E hF
    ·
      refine b_if hF (fun hF => ?_) (fun hF => ?_)
      ·
        exact BX35_reckonGlue_b307 (N := N) (SE := SE) (SN := SN) @hsE @hsN E hF
      ·
        exact BX35_reckonGlue_b301 (N := N) (SE := SE) (SN := SN) @hsE @hsN E hF
theorem BX35_reckonGlue_b137 {σo : fS} {q : Unit × fS} {N : Nat} {SE : Int → fS → Option (Unit × fS)} {SN : fS → Option (Int × fS)} (hsE : ∀ {s : fS} {x1 : Int} {q}, bS 1 s → SE x1 s = some q → bE 1 s q.2) (hsN : ∀ {s : fS} {q}, bS 1 s → SN s = some q → bE 1 s q.2) {s : fS} {l1 : Int} {l3 : Int} {l4 : Int} {l8 : Int} {s0 : Int} (E : bE 1 σo s) (hF : FX35_reckonGlue_b137 N SE SN l1 l3 l4 l8 s0 s = some q) : bE 1 σo q.2 := by
  unfold FX35_reckonGlue_b137 at hF
  refine b_call E (fun _ hq => (BX35_now (bE.rf E.S) hq)) hF (fun _ hq2 D2 E2 hF => ?_)
  refine b_call E2 (fun _ hq => (BX35_reckoned (bE.rf E2.S) hq)) hF (fun _ hq5 D5 E5 hF => ?_)
  refine b_pI E5 (E5.S.m1 (Nat.le_of_ble_eq_true rfl) (Nat.le_of_ble_eq_true rfl)) hF (fun _ D6 E6 hF => ?_)
  refine b_pI E6 (E6.S.m1 (Nat.le_of_ble_eq_true rfl) (Nat.le_of_ble_eq_true rfl)) hF (fun _ D7 E7 hF => ?_)
  refine b_pI E7 (E7.S.m1 (Nat.le_of_ble_eq_true rfl) (Nat.le_of_ble_eq_true rfl)) hF (fun _ D8 E8 hF => ?_)
  refine b_pI E8 (E8.S.m1 (Nat.le_of_ble_eq_true rfl) (Nat.le_of_ble_eq_true rfl)) hF (fun _ D9 E9 hF => ?_)
  exact BX35_reckonGlue_b280 (N := N) (SE := SE) (SN := SN) @hsE @hsN E9 hF
theorem BX35_reckonGlue_b117 {σo : fS} {q : Unit × fS} {N : Nat} {SE : Int → fS → Option (Unit × fS)} {SN : fS → Option (Int × fS)} (hsE : ∀ {s : fS} {x1 : Int} {q}, bS 1 s → SE x1 s = some q → bE 1 s q.2) (hsN : ∀ {s : fS} {q}, bS 1 s → SN s = some q → bE 1 s q.2) {s : fS} {l1 : Int} {l3 : Int} {l4 : Int} {l6 : Int} {s0 : Int} (E : bE 1 σo s) (hF : FX35_reckonGlue_b117 N SE SN l1 l3 l4 l6 s0 s = some q) : bE 1 σo q.2 := by
  unfold FX35_reckonGlue_b117 at hF
  refine b_if hF (fun hF => ?_) (fun hF => ?_)
  ·
    exact BX35_reckonGlue_b137 (N := N) (SE := SE) (SN := SN) @hsE @hsN E hF
  ·
    exact BX35_reckonGlue_b137 (N := N) (SE := SE) (SN := SN) @hsE @hsN E hF
theorem BX35_reckonGlue_b72 {σo : fS} {q : Unit × fS} {N : Nat} {SE : Int → fS → Option (Unit × fS)} {SN : fS → Option (Int × fS)} (hsE : ∀ {s : fS} {x1 : Int} {q}, bS 1 s → SE x1 s = some q → bE 1 s q.2) (hsN : ∀ {s : fS} {q}, bS 1 s → SN s = some q → bE 1 s q.2) {s : fS} {l1 : Int} {l3 : Int} {l4 : Int} {l5 : Int} {l6 : Int} {s0 : Int} (E : bE 1 σo s) (hF : FX35_reckonGlue_b72 N SE SN l1 l3 l4 l5 l6 s0 s = some q) : bE 1 σo q.2 := by
  unfold FX35_reckonGlue_b72 at hF
  refine b_if hF (fun hF => ?_) (fun hF => ?_)
  ·
    refine b_if hF (fun hF => ?_) (fun hF => ?_)
    ·
      exact BX35_reckonGlue_b117 (N := N) (SE := SE) (SN := SN) @hsE @hsN E hF
    ·
      exact BX35_reckonGlue_b117 (N := N) (SE := SE) (SN := SN) @hsE @hsN E hF
  ·
    refine b_call E (fun _ hq => (BX35_reckoned (bE.rf E.S) hq)) hF (fun _ hq5 D5 E5 hF => ?_)
    exact BX35_reckonGlue_b117 (N := N) (SE := SE) (SN := SN) @hsE @hsN E5 hF
theorem BX35_reckonGlue {σo : fS} {q : Unit × fS} {N : Nat} {SE : Int → fS → Option (Unit × fS)} {SN : fS → Option (Int × fS)} (hsE : ∀ {s : fS} {x1 : Int} {q}, bS 1 s → SE x1 s = some q → bE 1 s q.2) (hsN : ∀ {s : fS} {q}, bS 1 s → SN s = some q → bE 1 s q.2) {s : fS} {p0 : Int} {p1 : Int} {p2 : Int} (E : bE 1 σo s) (hF : FX35_reckonGlue N SE SN p0 p1 p2 s = some q) : bE 1 σo q.2 := by
  unfold FX35_reckonGlue at hF
  refine b_if hF (fun hF => ?_) (fun hF => ?_)
  ·
    refine b_call E (fun _ hq => (hsN E.S hq)) hF (fun _ hq2 D2 E2 hF => ?_)
    refine b_if hF (fun hF => ?_) (fun hF => ?_)
    ·
      refine b_call E2 (fun _ hq => (BX35_now (bE.rf E2.S) hq)) hF (fun _ hq5 D5 E5 hF => ?_)
      refine b_call E5 (fun _ hq => (BX35_reckoned (bE.rf E5.S) hq)) hF (fun _ hq7 D7 E7 hF => ?_)
      refine b_pI E7 (E7.S.m1 (Nat.le_of_ble_eq_true rfl) (Nat.le_of_ble_eq_true rfl)) hF (fun _ D8 E8 hF => ?_)
      refine b_call E8 (fun _ hq => (BX35_now (bE.rf E8.S) hq)) hF (fun _ hq10 D10 E10 hF => ?_)
      refine b_call E10 (fun _ hq => (BX35_reckoned (bE.rf E10.S) hq)) hF (fun _ hq12 D12 E12 hF => ?_)
      refine b_pI E12 (E12.S.m1 (Nat.le_of_ble_eq_true rfl) (Nat.le_of_ble_eq_true rfl)) hF (fun _ D13 E13 hF => ?_)
      refine b_call E13 (fun _ hq => (BX35_now (bE.rf E13.S) hq)) hF (fun _ hq15 D15 E15 hF => ?_)
      refine b_pI E15 (E15.S.m1 (Nat.le_of_ble_eq_true rfl) (Nat.le_of_ble_eq_true rfl)) hF (fun _ D16 E16 hF => ?_)
      refine b_call E16 (fun _ hq => (BX35_now (bE.rf E16.S) hq)) hF (fun _ hq18 D18 E18 hF => ?_)
      refine b_call E18 (fun _ hq => (BX35_reckoned (bE.rf E18.S) hq)) hF (fun _ hq20 D20 E20 hF => ?_)
      refine b_pI E20 (E20.S.m1 (Nat.le_of_ble_eq_true rfl) (Nat.le_of_ble_eq_true rfl)) hF (fun _ D21 E21 hF => ?_)
      exact BX35_reckonGlue_b280 (N := N) (SE := SE) (SN := SN) @hsE @hsN E21 hF
    ·
      exact b_ret E2 hF
  ·
    refine b_call E (fun _ hq => (BX35_readGlue (N := N) (SE := SE) (SN := SN) @hsE @hsN (bE.rf E.S) hq)) hF (fun _ hq23 D23 E23 hF => ?_)
    refine b_if hF (fun hF => ?_) (fun hF => ?_)
    ·
      refine b_call E23 (fun _ hq => (BX35_now (bE.rf E23.S) hq)) hF (fun _ hq26 D26 E26 hF => ?_)
      refine b_call E26 (fun _ hq => (BX35_reckoned (bE.rf E26.S) hq)) hF (fun _ hq29 D29 E29 hF => ?_)
      refine b_call E29 (fun _ hq => (BX35_now (bE.rf E29.S) hq)) hF (fun _ hq31 D31 E31 hF => ?_)
      refine b_call E31 (fun _ hq => (BX35_now (bE.rf E31.S) hq)) hF (fun _ hq33 D33 E33 hF => ?_)
      refine b_if hF (fun hF => ?_) (fun hF => ?_)
      ·
        exact BX35_reckonGlue_b72 (N := N) (SE := SE) (SN := SN) @hsE @hsN E33 hF
      ·
        exact BX35_reckonGlue_b72 (N := N) (SE := SE) (SN := SN) @hsE @hsN E33 hF
    ·
      exact b_ret E23 hF
