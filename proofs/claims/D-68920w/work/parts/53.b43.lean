set_option maxRecDepth 100000
set_option maxHeartbeats 4000000
theorem BX35_reckon_b162 {σo : fS} {q : Unit × fS} {N : Nat} {SE : Int → fS → Option (Unit × fS)} {SN : fS → Option (Int × fS)} (hsE : ∀ {s : fS} {x1 : Int} {q}, bS 1 s → SE x1 s = some q → bE 1 s q.2) (hsN : ∀ {s : fS} {q}, bS 1 s → SN s = some q → bE 1 s q.2) {s : fS} (E : bE 1 σo s) (hF : FX35_reckon_b162 N SE SN s = some q) : bE 1 σo q.2 := by
  unfold FX35_reckon_b162 at hF
  exact b_ret E hF
theorem BX35_reckon_b155 {σo : fS} {q : Unit × fS} {N : Nat} {SE : Int → fS → Option (Unit × fS)} {SN : fS → Option (Int × fS)} (hsE : ∀ {s : fS} {x1 : Int} {q}, bS 1 s → SE x1 s = some q → bE 1 s q.2) (hsN : ∀ {s : fS} {q}, bS 1 s → SN s = some q → bE 1 s q.2) {s : fS} {l2 : Int} {s1 : Int} {s3 : Int} {s4 : Int} {s5 : Int} {s6 : Int} (E : bE 1 σo s) (hF : FX35_reckon_b155 N SE SN l2 s1 s3 s4 s5 s6 s = some q) : bE 1 σo q.2 := by
  unfold FX35_reckon_b155 at hF
  refine b_call E (fun _ hq => (BX35_reckoned (bE.rf E.S) hq)) hF (fun _ hq2 D2 E2 hF => ?_)
  refine b_call E2 (fun _ hq => (BX35_setAt (N := N) (bE.rf E2.S) hq)) hF (fun _ hq4 D4 E4 hF => ?_)
  exact BX35_reckon_b162 (N := N) (SE := SE) (SN := SN) @hsE @hsN E4 hF
theorem BX35_reckon_b116 {σo : fS} {q : Unit × fS} {N : Nat} {SE : Int → fS → Option (Unit × fS)} {SN : fS → Option (Int × fS)} (hsE : ∀ {s : fS} {x1 : Int} {q}, bS 1 s → SE x1 s = some q → bE 1 s q.2) (hsN : ∀ {s : fS} {q}, bS 1 s → SN s = some q → bE 1 s q.2) {s : fS} {l1 : Int} {l2 : Int} {l3 : Int} {l4 : Int} {s0 : Int} (E : bE 1 σo s) (hF : FX35_reckon_b116 N SE SN l1 l2 l3 l4 s0 s = some q) : bE 1 σo q.2 := by
  unfold FX35_reckon_b116 at hF
  refine b_if hF (fun hF => ?_) (fun hF => ?_)
  ·
    exact BX35_reckon_b162 (N := N) (SE := SE) (SN := SN) @hsE @hsN E hF
  ·
    refine b_call E (fun _ hq => (BX35_now (bE.rf E.S) hq)) hF (fun _ hq3 D3 E3 hF => ?_)
    refine b_call E3 (fun _ hq => (BX35_isCounter (bE.rf E3.S) hq)) hF (fun _ hq4 D4 E4 hF => ?_)
    refine b_if hF (fun hF => ?_) (fun hF => ?_)
    ·
      exact BX35_reckon_b155 (N := N) (SE := SE) (SN := SN) @hsE @hsN E4 hF
    ·
      exact BX35_reckon_b155 (N := N) (SE := SE) (SN := SN) @hsE @hsN E4 hF
theorem BX35_reckon_b111 {σo : fS} {q : Unit × fS} {N : Nat} {SE : Int → fS → Option (Unit × fS)} {SN : fS → Option (Int × fS)} (hsE : ∀ {s : fS} {x1 : Int} {q}, bS 1 s → SE x1 s = some q → bE 1 s q.2) (hsN : ∀ {s : fS} {q}, bS 1 s → SN s = some q → bE 1 s q.2) {s : fS} {l1 : Int} {l2 : Int} {l3 : Int} {l4 : Int} (E : bE 1 σo s) (hF : FX35_reckon_b111 N SE SN l1 l2 l3 l4 s = some q) : bE 1 σo q.2 := by
  unfold FX35_reckon_b111 at hF
  refine b_call E (fun _ hq => (hsN E.S hq)) hF (fun _ hq2 D2 E2 hF => ?_)
  exact BX35_reckon_b116 (N := N) (SE := SE) (SN := SN) @hsE @hsN E2 hF
theorem BX35_reckon_b43 {σo : fS} {q : Unit × fS} {N : Nat} {SE : Int → fS → Option (Unit × fS)} {SN : fS → Option (Int × fS)} (hsE : ∀ {s : fS} {x1 : Int} {q}, bS 1 s → SE x1 s = some q → bE 1 s q.2) (hsN : ∀ {s : fS} {q}, bS 1 s → SN s = some q → bE 1 s q.2) {s : fS} {l1 : Int} {l2 : Int} {l3 : Int} (E : bE 1 σo s) (hF : FX35_reckon_b43 N SE SN l1 l2 l3 s = some q) : bE 1 σo q.2 := by
  unfold FX35_reckon_b43 at hF
  refine b_if hF (fun hF => ?_) (fun hF => ?_)
  ·
    refine b_call E (fun _ hq => (BX35_at (SN := SN) @hsN (bE.rf E.S) hq)) hF (fun _ hq3 D3 E3 hF => ?_)
    refine b_if hF (fun hF => ?_) (fun hF => ?_)
    ·
      refine b_call E3 (fun _ hq => (BX35_keyword (N := N) (SE := SE) @hsE (bE.rf E3.S) hq)) hF (fun _ hq6 D6 E6 hF => ?_)
      refine b_call E6 (fun _ hq => (BX35_isGlue (bE.rf E6.S) hq)) hF (fun _ hq7 D7 E7 hF => ?_)
      refine b_if hF (fun hF => ?_) (fun hF => ?_)
      ·
        refine b_if hF (fun hF => ?_) (fun hF => ?_)
        ·
          exact BX35_reckon_b111 (N := N) (SE := SE) (SN := SN) @hsE @hsN E7 hF
        ·
          refine b_call E7 (fun _ hq => (BX35_isLength (bE.rf E7.S) hq)) hF (fun _ hq8 D8 E8 hF => ?_)
          refine b_if hF (fun hF => ?_) (fun hF => ?_)
          ·
            exact BX35_reckon_b111 (N := N) (SE := SE) (SN := SN) @hsE @hsN E8 hF
          ·
            refine b_call E8 (fun _ hq => (BX35_dimension (N := N) (SE := SE) (SN := SN) @hsE @hsN (bE.rf E8.S) hq)) hF (fun _ hq10 D10 E10 hF => ?_)
            exact BX35_reckon_b116 (N := N) (SE := SE) (SN := SN) @hsE @hsN E10 hF
      ·
        refine b_call E7 (fun _ hq => (BX35_reckonGlue (N := N) (SE := SE) (SN := SN) @hsE @hsN (bE.rf E7.S) hq)) hF (fun _ hq12 D12 E12 hF => ?_)
        exact b_ret E12 hF
    ·
      exact b_ret E3 hF
  ·
    exact b_ret E hF
theorem BX35_reckon {σo : fS} {q : Unit × fS} {N : Nat} {SE : Int → fS → Option (Unit × fS)} {SN : fS → Option (Int × fS)} (hsE : ∀ {s : fS} {x1 : Int} {q}, bS 1 s → SE x1 s = some q → bE 1 s q.2) (hsN : ∀ {s : fS} {q}, bS 1 s → SN s = some q → bE 1 s q.2) {s : fS} {p0 : Int} {p1 : Int} (E : bE 1 σo s) (hF : FX35_reckon N SE SN p0 p1 s = some q) : bE 1 σo q.2 := by
  unfold FX35_reckon at hF
  refine b_call E (fun _ hq => (BX35_needExpandedNoSpace (N := N) (SE := SE) @hsE (bE.rf E.S) hq)) hF (fun _ hq2 D2 E2 hF => ?_)
  refine b_call E2 (fun _ hq => (BX35_primitiveOf (bE.rf E2.S) hq)) hF (fun _ hq4 D4 E4 hF => ?_)
  refine b_if hF (fun hF => ?_) (fun hF => ?_)
  ·
    exact BX35_reckon_b43 (N := N) (SE := SE) (SN := SN) @hsE @hsN E4 hF
  ·
    refine b_call E4 (fun _ hq => (BX35_isCounter (bE.rf E4.S) hq)) hF (fun _ hq6 D6 E6 hF => ?_)
    refine b_if hF (fun hF => ?_) (fun hF => ?_)
    ·
      exact BX35_reckon_b43 (N := N) (SE := SE) (SN := SN) @hsE @hsN E6 hF
    ·
      refine b_call E6 (fun _ hq => (BX35_isLength (bE.rf E6.S) hq)) hF (fun _ hq7 D7 E7 hF => ?_)
      refine b_if hF (fun hF => ?_) (fun hF => ?_)
      ·
        exact BX35_reckon_b43 (N := N) (SE := SE) (SN := SN) @hsE @hsN E7 hF
      ·
        refine b_call E7 (fun _ hq => (BX35_isGlue (bE.rf E7.S) hq)) hF (fun _ hq8 D8 E8 hF => ?_)
        refine b_if hF (fun hF => ?_) (fun hF => ?_)
        ·
          exact BX35_reckon_b43 (N := N) (SE := SE) (SN := SN) @hsE @hsN E8 hF
        ·
          refine b_call E8 (fun _ hq => (BX35_fail (bE.rf E8.S) hq)) hF (fun _ hq10 D10 E10 hF => ?_)
          exact BX35_reckon_b43 (N := N) (SE := SE) (SN := SN) @hsE @hsN E10 hF
theorem BX35_quantity_b54 {σo : fS} {q : Unit × fS} {N : Nat} {SE : Int → fS → Option (Unit × fS)} {SN : fS → Option (Int × fS)} (hsE : ∀ {s : fS} {x1 : Int} {q}, bS 1 s → SE x1 s = some q → bE 1 s q.2) (hsN : ∀ {s : fS} {q}, bS 1 s → SN s = some q → bE 1 s q.2) {s : fS} (E : bE 1 σo s) (hF : FX35_quantity_b54 N SE SN s = some q) : bE 1 σo q.2 := by
  unfold FX35_quantity_b54 at hF
  exact b_ret E hF
theorem BX35_quantity_b50 {σo : fS} {q : Unit × fS} {N : Nat} {SE : Int → fS → Option (Unit × fS)} {SN : fS → Option (Int × fS)} (hsE : ∀ {s : fS} {x1 : Int} {q}, bS 1 s → SE x1 s = some q → bE 1 s q.2) (hsN : ∀ {s : fS} {q}, bS 1 s → SN s = some q → bE 1 s q.2) {s : fS} {l2 : Int} {s1 : Int} {s2 : Int} (E : bE 1 σo s) (hF : FX35_quantity_b50 N SE SN l2 s1 s2 s = some q) : bE 1 σo q.2 := by
  unfold FX35_quantity_b50 at hF
  refine b_call E (fun _ hq => (BX35_setAt (N := N) (bE.rf E.S) hq)) hF (fun _ hq2 D2 E2 hF => ?_)
  exact BX35_quantity_b54 (N := N) (SE := SE) (SN := SN) @hsE @hsN E2 hF
theorem BX35_quantity {σo : fS} {q : Unit × fS} {N : Nat} {SE : Int → fS → Option (Unit × fS)} {SN : fS → Option (Int × fS)} (hsE : ∀ {s : fS} {x1 : Int} {q}, bS 1 s → SE x1 s = some q → bE 1 s q.2) (hsN : ∀ {s : fS} {q}, bS 1 s → SN s = some q → bE 1 s q.2) {s : fS} {p0 : Int} {p1 : Int} (E : bE 1 σo s) (hF : FX35_quantity N SE SN p0 p1 s = some q) : bE 1 σo q.2 := by
  unfold FX35_quantity at hF
  refine b_call E (fun _ hq => (BX35_at (SN := SN) @hsN (bE.rf E.S) hq)) hF (fun _ hq2 D2 E2 hF => ?_)
  refine b_call E2 (fun _ hq => (BX35_equals (N := N) (SE := SE) @hsE (bE.rf E2.S) hq)) hF (fun _ hq4 D4 E4 hF => ?_)
  refine b_call E4 (fun _ hq => (BX35_isGlue (bE.rf E4.S) hq)) hF (fun _ hq5 D5 E5 hF => ?_)
  refine b_if hF (fun hF => ?_) (fun hF => ?_)
  ·
    refine b_call E5 (fun _ hq => (BX35_isCounter (bE.rf E5.S) hq)) hF (fun _ hq6 D6 E6 hF => ?_)
    refine b_if hF (fun hF => ?_) (fun hF => ?_)
    ·
      refine b_call E6 (fun _ hq => (BX35_dimension (N := N) (SE := SE) (SN := SN) @hsE @hsN (bE.rf E6.S) hq)) hF (fun _ hq8 D8 E8 hF => ?_)
      exact BX35_quantity_b50 (N := N) (SE := SE) (SN := SN) @hsE @hsN E8 hF
    ·
      refine b_call E6 (fun _ hq => (hsN E6.S hq)) hF (fun _ hq10 D10 E10 hF => ?_)
      exact BX35_quantity_b50 (N := N) (SE := SE) (SN := SN) @hsE @hsN E10 hF
  ·
    refine b_call E5 (fun _ hq => (BX35_readGlue (N := N) (SE := SE) (SN := SN) @hsE @hsN (bE.rf E5.S) hq)) hF (fun _ hq12 D12 E12 hF => ?_)
    refine b_call E12 (fun _ hq => (BX35_setGlue_2 (N := N) (bE.rf E12.S) hq)) hF (fun _ hq14 D14 E14 hF => ?_)
    exact BX35_quantity_b54 (N := N) (SE := SE) (SN := SN) @hsE @hsN E14 hF
theorem BX35_set_b241 {σo : fS} {q : Unit × fS} {N : Nat} {SE : Int → fS → Option (Unit × fS)} {SL : Int → Int → Int → fS → Option (Int × fS)} {SN : fS → Option (Int × fS)} (hsE : ∀ {s : fS} {x1 : Int} {q}, bS 1 s → SE x1 s = some q → bE 1 s q.2) (hsL : ∀ {s : fS} {x1 : Int} {x2 : Int} {x3 : Int} {q}, bS 1 s → SL x1 x2 x3 s = some q → bE 1 s q.2) (hsN : ∀ {s : fS} {q}, bS 1 s → SN s = some q → bE 1 s q.2) {s : fS} (E : bE 1 σo s) (hF : FX35_set_b241 N SE SL SN s = some q) : bE 1 σo q.2 := by
  unfold FX35_set_b241 at hF
  exact b_ret E hF
theorem BX35_set_b107 {σo : fS} {q : Unit × fS} {N : Nat} {SE : Int → fS → Option (Unit × fS)} {SL : Int → Int → Int → fS → Option (Int × fS)} {SN : fS → Option (Int × fS)} (hsE : ∀ {s : fS} {x1 : Int} {q}, bS 1 s → SE x1 s = some q → bE 1 s q.2) (hsL : ∀ {s : fS} {x1 : Int} {x2 : Int} {x3 : Int} {q}, bS 1 s → SL x1 x2 x3 s = some q → bE 1 s q.2) (hsN : ∀ {s : fS} {q}, bS 1 s → SN s = some q → bE 1 s q.2) {s : fS} {s1 : Int} {s2 : Int} (E : bE 1 σo s) (hF : FX35_set_b107 N SE SL SN s1 s2 s = some q) : bE 1 σo q.2 := by
  unfold FX35_set_b107 at hF
  refine b_call E (fun _ hq => (BX35_define (N := N) (SE := SE) @hsE (bE.rf E.S) hq)) hF (fun _ hq2 D2 E2 hF => ?_)
  exact BX35_set_b241 (N := N) (SE := SE) (SL := SL) (SN := SN) @hsE @hsL @hsN E2 hF
theorem BX35_set_b102 {σo : fS} {q : Unit × fS} {N : Nat} {SE : Int → fS → Option (Unit × fS)} {SL : Int → Int → Int → fS → Option (Int × fS)} {SN : fS → Option (Int × fS)} (hsE : ∀ {s : fS} {x1 : Int} {q}, bS 1 s → SE x1 s = some q → bE 1 s q.2) (hsL : ∀ {s : fS} {x1 : Int} {x2 : Int} {x3 : Int} {q}, bS 1 s → SL x1 x2 x3 s = some q → bE 1 s q.2) (hsN : ∀ {s : fS} {q}, bS 1 s → SN s = some q → bE 1 s q.2) {s : fS} {s1 : Int} (E : bE 1 σo s) (hF : FX35_set_b102 N SE SL SN s1 s = some q) : bE 1 σo q.2 := by
  unfold FX35_set_b102 at hF
  exact BX35_set_b107 (N := N) (SE := SE) (SL := SL) (SN := SN) @hsE @hsL @hsN E hF
theorem BX35_set_b86 {σo : fS} {q : Unit × fS} {N : Nat} {SE : Int → fS → Option (Unit × fS)} {SL : Int → Int → Int → fS → Option (Int × fS)} {SN : fS → Option (Int × fS)} (hsE : ∀ {s : fS} {x1 : Int} {q}, bS 1 s → SE x1 s = some q → bE 1 s q.2) (hsL : ∀ {s : fS} {x1 : Int} {x2 : Int} {x3 : Int} {q}, bS 1 s → SL x1 x2 x3 s = some q → bE 1 s q.2) (hsN : ∀ {s : fS} {q}, bS 1 s → SN s = some q → bE 1 s q.2) {s : fS} {l1 : Int} {l2 : Int} {s1 : Int} (E : bE 1 σo s) (hF : FX35_set_b86 N SE SL SN l1 l2 s1 s = some q) : bE 1 σo q.2 := by
  unfold FX35_set_b86 at hF
  refine b_if hF (fun hF => ?_) (fun hF => ?_)
  ·
    exact BX35_set_b102 (N := N) (SE := SE) (SL := SL) (SN := SN) @hsE @hsL @hsN E hF
  ·
    refine b_if hF (fun hF => ?_) (fun hF => ?_)
    ·
      exact BX35_set_b102 (N := N) (SE := SE) (SL := SL) (SN := SN) @hsE @hsL @hsN E hF
    ·
      refine b_if hF (fun hF => ?_) (fun hF => ?_)
      ·
        exact BX35_set_b107 (N := N) (SE := SE) (SL := SL) (SN := SN) @hsE @hsL @hsN E hF
      ·
        exact BX35_set_b102 (N := N) (SE := SE) (SL := SL) (SN := SN) @hsE @hsL @hsN E hF
theorem BX35_set_b81 {σo : fS} {q : Unit × fS} {N : Nat} {SE : Int → fS → Option (Unit × fS)} {SL : Int → Int → Int → fS → Option (Int × fS)} {SN : fS → Option (Int × fS)} (hsE : ∀ {s : fS} {x1 : Int} {q}, bS 1 s → SE x1 s = some q → bE 1 s q.2) (hsL : ∀ {s : fS} {x1 : Int} {x2 : Int} {x3 : Int} {q}, bS 1 s → SL x1 x2 x3 s = some q → bE 1 s q.2) (hsN : ∀ {s : fS} {q}, bS 1 s → SN s = some q → bE 1 s q.2) {s : fS} {l1 : Int} {l2 : Int} (E : bE 1 σo s) (hF : FX35_set_b81 N SE SL SN l1 l2 s = some q) : bE 1 σo q.2 := by
  unfold FX35_set_b81 at hF
  exact BX35_set_b86 (N := N) (SE := SE) (SL := SL) (SN := SN) @hsE @hsL @hsN E hF
theorem BX35_set {σo : fS} {q : Unit × fS} {N : Nat} {SE : Int → fS → Option (Unit × fS)} {SL : Int → Int → Int → fS → Option (Int × fS)} {SN : fS → Option (Int × fS)} (hsE : ∀ {s : fS} {x1 : Int} {q}, bS 1 s → SE x1 s = some q → bE 1 s q.2) (hsL : ∀ {s : fS} {x1 : Int} {x2 : Int} {x3 : Int} {q}, bS 1 s → SL x1 x2 x3 s = some q → bE 1 s q.2) (hsN : ∀ {s : fS} {q}, bS 1 s → SN s = some q → bE 1 s q.2) {s : fS} {p0 : Int} {p1 : Int} (E : bE 1 σo s) (hF : FX35_set N SE SL SN p0 p1 s = some q) : bE 1 σo q.2 := by
  unfold FX35_set at hF
  refine b_if hF (fun hF => ?_) (fun hF => ?_)
  ·
    refine b_if hF (fun hF => ?_) (fun hF => ?_)
    ·
      exact BX35_set_b81 (N := N) (SE := SE) (SL := SL) (SN := SN) @hsE @hsL @hsN E hF
    ·
      refine b_if hF (fun hF => ?_) (fun hF => ?_)
      ·
        exact BX35_set_b86 (N := N) (SE := SE) (SL := SL) (SN := SN) @hsE @hsL @hsN E hF
      ·
        exact BX35_set_b81 (N := N) (SE := SE) (SL := SL) (SN := SN) @hsE @hsL @hsN E hF
  ·
    refine b_if hF (fun hF => ?_) (fun hF => ?_)
    ·
      refine b_if hF (fun hF => ?_) (fun hF => ?_)
      ·
        exact BX35_set_b81 (N := N) (SE := SE) (SL := SL) (SN := SN) @hsE @hsL @hsN E hF
      ·
        refine b_if hF (fun hF => ?_) (fun hF => ?_)
        ·
          exact BX35_set_b86 (N := N) (SE := SE) (SL := SL) (SN := SN) @hsE @hsL @hsN E hF
        ·
          exact BX35_set_b81 (N := N) (SE := SE) (SL := SL) (SN := SN) @hsE @hsL @hsN E hF
    ·
      refine b_if hF (fun hF => ?_) (fun hF => ?_)
      ·
        refine b_if hF (fun hF => ?_) (fun hF => ?_)
        ·
          exact BX35_set_b81 (N := N) (SE := SE) (SL := SL) (SN := SN) @hsE @hsL @hsN E hF
        ·
          refine b_if hF (fun hF => ?_) (fun hF => ?_)
          ·
            exact BX35_set_b86 (N := N) (SE := SE) (SL := SL) (SN := SN) @hsE @hsL @hsN E hF
          ·
            exact BX35_set_b81 (N := N) (SE := SE) (SL := SL) (SN := SN) @hsE @hsL @hsN E hF
      ·
        refine b_if hF (fun hF => ?_) (fun hF => ?_)
        ·
          refine b_if hF (fun hF => ?_) (fun hF => ?_)
          ·
            exact BX35_set_b81 (N := N) (SE := SE) (SL := SL) (SN := SN) @hsE @hsL @hsN E hF
          ·
            refine b_if hF (fun hF => ?_) (fun hF => ?_)
            ·
              exact BX35_set_b86 (N := N) (SE := SE) (SL := SL) (SN := SN) @hsE @hsL @hsN E hF
            ·
              exact BX35_set_b81 (N := N) (SE := SE) (SL := SL) (SN := SN) @hsE @hsL @hsN E hF
        ·
          refine b_if hF (fun hF => ?_) (fun hF => ?_)
          ·
            refine b_call E (fun _ hq => (BX35_let (N := N) (bE.rf E.S) hq)) hF (fun _ hq2 D2 E2 hF => ?_)
            exact BX35_set_b241 (N := N) (SE := SE) (SL := SL) (SN := SN) @hsE @hsL @hsN E2 hF
          ·
            refine b_if hF (fun hF => ?_) (fun hF => ?_)
            ·
              refine b_call E (fun _ hq => (BX35_target (N := N) (bE.rf E.S) hq)) hF (fun _ hq4 D4 E4 hF => ?_)
              refine b_call E4 (fun _ hq => (BX35_equals (N := N) (SE := SE) @hsE (bE.rf E4.S) hq)) hF (fun _ hq6 D6 E6 hF => ?_)
              refine b_call E6 (fun _ hq => (BX35_small (SN := SN) @hsN (bE.rf E6.S) hq)) hF (fun _ hq8 D8 E8 hF => ?_)
              refine b_if hF (fun hF => ?_) (fun hF => ?_)
              ·
                exact BX35_set_b241 (N := N) (SE := SE) (SL := SL) (SN := SN) @hsE @hsL @hsN E8 hF
              ·
                refine b_call E8 (fun _ hq => (BX35_mean (N := N) (bE.rf E8.S) hq)) hF (fun _ hq11 D11 E11 hF => ?_)
                exact BX35_set_b241 (N := N) (SE := SE) (SL := SL) (SN := SN) @hsE @hsL @hsN E11 hF
            ·
              refine b_if hF (fun hF => ?_) (fun hF => ?_)
              ·
                refine b_call E (fun _ hq => (BX35_font (N := N) (SE := SE) (SN := SN) @hsE @hsN (bE.rf E.S) hq)) hF (fun _ hq13 D13 E13 hF => ?_)
                exact BX35_set_b241 (N := N) (SE := SE) (SL := SL) (SN := SN) @hsE @hsL @hsN E13 hF
              ·
                refine b_if hF (fun hF => ?_) (fun hF => ?_)
                ·
                  refine b_call E (fun _ hq => (BX35_small (SN := SN) @hsN (bE.rf E.S) hq)) hF (fun _ hq15 D15 E15 hF => ?_)
                  refine b_call E15 (fun _ hq => (BX35_equals (N := N) (SE := SE) @hsE (bE.rf E15.S) hq)) hF (fun _ hq17 D17 E17 hF => ?_)
                  refine b_call E17 (fun _ hq => (BX35_small (SN := SN) @hsN (bE.rf E17.S) hq)) hF (fun _ hq19 D19 E19 hF => ?_)
                  refine b_call E19 (fun _ hq => (BX35_setAt (N := N) (bE.rf E19.S) hq)) hF (fun _ hq21 D21 E21 hF => ?_)
                  exact BX35_set_b241 (N := N) (SE := SE) (SL := SL) (SN := SN) @hsE @hsL @hsN E21 hF
                ·
                  refine b_if hF (fun hF => ?_) (fun hF => ?_)
                  ·
                    refine b_call E (fun _ hq => (BX35_reckon (N := N) (SE := SE) (SN := SN) @hsE @hsN (bE.rf E.S) hq)) hF (fun _ hq23 D23 E23 hF => ?_)
                    exact BX35_set_b241 (N := N) (SE := SE) (SL := SL) (SN := SN) @hsE @hsL @hsN E23 hF
                  ·
                    refine b_if hF (fun hF => ?_) (fun hF => ?_)
                    ·
                      refine b_call E (fun _ hq => (BX35_reckon (N := N) (SE := SE) (SN := SN) @hsE @hsN (bE.rf E.S) hq)) hF (fun _ hq25 D25 E25 hF => ?_)
                      exact BX35_set_b241 (N := N) (SE := SE) (SL := SL) (SN := SN) @hsE @hsL @hsN E25 hF
                    ·
                      refine b_if hF (fun hF => ?_) (fun hF => ?_)
                      ·
                        refine b_call E (fun _ hq => (BX35_reckon (N := N) (SE := SE) (SN := SN) @hsE @hsN (bE.rf E.S) hq)) hF (fun _ hq27 D27 E27 hF => ?_)
                        exact BX35_set_b241 (N := N) (SE := SE) (SL := SL) (SN := SN) @hsE @hsL @hsN E27 hF
                      ·
                        refine b_if hF (fun hF => ?_) (fun hF => ?_)
                        ·
                          refine b_call E (fun _ hq => (BX35_quantity (N := N) (SE := SE) (SN := SN) @hsE @hsN (bE.rf E.S) hq)) hF (fun _ hq29 D29 E29 hF => ?_)
                          exact BX35_set_b241 (N := N) (SE := SE) (SL := SL) (SN := SN) @hsE @hsL @hsN E29 hF
                        ·
                          refine b_if hF (fun hF => ?_) (fun hF => ?_)
                          ·
                            refine b_call E (fun _ hq => (BX35_small (SN := SN) @hsN (bE.rf E.S) hq)) hF (fun _ hq31 D31 E31 hF => ?_)
                            refine b_call E31 (fun _ hq => (BX35_equals (N := N) (SE := SE) @hsE (bE.rf E31.S) hq)) hF (fun _ hq33 D33 E33 hF => ?_)
                            refine b_call E33 (fun _ hq => (BX35_readBox (N := N) (SE := SE) (SL := SL) (SN := SN) @hsE @hsL @hsN (bE.rf E33.S) hq)) hF (fun _ hq35 D35 E35 hF => ?_)
                            exact BX35_set_b241 (N := N) (SE := SE) (SL := SL) (SN := SN) @hsE @hsL @hsN E35 hF
                          ·
                            refine b_call E (fun _ hq => (BX35_quantity (N := N) (SE := SE) (SN := SN) @hsE @hsN (bE.rf E.S) hq)) hF (fun _ hq37 D37 E37 hF => ?_)
                            exact BX35_set_b241 (N := N) (SE := SE) (SL := SL) (SN := SN) @hsE @hsL @hsN E37 hF
theorem BX35_prefixed_b58 {σo : fS} {q : Unit × fS} {N : Nat} {SE : Int → fS → Option (Unit × fS)} {SL : Int → Int → Int → fS → Option (Int × fS)} {SN : fS → Option (Int × fS)} (hsE : ∀ {s : fS} {x1 : Int} {q}, bS 1 s → SE x1 s = some q → bE 1 s q.2) (hsL : ∀ {s : fS} {x1 : Int} {x2 : Int} {x3 : Int} {q}, bS 1 s → SL x1 x2 x3 s = some q → bE 1 s q.2) (hsN : ∀ {s : fS} {q}, bS 1 s → SN s = some q → bE 1 s q.2) {s : fS} (E : bE 1 σo s) (hF : FX35_prefixed_b58 N SE SL SN s = some q) : bE 1 σo q.2 := by
  unfold FX35_prefixed_b58 at hF
  exact b_ret E hF
theorem BX35_prefixed_b28 {σo : fS} {q : Unit × fS} {N : Nat} {SE : Int → fS → Option (Unit × fS)} {SL : Int → Int → Int → fS → Option (Int × fS)} {SN : fS → Option (Int × fS)} (hsE : ∀ {s : fS} {x1 : Int} {q}, bS 1 s → SE x1 s = some q → bE 1 s q.2) (hsL : ∀ {s : fS} {x1 : Int} {x2 : Int} {x3 : Int} {q}, bS 1 s → SL x1 x2 x3 s = some q → bE 1 s q.2) (hsN : ∀ {s : fS} {q}, bS 1 s → SN s = some q → bE 1 s q.2) {s : fS} {l1 : Int} (E : bE 1 σo s) (hF : FX35_prefixed_b28 N SE SL SN l1 s = some q) : bE 1 σo q.2 := by
  unfold FX35_prefixed_b28 at hF
  refine b_if hF (fun hF => ?_) (fun hF => ?_)
  ·
    refine b_call E (fun _ hq => (BX35_isSettable (bE.rf E.S) hq)) hF (fun _ hq2 D2 E2 hF => ?_)
    refine b_if hF (fun hF => ?_) (fun hF => ?_)
    ·
      refine b_call E2 (fun _ hq => (BX35_fail (bE.rf E2.S) hq)) hF (fun _ hq4 D4 E4 hF => ?_)
      exact BX35_prefixed_b58 (N := N) (SE := SE) (SL := SL) (SN := SN) @hsE @hsL @hsN E4 hF
    ·
      refine b_call E2 (fun _ hq => (BX35_set (N := N) (SE := SE) (SL := SL) (SN := SN) @hsE @hsL @hsN (bE.rf E2.S) hq)) hF (fun _ hq6 D6 E6 hF => ?_)
      exact BX35_prefixed_b58 (N := N) (SE := SE) (SL := SL) (SN := SN) @hsE @hsL @hsN E6 hF
  ·
    exact b_ret E hF
theorem BX35_prefixed_b3 {σo : fS} {q : Unit × fS} {N : Nat} {SE : Int → fS → Option (Unit × fS)} {SL : Int → Int → Int → fS → Option (Int × fS)} {SN : fS → Option (Int × fS)} (hsE : ∀ {s : fS} {x1 : Int} {q}, bS 1 s → SE x1 s = some q → bE 1 s q.2) (hsL : ∀ {s : fS} {x1 : Int} {x2 : Int} {x3 : Int} {q}, bS 1 s → SL x1 x2 x3 s = some q → bE 1 s q.2) (hsN : ∀ {s : fS} {q}, bS 1 s → SN s = some q → bE 1 s q.2) : ∀ {n : Nat} {s : fS} {l1 : Int}, bE 1 σo s → FX35_prefixed_b3 N SE SL SN n l1 s = some q → bE 1 σo q.2 := by
  intro n
  induction n with
  | zero => intro s l1 E  hF; simp [FX35_prefixed_b3] at hF
  | succ n ih =>
    intro s l1 E  hF
    rw [FX35_prefixed_b3] at hF
    refine b_if hF (fun hF => ?_) (fun hF => ?_)
    ·
      exact BX35_prefixed_b28 (N := N) (SE := SE) (SL := SL) (SN := SN) @hsE @hsL @hsN E hF
    ·
      refine b_if hF (fun hF => ?_) (fun hF => ?_)
      ·
        exact BX35_prefixed_b28 (N := N) (SE := SE) (SL := SL) (SN := SN) @hsE @hsL @hsN E hF
      ·
        refine b_call E (fun _ hq => (BX35_needSolid (N := N) (SE := SE) @hsE (bE.rf E.S) hq)) hF (fun _ hq3 D3 E3 hF => ?_)
        refine b_call E3 (fun _ hq => (BX35_primitiveOf (bE.rf E3.S) hq)) hF (fun _ hq5 D5 E5 hF => ?_)
        exact ih E5 hF
theorem BX35_prefixed {σo : fS} {q : Unit × fS} {N : Nat} {SE : Int → fS → Option (Unit × fS)} {SL : Int → Int → Int → fS → Option (Int × fS)} {SN : fS → Option (Int × fS)} (hsE : ∀ {s : fS} {x1 : Int} {q}, bS 1 s → SE x1 s = some q → bE 1 s q.2) (hsL : ∀ {s : fS} {x1 : Int} {x2 : Int} {x3 : Int} {q}, bS 1 s → SL x1 x2 x3 s = some q → bE 1 s q.2) (hsN : ∀ {s : fS} {q}, bS 1 s → SN s = some q → bE 1 s q.2) {s : fS} (E : bE 1 σo s) (hF : FX35_prefixed N SE SL SN s = some q) : bE 1 σo q.2 := by
  unfold FX35_prefixed at hF
  exact BX35_prefixed_b3 (N := N) (SE := SE) (SL := SL) (SN := SN) @hsE @hsL @hsN E hF
theorem BX35_doPrimitive_b234 {σo : fS} {q : Unit × fS} {N : Nat} {SE : Int → fS → Option (Unit × fS)} {SL : Int → Int → Int → fS → Option (Int × fS)} {SN : fS → Option (Int × fS)} (hsE : ∀ {s : fS} {x1 : Int} {q}, bS 1 s → SE x1 s = some q → bE 1 s q.2) (hsL : ∀ {s : fS} {x1 : Int} {x2 : Int} {x3 : Int} {q}, bS 1 s → SL x1 x2 x3 s = some q → bE 1 s q.2) (hsN : ∀ {s : fS} {q}, bS 1 s → SN s = some q → bE 1 s q.2) {s : fS} (E : bE 1 σo s) (hF : FX35_doPrimitive_b234 N SE SL SN s = some q) : bE 1 σo q.2 := by
  unfold FX35_doPrimitive_b234 at hF
  exact b_ret E hF
theorem BX35_doPrimitive_b162 {σo : fS} {q : Unit × fS} {N : Nat} {SE : Int → fS → Option (Unit × fS)} {SL : Int → Int → Int → fS → Option (Int × fS)} {SN : fS → Option (Int × fS)} (hsE : ∀ {s : fS} {x1 : Int} {q}, bS 1 s → SE x1 s = some q → bE 1 s q.2) (hsL : ∀ {s : fS} {x1 : Int} {x2 : Int} {x3 : Int} {q}, bS 1 s → SL x1 x2 x3 s = some q → bE 1 s q.2) (hsN : ∀ {s : fS} {q}, bS 1 s → SN s = some q → bE 1 s q.2) {s : fS} (E : bE 1 σo s) (hF : FX35_doPrimitive_b162 N SE SL SN s = some q) : bE 1 σo q.2 := by
  unfold FX35_doPrimitive_b162 at hF
  refine b_call E (fun _ hq => (BX35_fail (bE.rf E.S) hq)) hF (fun _ hq2 D2 E2 hF => ?_)
  exact BX35_doPrimitive_b234 (N := N) (SE := SE) (SL := SL) (SN := SN) @hsE @hsL @hsN E2 hF
theorem BX35_doPrimitive_b228 {σo : fS} {q : Unit × fS} {N : Nat} {SE : Int → fS → Option (Unit × fS)} {SL : Int → Int → Int → fS → Option (Int × fS)} {SN : fS → Option (Int × fS)} (hsE : ∀ {s : fS} {x1 : Int} {q}, bS 1 s → SE x1 s = some q → bE 1 s q.2) (hsL : ∀ {s : fS} {x1 : Int} {x2 : Int} {x3 : Int} {q}, bS 1 s → SL x1 x2 x3 s = some q → bE 1 s q.2) (hsN : ∀ {s : fS} {q}, bS 1 s → SN s = some q → bE 1 s q.2) {s : fS} {l1 : Int} (E : bE 1 σo s) (hF : FX35_doPrimitive_b228 N SE SL SN l1 s = some q) : bE 1 σo q.2 := by
  unfold FX35_doPrimitive_b228 at hF
  refine b_call E (fun _ hq => (BX35_set (N := N) (SE := SE) (SL := SL) (SN := SN) @hsE @hsL @hsN (bE.rf E.S) hq)) hF (fun _ hq2 D2 E2 hF => ?_)
  exact BX35_doPrimitive_b234 (N := N) (SE := SE) (SL := SL) (SN := SN) @hsE @hsL @hsN E2 hF
theorem BX35_doPrimitive {σo : fS} {q : Unit × fS} {N : Nat} {SE : Int → fS → Option (Unit × fS)} {SL : Int → Int → Int → fS → Option (Int × fS)} {SN : fS → Option (Int × fS)} (hsE : ∀ {s : fS} {x1 : Int} {q}, bS 1 s → SE x1 s = some q → bE 1 s q.2) (hsL : ∀ {s : fS} {x1 : Int} {x2 : Int} {x3 : Int} {q}, bS 1 s → SL x1 x2 x3 s = some q → bE 1 s q.2) (hsN : ∀ {s : fS} {q}, bS 1 s → SN s = some q → bE 1 s q.2) {s : fS} {p0 : Int} (E : bE 1 σo s) (hF : FX35_doPrimitive N SE SL SN p0 s = some q) : bE 1 σo q.2 := by
  unfold FX35_doPrimitive at hF
  refine b_if hF (fun hF => ?_) (fun hF => ?_)
  ·
    exact BX35_doPrimitive_b234 (N := N) (SE := SE) (SL := SL) (SN := SN) @hsE @hsL @hsN E hF
  ·
    refine b_if hF (fun hF => ?_) (fun hF => ?_)
    ·
      refine b_call E (fun _ hq => (BX35_mode (bE.rf E.S) hq)) hF (fun _ hq2 D2 E2 hF => ?_)
      refine b_if hF (fun hF => ?_) (fun hF => ?_)
      ·
        exact BX35_doPrimitive_b234 (N := N) (SE := SE) (SL := SL) (SN := SN) @hsE @hsL @hsN E2 hF
      ·
        refine b_call E2 (fun _ hq => (BX35_endParagraph (N := N) (SL := SL) @hsL (bE.rf E2.S) hq)) hF (fun _ hq4 D4 E4 hF => ?_)
        exact BX35_doPrimitive_b234 (N := N) (SE := SE) (SL := SL) (SN := SN) @hsE @hsL @hsN E4 hF
    ·
      refine b_if hF (fun hF => ?_) (fun hF => ?_)
      ·
        refine b_call E (fun _ hq => (BX35_openGroup (N := N) (bE.rf E.S) hq)) hF (fun _ hq6 D6 E6 hF => ?_)
        exact BX35_doPrimitive_b234 (N := N) (SE := SE) (SL := SL) (SN := SN) @hsE @hsL @hsN E6 hF
      ·
        refine b_if hF (fun hF => ?_) (fun hF => ?_)
        ·
          refine b_if hF (fun hF => ?_) (fun hF => ?_)
          ·
            exact BX35_doPrimitive_b162 (N := N) (SE := SE) (SL := SL) (SN := SN) @hsE @hsL @hsN E hF
          ·
            refine b_rv hF (fun _ hF => ?_)
            refine b_if hF (fun hF => ?_) (fun hF => ?_)
            ·
              refine b_pI E (E.S.m1 (Nat.le_of_ble_eq_true rfl) (Nat.le_of_ble_eq_true rfl)) hF (fun _ D12 E12 hF => ?_)
              exact BX35_doPrimitive_b234 (N := N) (SE := SE) (SL := SL) (SN := SN) @hsE @hsL @hsN E12 hF
            ·
              exact BX35_doPrimitive_b162 (N := N) (SE := SE) (SL := SL) (SN := SN) @hsE @hsL @hsN E hF
        ·
          refine b_if hF (fun hF => ?_) (fun hF => ?_)
          ·
            refine b_pZ E (E.S.m1 (Nat.le_of_ble_eq_true rfl) (Nat.le_of_ble_eq_true rfl)) hF (fun _ D13 E13 hF => ?_)
            exact BX35_doPrimitive_b234 (N := N) (SE := SE) (SL := SL) (SN := SN) @hsE @hsL @hsN E13 hF
          ·
            refine b_if hF (fun hF => ?_) (fun hF => ?_)
            ·
              refine b_call E (fun _ hq => (BX35_fail (bE.rf E.S) hq)) hF (fun _ hq15 D15 E15 hF => ?_)
              exact BX35_doPrimitive_b234 (N := N) (SE := SE) (SL := SL) (SN := SN) @hsE @hsL @hsN E15 hF
            ·
              refine b_if hF (fun hF => ?_) (fun hF => ?_)
              ·
                refine b_if hF (fun hF => ?_) (fun hF => ?_)
                ·
                  exact BX35_doPrimitive_b228 (N := N) (SE := SE) (SL := SL) (SN := SN) @hsE @hsL @hsN E hF
                ·
                  refine b_if hF (fun hF => ?_) (fun hF => ?_)
                  ·
                    exact BX35_doPrimitive_b228 (N := N) (SE := SE) (SL := SL) (SN := SN) @hsE @hsL @hsN E hF
                  ·
                    refine b_call E (fun _ hq => (BX35_doList (N := N) (SE := SE) (SL := SL) (SN := SN) @hsE @hsL @hsN (bE.rf E.S) hq)) hF (fun _ hq17 D17 E17 hF => ?_)
                    exact BX35_doPrimitive_b234 (N := N) (SE := SE) (SL := SL) (SN := SN) @hsE @hsL @hsN E17 hF
              ·
                refine b_if hF (fun hF => ?_) (fun hF => ?_)
                ·
                  refine b_if hF (fun hF => ?_) (fun hF => ?_)
                  ·
                    exact BX35_doPrimitive_b228 (N := N) (SE := SE) (SL := SL) (SN := SN) @hsE @hsL @hsN E hF
                  ·
                    refine b_if hF (fun hF => ?_) (fun hF => ?_)
                    ·
                      exact BX35_doPrimitive_b228 (N := N) (SE := SE) (SL := SL) (SN := SN) @hsE @hsL @hsN E hF
                    ·
                      refine b_call E (fun _ hq => (BX35_doList (N := N) (SE := SE) (SL := SL) (SN := SN) @hsE @hsL @hsN (bE.rf E.S) hq)) hF (fun _ hq19 D19 E19 hF => ?_)
                      exact BX35_doPrimitive_b234 (N := N) (SE := SE) (SL := SL) (SN := SN) @hsE @hsL @hsN E19 hF
                ·
                  refine b_if hF (fun hF => ?_) (fun hF => ?_)
                  ·
                    refine b_if hF (fun hF => ?_) (fun hF => ?_)
                    ·
                      exact BX35_doPrimitive_b228 (N := N) (SE := SE) (SL := SL) (SN := SN) @hsE @hsL @hsN E hF
                    ·
                      refine b_if hF (fun hF => ?_) (fun hF => ?_)
                      ·
                        exact BX35_doPrimitive_b228 (N := N) (SE := SE) (SL := SL) (SN := SN) @hsE @hsL @hsN E hF
                      ·
                        refine b_call E (fun _ hq => (BX35_doList (N := N) (SE := SE) (SL := SL) (SN := SN) @hsE @hsL @hsN (bE.rf E.S) hq)) hF (fun _ hq21 D21 E21 hF => ?_)
                        exact BX35_doPrimitive_b234 (N := N) (SE := SE) (SL := SL) (SN := SN) @hsE @hsL @hsN E21 hF
                  ·
                    refine b_if hF (fun hF => ?_) (fun hF => ?_)
                    ·
                      refine b_if hF (fun hF => ?_) (fun hF => ?_)
                      ·
                        exact BX35_doPrimitive_b228 (N := N) (SE := SE) (SL := SL) (SN := SN) @hsE @hsL @hsN E hF
                      ·
                        refine b_if hF (fun hF => ?_) (fun hF => ?_)
                        ·
                          exact BX35_doPrimitive_b228 (N := N) (SE := SE) (SL := SL) (SN := SN) @hsE @hsL @hsN E hF
                        ·
                          refine b_call E (fun _ hq => (BX35_doList (N := N) (SE := SE) (SL := SL) (SN := SN) @hsE @hsL @hsN (bE.rf E.S) hq)) hF (fun _ hq23 D23 E23 hF => ?_)
                          exact BX35_doPrimitive_b234 (N := N) (SE := SE) (SL := SL) (SN := SN) @hsE @hsL @hsN E23 hF
                    ·
                      refine b_if hF (fun hF => ?_) (fun hF => ?_)
                      ·
                        refine b_if hF (fun hF => ?_) (fun hF => ?_)
                        ·
                          exact BX35_doPrimitive_b228 (N := N) (SE := SE) (SL := SL) (SN := SN) @hsE @hsL @hsN E hF
                        ·
                          refine b_if hF (fun hF => ?_) (fun hF => ?_)
                          ·
                            exact BX35_doPrimitive_b228 (N := N) (SE := SE) (SL := SL) (SN := SN) @hsE @hsL @hsN E hF
                          ·
                            refine b_call E (fun _ hq => (BX35_doList (N := N) (SE := SE) (SL := SL) (SN := SN) @hsE @hsL @hsN (bE.rf E.S) hq)) hF (fun _ hq25 D25 E25 hF => ?_)
                            exact BX35_doPrimitive_b234 (N := N) (SE := SE) (SL := SL) (SN := SN) @hsE @hsL @hsN E25 hF
                      ·
                        refine b_if hF (fun hF => ?_) (fun hF => ?_)
                        ·
                          refine b_if hF (fun hF => ?_) (fun hF => ?_)
                          ·
                            exact BX35_doPrimitive_b228 (N := N) (SE := SE) (SL := SL) (SN := SN) @hsE @hsL @hsN E hF
                          ·
                            refine b_if hF (fun hF => ?_) (fun hF => ?_)
                            ·
                              exact BX35_doPrimitive_b228 (N := N) (SE := SE) (SL := SL) (SN := SN) @hsE @hsL @hsN E hF
                            ·
                              refine b_call E (fun _ hq => (BX35_doList (N := N) (SE := SE) (SL := SL) (SN := SN) @hsE @hsL @hsN (bE.rf E.S) hq)) hF (fun _ hq27 D27 E27 hF => ?_)
                              exact BX35_doPrimitive_b234 (N := N) (SE := SE) (SL := SL) (SN := SN) @hsE @hsL @hsN E27 hF
                        ·
                          refine b_if hF (fun hF => ?_) (fun hF => ?_)
                          ·
                            refine b_if hF (fun hF => ?_) (fun hF => ?_)
                            ·
                              exact BX35_doPrimitive_b228 (N := N) (SE := SE) (SL := SL) (SN := SN) @hsE @hsL @hsN E hF
                            ·
                              refine b_if hF (fun hF => ?_) (fun hF => ?_)
                              ·
                                exact BX35_doPrimitive_b228 (N := N) (SE := SE) (SL := SL) (SN := SN) @hsE @hsL @hsN E hF
                              ·
                                refine b_call E (fun _ hq => (BX35_doList (N := N) (SE := SE) (SL := SL) (SN := SN) @hsE @hsL @hsN (bE.rf E.S) hq)) hF (fun _ hq29 D29 E29 hF => ?_)
                                exact BX35_doPrimitive_b234 (N := N) (SE := SE) (SL := SL) (SN := SN) @hsE @hsL @hsN E29 hF
                          ·
                            refine b_if hF (fun hF => ?_) (fun hF => ?_)
                            ·
                              refine b_if hF (fun hF => ?_) (fun hF => ?_)
                              ·
                                exact BX35_doPrimitive_b228 (N := N) (SE := SE) (SL := SL) (SN := SN) @hsE @hsL @hsN E hF
                              ·
                                refine b_if hF (fun hF => ?_) (fun hF => ?_)
                                ·
                                  exact BX35_doPrimitive_b228 (N := N) (SE := SE) (SL := SL) (SN := SN) @hsE @hsL @hsN E hF
                                ·
                                  refine b_call E (fun _ hq => (BX35_doList (N := N) (SE := SE) (SL := SL) (SN := SN) @hsE @hsL @hsN (bE.rf E.S) hq)) hF (fun _ hq31 D31 E31 hF => ?_)
                                  exact BX35_doPrimitive_b234 (N := N) (SE := SE) (SL := SL) (SN := SN) @hsE @hsL @hsN E31 hF
                            ·
                              refine b_if hF (fun hF => ?_) (fun hF => ?_)
                              ·
                                refine b_if hF (fun hF => ?_) (fun hF => ?_)
                                ·
                                  exact BX35_doPrimitive_b228 (N := N) (SE := SE) (SL := SL) (SN := SN) @hsE @hsL @hsN E hF
                                ·
                                  refine b_if hF (fun hF => ?_) (fun hF => ?_)
                                  ·
                                    exact BX35_doPrimitive_b228 (N := N) (SE := SE) (SL := SL) (SN := SN) @hsE @hsL @hsN E hF
                                  ·
                                    refine b_call E (fun _ hq => (BX35_doList (N := N) (SE := SE) (SL := SL) (SN := SN) @hsE @hsL @hsN (bE.rf E.S) hq)) hF (fun _ hq33 D33 E33 hF => ?_)
                                    exact BX35_doPrimitive_b234 (N := N) (SE := SE) (SL := SL) (SN := SN) @hsE @hsL @hsN E33 hF
                              ·
                                refine b_if hF (fun hF => ?_) (fun hF => ?_)
                                ·
                                  refine b_if hF (fun hF => ?_) (fun hF => ?_)
                                  ·
                                    exact BX35_doPrimitive_b228 (N := N) (SE := SE) (SL := SL) (SN := SN) @hsE @hsL @hsN E hF
                                  ·
                                    refine b_if hF (fun hF => ?_) (fun hF => ?_)
                                    ·
                                      exact BX35_doPrimitive_b228 (N := N) (SE := SE) (SL := SL) (SN := SN) @hsE @hsL @hsN E hF
                                    ·
                                      refine b_call E (fun _ hq => (BX35_doList (N := N) (SE := SE) (SL := SL) (SN := SN) @hsE @hsL @hsN (bE.rf E.S) hq)) hF (fun _ hq35 D35 E35 hF => ?_)
                                      exact BX35_doPrimitive_b234 (N := N) (SE := SE) (SL := SL) (SN := SN) @hsE @hsL @hsN E35 hF
                                ·
                                  refine b_if hF (fun hF => ?_) (fun hF => ?_)
                                  ·
                                    refine b_if hF (fun hF => ?_) (fun hF => ?_)
                                    ·
                                      exact BX35_doPrimitive_b228 (N := N) (SE := SE) (SL := SL) (SN := SN) @hsE @hsL @hsN E hF
                                    ·
                                      refine b_if hF (fun hF => ?_) (fun hF => ?_)
                                      ·
                                        exact BX35_doPrimitive_b228 (N := N) (SE := SE) (SL := SL) (SN := SN) @hsE @hsL @hsN E hF
                                      ·
                                        refine b_call E (fun _ hq => (BX35_doList (N := N) (SE := SE) (SL := SL) (SN := SN) @hsE @hsL @hsN (bE.rf E.S) hq)) hF (fun _ hq37 D37 E37 hF => ?_)
                                        exact BX35_doPrimitive_b234 (N := N) (SE := SE) (SL := SL) (SN := SN) @hsE @hsL @hsN E37 hF
                                  ·
                                    refine b_if hF (fun hF => ?_) (fun hF => ?_)
                                    ·
                                      refine b_call E (fun _ hq => (BX35_prefixed (N := N) (SE := SE) (SL := SL) (SN := SN) @hsE @hsL @hsN (bE.rf E.S) hq)) hF (fun _ hq39 D39 E39 hF => ?_)
                                      exact BX35_doPrimitive_b234 (N := N) (SE := SE) (SL := SL) (SN := SN) @hsE @hsL @hsN E39 hF
                                    ·
                                      refine b_if hF (fun hF => ?_) (fun hF => ?_)
                                      ·
                                        refine b_if hF (fun hF => ?_) (fun hF => ?_)
                                        ·
                                          exact BX35_doPrimitive_b228 (N := N) (SE := SE) (SL := SL) (SN := SN) @hsE @hsL @hsN E hF
                                        ·
                                          refine b_if hF (fun hF => ?_) (fun hF => ?_)
                                          ·
                                            exact BX35_doPrimitive_b228 (N := N) (SE := SE) (SL := SL) (SN := SN) @hsE @hsL @hsN E hF
                                          ·
                                            refine b_call E (fun _ hq => (BX35_doList (N := N) (SE := SE) (SL := SL) (SN := SN) @hsE @hsL @hsN (bE.rf E.S) hq)) hF (fun _ hq41 D41 E41 hF => ?_)
                                            exact BX35_doPrimitive_b234 (N := N) (SE := SE) (SL := SL) (SN := SN) @hsE @hsL @hsN E41 hF
                                      ·
                                        refine b_if hF (fun hF => ?_) (fun hF => ?_)
                                        ·
                                          refine b_if hF (fun hF => ?_) (fun hF => ?_)
                                          ·
                                            exact BX35_doPrimitive_b228 (N := N) (SE := SE) (SL := SL) (SN := SN) @hsE @hsL @hsN E hF
                                          ·
                                            refine b_if hF (fun hF => ?_) (fun hF => ?_)
                                            ·
                                              exact BX35_doPrimitive_b228 (N := N) (SE := SE) (SL := SL) (SN := SN) @hsE @hsL @hsN E hF
                                            ·
                                              refine b_call E (fun _ hq => (BX35_doList (N := N) (SE := SE) (SL := SL) (SN := SN) @hsE @hsL @hsN (bE.rf E.S) hq)) hF (fun _ hq43 D43 E43 hF => ?_)
                                              exact BX35_doPrimitive_b234 (N := N) (SE := SE) (SL := SL) (SN := SN) @hsE @hsL @hsN E43 hF
                                        ·
                                          refine b_if hF (fun hF => ?_) (fun hF => ?_)
                                          ·
                                            refine b_if hF (fun hF => ?_) (fun hF => ?_)
                                            ·
                                              exact BX35_doPrimitive_b228 (N := N) (SE := SE) (SL := SL) (SN := SN) @hsE @hsL @hsN E hF
                                            ·
                                              refine b_if hF (fun hF => ?_) (fun hF => ?_)
                                              ·
                                                exact BX35_doPrimitive_b228 (N := N) (SE := SE) (SL := SL) (SN := SN) @hsE @hsL @hsN E hF
                                              ·
                                                refine b_call E (fun _ hq => (BX35_doList (N := N) (SE := SE) (SL := SL) (SN := SN) @hsE @hsL @hsN (bE.rf E.S) hq)) hF (fun _ hq45 D45 E45 hF => ?_)
                                                exact BX35_doPrimitive_b234 (N := N) (SE := SE) (SL := SL) (SN := SN) @hsE @hsL @hsN E45 hF
                                          ·
                                            refine b_if hF (fun hF => ?_) (fun hF => ?_)
                                            ·
                                              refine b_if hF (fun hF => ?_) (fun hF => ?_)
                                              ·
                                                exact BX35_doPrimitive_b228 (N := N) (SE := SE) (SL := SL) (SN := SN) @hsE @hsL @hsN E hF
                                              ·
                                                refine b_if hF (fun hF => ?_) (fun hF => ?_)
                                                ·
                                                  exact BX35_doPrimitive_b228 (N := N) (SE := SE) (SL := SL) (SN := SN) @hsE @hsL @hsN E hF
                                                ·
                                                  refine b_call E (fun _ hq => (BX35_doList (N := N) (SE := SE) (SL := SL) (SN := SN) @hsE @hsL @hsN (bE.rf E.S) hq)) hF (fun _ hq47 D47 E47 hF => ?_)
                                                  exact BX35_doPrimitive_b234 (N := N) (SE := SE) (SL := SL) (SN := SN) @hsE @hsL @hsN E47 hF
                                            ·
                                              refine b_if hF (fun hF => ?_) (fun hF => ?_)
                                              ·
                                                refine b_call E (fun _ hq => (BX35_fail (bE.rf E.S) hq)) hF (fun _ hq49 D49 E49 hF => ?_)
                                                exact BX35_doPrimitive_b234 (N := N) (SE := SE) (SL := SL) (SN := SN) @hsE @hsL @hsN E49 hF
                                              ·
                                                refine b_if hF (fun hF => ?_) (fun hF => ?_)
                                                ·
                                                  refine b_call E (fun _ hq => (BX35_fail (bE.rf E.S) hq)) hF (fun _ hq51 D51 E51 hF => ?_)
                                                  exact BX35_doPrimitive_b234 (N := N) (SE := SE) (SL := SL) (SN := SN) @hsE @hsL @hsN E51 hF
                                                ·
                                                  refine b_if hF (fun hF => ?_) (fun hF => ?_)
                                                  ·
                                                    refine b_call E (fun _ hq => (BX35_fail (bE.rf E.S) hq)) hF (fun _ hq53 D53 E53 hF => ?_)
                                                    exact BX35_doPrimitive_b234 (N := N) (SE := SE) (SL := SL) (SN := SN) @hsE @hsL @hsN E53 hF
                                                  ·
                                                    refine b_if hF (fun hF => ?_) (fun hF => ?_)
                                                    ·
                                                      exact BX35_doPrimitive_b228 (N := N) (SE := SE) (SL := SL) (SN := SN) @hsE @hsL @hsN E hF
                                                    ·
                                                      refine b_if hF (fun hF => ?_) (fun hF => ?_)
                                                      ·
                                                        exact BX35_doPrimitive_b228 (N := N) (SE := SE) (SL := SL) (SN := SN) @hsE @hsL @hsN E hF
                                                      ·
                                                        refine b_call E (fun _ hq => (BX35_doList (N := N) (SE := SE) (SL := SL) (SN := SN) @hsE @hsL @hsN (bE.rf E.S) hq)) hF (fun _ hq55 D55 E55 hF => ?_)
                                                        exact BX35_doPrimitive_b234 (N := N) (SE := SE) (SL := SL) (SN := SN) @hsE @hsL @hsN E55 hF
theorem BX35_done_b170 {σo : fS} {q : Unit × fS} {N : Nat} {SE : Int → fS → Option (Unit × fS)} {SL : Int → Int → Int → fS → Option (Int × fS)} {SN : fS → Option (Int × fS)} (hsE : ∀ {s : fS} {x1 : Int} {q}, bS 1 s → SE x1 s = some q → bE 1 s q.2) (hsL : ∀ {s : fS} {x1 : Int} {x2 : Int} {x3 : Int} {q}, bS 1 s → SL x1 x2 x3 s = some q → bE 1 s q.2) (hsN : ∀ {s : fS} {q}, bS 1 s → SN s = some q → bE 1 s q.2) {s : fS} (E : bE 1 σo s) (hF : FX35_done_b170 N SE SL SN s = some q) : bE 1 σo q.2 := by
  unfold FX35_done_b170 at hF
  exact b_ret E hF
theorem BX35_done_b97 {σo : fS} {q : Unit × fS} {N : Nat} {SE : Int → fS → Option (Unit × fS)} {SL : Int → Int → Int → fS → Option (Int × fS)} {SN : fS → Option (Int × fS)} (hsE : ∀ {s : fS} {x1 : Int} {q}, bS 1 s → SE x1 s = some q → bE 1 s q.2) (hsL : ∀ {s : fS} {x1 : Int} {x2 : Int} {x3 : Int} {q}, bS 1 s → SL x1 x2 x3 s = some q → bE 1 s q.2) (hsN : ∀ {s : fS} {q}, bS 1 s → SN s = some q → bE 1 s q.2) {s : fS} (E : bE 1 σo s) (hF : FX35_done_b97 N SE SL SN s = some q) : bE 1 σo q.2 := by
  unfold FX35_done_b97 at hF
  exact BX35_done_b170 (N := N) (SE := SE) (SL := SL) (SN := SN) @hsE @hsL @hsN E hF
theorem BX35_done_b77 {σo : fS} {q : Unit × fS} {N : Nat} {SE : Int → fS → Option (Unit × fS)} {SL : Int → Int → Int → fS → Option (Int × fS)} {SN : fS → Option (Int × fS)} (hsE : ∀ {s : fS} {x1 : Int} {q}, bS 1 s → SE x1 s = some q → bE 1 s q.2) (hsL : ∀ {s : fS} {x1 : Int} {x2 : Int} {x3 : Int} {q}, bS 1 s → SL x1 x2 x3 s = some q → bE 1 s q.2) (hsN : ∀ {s : fS} {q}, bS 1 s → SN s = some q → bE 1 s q.2) {s : fS} (E : bE 1 σo s) (hF : FX35_done_b77 N SE SL SN s = some q) : bE 1 σo q.2 := by
  unfold FX35_done_b77 at hF
  refine b_call E (fun _ hq => (BX35_small (SN := SN) @hsN (bE.rf E.S) hq)) hF (fun _ hq2 D2 E2 hF => ?_)
  refine b_if hF (fun hF => ?_) (fun hF => ?_)
  ·
    exact BX35_done_b97 (N := N) (SE := SE) (SL := SL) (SN := SN) @hsE @hsL @hsN E2 hF
  ·
    refine b_call E2 (fun _ hq => (BX35_character (N := N) (SL := SL) @hsL (bE.rf E2.S) hq)) hF (fun _ hq5 D5 E5 hF => ?_)
    exact BX35_done_b97 (N := N) (SE := SE) (SL := SL) (SN := SN) @hsE @hsL @hsN E5 hF
theorem BX35_done_b154 {σo : fS} {q : Unit × fS} {N : Nat} {SE : Int → fS → Option (Unit × fS)} {SL : Int → Int → Int → fS → Option (Int × fS)} {SN : fS → Option (Int × fS)} (hsE : ∀ {s : fS} {x1 : Int} {q}, bS 1 s → SE x1 s = some q → bE 1 s q.2) (hsL : ∀ {s : fS} {x1 : Int} {x2 : Int} {x3 : Int} {q}, bS 1 s → SL x1 x2 x3 s = some q → bE 1 s q.2) (hsN : ∀ {s : fS} {q}, bS 1 s → SN s = some q → bE 1 s q.2) {s : fS} {l2 : Int} (E : bE 1 σo s) (hF : FX35_done_b154 N SE SL SN l2 s = some q) : bE 1 σo q.2 := by
  unfold FX35_done_b154 at hF
  refine b_if hF (fun hF => ?_) (fun hF => ?_)
  ·
    exact BX35_done_b170 (N := N) (SE := SE) (SL := SL) (SN := SN) @hsE @hsL @hsN E hF
  ·
    refine b_call E (fun _ hq => (BX35_doPrimitive (N := N) (SE := SE) (SL := SL) (SN := SN) @hsE @hsL @hsN (bE.rf E.S) hq)) hF (fun _ hq3 D3 E3 hF => ?_)
    exact BX35_done_b170 (N := N) (SE := SE) (SL := SL) (SN := SN) @hsE @hsL @hsN E3 hF
theorem BX35_done_b124 {σo : fS} {q : Unit × fS} {N : Nat} {SE : Int → fS → Option (Unit × fS)} {SL : Int → Int → Int → fS → Option (Int × fS)} {SN : fS → Option (Int × fS)} (hsE : ∀ {s : fS} {x1 : Int} {q}, bS 1 s → SE x1 s = some q → bE 1 s q.2) (hsL : ∀ {s : fS} {x1 : Int} {x2 : Int} {x3 : Int} {q}, bS 1 s → SL x1 x2 x3 s = some q → bE 1 s q.2) (hsN : ∀ {s : fS} {q}, bS 1 s → SN s = some q → bE 1 s q.2) {s : fS} {l2 : Int} (E : bE 1 σo s) (hF : FX35_done_b124 N SE SL SN l2 s = some q) : bE 1 σo q.2 := by
  unfold FX35_done_b124 at hF
  refine b_if hF (fun hF => ?_) (fun hF => ?_)
  ·
    exact BX35_done_b154 (N := N) (SE := SE) (SL := SL) (SN := SN) @hsE @hsL @hsN E hF
  ·
    refine b_if hF (fun hF => ?_) (fun hF => ?_)
    ·
      exact BX35_done_b154 (N := N) (SE := SE) (SL := SL) (SN := SN) @hsE @hsL @hsN E hF
    ·
      refine b_call E (fun _ hq => (BX35_setAt (N := N) (bE.rf E.S) hq)) hF (fun _ hq3 D3 E3 hF => ?_)
      exact BX35_done_b170 (N := N) (SE := SE) (SL := SL) (SN := SN) @hsE @hsL @hsN E3 hF
theorem BX35_done_b58 {σo : fS} {q : Unit × fS} {N : Nat} {SE : Int → fS → Option (Unit × fS)} {SL : Int → Int → Int → fS → Option (Int × fS)} {SN : fS → Option (Int × fS)} (hsE : ∀ {s : fS} {x1 : Int} {q}, bS 1 s → SE x1 s = some q → bE 1 s q.2) (hsL : ∀ {s : fS} {x1 : Int} {x2 : Int} {x3 : Int} {q}, bS 1 s → SL x1 x2 x3 s = some q → bE 1 s q.2) (hsN : ∀ {s : fS} {q}, bS 1 s → SN s = some q → bE 1 s q.2) {s : fS} {l2 : Int} (E : bE 1 σo s) (hF : FX35_done_b58 N SE SL SN l2 s = some q) : bE 1 σo q.2 := by
  unfold FX35_done_b58 at hF
  refine b_if hF (fun hF => ?_) (fun hF => ?_)
  ·
    refine b_call E (fun _ hq => (BX35_endWord (N := N) (bE.rf E.S) hq)) hF (fun _ hq2 D2 E2 hF => ?_)
    refine b_if hF (fun hF => ?_) (fun hF => ?_)
    ·
      exact BX35_done_b124 (N := N) (SE := SE) (SL := SL) (SN := SN) @hsE @hsL @hsN E2 hF
    ·
      refine b_if hF (fun hF => ?_) (fun hF => ?_)
      ·
        exact BX35_done_b124 (N := N) (SE := SE) (SL := SL) (SN := SN) @hsE @hsL @hsN E2 hF
      ·
        refine b_call E2 (fun _ hq => (BX35_fail (bE.rf E2.S) hq)) hF (fun _ hq5 D5 E5 hF => ?_)
        exact BX35_done_b170 (N := N) (SE := SE) (SL := SL) (SN := SN) @hsE @hsL @hsN E5 hF
  ·
    refine b_call E (fun _ hq => (BX35_isVertical (bE.rf E.S) hq)) hF (fun _ hq7 D7 E7 hF => ?_)
    refine b_if hF (fun hF => ?_) (fun hF => ?_)
    ·
      exact BX35_done_b77 (N := N) (SE := SE) (SL := SL) (SN := SN) @hsE @hsL @hsN E7 hF
    ·
      refine b_call E7 (fun _ hq => (BX35_beginParagraph (N := N) (SL := SL) @hsL (bE.rf E7.S) hq)) hF (fun _ hq9 D9 E9 hF => ?_)
      exact BX35_done_b77 (N := N) (SE := SE) (SL := SL) (SN := SN) @hsE @hsL @hsN E9 hF
theorem BX35_done_b32 {σo : fS} {q : Unit × fS} {N : Nat} {SE : Int → fS → Option (Unit × fS)} {SL : Int → Int → Int → fS → Option (Int × fS)} {SN : fS → Option (Int × fS)} (hsE : ∀ {s : fS} {x1 : Int} {q}, bS 1 s → SE x1 s = some q → bE 1 s q.2) (hsL : ∀ {s : fS} {x1 : Int} {x2 : Int} {x3 : Int} {q}, bS 1 s → SL x1 x2 x3 s = some q → bE 1 s q.2) (hsN : ∀ {s : fS} {q}, bS 1 s → SN s = some q → bE 1 s q.2) {s : fS} {l2 : Int} (E : bE 1 σo s) (hF : FX35_done_b32 N SE SL SN l2 s = some q) : bE 1 σo q.2 := by
  unfold FX35_done_b32 at hF
  refine b_if hF (fun hF => ?_) (fun hF => ?_)
  ·
    exact BX35_done_b58 (N := N) (SE := SE) (SL := SL) (SN := SN) @hsE @hsL @hsN E hF
  ·
    refine b_if hF (fun hF => ?_) (fun hF => ?_)
    ·
      exact BX35_done_b58 (N := N) (SE := SE) (SL := SL) (SN := SN) @hsE @hsL @hsN E hF
    ·
      refine b_call E (fun _ hq => (BX35_character (N := N) (SL := SL) @hsL (bE.rf E.S) hq)) hF (fun _ hq2 D2 E2 hF => ?_)
      exact BX35_done_b170 (N := N) (SE := SE) (SL := SL) (SN := SN) @hsE @hsL @hsN E2 hF
theorem BX35_done {σo : fS} {q : Unit × fS} {N : Nat} {SE : Int → fS → Option (Unit × fS)} {SL : Int → Int → Int → fS → Option (Int × fS)} {SN : fS → Option (Int × fS)} (hsE : ∀ {s : fS} {x1 : Int} {q}, bS 1 s → SE x1 s = some q → bE 1 s q.2) (hsL : ∀ {s : fS} {x1 : Int} {x2 : Int} {x3 : Int} {q}, bS 1 s → SL x1 x2 x3 s = some q → bE 1 s q.2) (hsN : ∀ {s : fS} {q}, bS 1 s → SN s = some q → bE 1 s q.2) {s : fS} {p0 : Int} (E : bE 1 σo s) (hF : FX35_done N SE SL SN p0 s = some q) : bE 1 σo q.2 := by
  unfold FX35_done at hF
  refine b_call E (fun _ hq => (BX35_meaning (bE.rf E.S) hq)) hF (fun _ hq2 D2 E2 hF => ?_)
  refine b_if hF (fun hF => ?_) (fun hF => ?_)
  ·
    exact BX35_done_b32 (N := N) (SE := SE) (SL := SL) (SN := SN) @hsE @hsL @hsN E2 hF
  ·
    refine b_if hF (fun hF => ?_) (fun hF => ?_)
    ·
      exact BX35_done_b32 (N := N) (SE := SE) (SL := SL) (SN := SN) @hsE @hsL @hsN E2 hF
    ·
      refine b_call E2 (fun _ hq => (BX35_doCharacter (N := N) (SL := SL) @hsL (bE.rf E2.S) hq)) hF (fun _ hq4 D4 E4 hF => ?_)
      exact BX35_done_b170 (N := N) (SE := SE) (SL := SL) (SN := SN) @hsE @hsL @hsN E4 hF
theorem BX40_areNumbersSmall_b40 {σo : fS} {q : Int × fS} {N : Nat} {K14 : Int → Int → fS → Option (Int × fS)} (hk14 : ∀ {s : fS} {l2 : Int} {l3 : Int}, bE 1 σo s → K14 l2 l3 s = some q → bE 1 σo q.2) {s : fS} {l3 : Int} {s0 : Int} (E : bE 1 σo s) (hF : FX40_areNumbersSmall_b40 N K14 l3 s0 s = some q) : bE 1 σo q.2 := by
  unfold FX40_areNumbersSmall_b40 at hF
  exact hk14 E hF
theorem BX40_areNumbersSmall_b47 {σo : fS} {q : Int × fS} {N : Nat} {s : fS} {l2 : Int} (E : bE 1 σo s) (hF : FX40_areNumbersSmall_b47 N l2 s = some q) : bE 1 σo q.2 := by
  unfold FX40_areNumbersSmall_b47 at hF
  exact b_z E hF
theorem BX40_areNumbersSmall_b14 {σo : fS} {q : Int × fS} {N : Nat} : ∀ {n : Nat} {s : fS} {l2 : Int} {l3 : Int}, bE 1 σo s → FX40_areNumbersSmall_b14 N n l2 l3 s = some q → bE 1 σo q.2 := by
  intro n
  induction n with
  | zero => intro s l2 l3 E  hF; simp [FX40_areNumbersSmall_b14] at hF
  | succ n ih =>
    intro s l2 l3 E  hF
    rw [FX40_areNumbersSmall_b14] at hF
    refine b_if hF (fun hF => ?_) (fun hF => ?_)
    ·
      exact BX40_areNumbersSmall_b47 (N := N) E hF
    ·
      refine b_if hF (fun hF => ?_) (fun hF => ?_)
      ·
        exact BX40_areNumbersSmall_b47 (N := N) E hF
      ·
        refine b_call E (fun _ hq => (BX40_half (bE.rf E.S) (E.S.m1 (Nat.le_of_ble_eq_true rfl) (Nat.le_of_ble_eq_true rfl)) hq)) hF (fun _ hq1 D1 E1 hF => ?_)
        refine b_if hF (fun hF => ?_) (fun hF => ?_)
        ·
          exact BX40_areNumbersSmall_b40 (N := N) (K14 := FX40_areNumbersSmall_b14 N n) @ih E1 hF
        ·
          exact BX40_areNumbersSmall_b40 (N := N) (K14 := FX40_areNumbersSmall_b14 N n) @ih E1 hF
theorem BX40_areNumbersSmall_b11 {σo : fS} {q : Int × fS} {N : Nat} {s : fS} {s0 : Int} (E : bE 1 σo s) (hF : FX40_areNumbersSmall_b11 N s0 s = some q) : bE 1 σo q.2 := by
  unfold FX40_areNumbersSmall_b11 at hF
  exact BX40_areNumbersSmall_b14 (N := N) E hF
theorem BX40_areNumbersSmall {σo : fS} {q : Int × fS} {N : Nat} {s : fS} {p1 : Int} (E : bE 1 σo s) (hF : FX40_areNumbersSmall N p1 s = some q) : bE 1 σo q.2 := by
  unfold FX40_areNumbersSmall at hF
  refine b_if hF (fun hF => ?_) (fun hF => ?_)
  ·
    exact BX40_areNumbersSmall_b11 (N := N) E hF
  ·
    exact BX40_areNumbersSmall_b11 (N := N) E hF
theorem BX40_areSizesRight_b90 {σo : fS} {q : Int × fS} {N : Nat} {K4 : Int → Int → fS → Option (Int × fS)} (hk4 : ∀ {s : fS} {l1 : Int} {l2 : Int}, bE 1 σo s → K4 l1 l2 s = some q → bE 1 σo q.2) {s : fS} {l2 : Int} {s0 : Int} (E : bE 1 σo s) (hF : FX40_areSizesRight_b90 N K4 l2 s0 s = some q) : bE 1 σo q.2 := by
  unfold FX40_areSizesRight_b90 at hF
  exact hk4 E hF
theorem BX40_areSizesRight_b89 {σo : fS} {q : Int × fS} {N : Nat} {K4 : Int → Int → fS → Option (Int × fS)} (hk4 : ∀ {s : fS} {l1 : Int} {l2 : Int}, bE 1 σo s → K4 l1 l2 s = some q → bE 1 σo q.2) {s : fS} {l2 : Int} (E : bE 1 σo s) (hF : FX40_areSizesRight_b89 N K4 l2 s = some q) : bE 1 σo q.2 := by
  unfold FX40_areSizesRight_b89 at hF
  exact BX40_areSizesRight_b90 (N := N) (K4 := K4) @hk4 E hF
theorem BX40_areSizesRight_b4 {σo : fS} {q : Int × fS} {N : Nat} : ∀ {n : Nat} {s : fS} {l1 : Int} {l2 : Int}, bE 1 σo s → FX40_areSizesRight_b4 N n l1 l2 s = some q → bE 1 σo q.2 := by
  intro n
  induction n with
  | zero => intro s l1 l2 E  hF; simp [FX40_areSizesRight_b4] at hF
  | succ n ih =>
    intro s l1 l2 E  hF
    rw [FX40_areSizesRight_b4] at hF
    refine b_call E (fun _ hq => (BX40_words (bE.rf E.S) (E.S.m1 (Nat.le_of_ble_eq_true rfl) (Nat.le_of_ble_eq_true rfl)) hq)) hF (fun _ hq1 D1 E1 hF => ?_)
    refine b_if hF (fun hF => ?_) (fun hF => ?_)
    ·
      exact b_z E1 hF
    ·
      refine b_if hF (fun hF => ?_) (fun hF => ?_)
      ·
        exact BX40_areSizesRight_b89 (N := N) (K4 := FX40_areSizesRight_b4 N n) @ih E1 hF
      ·
        refine b_call E1 (fun _ hq => (BX40_at (N := N) (bE.rf E1.S) (E1.S.m1 (Nat.le_of_ble_eq_true rfl) (Nat.le_of_ble_eq_true rfl)) hq)) hF (fun _ hq2 D2 E2 hF => ?_)
        refine b_call E2 (fun _ hq => (BX40_words (bE.rf E2.S) (E2.S.m1 (Nat.le_of_ble_eq_true rfl) (Nat.le_of_ble_eq_true rfl)) hq)) hF (fun _ hq3 D3 E3 hF => ?_)
        refine b_if hF (fun hF => ?_) (fun hF => ?_)
        ·
          exact BX40_areSizesRight_b89 (N := N) (K4 := FX40_areSizesRight_b4 N n) @ih E3 hF
        ·
          refine b_call E3 (fun _ hq => (BX40_at (N := N) (bE.rf E3.S) (E3.S.m1 (Nat.le_of_ble_eq_true rfl) (Nat.le_of_ble_eq_true rfl)) hq)) hF (fun _ hq4 D4 E4 hF => ?_)
          refine b_call E4 (fun _ hq => (BX40_words (bE.rf E4.S) (E4.S.m1 (Nat.le_of_ble_eq_true rfl) (Nat.le_of_ble_eq_true rfl)) hq)) hF (fun _ hq5 D5 E5 hF => ?_)
          refine b_if hF (fun hF => ?_) (fun hF => ?_)
          ·
            exact BX40_areSizesRight_b89 (N := N) (K4 := FX40_areSizesRight_b4 N n) @ih E5 hF
          ·
            refine b_call E5 (fun _ hq => (BX40_at (N := N) (bE.rf E5.S) (E5.S.m1 (Nat.le_of_ble_eq_true rfl) (Nat.le_of_ble_eq_true rfl)) hq)) hF (fun _ hq6 D6 E6 hF => ?_)
            refine b_call E6 (fun _ hq => (BX40_words (bE.rf E6.S) (E6.S.m1 (Nat.le_of_ble_eq_true rfl) (Nat.le_of_ble_eq_true rfl)) hq)) hF (fun _ hq7 D7 E7 hF => ?_)
            refine b_if hF (fun hF => ?_) (fun hF => ?_)
            ·
              exact BX40_areSizesRight_b89 (N := N) (K4 := FX40_areSizesRight_b4 N n) @ih E7 hF
            ·
              refine b_call E7 (fun _ hq => (BX40_at (N := N) (bE.rf E7.S) (E7.S.m1 (Nat.le_of_ble_eq_true rfl) (Nat.le_of_ble_eq_true rfl)) hq)) hF (fun _ hq8 D8 E8 hF => ?_)
              refine b_call E8 (fun _ hq => (BX40_words (bE.rf E8.S) (E8.S.m1 (Nat.le_of_ble_eq_true rfl) (Nat.le_of_ble_eq_true rfl)) hq)) hF (fun _ hq9 D9 E9 hF => ?_)
              refine b_if hF (fun hF => ?_) (fun hF => ?_)
              ·
                exact BX40_areSizesRight_b89 (N := N) (K4 := FX40_areSizesRight_b4 N n) @ih E9 hF
              ·
                exact BX40_areSizesRight_b90 (N := N) (K4 := FX40_areSizesRight_b4 N n) @ih E9 hF
theorem BX40_areSizesRight {σo : fS} {q : Int × fS} {N : Nat} {s : fS} (E : bE 1 σo s) (hF : FX40_areSizesRight N s = some q) : bE 1 σo q.2 := by
  unfold FX40_areSizesRight at hF
  exact BX40_areSizesRight_b4 (N := N) E hF
theorem BX40_isLargerRight_b49 {σo : fS} {q : Int × fS} {N : Nat} {s : fS} (E : bE 1 σo s) (hF : FX40_isLargerRight_b49 N s = some q) : bE 1 σo q.2 := by
  unfold FX40_isLargerRight_b49 at hF
  exact b_ret E hF
theorem BX40_isLargerRight_b18 {σo : fS} {q : Int × fS} {N : Nat} : ∀ {n : Nat} {s : fS} {l1 : Int} {l2 : Int} {l3 : Int}, bE 1 σo s → FX40_isLargerRight_b18 N n l1 l2 l3 s = some q → bE 1 σo q.2 := by
  intro n
  induction n with
  | zero => intro s l1 l2 l3 E  hF; simp [FX40_isLargerRight_b18] at hF
  | succ n ih =>
    intro s l1 l2 l3 E  hF
    rw [FX40_isLargerRight_b18] at hF
    refine b_if hF (fun hF => ?_) (fun hF => ?_)
    ·
      exact b_ret E hF
    ·
      refine b_if hF (fun hF => ?_) (fun hF => ?_)
      ·
        refine b_call E (fun _ hq => (BX40_isThere (N := N) (bE.rf E.S) (E.S.m1 (Nat.le_of_ble_eq_true rfl) (Nat.le_of_ble_eq_true rfl)) hq)) hF (fun _ hq1 D1 E1 hF => ?_)
        refine b_if hF (fun hF => ?_) (fun hF => ?_)
        ·
          exact BX40_isLargerRight_b49 (N := N) E1 hF
        ·
          refine b_call E1 (fun _ hq => (BX40_tag (N := N) (bE.rf E1.S) (E1.S.m1 (Nat.le_of_ble_eq_true rfl) (Nat.le_of_ble_eq_true rfl)) hq)) hF (fun _ hq2 D2 E2 hF => ?_)
          refine b_if hF (fun hF => ?_) (fun hF => ?_)
          ·
            refine b_call E2 (fun _ hq => (BX40_rest (N := N) (bE.rf E2.S) (E2.S.m1 (Nat.le_of_ble_eq_true rfl) (Nat.le_of_ble_eq_true rfl)) hq)) hF (fun _ hq3 D3 E3 hF => ?_)
            exact ih E3 hF
          ·
            exact BX40_isLargerRight_b49 (N := N) E2 hF
      ·
        exact b_ret E hF
theorem BX40_isLargerRight {σo : fS} {q : Int × fS} {N : Nat} {s : fS} {p1 : Int} (E : bE 1 σo s) (hF : FX40_isLargerRight N p1 s = some q) : bE 1 σo q.2 := by
  unfold FX40_isLargerRight at hF
  refine b_call E (fun _ hq => (BX40_rest (N := N) (bE.rf E.S) (E.S.m1 (Nat.le_of_ble_eq_true rfl) (Nat.le_of_ble_eq_true rfl)) hq)) hF (fun _ hq1 D1 E1 hF => ?_)
  refine b_call E1 (fun _ hq => (BX40_isThere (N := N) (bE.rf E1.S) (E1.S.m1 (Nat.le_of_ble_eq_true rfl) (Nat.le_of_ble_eq_true rfl)) hq)) hF (fun _ hq2 D2 E2 hF => ?_)
  refine b_if hF (fun hF => ?_) (fun hF => ?_)
  ·
    exact BX40_isLargerRight_b18 (N := N) E2 hF
  ·
    exact b_ret E2 hF
theorem BX40_areTagsRight_b92 {σo : fS} {q : Int × fS} {N : Nat} {K8 : Int → Int → fS → Option (Int × fS)} (hk8 : ∀ {s : fS} {l1 : Int} {l2 : Int}, bE 1 σo s → K8 l1 l2 s = some q → bE 1 σo q.2) {s : fS} {l1 : Int} {l2 : Int} (E : bE 1 σo s) (hF : FX40_areTagsRight_b92 N K8 l1 l2 s = some q) : bE 1 σo q.2 := by
  unfold FX40_areTagsRight_b92 at hF
  exact hk8 E hF
theorem BX40_areTagsRight_b91 {σo : fS} {q : Int × fS} {N : Nat} {K8 : Int → Int → fS → Option (Int × fS)} (hk8 : ∀ {s : fS} {l1 : Int} {l2 : Int}, bE 1 σo s → K8 l1 l2 s = some q → bE 1 σo q.2) {s : fS} {l2 : Int} {s0 : Int} (E : bE 1 σo s) (hF : FX40_areTagsRight_b91 N K8 l2 s0 s = some q) : bE 1 σo q.2 := by
  unfold FX40_areTagsRight_b91 at hF
  exact BX40_areTagsRight_b92 (N := N) (K8 := K8) @hk8 E hF
theorem BX40_areTagsRight_b86 {σo : fS} {q : Int × fS} {N : Nat} {K8 : Int → Int → fS → Option (Int × fS)} (hk8 : ∀ {s : fS} {l1 : Int} {l2 : Int}, bE 1 σo s → K8 l1 l2 s = some q → bE 1 σo q.2) {s : fS} {l2 : Int} (E : bE 1 σo s) (hF : FX40_areTagsRight_b86 N K8 l2 s = some q) : bE 1 σo q.2 := by
  unfold FX40_areTagsRight_b86 at hF
  exact BX40_areTagsRight_b91 (N := N) (K8 := K8) @hk8 E hF
theorem BX40_areTagsRight_b90 {σo : fS} {q : Int × fS} {N : Nat} {K8 : Int → Int → fS → Option (Int × fS)} (hk8 : ∀ {s : fS} {l1 : Int} {l2 : Int}, bE 1 σo s → K8 l1 l2 s = some q → bE 1 σo q.2) {s : fS} {l2 : Int} (E : bE 1 σo s) (hF : FX40_areTagsRight_b90 N K8 l2 s = some q) : bE 1 σo q.2 := by
  unfold FX40_areTagsRight_b90 at hF
  exact BX40_areTagsRight_b91 (N := N) (K8 := K8) @hk8 E hF
theorem BX40_areTagsRight_b73 {σo : fS} {q : Int × fS} {N : Nat} {K8 : Int → Int → fS → Option (Int × fS)} (hk8 : ∀ {s : fS} {l1 : Int} {l2 : Int}, bE 1 σo s → K8 l1 l2 s = some q → bE 1 σo q.2) {s : fS} {l2 : Int} {l3 : Int} (E : bE 1 σo s) (hF : FX40_areTagsRight_b73 N K8 l2 l3 s = some q) : bE 1 σo q.2 := by
  unfold FX40_areTagsRight_b73 at hF
  refine b_if hF (fun hF => ?_) (fun hF => ?_)
  ·
    exact BX40_areTagsRight_b86 (N := N) (K8 := K8) @hk8 E hF
  ·
    refine b_call E (fun _ hq => (BX40_isLargerRight (N := N) (bE.rf E.S) hq)) hF (fun _ hq1 D1 E1 hF => ?_)
    refine b_if hF (fun hF => ?_) (fun hF => ?_)
    ·
      exact BX40_areTagsRight_b90 (N := N) (K8 := K8) @hk8 E1 hF
    ·
      exact BX40_areTagsRight_b86 (N := N) (K8 := K8) @hk8 E1 hF
theorem BX40_areTagsRight_b54 {σo : fS} {q : Int × fS} {N : Nat} {K8 : Int → Int → fS → Option (Int × fS)} (hk8 : ∀ {s : fS} {l1 : Int} {l2 : Int}, bE 1 σo s → K8 l1 l2 s = some q → bE 1 σo q.2) {s : fS} {l2 : Int} {l3 : Int} (E : bE 1 σo s) (hF : FX40_areTagsRight_b54 N K8 l2 l3 s = some q) : bE 1 σo q.2 := by
  unfold FX40_areTagsRight_b54 at hF
  refine b_if hF (fun hF => ?_) (fun hF => ?_)
  ·
    exact BX40_areTagsRight_b73 (N := N) (K8 := K8) @hk8 E hF
  ·
    refine b_call E (fun _ hq => (BX40_rest (N := N) (bE.rf E.S) (E.S.m1 (Nat.le_of_ble_eq_true rfl) (Nat.le_of_ble_eq_true rfl)) hq)) hF (fun _ hq1 D1 E1 hF => ?_)
    refine b_call E1 (fun _ hq => (BX40_words (bE.rf E1.S) (E1.S.m1 (Nat.le_of_ble_eq_true rfl) (Nat.le_of_ble_eq_true rfl)) hq)) hF (fun _ hq2 D2 E2 hF => ?_)
    refine b_if hF (fun hF => ?_) (fun hF => ?_)
    ·
      exact BX40_areTagsRight_b90 (N := N) (K8 := K8) @hk8 E2 hF
    ·
      exact BX40_areTagsRight_b73 (N := N) (K8 := K8) @hk8 E2 hF
theorem BX40_areTagsRight_b8 {σo : fS} {q : Int × fS} {N : Nat} : ∀ {n : Nat} {s : fS} {l1 : Int} {l2 : Int}, bE 1 σo s → FX40_areTagsRight_b8 N n l1 l2 s = some q → bE 1 σo q.2 := by
  intro n
  induction n with
  | zero => intro s l1 l2 E  hF; simp [FX40_areTagsRight_b8] at hF
  | succ n ih =>
    intro s l1 l2 E  hF
    rw [FX40_areTagsRight_b8] at hF
    refine b_call E (fun _ hq => (BX40_half (bE.rf E.S) (E.S.m1 (Nat.le_of_ble_eq_true rfl) (Nat.le_of_ble_eq_true rfl)) hq)) hF (fun _ hq1 D1 E1 hF => ?_)
    refine b_if hF (fun hF => ?_) (fun hF => ?_)
    ·
      exact b_z E1 hF
    ·
      refine b_call E1 (fun _ hq => (BX40_isThere (N := N) (bE.rf E1.S) (E1.S.m1 (Nat.le_of_ble_eq_true rfl) (Nat.le_of_ble_eq_true rfl)) hq)) hF (fun _ hq2 D2 E2 hF => ?_)
      refine b_if hF (fun hF => ?_) (fun hF => ?_)
      ·
        exact BX40_areTagsRight_b92 (N := N) (K8 := FX40_areTagsRight_b8 N n) @ih E2 hF
      ·
        refine b_call E2 (fun _ hq => (BX40_tag (N := N) (bE.rf E2.S) (E2.S.m1 (Nat.le_of_ble_eq_true rfl) (Nat.le_of_ble_eq_true rfl)) hq)) hF (fun _ hq3 D3 E3 hF => ?_)
        refine b_if hF (fun hF => ?_) (fun hF => ?_)
        ·
          exact BX40_areTagsRight_b90 (N := N) (K8 := FX40_areTagsRight_b8 N n) @ih E3 hF
        ·
          refine b_if hF (fun hF => ?_) (fun hF => ?_)
          ·
            exact BX40_areTagsRight_b54 (N := N) (K8 := FX40_areTagsRight_b8 N n) @ih E3 hF
          ·
            refine b_call E3 (fun _ hq => (BX40_rest (N := N) (bE.rf E3.S) (E3.S.m1 (Nat.le_of_ble_eq_true rfl) (Nat.le_of_ble_eq_true rfl)) hq)) hF (fun _ hq4 D4 E4 hF => ?_)
            refine b_call E4 (fun _ hq => (BX40_words (bE.rf E4.S) (E4.S.m1 (Nat.le_of_ble_eq_true rfl) (Nat.le_of_ble_eq_true rfl)) hq)) hF (fun _ hq5 D5 E5 hF => ?_)
            refine b_if hF (fun hF => ?_) (fun hF => ?_)
            ·
              exact BX40_areTagsRight_b90 (N := N) (K8 := FX40_areTagsRight_b8 N n) @ih E5 hF
            ·
              exact BX40_areTagsRight_b54 (N := N) (K8 := FX40_areTagsRight_b8 N n) @ih E5 hF
theorem BX40_areTagsRight {σo : fS} {q : Int × fS} {N : Nat} {s : fS} (E : bE 1 σo s) (hF : FX40_areTagsRight N s = some q) : bE 1 σo q.2 := by
  unfold FX40_areTagsRight at hF
  refine b_call E (fun _ hq => (BX40_half (bE.rf E.S) (E.S.m1 (Nat.le_of_ble_eq_true rfl) (Nat.le_of_ble_eq_true rfl)) hq)) hF (fun _ hq1 D1 E1 hF => ?_)
  exact BX40_areTagsRight_b8 (N := N) E1 hF
theorem BX40_areFractions_b49 {σo : fS} {q : Int × fS} {N : Nat} {K5 : Int → Int → Int → fS → Option (Int × fS)} (hk5 : ∀ {s : fS} {l1 : Int} {l3 : Int} {l4 : Int}, bE 1 σo s → K5 l1 l3 l4 s = some q → bE 1 σo q.2) {s : fS} {l1 : Int} {l4 : Int} {s0 : Int} (E : bE 1 σo s) (hF : FX40_areFractions_b49 N K5 l1 l4 s0 s = some q) : bE 1 σo q.2 := by
  unfold FX40_areFractions_b49 at hF
  exact hk5 E hF
theorem BX40_areFractions_b44 {σo : fS} {q : Int × fS} {N : Nat} {K5 : Int → Int → Int → fS → Option (Int × fS)} (hk5 : ∀ {s : fS} {l1 : Int} {l3 : Int} {l4 : Int}, bE 1 σo s → K5 l1 l3 l4 s = some q → bE 1 σo q.2) {s : fS} {l1 : Int} {l4 : Int} (E : bE 1 σo s) (hF : FX40_areFractions_b44 N K5 l1 l4 s = some q) : bE 1 σo q.2 := by
  unfold FX40_areFractions_b44 at hF
  exact BX40_areFractions_b49 (N := N) (K5 := K5) @hk5 E hF
theorem BX40_areFractions_b48 {σo : fS} {q : Int × fS} {N : Nat} {K5 : Int → Int → Int → fS → Option (Int × fS)} (hk5 : ∀ {s : fS} {l1 : Int} {l3 : Int} {l4 : Int}, bE 1 σo s → K5 l1 l3 l4 s = some q → bE 1 σo q.2) {s : fS} {l1 : Int} {l4 : Int} (E : bE 1 σo s) (hF : FX40_areFractions_b48 N K5 l1 l4 s = some q) : bE 1 σo q.2 := by
  unfold FX40_areFractions_b48 at hF
  exact BX40_areFractions_b49 (N := N) (K5 := K5) @hk5 E hF
theorem BX40_areFractions_b5 {σo : fS} {q : Int × fS} {N : Nat} : ∀ {n : Nat} {s : fS} {l1 : Int} {l3 : Int} {l4 : Int}, bE 1 σo s → FX40_areFractions_b5 N n l1 l3 l4 s = some q → bE 1 σo q.2 := by
  intro n
  induction n with
  | zero => intro s l1 l3 l4 E  hF; simp [FX40_areFractions_b5] at hF
  | succ n ih =>
    intro s l1 l3 l4 E  hF
    rw [FX40_areFractions_b5] at hF
    refine b_call E (fun _ hq => (BX40_words (bE.rf E.S) (E.S.m1 (Nat.le_of_ble_eq_true rfl) (Nat.le_of_ble_eq_true rfl)) hq)) hF (fun _ hq1 D1 E1 hF => ?_)
    refine b_if hF (fun hF => ?_) (fun hF => ?_)
    ·
      exact b_z E1 hF
    ·
      refine b_if hF (fun hF => ?_) (fun hF => ?_)
      ·
        exact BX40_areFractions_b48 (N := N) (K5 := FX40_areFractions_b5 N n) @ih E1 hF
      ·
        refine b_call E1 (fun _ hq => (BX40_at (N := N) (bE.rf E1.S) (E1.S.m1 (Nat.le_of_ble_eq_true rfl) (Nat.le_of_ble_eq_true rfl)) hq)) hF (fun _ hq2 D2 E2 hF => ?_)
        refine b_if hF (fun hF => ?_) (fun hF => ?_)
        ·
          exact BX40_areFractions_b44 (N := N) (K5 := FX40_areFractions_b5 N n) @ih E2 hF
        ·
          refine b_call E2 (fun _ hq => (BX40_at (N := N) (bE.rf E2.S) (E2.S.m1 (Nat.le_of_ble_eq_true rfl) (Nat.le_of_ble_eq_true rfl)) hq)) hF (fun _ hq3 D3 E3 hF => ?_)
          refine b_if hF (fun hF => ?_) (fun hF => ?_)
          ·
            exact BX40_areFractions_b48 (N := N) (K5 := FX40_areFractions_b5 N n) @ih E3 hF
          ·
            exact BX40_areFractions_b44 (N := N) (K5 := FX40_areFractions_b5 N n) @ih E3 hF
theorem BX40_areFractions {σo : fS} {q : Int × fS} {N : Nat} {s : fS} {p1 : Int} {p2 : Int} (E : bE 1 σo s) (hF : FX40_areFractions N p1 p2 s = some q) : bE 1 σo q.2 := by
  unfold FX40_areFractions at hF
  exact BX40_areFractions_b5 (N := N) E hF
theorem BX40_areTablesRight_b61 {σo : fS} {q : Int × fS} {N : Nat} {K37 : Int → Int → Int → fS → Option (Int × fS)} (hk37 : ∀ {s : fS} {l1 : Int} {l2 : Int} {l3 : Int}, bE 1 σo s → K37 l1 l2 l3 s = some q → bE 1 σo q.2) {s : fS} {l2 : Int} {l3 : Int} {s0 : Int} (E : bE 1 σo s) (hF : FX40_areTablesRight_b61 N K37 l2 l3 s0 s = some q) : bE 1 σo q.2 := by
  unfold FX40_areTablesRight_b61 at hF
  exact hk37 E hF
theorem BX40_areTablesRight_b60 {σo : fS} {q : Int × fS} {N : Nat} {K37 : Int → Int → Int → fS → Option (Int × fS)} (hk37 : ∀ {s : fS} {l1 : Int} {l2 : Int} {l3 : Int}, bE 1 σo s → K37 l1 l2 l3 s = some q → bE 1 σo q.2) {s : fS} {l2 : Int} {l3 : Int} (E : bE 1 σo s) (hF : FX40_areTablesRight_b60 N K37 l2 l3 s = some q) : bE 1 σo q.2 := by
  unfold FX40_areTablesRight_b60 at hF
  exact BX40_areTablesRight_b61 (N := N) (K37 := K37) @hk37 E hF
theorem BX40_areTablesRight_b37 {σo : fS} {q : Int × fS} {N : Nat} {K10 : Int → Int → fS → Option (Int × fS)} (hk10 : ∀ {s : fS} {l1 : Int} {l2 : Int}, bE 1 σo s → K10 l1 l2 s = some q → bE 1 σo q.2) : ∀ {n : Nat} {s : fS} {l1 : Int} {l2 : Int} {l3 : Int}, bE 1 σo s → FX40_areTablesRight_b37 N K10 n l1 l2 l3 s = some q → bE 1 σo q.2 := by
  intro n
  induction n with
  | zero => intro s l1 l2 l3 E  hF; simp [FX40_areTablesRight_b37] at hF
  | succ n ih =>
    intro s l1 l2 l3 E  hF
    rw [FX40_areTablesRight_b37] at hF
    refine b_if hF (fun hF => ?_) (fun hF => ?_)
    ·
      exact hk10 E hF
    ·
      refine b_if hF (fun hF => ?_) (fun hF => ?_)
      ·
        exact BX40_areTablesRight_b60 (N := N) (K37 := FX40_areTablesRight_b37 N K10 n) @ih E hF
      ·
        refine b_call E (fun _ hq => (BX40_at (N := N) (bE.rf E.S) (E.S.m1 (Nat.le_of_ble_eq_true rfl) (Nat.le_of_ble_eq_true rfl)) hq)) hF (fun _ hq1 D1 E1 hF => ?_)
        refine b_if hF (fun hF => ?_) (fun hF => ?_)
        ·
          exact BX40_areTablesRight_b60 (N := N) (K37 := FX40_areTablesRight_b37 N K10 n) @ih E1 hF
        ·
          exact BX40_areTablesRight_b61 (N := N) (K37 := FX40_areTablesRight_b37 N K10 n) @ih E1 hF
theorem BX40_areTablesRight_b34 {σo : fS} {q : Int × fS} {N : Nat} {K10 : Int → Int → fS → Option (Int × fS)} (hk10 : ∀ {s : fS} {l1 : Int} {l2 : Int}, bE 1 σo s → K10 l1 l2 s = some q → bE 1 σo q.2) {s : fS} {l2 : Int} {s0 : Int} (E : bE 1 σo s) (hF : FX40_areTablesRight_b34 N K10 l2 s0 s = some q) : bE 1 σo q.2 := by
  unfold FX40_areTablesRight_b34 at hF
  exact BX40_areTablesRight_b37 (N := N) (K10 := K10) @hk10 E hF
theorem BX40_areTablesRight_b33 {σo : fS} {q : Int × fS} {N : Nat} {K10 : Int → Int → fS → Option (Int × fS)} (hk10 : ∀ {s : fS} {l1 : Int} {l2 : Int}, bE 1 σo s → K10 l1 l2 s = some q → bE 1 σo q.2) {s : fS} {l2 : Int} (E : bE 1 σo s) (hF : FX40_areTablesRight_b33 N K10 l2 s = some q) : bE 1 σo q.2 := by
  unfold FX40_areTablesRight_b33 at hF
  exact BX40_areTablesRight_b34 (N := N) (K10 := K10) @hk10 E hF
theorem BX40_areTablesRight_b10 {σo : fS} {q : Int × fS} {N : Nat} : ∀ {n : Nat} {s : fS} {l1 : Int} {l2 : Int}, bE 1 σo s → FX40_areTablesRight_b10 N n l1 l2 s = some q → bE 1 σo q.2 := by
  intro n
  induction n with
  | zero => intro s l1 l2 E  hF; simp [FX40_areTablesRight_b10] at hF
  | succ n ih =>
    intro s l1 l2 E  hF
    rw [FX40_areTablesRight_b10] at hF
    refine b_if hF (fun hF => ?_) (fun hF => ?_)
    ·
      exact b_z E hF
    ·
      refine b_if hF (fun hF => ?_) (fun hF => ?_)
      ·
        exact BX40_areTablesRight_b33 (N := N) (K10 := FX40_areTablesRight_b10 N n) @ih E hF
      ·
        refine b_call E (fun _ hq => (BX40_areFractions (N := N) (bE.rf E.S) hq)) hF (fun _ hq1 D1 E1 hF => ?_)
        refine b_if hF (fun hF => ?_) (fun hF => ?_)
        ·
          exact BX40_areTablesRight_b33 (N := N) (K10 := FX40_areTablesRight_b10 N n) @ih E1 hF
        ·
          exact BX40_areTablesRight_b34 (N := N) (K10 := FX40_areTablesRight_b10 N n) @ih E1 hF
theorem BX40_areTablesRight {σo : fS} {q : Int × fS} {N : Nat} {s : fS} (E : bE 1 σo s) (hF : FX40_areTablesRight N s = some q) : bE 1 σo q.2 := by
  unfold FX40_areTablesRight at hF
  refine b_call E (fun _ hq => (BX40_areFractions (N := N) (bE.rf E.S) hq)) hF (fun _ hq1 D1 E1 hF => ?_)
  exact BX40_areTablesRight_b10 (N := N) E1 hF
theorem BX40_isWordRight_b35 {σo : fS} {q : Int × fS} {N : Nat} {s : fS} {s0 : Int} (E : bE 1 σo s) (hF : FX40_isWordRight_b35 N s0 s = some q) : bE 1 σo q.2 := by
  unfold FX40_isWordRight_b35 at hF
  exact b_z E hF
theorem BX40_isWordRight_b173 {σo : fS} {q : Int × fS} {N : Nat} {s : fS} {s0 : Int} (E : bE 1 σo s) (hF : FX40_isWordRight_b173 N s0 s = some q) : bE 1 σo q.2 := by
  unfold FX40_isWordRight_b173 at hF
  exact b_z E hF
theorem BX40_isWordRight_b168 {σo : fS} {q : Int × fS} {N : Nat} {s : fS} (E : bE 1 σo s) (hF : FX40_isWordRight_b168 N s = some q) : bE 1 σo q.2 := by
  unfold FX40_isWordRight_b168 at hF
  exact BX40_isWordRight_b173 (N := N) E hF
theorem BX40_isWordRight_b172 {σo : fS} {q : Int × fS} {N : Nat} {s : fS} (E : bE 1 σo s) (hF : FX40_isWordRight_b172 N s = some q) : bE 1 σo q.2 := by
  unfold FX40_isWordRight_b172 at hF
  exact BX40_isWordRight_b173 (N := N) E hF
theorem BX40_isWordRight_b140 {σo : fS} {q : Int × fS} {N : Nat} {s : fS} {l1 : Int} {l2 : Int} {s0 : Int} (E : bE 1 σo s) (hF : FX40_isWordRight_b140 N l1 l2 s0 s = some q) : bE 1 σo q.2 := by
  unfold FX40_isWordRight_b140 at hF
  refine b_if hF (fun hF => ?_) (fun hF => ?_)
  ·
    exact BX40_isWordRight_b172 (N := N) E hF
  ·
    refine b_if hF (fun hF => ?_) (fun hF => ?_)
    ·
      exact BX40_isWordRight_b168 (N := N) E hF
    ·
      refine b_call E (fun _ hq => (BX40_words (bE.rf E.S) (E.S.m1 (Nat.le_of_ble_eq_true rfl) (Nat.le_of_ble_eq_true rfl)) hq)) hF (fun _ hq1 D1 E1 hF => ?_)
      refine b_if hF (fun hF => ?_) (fun hF => ?_)
      ·
        exact BX40_isWordRight_b172 (N := N) E1 hF
      ·
        exact BX40_isWordRight_b168 (N := N) E1 hF
theorem BX40_isWordRight_b135 {σo : fS} {q : Int × fS} {N : Nat} {s : fS} {l1 : Int} {l2 : Int} (E : bE 1 σo s) (hF : FX40_isWordRight_b135 N l1 l2 s = some q) : bE 1 σo q.2 := by
  unfold FX40_isWordRight_b135 at hF
  exact BX40_isWordRight_b140 (N := N) E hF
theorem BX40_isWordRight_b139 {σo : fS} {q : Int × fS} {N : Nat} {s : fS} {l1 : Int} {l2 : Int} (E : bE 1 σo s) (hF : FX40_isWordRight_b139 N l1 l2 s = some q) : bE 1 σo q.2 := by
  unfold FX40_isWordRight_b139 at hF
  exact BX40_isWordRight_b140 (N := N) E hF
theorem BX40_isWordRight_b86 {σo : fS} {q : Int × fS} {N : Nat} {s : fS} {l1 : Int} {l2 : Int} {l4 : Int} {l5 : Int} {s0 : Int} (E : bE 1 σo s) (hF : FX40_isWordRight_b86 N l1 l2 l4 l5 s0 s = some q) : bE 1 σo q.2 := by
  unfold FX40_isWordRight_b86 at hF
  refine b_if hF (fun hF => ?_) (fun hF => ?_)
  ·
    exact BX40_isWordRight_b139 (N := N) E hF
  ·
    refine b_if hF (fun hF => ?_) (fun hF => ?_)
    ·
      refine b_call E (fun _ hq => (BX40_words (bE.rf E.S) (E.S.m1 (Nat.le_of_ble_eq_true rfl) (Nat.le_of_ble_eq_true rfl)) hq)) hF (fun _ hq1 D1 E1 hF => ?_)
      refine b_if hF (fun hF => ?_) (fun hF => ?_)
      ·
        exact BX40_isWordRight_b139 (N := N) E1 hF
      ·
        exact BX40_isWordRight_b135 (N := N) E1 hF
    ·
      refine b_call E (fun _ hq => (BX40_isThere (N := N) (bE.rf E.S) (E.S.m1 (Nat.le_of_ble_eq_true rfl) (Nat.le_of_ble_eq_true rfl)) hq)) hF (fun _ hq2 D2 E2 hF => ?_)
      refine b_if hF (fun hF => ?_) (fun hF => ?_)
      ·
        exact BX40_isWordRight_b139 (N := N) E2 hF
      ·
        exact BX40_isWordRight_b135 (N := N) E2 hF
theorem BX40_isWordRight_b81 {σo : fS} {q : Int × fS} {N : Nat} {s : fS} {l1 : Int} {l2 : Int} {l4 : Int} {l5 : Int} (E : bE 1 σo s) (hF : FX40_isWordRight_b81 N l1 l2 l4 l5 s = some q) : bE 1 σo q.2 := by
  unfold FX40_isWordRight_b81 at hF
  exact BX40_isWordRight_b86 (N := N) E hF
theorem BX40_isWordRight {σo : fS} {q : Int × fS} {N : Nat} {s : fS} {p1 : Int} (E : bE 1 σo s) (hF : FX40_isWordRight N p1 s = some q) : bE 1 σo q.2 := by
  unfold FX40_isWordRight at hF
  refine b_call E (fun _ hq => (BX40_at (N := N) (bE.rf E.S) (E.S.m1 (Nat.le_of_ble_eq_true rfl) (Nat.le_of_ble_eq_true rfl)) hq)) hF (fun _ hq1 D1 E1 hF => ?_)
  refine b_if hF (fun hF => ?_) (fun hF => ?_)
  ·
    refine b_call E1 (fun _ hq => (BX40_at (N := N) (bE.rf E1.S) (E1.S.m1 (Nat.le_of_ble_eq_true rfl) (Nat.le_of_ble_eq_true rfl)) hq)) hF (fun _ hq2 D2 E2 hF => ?_)
    refine b_call E2 (fun _ hq => (BX40_at (N := N) (bE.rf E2.S) (E2.S.m1 (Nat.le_of_ble_eq_true rfl) (Nat.le_of_ble_eq_true rfl)) hq)) hF (fun _ hq3 D3 E3 hF => ?_)
    refine b_call E3 (fun _ hq => (BX40_at (N := N) (bE.rf E3.S) (E3.S.m1 (Nat.le_of_ble_eq_true rfl) (Nat.le_of_ble_eq_true rfl)) hq)) hF (fun _ hq4 D4 E4 hF => ?_)
    refine b_call E4 (fun _ hq => (BX40_isThere (N := N) (bE.rf E4.S) (E4.S.m1 (Nat.le_of_ble_eq_true rfl) (Nat.le_of_ble_eq_true rfl)) hq)) hF (fun _ hq5 D5 E5 hF => ?_)
    refine b_if hF (fun hF => ?_) (fun hF => ?_)
    ·
      exact BX40_isWordRight_b81 (N := N) E5 hF
    ·
      refine b_call E5 (fun _ hq => (BX40_edgeOf (N := N) (bE.rf E5.S) (E5.S.m1 (Nat.le_of_ble_eq_true rfl) (Nat.le_of_ble_eq_true rfl)) hq)) hF (fun _ hq6 D6 E6 hF => ?_)
      refine b_if hF (fun hF => ?_) (fun hF => ?_)
      ·
        exact BX40_isWordRight_b86 (N := N) E6 hF
      ·
        exact BX40_isWordRight_b81 (N := N) E6 hF
  ·
    refine b_call E1 (fun _ hq => (BX40_far (N := N) (bE.rf E1.S) (E1.S.m1 (Nat.le_of_ble_eq_true rfl) (Nat.le_of_ble_eq_true rfl)) hq)) hF (fun _ hq7 D7 E7 hF => ?_)
    refine b_call E7 (fun _ hq => (BX40_words (bE.rf E7.S) (E7.S.m1 (Nat.le_of_ble_eq_true rfl) (Nat.le_of_ble_eq_true rfl)) hq)) hF (fun _ hq8 D8 E8 hF => ?_)
    refine b_if hF (fun hF => ?_) (fun hF => ?_)
    ·
      exact BX40_isWordRight_b35 (N := N) E8 hF
    ·
      exact BX40_isWordRight_b35 (N := N) E8 hF
theorem BX40_isProgramRight_b31 {σo : fS} {q : Int × fS} {N : Nat} {K4 : Int → Int → fS → Option (Int × fS)} (hk4 : ∀ {s : fS} {l1 : Int} {l2 : Int}, bE 1 σo s → K4 l1 l2 s = some q → bE 1 σo q.2) {s : fS} {l2 : Int} {s0 : Int} (E : bE 1 σo s) (hF : FX40_isProgramRight_b31 N K4 l2 s0 s = some q) : bE 1 σo q.2 := by
  unfold FX40_isProgramRight_b31 at hF
  exact hk4 E hF
theorem BX40_isProgramRight_b30 {σo : fS} {q : Int × fS} {N : Nat} {K4 : Int → Int → fS → Option (Int × fS)} (hk4 : ∀ {s : fS} {l1 : Int} {l2 : Int}, bE 1 σo s → K4 l1 l2 s = some q → bE 1 σo q.2) {s : fS} {l2 : Int} (E : bE 1 σo s) (hF : FX40_isProgramRight_b30 N K4 l2 s = some q) : bE 1 σo q.2 := by
  unfold FX40_isProgramRight_b30 at hF
  exact BX40_isProgramRight_b31 (N := N) (K4 := K4) @hk4 E hF
theorem BX40_isProgramRight_b4 {σo : fS} {q : Int × fS} {N : Nat} : ∀ {n : Nat} {s : fS} {l1 : Int} {l2 : Int}, bE 1 σo s → FX40_isProgramRight_b4 N n l1 l2 s = some q → bE 1 σo q.2 := by
  intro n
  induction n with
  | zero => intro s l1 l2 E  hF; simp [FX40_isProgramRight_b4] at hF
  | succ n ih =>
    intro s l1 l2 E  hF
    rw [FX40_isProgramRight_b4] at hF
    refine b_call E (fun _ hq => (BX40_words (bE.rf E.S) (E.S.m1 (Nat.le_of_ble_eq_true rfl) (Nat.le_of_ble_eq_true rfl)) hq)) hF (fun _ hq1 D1 E1 hF => ?_)
    refine b_if hF (fun hF => ?_) (fun hF => ?_)
    ·
      exact b_z E1 hF
    ·
      refine b_if hF (fun hF => ?_) (fun hF => ?_)
      ·
        exact BX40_isProgramRight_b30 (N := N) (K4 := FX40_isProgramRight_b4 N n) @ih E1 hF
      ·
        refine b_call E1 (fun _ hq => (BX40_isWordRight (N := N) (bE.rf E1.S) hq)) hF (fun _ hq2 D2 E2 hF => ?_)
        refine b_if hF (fun hF => ?_) (fun hF => ?_)
        ·
          exact BX40_isProgramRight_b30 (N := N) (K4 := FX40_isProgramRight_b4 N n) @ih E2 hF
        ·
          exact BX40_isProgramRight_b31 (N := N) (K4 := FX40_isProgramRight_b4 N n) @ih E2 hF
theorem BX40_isProgramRight {σo : fS} {q : Int × fS} {N : Nat} {s : fS} (E : bE 1 σo s) (hF : FX40_isProgramRight N s = some q) : bE 1 σo q.2 := by
  unfold FX40_isProgramRight at hF
  exact BX40_isProgramRight_b4 (N := N) E hF
theorem BX40_areRecipesRight_b81 {σo : fS} {q : Int × fS} {N : Nat} {K41 : Int → Int → Int → fS → Option (Int × fS)} (hk41 : ∀ {s : fS} {l1 : Int} {l2 : Int} {l3 : Int}, bE 1 σo s → K41 l1 l2 l3 s = some q → bE 1 σo q.2) {s : fS} {l2 : Int} {l3 : Int} {s0 : Int} (E : bE 1 σo s) (hF : FX40_areRecipesRight_b81 N K41 l2 l3 s0 s = some q) : bE 1 σo q.2 := by
  unfold FX40_areRecipesRight_b81 at hF
  exact hk41 E hF
theorem BX40_areRecipesRight_b76 {σo : fS} {q : Int × fS} {N : Nat} {K41 : Int → Int → Int → fS → Option (Int × fS)} (hk41 : ∀ {s : fS} {l1 : Int} {l2 : Int} {l3 : Int}, bE 1 σo s → K41 l1 l2 l3 s = some q → bE 1 σo q.2) {s : fS} {l2 : Int} {l3 : Int} (E : bE 1 σo s) (hF : FX40_areRecipesRight_b76 N K41 l2 l3 s = some q) : bE 1 σo q.2 := by
  unfold FX40_areRecipesRight_b76 at hF
  exact BX40_areRecipesRight_b81 (N := N) (K41 := K41) @hk41 E hF
theorem BX40_areRecipesRight_b80 {σo : fS} {q : Int × fS} {N : Nat} {K41 : Int → Int → Int → fS → Option (Int × fS)} (hk41 : ∀ {s : fS} {l1 : Int} {l2 : Int} {l3 : Int}, bE 1 σo s → K41 l1 l2 l3 s = some q → bE 1 σo q.2) {s : fS} {l2 : Int} {l3 : Int} (E : bE 1 σo s) (hF : FX40_areRecipesRight_b80 N K41 l2 l3 s = some q) : bE 1 σo q.2 := by
  unfold FX40_areRecipesRight_b80 at hF
  exact BX40_areRecipesRight_b81 (N := N) (K41 := K41) @hk41 E hF
theorem BX40_areRecipesRight_b41 {σo : fS} {q : Int × fS} {N : Nat} {K4 : Int → Int → fS → Option (Int × fS)} (hk4 : ∀ {s : fS} {l1 : Int} {l2 : Int}, bE 1 σo s → K4 l1 l2 s = some q → bE 1 σo q.2) : ∀ {n : Nat} {s : fS} {l1 : Int} {l2 : Int} {l3 : Int}, bE 1 σo s → FX40_areRecipesRight_b41 N K4 n l1 l2 l3 s = some q → bE 1 σo q.2 := by
  intro n
  induction n with
  | zero => intro s l1 l2 l3 E  hF; simp [FX40_areRecipesRight_b41] at hF
  | succ n ih =>
    intro s l1 l2 l3 E  hF
    rw [FX40_areRecipesRight_b41] at hF
    refine b_if hF (fun hF => ?_) (fun hF => ?_)
    ·
      exact hk4 E hF
    ·
      refine b_if hF (fun hF => ?_) (fun hF => ?_)
      ·
        exact BX40_areRecipesRight_b80 (N := N) (K41 := FX40_areRecipesRight_b41 N K4 n) @ih E hF
      ·
        refine b_call E (fun _ hq => (BX40_at (N := N) (bE.rf E.S) (E.S.m1 (Nat.le_of_ble_eq_true rfl) (Nat.le_of_ble_eq_true rfl)) hq)) hF (fun _ hq1 D1 E1 hF => ?_)
        refine b_if hF (fun hF => ?_) (fun hF => ?_)
        ·
          exact BX40_areRecipesRight_b76 (N := N) (K41 := FX40_areRecipesRight_b41 N K4 n) @ih E1 hF
        ·
          refine b_call E1 (fun _ hq => (BX40_at (N := N) (bE.rf E1.S) (E1.S.m1 (Nat.le_of_ble_eq_true rfl) (Nat.le_of_ble_eq_true rfl)) hq)) hF (fun _ hq2 D2 E2 hF => ?_)
          refine b_call E2 (fun _ hq => (BX40_isThere (N := N) (bE.rf E2.S) (E2.S.m1 (Nat.le_of_ble_eq_true rfl) (Nat.le_of_ble_eq_true rfl)) hq)) hF (fun _ hq3 D3 E3 hF => ?_)
          refine b_if hF (fun hF => ?_) (fun hF => ?_)
          ·
            exact BX40_areRecipesRight_b80 (N := N) (K41 := FX40_areRecipesRight_b41 N K4 n) @ih E3 hF
          ·
            exact BX40_areRecipesRight_b76 (N := N) (K41 := FX40_areRecipesRight_b41 N K4 n) @ih E3 hF
theorem BX40_areRecipesRight_b38 {σo : fS} {q : Int × fS} {N : Nat} {K4 : Int → Int → fS → Option (Int × fS)} (hk4 : ∀ {s : fS} {l1 : Int} {l2 : Int}, bE 1 σo s → K4 l1 l2 s = some q → bE 1 σo q.2) {s : fS} {l2 : Int} {s0 : Int} (E : bE 1 σo s) (hF : FX40_areRecipesRight_b38 N K4 l2 s0 s = some q) : bE 1 σo q.2 := by
  unfold FX40_areRecipesRight_b38 at hF
  exact BX40_areRecipesRight_b41 (N := N) (K4 := K4) @hk4 E hF
theorem BX40_areRecipesRight_b37 {σo : fS} {q : Int × fS} {N : Nat} {K4 : Int → Int → fS → Option (Int × fS)} (hk4 : ∀ {s : fS} {l1 : Int} {l2 : Int}, bE 1 σo s → K4 l1 l2 s = some q → bE 1 σo q.2) {s : fS} {l2 : Int} (E : bE 1 σo s) (hF : FX40_areRecipesRight_b37 N K4 l2 s = some q) : bE 1 σo q.2 := by
  unfold FX40_areRecipesRight_b37 at hF
  exact BX40_areRecipesRight_b38 (N := N) (K4 := K4) @hk4 E hF
theorem BX40_areRecipesRight_b4 {σo : fS} {q : Int × fS} {N : Nat} : ∀ {n : Nat} {s : fS} {l1 : Int} {l2 : Int}, bE 1 σo s → FX40_areRecipesRight_b4 N n l1 l2 s = some q → bE 1 σo q.2 := by
  intro n
  induction n with
  | zero => intro s l1 l2 E  hF; simp [FX40_areRecipesRight_b4] at hF
  | succ n ih =>
    intro s l1 l2 E  hF
    rw [FX40_areRecipesRight_b4] at hF
    refine b_call E (fun _ hq => (BX40_words (bE.rf E.S) (E.S.m1 (Nat.le_of_ble_eq_true rfl) (Nat.le_of_ble_eq_true rfl)) hq)) hF (fun _ hq1 D1 E1 hF => ?_)
    refine b_if hF (fun hF => ?_) (fun hF => ?_)
    ·
      exact b_z E1 hF
    ·
      refine b_if hF (fun hF => ?_) (fun hF => ?_)
      ·
        exact BX40_areRecipesRight_b37 (N := N) (K4 := FX40_areRecipesRight_b4 N n) @ih E1 hF
      ·
        refine b_call E1 (fun _ hq => (BX40_at (N := N) (bE.rf E1.S) (E1.S.m1 (Nat.le_of_ble_eq_true rfl) (Nat.le_of_ble_eq_true rfl)) hq)) hF (fun _ hq2 D2 E2 hF => ?_)
        refine b_call E2 (fun _ hq => (BX40_isThere (N := N) (bE.rf E2.S) (E2.S.m1 (Nat.le_of_ble_eq_true rfl) (Nat.le_of_ble_eq_true rfl)) hq)) hF (fun _ hq3 D3 E3 hF => ?_)
        refine b_if hF (fun hF => ?_) (fun hF => ?_)
        ·
          exact BX40_areRecipesRight_b37 (N := N) (K4 := FX40_areRecipesRight_b4 N n) @ih E3 hF
        ·
          exact BX40_areRecipesRight_b38 (N := N) (K4 := FX40_areRecipesRight_b4 N n) @ih E3 hF
theorem BX40_areRecipesRight {σo : fS} {q : Int × fS} {N : Nat} {s : fS} (E : bE 1 σo s) (hF : FX40_areRecipesRight N s = some q) : bE 1 σo q.2 := by
  unfold FX40_areRecipesRight at hF
  exact BX40_areRecipesRight_b4 (N := N) E hF
theorem BX40_fault_b45 {σo : fS} {q : Int × fS} {N : Nat} {s : fS} (E : bE 1 σo s) (hF : FX40_fault_b45 N s = some q) : bE 1 σo q.2 := by
  unfold FX40_fault_b45 at hF
  exact b_ret E hF
theorem BX40_fault_b99 {σo : fS} {q : Int × fS} {N : Nat} {K76 : Int → Int → Int → fS → Option (Int × fS)} (hk76 : ∀ {s : fS} {l1 : Int} {l2 : Int} {l3 : Int}, bE 1 σo s → K76 l1 l2 l3 s = some q → bE 1 σo q.2) {s : fS} {l1 : Int} {l3 : Int} {s0 : Int} (E : bE 1 σo s) (hF : FX40_fault_b99 N K76 l1 l3 s0 s = some q) : bE 1 σo q.2 := by
  unfold FX40_fault_b99 at hF
  exact hk76 E hF
theorem BX40_fault_b94 {σo : fS} {q : Int × fS} {N : Nat} {K76 : Int → Int → Int → fS → Option (Int × fS)} (hk76 : ∀ {s : fS} {l1 : Int} {l2 : Int} {l3 : Int}, bE 1 σo s → K76 l1 l2 l3 s = some q → bE 1 σo q.2) {s : fS} {l1 : Int} {l3 : Int} (E : bE 1 σo s) (hF : FX40_fault_b94 N K76 l1 l3 s = some q) : bE 1 σo q.2 := by
  unfold FX40_fault_b94 at hF
  exact BX40_fault_b99 (N := N) (K76 := K76) @hk76 E hF
theorem BX40_fault_b137 {σo : fS} {q : Int × fS} {N : Nat} {s : fS} (E : bE 1 σo s) (hF : FX40_fault_b137 N s = some q) : bE 1 σo q.2 := by
  unfold FX40_fault_b137 at hF
  exact b_ret E hF
theorem BX40_fault_b218 {σo : fS} {q : Int × fS} {N : Nat} {s : fS} {s0 : Int} (E : bE 1 σo s) (hF : FX40_fault_b218 N s0 s = some q) : bE 1 σo q.2 := by
  unfold FX40_fault_b218 at hF
  exact b_ret E hF
theorem BX40_fault_b76 {σo : fS} {q : Int × fS} {N : Nat} : ∀ {n : Nat} {s : fS} {l1 : Int} {l2 : Int} {l3 : Int}, bE 1 σo s → FX40_fault_b76 N n l1 l2 l3 s = some q → bE 1 σo q.2 := by
  intro n
  induction n with
  | zero => intro s l1 l2 l3 E  hF; simp [FX40_fault_b76] at hF
  | succ n ih =>
    intro s l1 l2 l3 E  hF
    rw [FX40_fault_b76] at hF
    refine b_if hF (fun hF => ?_) (fun hF => ?_)
    ·
      refine b_if hF (fun hF => ?_) (fun hF => ?_)
      ·
        refine b_call E (fun _ hq => (BX40_half (bE.rf E.S) (E.S.m1 (Nat.le_of_ble_eq_true rfl) (Nat.le_of_ble_eq_true rfl)) hq)) hF (fun _ hq1 D1 E1 hF => ?_)
        refine b_call E1 (fun _ hq => (BX40_start (N := N) (bE.rf E1.S) (E1.S.m1 (Nat.le_of_ble_eq_true rfl) (Nat.le_of_ble_eq_true rfl)) hq)) hF (fun _ hq2 D2 E2 hF => ?_)
        refine b_if hF (fun hF => ?_) (fun hF => ?_)
        ·
          exact BX40_fault_b137 (N := N) E2 hF
        ·
          refine b_call E2 (fun _ hq => (BX40_half (bE.rf E2.S) (E2.S.m1 (Nat.le_of_ble_eq_true rfl) (Nat.le_of_ble_eq_true rfl)) hq)) hF (fun _ hq3 D3 E3 hF => ?_)
          refine b_if hF (fun hF => ?_) (fun hF => ?_)
          ·
            refine b_call E3 (fun _ hq => (BX40_designOf (N := N) (bE.rf E3.S) (E3.S.m1 (Nat.le_of_ble_eq_true rfl) (Nat.le_of_ble_eq_true rfl)) hq)) hF (fun _ hq4 D4 E4 hF => ?_)
            refine b_if hF (fun hF => ?_) (fun hF => ?_)
            ·
              refine b_call E4 (fun _ hq => (BX40_areSizesRight (N := N) (bE.rf E4.S) hq)) hF (fun _ hq5 D5 E5 hF => ?_)
              refine b_if hF (fun hF => ?_) (fun hF => ?_)
              ·
                refine b_call E5 (fun _ hq => (BX40_areTagsRight (N := N) (bE.rf E5.S) hq)) hF (fun _ hq6 D6 E6 hF => ?_)
                refine b_if hF (fun hF => ?_) (fun hF => ?_)
                ·
                  refine b_call E6 (fun _ hq => (BX40_areTablesRight (N := N) (bE.rf E6.S) hq)) hF (fun _ hq7 D7 E7 hF => ?_)
                  refine b_if hF (fun hF => ?_) (fun hF => ?_)
                  ·
                    refine b_call E7 (fun _ hq => (BX40_isProgramRight (N := N) (bE.rf E7.S) hq)) hF (fun _ hq8 D8 E8 hF => ?_)
                    refine b_if hF (fun hF => ?_) (fun hF => ?_)
                    ·
                      refine b_call E8 (fun _ hq => (BX40_areRecipesRight (N := N) (bE.rf E8.S) hq)) hF (fun _ hq9 D9 E9 hF => ?_)
                      refine b_if hF (fun hF => ?_) (fun hF => ?_)
                      ·
                        refine b_call E9 (fun _ hq => (BX40_areFractions (N := N) (bE.rf E9.S) hq)) hF (fun _ hq10 D10 E10 hF => ?_)
                        refine b_if hF (fun hF => ?_) (fun hF => ?_)
                        ·
                          exact BX40_fault_b218 (N := N) E10 hF
                        ·
                          exact BX40_fault_b218 (N := N) E10 hF
                      ·
                        exact BX40_fault_b218 (N := N) E9 hF
                    ·
                      exact b_ret E8 hF
                  ·
                    exact b_ret E7 hF
                ·
                  exact b_ret E6 hF
              ·
                exact b_ret E5 hF
            ·
              exact b_ret E4 hF
          ·
            exact BX40_fault_b137 (N := N) E3 hF
      ·
        exact b_ret E hF
    ·
      refine b_if hF (fun hF => ?_) (fun hF => ?_)
      ·
        exact BX40_fault_b94 (N := N) (K76 := FX40_fault_b76 N n) @ih E hF
      ·
        refine b_call E (fun _ hq => (BX40_words (bE.rf E.S) (E.S.m1 (Nat.le_of_ble_eq_true rfl) (Nat.le_of_ble_eq_true rfl)) hq)) hF (fun _ hq11 D11 E11 hF => ?_)
        refine b_if hF (fun hF => ?_) (fun hF => ?_)
        ·
          exact BX40_fault_b99 (N := N) (K76 := FX40_fault_b76 N n) @ih E11 hF
        ·
          exact BX40_fault_b94 (N := N) (K76 := FX40_fault_b76 N n) @ih E11 hF
theorem BX40_fault_b73 {σo : fS} {q : Int × fS} {N : Nat} {s : fS} {l1 : Int} {s0 : Int} (E : bE 1 σo s) (hF : FX40_fault_b73 N l1 s0 s = some q) : bE 1 σo q.2 := by
  unfold FX40_fault_b73 at hF
  exact BX40_fault_b76 (N := N) E hF
theorem BX40_fault_b68 {σo : fS} {q : Int × fS} {N : Nat} {s : fS} {l1 : Int} (E : bE 1 σo s) (hF : FX40_fault_b68 N l1 s = some q) : bE 1 σo q.2 := by
  unfold FX40_fault_b68 at hF
  exact BX40_fault_b73 (N := N) E hF
theorem BX40_fault {σo : fS} {q : Int × fS} {N : Nat} {s : fS} {p1 : Int} (E : bE 1 σo s) (hF : FX40_fault N p1 s = some q) : bE 1 σo q.2 := by
  unfold FX40_fault at hF
  refine b_if hF (fun hF => ?_) (fun hF => ?_)
  ·
    refine b_call E (fun _ hq => (BX40_areNumbersSmall (N := N) (bE.rf E.S) hq)) hF (fun _ hq1 D1 E1 hF => ?_)
    refine b_if hF (fun hF => ?_) (fun hF => ?_)
    ·
      refine b_call E1 (fun _ hq => (BX40_half (bE.rf E1.S) (E1.S.m1 (Nat.le_of_ble_eq_true rfl) (Nat.le_of_ble_eq_true rfl)) hq)) hF (fun _ hq2 D2 E2 hF => ?_)
      refine b_call E2 (fun _ hq => (BX40_half (bE.rf E2.S) (E2.S.m1 (Nat.le_of_ble_eq_true rfl) (Nat.le_of_ble_eq_true rfl)) hq)) hF (fun _ hq3 D3 E3 hF => ?_)
      refine b_if hF (fun hF => ?_) (fun hF => ?_)
      ·
        exact BX40_fault_b45 (N := N) E3 hF
      ·
        refine b_call E3 (fun _ hq => (BX40_half (bE.rf E3.S) (E3.S.m1 (Nat.le_of_ble_eq_true rfl) (Nat.le_of_ble_eq_true rfl)) hq)) hF (fun _ hq4 D4 E4 hF => ?_)
        refine b_if hF (fun hF => ?_) (fun hF => ?_)
        ·
          refine b_call E4 (fun _ hq => (BX40_words (bE.rf E4.S) (E4.S.m1 (Nat.le_of_ble_eq_true rfl) (Nat.le_of_ble_eq_true rfl)) hq)) hF (fun _ hq5 D5 E5 hF => ?_)
          refine b_if hF (fun hF => ?_) (fun hF => ?_)
          ·
            exact BX40_fault_b68 (N := N) E5 hF
          ·
            refine b_call E5 (fun _ hq => (BX40_words (bE.rf E5.S) (E5.S.m1 (Nat.le_of_ble_eq_true rfl) (Nat.le_of_ble_eq_true rfl)) hq)) hF (fun _ hq6 D6 E6 hF => ?_)
            refine b_if hF (fun hF => ?_) (fun hF => ?_)
            ·
              exact BX40_fault_b73 (N := N) E6 hF
            ·
              exact BX40_fault_b68 (N := N) E6 hF
        ·
          exact BX40_fault_b45 (N := N) E4 hF
    ·
      exact b_ret E1 hF
  ·
    exact b_ret E hF
theorem BX40_init {σo : fS} {q : Unit × fS} {s : fS} {this : Nat} (E : bE 1 σo s) (othis : bO 1 s this) (hF : FX40_init this s = some q) : bE 1 σo q.2 := by
  unfold FX40_init at hF
  refine b_nA E hF (fun _ D1 E1 o1 hF => ?_)
  refine b_K hF (fun hF => ?_)
  refine b_pF E1 (othis.up D1) o1 hF (fun _ D2 E2 hF => ?_)
  refine b_nA E2 hF (fun _ D3 E3 o3 hF => ?_)
  refine b_K hF (fun hF => ?_)
  refine b_pF E3 (((othis.up D1).up D2).up D3) o3 hF (fun _ D4 E4 hF => ?_)
  refine b_nA E4 hF (fun _ D5 E5 o5 hF => ?_)
  refine b_K hF (fun hF => ?_)
  refine b_pF E5 (((((othis.up D1).up D2).up D3).up D4).up D5) o5 hF (fun _ D6 E6 hF => ?_)
  exact b_ret E6 hF
theorem BX40_take_b2 {σo : fS} {q : Unit × fS} {N : Nat} : ∀ {n : Nat} {s : fS} {l0 : Nat} {l2 : Int} {l3 : Int}, bE 1 σo s → bO 1 s l0 → FX40_take_b2 N n l0 l2 l3 s = some q → bE 1 σo q.2 := by
  intro n
  induction n with
  | zero => intro s l0 l2 l3 E ol0 hF; simp [FX40_take_b2] at hF
  | succ n ih =>
    intro s l0 l2 l3 E ol0 hF
    rw [FX40_take_b2] at hF
    refine b_if hF (fun hF => ?_) (fun hF => ?_)
    ·
      exact b_ret E hF
    ·
      refine b_K hF (fun hF => ?_)
      refine b_o E ol0 hF (fun _ o1 hF => ?_)
      refine b_rv hF (fun _ hF => ?_)
      refine b_KA hF (fun hF => ?_)
      refine b_qI E o1 hF (fun _ D3 E3 hF => ?_)
      exact ih E3 (ol0.up D3) hF
theorem BX40_take {σo : fS} {q : Unit × fS} {N : Nat} {s : fS} {this : Nat} {p1 : Int} (E : bE 1 σo s) (othis : bO 1 s this) (hF : FX40_take N this p1 s = some q) : bE 1 σo q.2 := by
  unfold FX40_take at hF
  exact BX40_take_b2 (N := N) E othis hF
theorem BX36_spaces_b38 {σo : fS} {q : Unit × fS} {N : Nat} {s : fS} (E : bE 1 σo s) (hF : FX36_spaces_b38 N s = some q) : bE 1 σo q.2 := by
  unfold FX36_spaces_b38 at hF
  exact b_ret E hF
theorem BX36_spaces_b0 {σo : fS} {q : Unit × fS} {N : Nat} : ∀ {n : Nat} {s : fS} , bE 1 σo s → FX36_spaces_b0 N n s = some q → bE 1 σo q.2 := by
  intro n
  induction n with
  | zero => intro s  E  hF; simp [FX36_spaces_b0] at hF
  | succ n ih =>
    intro s  E  hF
    rw [FX36_spaces_b0] at hF
    refine b_if hF (fun hF => ?_) (fun hF => ?_)
    ·
      exact BX36_spaces_b38 (N := N) E hF
    ·
      refine b_rv hF (fun _ hF => ?_)
      refine b_if hF (fun hF => ?_) (fun hF => ?_)
      ·
        exact BX36_spaces_b38 (N := N) E hF
      ·
        refine b_pI E (E.S.m1 (Nat.le_of_ble_eq_true rfl) (Nat.le_of_ble_eq_true rfl)) hF (fun _ D7 E7 hF => ?_)
        exact ih E7 hF
theorem BX36_spaces {σo : fS} {q : Unit × fS} {N : Nat} {s : fS} (E : bE 1 σo s) (hF : FX36_spaces N s = some q) : bE 1 σo q.2 := by
  unfold FX36_spaces at hF
  exact BX36_spaces_b0 (N := N) E hF
theorem BX36_look_b24 {σo : fS} {q : Int × fS} {s : fS} {s0 : Int} (E : bE 1 σo s) (hF : FX36_look_b24 s0 s = some q) : bE 1 σo q.2 := by
  unfold FX36_look_b24 at hF
  exact b_ret E hF
theorem BX36_look {σo : fS} {q : Int × fS} {s : fS} (E : bE 1 σo s) (hF : FX36_look s = some q) : bE 1 σo q.2 := by
  unfold FX36_look at hF
  refine b_if hF (fun hF => ?_) (fun hF => ?_)
  ·
    exact BX36_look_b24 E hF
  ·
    refine b_rv hF (fun _ hF => ?_)
    exact BX36_look_b24 E hF
theorem BX36_isDigit_b17 {σo : fS} {q : Int × fS} {s : fS} {s0 : Int} (E : bE 1 σo s) (hF : FX36_isDigit_b17 s0 s = some q) : bE 1 σo q.2 := by
  unfold FX36_isDigit_b17 at hF
  exact b_z E hF
theorem BX36_isDigit_b16 {σo : fS} {q : Int × fS} {s : fS} (E : bE 1 σo s) (hF : FX36_isDigit_b16 s = some q) : bE 1 σo q.2 := by
  unfold FX36_isDigit_b16 at hF
  exact BX36_isDigit_b17 E hF
theorem BX36_isDigit {σo : fS} {q : Int × fS} {s : fS} {p0 : Int} (E : bE 1 σo s) (hF : FX36_isDigit p0 s = some q) : bE 1 σo q.2 := by
  unfold FX36_isDigit at hF
  refine b_if hF (fun hF => ?_) (fun hF => ?_)
  ·
    exact BX36_isDigit_b16 E hF
  ·
    refine b_if hF (fun hF => ?_) (fun hF => ?_)
    ·
      exact BX36_isDigit_b16 E hF
    ·
      exact BX36_isDigit_b17 E hF
theorem BX36_isLetter_b33 {σo : fS} {q : Int × fS} {s : fS} {s0 : Int} (E : bE 1 σo s) (hF : FX36_isLetter_b33 s0 s = some q) : bE 1 σo q.2 := by
  unfold FX36_isLetter_b33 at hF
  exact b_z E hF
theorem BX36_isLetter_b32 {σo : fS} {q : Int × fS} {s : fS} (E : bE 1 σo s) (hF : FX36_isLetter_b32 s = some q) : bE 1 σo q.2 := by
  unfold FX36_isLetter_b32 at hF
  exact BX36_isLetter_b33 E hF
theorem BX36_isLetter {σo : fS} {q : Int × fS} {s : fS} (E : bE 1 σo s) (hF : FX36_isLetter s = some q) : bE 1 σo q.2 := by
  unfold FX36_isLetter at hF
  refine b_if hF (fun hF => ?_) (fun hF => ?_)
  ·
    exact BX36_isLetter_b32 E hF
  ·
    refine b_rv hF (fun _ hF => ?_)
    refine b_rv hF (fun _ hF => ?_)
    refine b_if hF (fun hF => ?_) (fun hF => ?_)
    ·
      exact BX36_isLetter_b32 E hF
    ·
      exact BX36_isLetter_b33 E hF
theorem BX36_isOver_b30 {σo : fS} {q : Int × fS} {s : fS} {s0 : Int} (E : bE 1 σo s) (hF : FX36_isOver_b30 s0 s = some q) : bE 1 σo q.2 := by
  unfold FX36_isOver_b30 at hF
  exact b_z E hF
theorem BX36_isOver_b25 {σo : fS} {q : Int × fS} {s : fS} (E : bE 1 σo s) (hF : FX36_isOver_b25 s = some q) : bE 1 σo q.2 := by
  unfold FX36_isOver_b25 at hF
  exact BX36_isOver_b30 E hF
theorem BX36_isOver {σo : fS} {q : Int × fS} {s : fS} (E : bE 1 σo s) (hF : FX36_isOver s = some q) : bE 1 σo q.2 := by
  unfold FX36_isOver at hF
  refine b_if hF (fun hF => ?_) (fun hF => ?_)
  ·
    exact BX36_isOver_b25 E hF
  ·
    refine b_rv hF (fun _ hF => ?_)
    refine b_if hF (fun hF => ?_) (fun hF => ?_)
    ·
      exact BX36_isOver_b30 E hF
    ·
      exact BX36_isOver_b25 E hF
theorem BX36_readPattern_b214 {σo : fS} {q : Int × fS} {N : Nat} {s : fS} {s0 : Int} (E : bE 1 σo s) (hF : FX36_readPattern_b214 N s0 s = some q) : bE 1 σo q.2 := by
  unfold FX36_readPattern_b214 at hF
  exact b_z E hF
theorem BX36_readPattern_b213 {σo : fS} {q : Int × fS} {N : Nat} {s : fS} (E : bE 1 σo s) (hF : FX36_readPattern_b213 N s = some q) : bE 1 σo q.2 := by
  unfold FX36_readPattern_b213 at hF
  exact BX36_readPattern_b214 (N := N) E hF
theorem BX36_readPattern_b195 {σo : fS} {q : Int × fS} {N : Nat} {s : fS} (E : bE 1 σo s) (hF : FX36_readPattern_b195 N s = some q) : bE 1 σo q.2 := by
  unfold FX36_readPattern_b195 at hF
  refine b_if hF (fun hF => ?_) (fun hF => ?_)
  ·
    exact BX36_readPattern_b213 (N := N) E hF
  ·
    refine b_call E (fun _ hq => (BX36_isOver (bE.rf E.S) hq)) hF (fun _ hq3 D3 E3 hF => ?_)
    refine b_if hF (fun hF => ?_) (fun hF => ?_)
    ·
      exact BX36_readPattern_b213 (N := N) E3 hF
    ·
      exact BX36_readPattern_b214 (N := N) E3 hF
theorem BX36_readPattern_b99 {σo : fS} {q : Int × fS} {N : Nat} {K54 : Int → fS → Option (Int × fS)} (hk54 : ∀ {s : fS} {l1 : Int}, bE 1 σo s → K54 l1 s = some q → bE 1 σo q.2) {s : fS} (E : bE 1 σo s) (hF : FX36_readPattern_b99 N K54 s = some q) : bE 1 σo q.2 := by
  unfold FX36_readPattern_b99 at hF
  refine b_call E (fun _ hq => (BX36_isLetter (bE.rf E.S) hq)) hF (fun _ hq2 D2 E2 hF => ?_)
  refine b_if hF (fun hF => ?_) (fun hF => ?_)
  ·
    refine b_call E2 (fun _ hq => (BX36_look (bE.rf E2.S) hq)) hF (fun _ hq4 D4 E4 hF => ?_)
    refine b_if hF (fun hF => ?_) (fun hF => ?_)
    ·
      exact BX36_readPattern_b195 (N := N) E4 hF
    ·
      refine b_if hF (fun hF => ?_) (fun hF => ?_)
      ·
        exact BX36_readPattern_b195 (N := N) E4 hF
      ·
        refine b_pZ E4 (E4.S.m1 (Nat.le_of_ble_eq_true rfl) (Nat.le_of_ble_eq_true rfl)) hF (fun _ D6 E6 hF => ?_)
        refine b_pI E6 (E6.S.m1 (Nat.le_of_ble_eq_true rfl) (Nat.le_of_ble_eq_true rfl)) hF (fun _ D8 E8 hF => ?_)
        refine b_call E8 (fun _ hq => (BX36_isOver (bE.rf E8.S) hq)) hF (fun _ hq10 D10 E10 hF => ?_)
        exact b_z E10 hF
  ·
    refine b_call E2 (fun _ hq => (BX36_look (bE.rf E2.S) hq)) hF (fun _ hq15 D15 E15 hF => ?_)
    refine b_rv hF (fun _ hF => ?_)
    refine b_qI E15 (E15.S.m1 (Nat.le_of_ble_eq_true rfl) (Nat.le_of_ble_eq_true rfl)) hF (fun _ D17 E17 hF => ?_)
    refine b_pI E17 (E17.S.m1 (Nat.le_of_ble_eq_true rfl) (Nat.le_of_ble_eq_true rfl)) hF (fun _ D19 E19 hF => ?_)
    refine b_qI E19 (E19.S.m1 (Nat.le_of_ble_eq_true rfl) (Nat.le_of_ble_eq_true rfl)) hF (fun _ D22 E22 hF => ?_)
    refine b_pI E22 (E22.S.m1 (Nat.le_of_ble_eq_true rfl) (Nat.le_of_ble_eq_true rfl)) hF (fun _ D24 E24 hF => ?_)
    exact hk54 E24 hF
theorem BX36_readPattern_b54 {σo : fS} {q : Int × fS} {N : Nat} : ∀ {n : Nat} {s : fS} {l1 : Int}, bE 1 σo s → FX36_readPattern_b54 N n l1 s = some q → bE 1 σo q.2 := by
  intro n
  induction n with
  | zero => intro s l1 E  hF; simp [FX36_readPattern_b54] at hF
  | succ n ih =>
    intro s l1 E  hF
    rw [FX36_readPattern_b54] at hF
    refine b_call E (fun _ hq => (BX36_look (bE.rf E.S) hq)) hF (fun _ hq2 D2 E2 hF => ?_)
    refine b_call E2 (fun _ hq => (BX36_isDigit (bE.rf E2.S) hq)) hF (fun _ hq3 D3 E3 hF => ?_)
    refine b_if hF (fun hF => ?_) (fun hF => ?_)
    ·
      exact BX36_readPattern_b99 (N := N) (K54 := FX36_readPattern_b54 N n) @ih E3 hF
    ·
      refine b_if hF (fun hF => ?_) (fun hF => ?_)
      ·
        exact BX36_readPattern_b99 (N := N) (K54 := FX36_readPattern_b54 N n) @ih E3 hF
      ·
        refine b_call E3 (fun _ hq => (BX36_look (bE.rf E3.S) hq)) hF (fun _ hq7 D7 E7 hF => ?_)
        refine b_qI E7 (E7.S.m1 (Nat.le_of_ble_eq_true rfl) (Nat.le_of_ble_eq_true rfl)) hF (fun _ D8 E8 hF => ?_)
        refine b_pI E8 (E8.S.m1 (Nat.le_of_ble_eq_true rfl) (Nat.le_of_ble_eq_true rfl)) hF (fun _ D10 E10 hF => ?_)
        exact ih E10 hF
theorem BX36_readPattern_b45 {σo : fS} {q : Int × fS} {N : Nat} {s : fS} (E : bE 1 σo s) (hF : FX36_readPattern_b45 N s = some q) : bE 1 σo q.2 := by
  unfold FX36_readPattern_b45 at hF
  refine b_qI E (E.S.m1 (Nat.le_of_ble_eq_true rfl) (Nat.le_of_ble_eq_true rfl)) hF (fun _ D2 E2 hF => ?_)
  exact BX36_readPattern_b54 (N := N) E2 hF
theorem BX36_readPattern_b20 {σo : fS} {q : Int × fS} {N : Nat} {s : fS} {s1 : Int} (E : bE 1 σo s) (hF : FX36_readPattern_b20 N s1 s = some q) : bE 1 σo q.2 := by
  unfold FX36_readPattern_b20 at hF
  refine b_pZ E (E.S.m1 (Nat.le_of_ble_eq_true rfl) (Nat.le_of_ble_eq_true rfl)) hF (fun _ D1 E1 hF => ?_)
  refine b_pZ E1 (E1.S.m1 (Nat.le_of_ble_eq_true rfl) (Nat.le_of_ble_eq_true rfl)) hF (fun _ D2 E2 hF => ?_)
  refine b_if hF (fun hF => ?_) (fun hF => ?_)
  ·
    exact BX36_readPattern_b45 (N := N) E2 hF
  ·
    refine b_pI E2 (E2.S.m1 (Nat.le_of_ble_eq_true rfl) (Nat.le_of_ble_eq_true rfl)) hF (fun _ D5 E5 hF => ?_)
    exact BX36_readPattern_b45 (N := N) E5 hF
theorem BX36_readPattern {σo : fS} {q : Int × fS} {N : Nat} {s : fS} (E : bE 1 σo s) (hF : FX36_readPattern N s = some q) : bE 1 σo q.2 := by
  unfold FX36_readPattern at hF
  refine b_pI E (E.S.m1 (Nat.le_of_ble_eq_true rfl) (Nat.le_of_ble_eq_true rfl)) hF (fun _ D1 E1 hF => ?_)
  refine b_call E1 (fun _ hq => (BX36_look (bE.rf E1.S) hq)) hF (fun _ hq3 D3 E3 hF => ?_)
  refine b_if hF (fun hF => ?_) (fun hF => ?_)
  ·
    exact BX36_readPattern_b20 (N := N) E3 hF
  ·
    exact BX36_readPattern_b20 (N := N) E3 hF
theorem BX36_fault {σo : fS} {q : Int × fS} {s : fS} {p0 : Int} {p1 : Int} (E : bE 1 σo s) (hF : FX36_fault p0 p1 s = some q) : bE 1 σo q.2 := by
  unfold FX36_fault at hF
  exact b_ret E hF
theorem BX36_isThere_b50 {σo : fS} {q : Int × fS} {N : Nat} {s : fS} (E : bE 1 σo s) (hF : FX36_isThere_b50 N s = some q) : bE 1 σo q.2 := by
  unfold FX36_isThere_b50 at hF
  exact b_ret E hF
theorem BX36_isThere_b94 {σo : fS} {q : Int × fS} {N : Nat} {K57 : Int → Int → Int → fS → Option (Int × fS)} (hk57 : ∀ {s : fS} {l2 : Int} {l3 : Int} {l4 : Int}, bE 1 σo s → K57 l2 l3 l4 s = some q → bE 1 σo q.2) {s : fS} {l2 : Int} {l4 : Int} {s0 : Int} (E : bE 1 σo s) (hF : FX36_isThere_b94 N K57 l2 l4 s0 s = some q) : bE 1 σo q.2 := by
  unfold FX36_isThere_b94 at hF
  exact hk57 E hF
theorem BX36_isThere_b101 {σo : fS} {q : Int × fS} {N : Nat} {s : fS} {l3 : Int} (E : bE 1 σo s) (hF : FX36_isThere_b101 N l3 s = some q) : bE 1 σo q.2 := by
  unfold FX36_isThere_b101 at hF
  exact b_z E hF
theorem BX36_isThere_b57 {σo : fS} {q : Int × fS} {N : Nat} : ∀ {n : Nat} {s : fS} {l2 : Int} {l3 : Int} {l4 : Int}, bE 1 σo s → FX36_isThere_b57 N n l2 l3 l4 s = some q → bE 1 σo q.2 := by
  intro n
  induction n with
  | zero => intro s l2 l3 l4 E  hF; simp [FX36_isThere_b57] at hF
  | succ n ih =>
    intro s l2 l3 l4 E  hF
    rw [FX36_isThere_b57] at hF
    refine b_if hF (fun hF => ?_) (fun hF => ?_)
    ·
      exact BX36_isThere_b101 (N := N) E hF
    ·
      refine b_if hF (fun hF => ?_) (fun hF => ?_)
      ·
        exact BX36_isThere_b101 (N := N) E hF
      ·
        refine b_rv hF (fun _ hF => ?_)
        refine b_rv hF (fun _ hF => ?_)
        refine b_if hF (fun hF => ?_) (fun hF => ?_)
        ·
          exact BX36_isThere_b94 (N := N) (K57 := FX36_isThere_b57 N n) @ih E hF
        ·
          exact BX36_isThere_b94 (N := N) (K57 := FX36_isThere_b57 N n) @ih E hF
theorem BX36_isThere {σo : fS} {q : Int × fS} {N : Nat} {s : fS} {p0 : Int} (E : bE 1 σo s) (hF : FX36_isThere N p0 s = some q) : bE 1 σo q.2 := by
  unfold FX36_isThere at hF
  refine b_rv hF (fun _ hF => ?_)
  refine b_rv hF (fun _ hF => ?_)
  refine b_if hF (fun hF => ?_) (fun hF => ?_)
  ·
    exact BX36_isThere_b50 (N := N) E hF
  ·
    refine b_rv hF (fun _ hF => ?_)
    refine b_if hF (fun hF => ?_) (fun hF => ?_)
    ·
      exact BX36_isThere_b50 (N := N) E hF
    ·
      refine b_rv hF (fun _ hF => ?_)
      refine b_if hF (fun hF => ?_) (fun hF => ?_)
      ·
        exact BX36_isThere_b57 (N := N) E hF
      ·
        exact BX36_isThere_b50 (N := N) E hF
theorem BX36_addPattern_b52 {σo : fS} {q : Unit × fS} {N : Nat} : ∀ {n : Nat} {s : fS} {l1 : Int} {l2 : Int} {l3 : Int}, bE 1 σo s → FX36_addPattern_b52 N n l1 l2 l3 s = some q → bE 1 σo q.2 := by
  intro n
  induction n with
  | zero => intro s l1 l2 l3 E  hF; simp [FX36_addPattern_b52] at hF
  | succ n ih =>
    intro s l1 l2 l3 E  hF
    rw [FX36_addPattern_b52] at hF
    refine b_if hF (fun hF => ?_) (fun hF => ?_)
    ·
      refine b_qI E (E.S.m1 (Nat.le_of_ble_eq_true rfl) (Nat.le_of_ble_eq_true rfl)) hF (fun _ D5 E5 hF => ?_)
      refine b_qI E5 (E5.S.m1 (Nat.le_of_ble_eq_true rfl) (Nat.le_of_ble_eq_true rfl)) hF (fun _ D9 E9 hF => ?_)
      refine b_pI E9 (E9.S.m1 (Nat.le_of_ble_eq_true rfl) (Nat.le_of_ble_eq_true rfl)) hF (fun _ D11 E11 hF => ?_)
      refine b_qI E11 (E11.S.m1 (Nat.le_of_ble_eq_true rfl) (Nat.le_of_ble_eq_true rfl)) hF (fun _ D15 E15 hF => ?_)
      refine b_qI E15 (E15.S.m1 (Nat.le_of_ble_eq_true rfl) (Nat.le_of_ble_eq_true rfl)) hF (fun _ D19 E19 hF => ?_)
      exact b_ret E19 hF
    ·
      refine b_rv hF (fun _ hF => ?_)
      refine b_qI E (E.S.m1 (Nat.le_of_ble_eq_true rfl) (Nat.le_of_ble_eq_true rfl)) hF (fun _ D23 E23 hF => ?_)
      exact ih E23 hF
theorem BX36_addPattern_b22 {σo : fS} {q : Unit × fS} {N : Nat} : ∀ {n : Nat} {s : fS} {l1 : Int} {l2 : Int} {l3 : Int}, bE 1 σo s → FX36_addPattern_b22 N n l1 l2 l3 s = some q → bE 1 σo q.2 := by
  intro n
  induction n with
  | zero => intro s l1 l2 l3 E  hF; simp [FX36_addPattern_b22] at hF
  | succ n ih =>
    intro s l1 l2 l3 E  hF
    rw [FX36_addPattern_b22] at hF
    refine b_if hF (fun hF => ?_) (fun hF => ?_)
    ·
      exact BX36_addPattern_b52 (N := N) E hF
    ·
      refine b_rv hF (fun _ hF => ?_)
      refine b_qI E (E.S.m1 (Nat.le_of_ble_eq_true rfl) (Nat.le_of_ble_eq_true rfl)) hF (fun _ D5 E5 hF => ?_)
      exact ih E5 hF
theorem BX36_addPattern {σo : fS} {q : Unit × fS} {N : Nat} {s : fS} (E : bE 1 σo s) (hF : FX36_addPattern N s = some q) : bE 1 σo q.2 := by
  unfold FX36_addPattern at hF
  refine b_rv hF (fun _ hF => ?_)
  refine b_rv hF (fun _ hF => ?_)
  exact BX36_addPattern_b22 (N := N) E hF
theorem BX36_readPatterns_b116 {σo : fS} {q : Int × fS} {N : Nat} {s : fS} {l1 : Int} (E : bE 1 σo s) (hF : FX36_readPatterns_b116 N l1 s = some q) : bE 1 σo q.2 := by
  unfold FX36_readPatterns_b116 at hF
  refine b_call E (fun _ hq => (BX36_fault (bE.rf E.S) hq)) hF (fun _ hq1 D1 E1 hF => ?_)
  exact b_ret E1 hF
theorem BX36_readPatterns_b58 {σo : fS} {q : Int × fS} {N : Nat} {K9 : fS → Option (Int × fS)} (hk9 : ∀ {s : fS} , bE 1 σo s → K9 s = some q → bE 1 σo q.2) : ∀ {n : Nat} {s : fS} {l1 : Int} {l2 : Int}, bE 1 σo s → FX36_readPatterns_b58 N K9 n l1 l2 s = some q → bE 1 σo q.2 := by
  intro n
  induction n with
  | zero => intro s l1 l2 E  hF; simp [FX36_readPatterns_b58] at hF
  | succ n ih =>
    intro s l1 l2 E  hF
    rw [FX36_readPatterns_b58] at hF
    refine b_if hF (fun hF => ?_) (fun hF => ?_)
    ·
      refine b_if hF (fun hF => ?_) (fun hF => ?_)
      ·
        exact BX36_readPatterns_b116 (N := N) E hF
      ·
        refine b_rv hF (fun _ hF => ?_)
        refine b_if hF (fun hF => ?_) (fun hF => ?_)
        ·
          refine b_call E (fun _ hq => (BX36_addPattern (N := N) (bE.rf E.S) hq)) hF (fun _ hq8 D8 E8 hF => ?_)
          refine b_call E8 (fun _ hq => (BX36_spaces (N := N) (bE.rf E8.S) hq)) hF (fun _ hq10 D10 E10 hF => ?_)
          exact hk9 E10 hF
        ·
          exact BX36_readPatterns_b116 (N := N) E hF
    ·
      refine b_call E (fun _ hq => (BX36_isThere (N := N) (bE.rf E.S) hq)) hF (fun _ hq12 D12 E12 hF => ?_)
      refine b_if hF (fun hF => ?_) (fun hF => ?_)
      ·
        exact ih E12 hF
      ·
        refine b_call E12 (fun _ hq => (BX36_fault (bE.rf E12.S) hq)) hF (fun _ hq13 D13 E13 hF => ?_)
        exact b_ret E13 hF
theorem BX36_readPatterns_b9 {σo : fS} {q : Int × fS} {N : Nat} : ∀ {n : Nat} {s : fS} , bE 1 σo s → FX36_readPatterns_b9 N n s = some q → bE 1 σo q.2 := by
  intro n
  induction n with
  | zero => intro s  E  hF; simp [FX36_readPatterns_b9] at hF
  | succ n ih =>
    intro s  E  hF
    rw [FX36_readPatterns_b9] at hF
    refine b_if hF (fun hF => ?_) (fun hF => ?_)
    ·
      exact b_ret E hF
    ·
      refine b_call E (fun _ hq => (BX36_readPattern (N := N) (bE.rf E.S) hq)) hF (fun _ hq5 D5 E5 hF => ?_)
      refine b_if hF (fun hF => ?_) (fun hF => ?_)
      ·
        refine b_if hF (fun hF => ?_) (fun hF => ?_)
        ·
          exact BX36_readPatterns_b58 (N := N) (K9 := FX36_readPatterns_b9 N n) @ih E5 hF
        ·
          refine b_call E5 (fun _ hq => (BX36_fault (bE.rf E5.S) hq)) hF (fun _ hq7 D7 E7 hF => ?_)
          exact b_ret E7 hF
      ·
        refine b_call E5 (fun _ hq => (BX36_fault (bE.rf E5.S) hq)) hF (fun _ hq9 D9 E9 hF => ?_)
        exact b_ret E9 hF
theorem BX36_readPatterns {σo : fS} {q : Int × fS} {N : Nat} {s : fS} (E : bE 1 σo s) (hF : FX36_readPatterns N s = some q) : bE 1 σo q.2 := by
  unfold FX36_readPatterns at hF
  refine b_pI E (E.S.m1 (Nat.le_of_ble_eq_true rfl) (Nat.le_of_ble_eq_true rfl)) hF (fun _ D1 E1 hF => ?_)
  refine b_call E1 (fun _ hq => (BX36_spaces (N := N) (bE.rf E1.S) hq)) hF (fun _ hq3 D3 E3 hF => ?_)
  exact BX36_readPatterns_b9 (N := N) E3 hF
theorem BX36_patterns {σo : fS} {q : Int × fS} {N : Nat} {s : fS} (E : bE 1 σo s) (hF : FX36_patterns N s = some q) : bE 1 σo q.2 := by
  unfold FX36_patterns at hF
  refine b_call E (fun _ hq => (BX36_readPatterns (N := N) (bE.rf E.S) hq)) hF (fun _ hq3 D3 E3 hF => ?_)
  refine b_pI E3 (E3.S.m1 (Nat.le_of_ble_eq_true rfl) (Nat.le_of_ble_eq_true rfl)) hF (fun _ D4 E4 hF => ?_)
  refine b_if hF (fun hF => ?_) (fun hF => ?_)
  ·
    exact b_ret E4 hF
  ·
    refine b_pI E4 (E4.S.m1 (Nat.le_of_ble_eq_true rfl) (Nat.le_of_ble_eq_true rfl)) hF (fun _ D6 E6 hF => ?_)
    exact b_ret E6 hF
theorem BX36_readWord_b137 {σo : fS} {q : Int × fS} {N : Nat} {s : fS} {s0 : Int} (E : bE 1 σo s) (hF : FX36_readWord_b137 N s0 s = some q) : bE 1 σo q.2 := by
  unfold FX36_readWord_b137 at hF
  exact b_z E hF
theorem BX36_readWord_b136 {σo : fS} {q : Int × fS} {N : Nat} {s : fS} (E : bE 1 σo s) (hF : FX36_readWord_b136 N s = some q) : bE 1 σo q.2 := by
  unfold FX36_readWord_b136 at hF
  exact BX36_readWord_b137 (N := N) E hF
theorem BX36_readWord_b114 {σo : fS} {q : Int × fS} {N : Nat} {s : fS} {l1 : Int} (E : bE 1 σo s) (hF : FX36_readWord_b114 N l1 s = some q) : bE 1 σo q.2 := by
  unfold FX36_readWord_b114 at hF
  refine b_if hF (fun hF => ?_) (fun hF => ?_)
  ·
    exact BX36_readWord_b136 (N := N) E hF
  ·
    refine b_if hF (fun hF => ?_) (fun hF => ?_)
    ·
      exact BX36_readWord_b136 (N := N) E hF
    ·
      refine b_call E (fun _ hq => (BX36_isOver (bE.rf E.S) hq)) hF (fun _ hq3 D3 E3 hF => ?_)
      refine b_if hF (fun hF => ?_) (fun hF => ?_)
      ·
        exact BX36_readWord_b136 (N := N) E3 hF
      ·
        exact BX36_readWord_b137 (N := N) E3 hF
theorem BX36_readWord_b7 {σo : fS} {q : Int × fS} {N : Nat} : ∀ {n : Nat} {s : fS} {l1 : Int}, bE 1 σo s → FX36_readWord_b7 N n l1 s = some q → bE 1 σo q.2 := by
  intro n
  induction n with
  | zero => intro s l1 E  hF; simp [FX36_readWord_b7] at hF
  | succ n ih =>
    intro s l1 E  hF
    rw [FX36_readWord_b7] at hF
    refine b_call E (fun _ hq => (BX36_isLetter (bE.rf E.S) hq)) hF (fun _ hq2 D2 E2 hF => ?_)
    refine b_if hF (fun hF => ?_) (fun hF => ?_)
    ·
      refine b_call E2 (fun _ hq => (BX36_look (bE.rf E2.S) hq)) hF (fun _ hq4 D4 E4 hF => ?_)
      refine b_if hF (fun hF => ?_) (fun hF => ?_)
      ·
        exact BX36_readWord_b114 (N := N) E4 hF
      ·
        refine b_if hF (fun hF => ?_) (fun hF => ?_)
        ·
          exact BX36_readWord_b114 (N := N) E4 hF
        ·
          refine b_if hF (fun hF => ?_) (fun hF => ?_)
          ·
            exact BX36_readWord_b114 (N := N) E4 hF
          ·
            refine b_qI E4 (E4.S.m1 (Nat.le_of_ble_eq_true rfl) (Nat.le_of_ble_eq_true rfl)) hF (fun _ D8 E8 hF => ?_)
            refine b_pI E8 (E8.S.m1 (Nat.le_of_ble_eq_true rfl) (Nat.le_of_ble_eq_true rfl)) hF (fun _ D10 E10 hF => ?_)
            exact ih E10 hF
    ·
      refine b_call E2 (fun _ hq => (BX36_look (bE.rf E2.S) hq)) hF (fun _ hq15 D15 E15 hF => ?_)
      refine b_rv hF (fun _ hF => ?_)
      refine b_qI E15 (E15.S.m1 (Nat.le_of_ble_eq_true rfl) (Nat.le_of_ble_eq_true rfl)) hF (fun _ D17 E17 hF => ?_)
      refine b_qI E17 (E17.S.m1 (Nat.le_of_ble_eq_true rfl) (Nat.le_of_ble_eq_true rfl)) hF (fun _ D20 E20 hF => ?_)
      refine b_pI E20 (E20.S.m1 (Nat.le_of_ble_eq_true rfl) (Nat.le_of_ble_eq_true rfl)) hF (fun _ D22 E22 hF => ?_)
      refine b_pI E22 (E22.S.m1 (Nat.le_of_ble_eq_true rfl) (Nat.le_of_ble_eq_true rfl)) hF (fun _ D24 E24 hF => ?_)
      exact ih E24 hF
theorem BX36_readWord {σo : fS} {q : Int × fS} {N : Nat} {s : fS} (E : bE 1 σo s) (hF : FX36_readWord N s = some q) : bE 1 σo q.2 := by
  unfold FX36_readWord at hF
  refine b_pI E (E.S.m1 (Nat.le_of_ble_eq_true rfl) (Nat.le_of_ble_eq_true rfl)) hF (fun _ D1 E1 hF => ?_)
  exact BX36_readWord_b7 (N := N) E1 hF
