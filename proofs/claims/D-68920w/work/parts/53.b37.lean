set_option maxRecDepth 100000
set_option maxHeartbeats 4000000
theorem BX35_boxItem_b188 {σo : fS} {q : Unit × fS} {N : Nat} {SL : Int → Int → Int → fS → Option (Int × fS)} (hsL : ∀ {s : fS} {x1 : Int} {x2 : Int} {x3 : Int} {q}, bS 1 s → SL x1 x2 x3 s = some q → bE 1 s q.2) {s : fS} {l1 : Int} {l3 : Int} (E : bE 1 σo s) (hF : FX35_boxItem_b188 N SL l1 l3 s = some q) : bE 1 σo q.2 := by
  unfold FX35_boxItem_b188 at hF
  refine b_rv hF (fun _ hF => ?_)
  refine b_qI E (E.S.m1 (Nat.le_of_ble_eq_true rfl) (Nat.le_of_ble_eq_true rfl)) hF (fun _ D4 E4 hF => ?_)
  exact b_ret E4 hF
theorem BX35_boxItem_b139 {σo : fS} {q : Unit × fS} {N : Nat} {SL : Int → Int → Int → fS → Option (Int × fS)} (hsL : ∀ {s : fS} {x1 : Int} {x2 : Int} {x3 : Int} {q}, bS 1 s → SL x1 x2 x3 s = some q → bE 1 s q.2) {s : fS} {l1 : Int} {l2 : Int} {l3 : Int} (E : bE 1 σo s) (hF : FX35_boxItem_b139 N SL l1 l2 l3 s = some q) : bE 1 σo q.2 := by
  unfold FX35_boxItem_b139 at hF
  refine b_if hF (fun hF => ?_) (fun hF => ?_)
  ·
    refine b_call E (fun _ hq => (BX35_mode (bE.rf E.S) hq)) hF (fun _ hq3 D3 E3 hF => ?_)
    refine b_if hF (fun hF => ?_) (fun hF => ?_)
    ·
      refine b_call E3 (fun _ hq => (BX35_item (N := N) (bE.rf E3.S) hq)) hF (fun _ hq5 D5 E5 hF => ?_)
      exact BX35_boxItem_b188 (N := N) (SL := SL) @hsL E5 hF
    ·
      refine b_rv hF (fun _ hF => ?_)
      refine b_rv hF (fun _ hF => ?_)
      refine b_call E3 (fun _ hq => (BX35_outer (N := N) (SL := SL) @hsL (bE.rf E3.S) hq)) hF (fun _ hq11 D11 E11 hF => ?_)
      exact BX35_boxItem_b188 (N := N) (SL := SL) @hsL E11 hF
  ·
    exact b_ret E hF
theorem BX35_boxItem {σo : fS} {q : Unit × fS} {N : Nat} {SL : Int → Int → Int → fS → Option (Int × fS)} (hsL : ∀ {s : fS} {x1 : Int} {x2 : Int} {x3 : Int} {q}, bS 1 s → SL x1 x2 x3 s = some q → bE 1 s q.2) {s : fS} {p0 : Int} {p1 : Int} (E : bE 1 σo s) (hF : FX35_boxItem N SL p0 p1 s = some q) : bE 1 σo q.2 := by
  unfold FX35_boxItem at hF
  refine b_call E (fun _ hq => (BX35_isVertical (bE.rf E.S) hq)) hF (fun _ hq2 D2 E2 hF => ?_)
  refine b_if hF (fun hF => ?_) (fun hF => ?_)
  ·
    refine b_rv hF (fun _ hF => ?_)
    refine b_if hF (fun hF => ?_) (fun hF => ?_)
    ·
      exact BX35_boxItem_b139 (N := N) (SL := SL) @hsL E2 hF
    ·
      refine b_call E2 (fun _ hq => (BX35_now (bE.rf E2.S) hq)) hF (fun _ hq7 D7 E7 hF => ?_)
      refine b_rv hF (fun _ hF => ?_)
      refine b_rv hF (fun _ hF => ?_)
      refine b_call E7 (fun _ hq => (BX35_isSize (bE.rf E7.S) hq)) hF (fun _ hq12 D12 E12 hF => ?_)
      refine b_if hF (fun hF => ?_) (fun hF => ?_)
      ·
        refine b_call E12 (fun _ hq => (BX35_now (bE.rf E12.S) hq)) hF (fun _ hq14 D14 E14 hF => ?_)
        refine b_if hF (fun hF => ?_) (fun hF => ?_)
        ·
          refine b_call E14 (fun _ hq => (BX35_now (bE.rf E14.S) hq)) hF (fun _ hq16 D16 E16 hF => ?_)
          refine b_call E16 (fun _ hq => (BX35_now (bE.rf E16.S) hq)) hF (fun _ hq18 D18 E18 hF => ?_)
          refine b_call E18 (fun _ hq => (BX35_now (bE.rf E18.S) hq)) hF (fun _ hq20 D20 E20 hF => ?_)
          refine b_call E20 (fun _ hq => (BX35_glueItem (N := N) (SL := SL) @hsL (bE.rf E20.S) hq)) hF (fun _ hq22 D22 E22 hF => ?_)
          exact BX35_boxItem_b139 (N := N) (SL := SL) @hsL E22 hF
        ·
          refine b_call E14 (fun _ hq => (BX35_glueOf (N := N) (SL := SL) @hsL (bE.rf E14.S) hq)) hF (fun _ hq24 D24 E24 hF => ?_)
          exact BX35_boxItem_b139 (N := N) (SL := SL) @hsL E24 hF
      ·
        refine b_call E12 (fun _ hq => (BX35_fail (bE.rf E12.S) hq)) hF (fun _ hq26 D26 E26 hF => ?_)
        exact BX35_boxItem_b139 (N := N) (SL := SL) @hsL E26 hF
  ·
    refine b_call E2 (fun _ hq => (BX35_item (N := N) (bE.rf E2.S) hq)) hF (fun _ hq28 D28 E28 hF => ?_)
    exact b_ret E28 hF
theorem BX35_beginParagraph_b88 {σo : fS} {q : Unit × fS} {N : Nat} {SL : Int → Int → Int → fS → Option (Int × fS)} (hsL : ∀ {s : fS} {x1 : Int} {x2 : Int} {x3 : Int} {q}, bS 1 s → SL x1 x2 x3 s = some q → bE 1 s q.2) {s : fS} (E : bE 1 σo s) (hF : FX35_beginParagraph_b88 N SL s = some q) : bE 1 σo q.2 := by
  unfold FX35_beginParagraph_b88 at hF
  exact b_ret E hF
theorem BX35_beginParagraph_b32 {σo : fS} {q : Unit × fS} {N : Nat} {SL : Int → Int → Int → fS → Option (Int × fS)} (hsL : ∀ {s : fS} {x1 : Int} {x2 : Int} {x3 : Int} {q}, bS 1 s → SL x1 x2 x3 s = some q → bE 1 s q.2) {s : fS} {l1 : Int} (E : bE 1 σo s) (hF : FX35_beginParagraph_b32 N SL l1 s = some q) : bE 1 σo q.2 := by
  unfold FX35_beginParagraph_b32 at hF
  refine b_if hF (fun hF => ?_) (fun hF => ?_)
  ·
    refine b_call E (fun _ hq => (BX35_openList (bE.rf E.S) hq)) hF (fun _ hq3 D3 E3 hF => ?_)
    refine b_if hF (fun hF => ?_) (fun hF => ?_)
    ·
      exact BX35_beginParagraph_b88 (N := N) (SL := SL) @hsL E3 hF
    ·
      refine b_call E3 (fun _ hq => (BX35_now (bE.rf E3.S) hq)) hF (fun _ hq8 D8 E8 hF => ?_)
      refine b_call E8 (fun _ hq => (BX35_pack (N := N) (bE.rf E8.S) E8.S.p1 hq)) hF (fun _ hq10 D10 E10 hF => ?_)
      refine b_if hF (fun hF => ?_) (fun hF => ?_)
      ·
        exact BX35_beginParagraph_b88 (N := N) (SL := SL) @hsL E10 hF
      ·
        refine b_call E10 (fun _ hq => (BX35_boxItem (N := N) (SL := SL) @hsL (bE.rf E10.S) hq)) hF (fun _ hq13 D13 E13 hF => ?_)
        exact BX35_beginParagraph_b88 (N := N) (SL := SL) @hsL E13 hF
  ·
    exact b_ret E hF
theorem BX35_beginParagraph_b25 {σo : fS} {q : Unit × fS} {N : Nat} {SL : Int → Int → Int → fS → Option (Int × fS)} (hsL : ∀ {s : fS} {x1 : Int} {x2 : Int} {x3 : Int} {q}, bS 1 s → SL x1 x2 x3 s = some q → bE 1 s q.2) {s : fS} {l1 : Int} (E : bE 1 σo s) (hF : FX35_beginParagraph_b25 N SL l1 s = some q) : bE 1 σo q.2 := by
  unfold FX35_beginParagraph_b25 at hF
  refine b_call E (fun _ hq => (BX35_glueOf (N := N) (SL := SL) @hsL (bE.rf E.S) hq)) hF (fun _ hq2 D2 E2 hF => ?_)
  exact BX35_beginParagraph_b32 (N := N) (SL := SL) @hsL E2 hF
theorem BX35_beginParagraph {σo : fS} {q : Unit × fS} {N : Nat} {SL : Int → Int → Int → fS → Option (Int × fS)} (hsL : ∀ {s : fS} {x1 : Int} {x2 : Int} {x3 : Int} {q}, bS 1 s → SL x1 x2 x3 s = some q → bE 1 s q.2) {s : fS} {p0 : Int} (E : bE 1 σo s) (hF : FX35_beginParagraph N SL p0 s = some q) : bE 1 σo q.2 := by
  unfold FX35_beginParagraph at hF
  refine b_call E (fun _ hq => (BX35_mode (bE.rf E.S) hq)) hF (fun _ hq2 D2 E2 hF => ?_)
  refine b_if hF (fun hF => ?_) (fun hF => ?_)
  ·
    exact BX35_beginParagraph_b25 (N := N) (SL := SL) @hsL E2 hF
  ·
    refine b_rv hF (fun _ hF => ?_)
    refine b_if hF (fun hF => ?_) (fun hF => ?_)
    ·
      exact BX35_beginParagraph_b32 (N := N) (SL := SL) @hsL E2 hF
    ·
      exact BX35_beginParagraph_b25 (N := N) (SL := SL) @hsL E2 hF
theorem BX35_put_b32 {σo : fS} {q : Unit × fS} {s : fS} (E : bE 1 σo s) (hF : FX35_put_b32 s = some q) : bE 1 σo q.2 := by
  unfold FX35_put_b32 at hF
  exact b_ret E hF
theorem BX35_put {σo : fS} {q : Unit × fS} {s : fS} {p0 : Int} (E : bE 1 σo s) (hF : FX35_put p0 s = some q) : bE 1 σo q.2 := by
  unfold FX35_put at hF
  refine b_if hF (fun hF => ?_) (fun hF => ?_)
  ·
    exact BX35_put_b32 E hF
  ·
    refine b_if hF (fun hF => ?_) (fun hF => ?_)
    ·
      exact BX35_put_b32 E hF
    ·
      refine b_qI E (E.S.m1 (Nat.le_of_ble_eq_true rfl) (Nat.le_of_ble_eq_true rfl)) hF (fun _ D4 E4 hF => ?_)
      refine b_pI E4 (E4.S.m1 (Nat.le_of_ble_eq_true rfl) (Nat.le_of_ble_eq_true rfl)) hF (fun _ D6 E6 hF => ?_)
      exact BX35_put_b32 E6 hF
theorem BX35_category {σo : fS} {q : Int × fS} {s : fS} {p0 : Int} (E : bE 1 σo s) (hF : FX35_category p0 s = some q) : bE 1 σo q.2 := by
  unfold FX35_category at hF
  refine b_call E (fun _ hq => (BX35_now (bE.rf E.S) hq)) hF (fun _ hq2 D2 E2 hF => ?_)
  exact b_ret E2 hF
theorem BX35_spell_b37 {σo : fS} {q : Unit × fS} {s : fS} (E : bE 1 σo s) (hF : FX35_spell_b37 s = some q) : bE 1 σo q.2 := by
  unfold FX35_spell_b37 at hF
  exact b_ret E hF
theorem BX35_spell {σo : fS} {q : Unit × fS} {s : fS} {p0 : Int} (E : bE 1 σo s) (hF : FX35_spell p0 s = some q) : bE 1 σo q.2 := by
  unfold FX35_spell at hF
  refine b_if hF (fun hF => ?_) (fun hF => ?_)
  ·
    refine b_qI E (E.S.m1 (Nat.le_of_ble_eq_true rfl) (Nat.le_of_ble_eq_true rfl)) hF (fun _ D4 E4 hF => ?_)
    refine b_pI E4 (E4.S.m1 (Nat.le_of_ble_eq_true rfl) (Nat.le_of_ble_eq_true rfl)) hF (fun _ D6 E6 hF => ?_)
    exact BX35_spell_b37 E6 hF
  ·
    refine b_call E (fun _ hq => (BX35_fail (bE.rf E.S) hq)) hF (fun _ hq8 D8 E8 hF => ?_)
    exact BX35_spell_b37 E8 hF
theorem BX35_nameToken_b72 {σo : fS} {q : Int × fS} {N : Nat} {K31 : Int → Int → Int → fS → Option (Int × fS)} (hk31 : ∀ {s : fS} {l1 : Int} {l2 : Int} {l3 : Int}, bE 1 σo s → K31 l1 l2 l3 s = some q → bE 1 σo q.2) {s : fS} {l1 : Int} {l3 : Int} {s0 : Int} (E : bE 1 σo s) (hF : FX35_nameToken_b72 N K31 l1 l3 s0 s = some q) : bE 1 σo q.2 := by
  unfold FX35_nameToken_b72 at hF
  exact hk31 E hF
theorem BX35_nameToken_b79 {σo : fS} {q : Int × fS} {N : Nat} {K2 : Int → fS → Option (Int × fS)} (hk2 : ∀ {s : fS} {l1 : Int}, bE 1 σo s → K2 l1 s = some q → bE 1 σo q.2) {s : fS} {l1 : Int} {l2 : Int} (E : bE 1 σo s) (hF : FX35_nameToken_b79 N K2 l1 l2 s = some q) : bE 1 σo q.2 := by
  unfold FX35_nameToken_b79 at hF
  refine b_if hF (fun hF => ?_) (fun hF => ?_)
  ·
    exact hk2 E hF
  ·
    exact b_ret E hF
theorem BX35_nameToken_b31 {σo : fS} {q : Int × fS} {N : Nat} {K2 : Int → fS → Option (Int × fS)} (hk2 : ∀ {s : fS} {l1 : Int}, bE 1 σo s → K2 l1 s = some q → bE 1 σo q.2) : ∀ {n : Nat} {s : fS} {l1 : Int} {l2 : Int} {l3 : Int}, bE 1 σo s → FX35_nameToken_b31 N K2 n l1 l2 l3 s = some q → bE 1 σo q.2 := by
  intro n
  induction n with
  | zero => intro s l1 l2 l3 E  hF; simp [FX35_nameToken_b31] at hF
  | succ n ih =>
    intro s l1 l2 l3 E  hF
    rw [FX35_nameToken_b31] at hF
    refine b_if hF (fun hF => ?_) (fun hF => ?_)
    ·
      exact BX35_nameToken_b79 (N := N) (K2 := K2) @hk2 E hF
    ·
      refine b_if hF (fun hF => ?_) (fun hF => ?_)
      ·
        exact BX35_nameToken_b79 (N := N) (K2 := K2) @hk2 E hF
      ·
        refine b_rv hF (fun _ hF => ?_)
        refine b_rv hF (fun _ hF => ?_)
        refine b_if hF (fun hF => ?_) (fun hF => ?_)
        ·
          exact BX35_nameToken_b72 (N := N) (K31 := FX35_nameToken_b31 N K2 n) @ih E hF
        ·
          exact BX35_nameToken_b72 (N := N) (K31 := FX35_nameToken_b31 N K2 n) @ih E hF
theorem BX35_nameToken_b28 {σo : fS} {q : Int × fS} {N : Nat} {K2 : Int → fS → Option (Int × fS)} (hk2 : ∀ {s : fS} {l1 : Int}, bE 1 σo s → K2 l1 s = some q → bE 1 σo q.2) {s : fS} {l1 : Int} {s0 : Int} (E : bE 1 σo s) (hF : FX35_nameToken_b28 N K2 l1 s0 s = some q) : bE 1 σo q.2 := by
  unfold FX35_nameToken_b28 at hF
  exact BX35_nameToken_b31 (N := N) (K2 := K2) @hk2 E hF
theorem BX35_nameToken_b121 {σo : fS} {q : Int × fS} {N : Nat} : ∀ {n : Nat} {s : fS} {l1 : Int} {l2 : Int}, bE 1 σo s → FX35_nameToken_b121 N n l1 l2 s = some q → bE 1 σo q.2 := by
  intro n
  induction n with
  | zero => intro s l1 l2 E  hF; simp [FX35_nameToken_b121] at hF
  | succ n ih =>
    intro s l1 l2 E  hF
    rw [FX35_nameToken_b121] at hF
    refine b_if hF (fun hF => ?_) (fun hF => ?_)
    ·
      exact b_ret E hF
    ·
      refine b_qI E (E.S.m1 (Nat.le_of_ble_eq_true rfl) (Nat.le_of_ble_eq_true rfl)) hF (fun _ D3 E3 hF => ?_)
      exact ih E3 hF
theorem BX35_nameToken_b2 {σo : fS} {q : Int × fS} {N : Nat} : ∀ {n : Nat} {s : fS} {l1 : Int}, bE 1 σo s → FX35_nameToken_b2 N n l1 s = some q → bE 1 σo q.2 := by
  intro n
  induction n with
  | zero => intro s l1 E  hF; simp [FX35_nameToken_b2] at hF
  | succ n ih =>
    intro s l1 E  hF
    rw [FX35_nameToken_b2] at hF
    refine b_if hF (fun hF => ?_) (fun hF => ?_)
    ·
      refine b_if hF (fun hF => ?_) (fun hF => ?_)
      ·
        refine b_call E (fun _ hq => (BX35_addName (N := N) (bE.rf E.S) hq)) hF (fun _ hq4 D4 E4 hF => ?_)
        exact BX35_nameToken_b121 (N := N) E4 hF
      ·
        refine b_call E (fun _ hq => (BX35_fail (bE.rf E.S) hq)) hF (fun _ hq6 D6 E6 hF => ?_)
        exact b_ret E6 hF
    ·
      refine b_rv hF (fun _ hF => ?_)
      refine b_if hF (fun hF => ?_) (fun hF => ?_)
      ·
        exact BX35_nameToken_b28 (N := N) (K2 := FX35_nameToken_b2 N n) @ih E hF
      ·
        exact BX35_nameToken_b28 (N := N) (K2 := FX35_nameToken_b2 N n) @ih E hF
theorem BX35_nameToken {σo : fS} {q : Int × fS} {N : Nat} {s : fS} (E : bE 1 σo s) (hF : FX35_nameToken N s = some q) : bE 1 σo q.2 := by
  unfold FX35_nameToken at hF
  exact BX35_nameToken_b2 (N := N) E hF
theorem BX35_readName_b182 {σo : fS} {q : Int × fS} {N : Nat} {s : fS} {s0 : Int} (E : bE 1 σo s) (hF : FX35_readName_b182 N s0 s = some q) : bE 1 σo q.2 := by
  unfold FX35_readName_b182 at hF
  exact b_ret E hF
theorem BX35_readName_b167 {σo : fS} {q : Int × fS} {N : Nat} {s : fS} (E : bE 1 σo s) (hF : FX35_readName_b167 N s = some q) : bE 1 σo q.2 := by
  unfold FX35_readName_b167 at hF
  refine b_if hF (fun hF => ?_) (fun hF => ?_)
  ·
    refine b_call E (fun _ hq => (BX35_nameToken (N := N) (bE.rf E.S) hq)) hF (fun _ hq3 D3 E3 hF => ?_)
    exact BX35_readName_b182 (N := N) E3 hF
  ·
    exact BX35_readName_b182 (N := N) E hF
theorem BX35_readName_b44 {σo : fS} {q : Int × fS} {N : Nat} : ∀ {n : Nat} {s : fS} , bE 1 σo s → FX35_readName_b44 N n s = some q → bE 1 σo q.2 := by
  intro n
  induction n with
  | zero => intro s  E  hF; simp [FX35_readName_b44] at hF
  | succ n ih =>
    intro s  E  hF
    rw [FX35_readName_b44] at hF
    refine b_if hF (fun hF => ?_) (fun hF => ?_)
    ·
      exact BX35_readName_b167 (N := N) E hF
    ·
      refine b_if hF (fun hF => ?_) (fun hF => ?_)
      ·
        exact BX35_readName_b167 (N := N) E hF
      ·
        refine b_rv hF (fun _ hF => ?_)
        refine b_call E (fun _ hq => (BX35_category (bE.rf E.S) hq)) hF (fun _ hq8 D8 E8 hF => ?_)
        refine b_if hF (fun hF => ?_) (fun hF => ?_)
        ·
          exact BX35_readName_b167 (N := N) E8 hF
        ·
          refine b_rv hF (fun _ hF => ?_)
          refine b_call E8 (fun _ hq => (BX35_spell (bE.rf E8.S) hq)) hF (fun _ hq13 D13 E13 hF => ?_)
          refine b_pI E13 (E13.S.m1 (Nat.le_of_ble_eq_true rfl) (Nat.le_of_ble_eq_true rfl)) hF (fun _ D15 E15 hF => ?_)
          exact ih E15 hF
theorem BX35_readName_b141 {σo : fS} {q : Int × fS} {N : Nat} {s : fS} {s1 : Int} (E : bE 1 σo s) (hF : FX35_readName_b141 N s1 s = some q) : bE 1 σo q.2 := by
  unfold FX35_readName_b141 at hF
  refine b_pI E (E.S.m1 (Nat.le_of_ble_eq_true rfl) (Nat.le_of_ble_eq_true rfl)) hF (fun _ D1 E1 hF => ?_)
  refine b_rv hF (fun _ hF => ?_)
  refine b_call E1 (fun _ hq => (BX35_spell (bE.rf E1.S) hq)) hF (fun _ hq6 D6 E6 hF => ?_)
  refine b_pI E6 (E6.S.m1 (Nat.le_of_ble_eq_true rfl) (Nat.le_of_ble_eq_true rfl)) hF (fun _ D8 E8 hF => ?_)
  exact BX35_readName_b167 (N := N) E8 hF
theorem BX35_readName_b106 {σo : fS} {q : Int × fS} {N : Nat} {s : fS} (E : bE 1 σo s) (hF : FX35_readName_b106 N s = some q) : bE 1 σo q.2 := by
  unfold FX35_readName_b106 at hF
  refine b_if hF (fun hF => ?_) (fun hF => ?_)
  ·
    exact BX35_readName_b167 (N := N) E hF
  ·
    refine b_rv hF (fun _ hF => ?_)
    refine b_call E (fun _ hq => (BX35_category (bE.rf E.S) hq)) hF (fun _ hq7 D7 E7 hF => ?_)
    refine b_if hF (fun hF => ?_) (fun hF => ?_)
    ·
      exact BX35_readName_b141 (N := N) E7 hF
    ·
      exact BX35_readName_b141 (N := N) E7 hF
theorem BX35_readName {σo : fS} {q : Int × fS} {N : Nat} {s : fS} (E : bE 1 σo s) (hF : FX35_readName N s = some q) : bE 1 σo q.2 := by
  unfold FX35_readName at hF
  refine b_pI E (E.S.m1 (Nat.le_of_ble_eq_true rfl) (Nat.le_of_ble_eq_true rfl)) hF (fun _ D1 E1 hF => ?_)
  refine b_pI E1 (E1.S.m1 (Nat.le_of_ble_eq_true rfl) (Nat.le_of_ble_eq_true rfl)) hF (fun _ D2 E2 hF => ?_)
  refine b_if hF (fun hF => ?_) (fun hF => ?_)
  ·
    exact BX35_readName_b106 (N := N) E2 hF
  ·
    refine b_rv hF (fun _ hF => ?_)
    refine b_call E2 (fun _ hq => (BX35_category (bE.rf E2.S) hq)) hF (fun _ hq9 D9 E9 hF => ?_)
    refine b_if hF (fun hF => ?_) (fun hF => ?_)
    ·
      exact BX35_readName_b106 (N := N) E9 hF
    ·
      refine b_pI E9 (E9.S.m1 (Nat.le_of_ble_eq_true rfl) (Nat.le_of_ble_eq_true rfl)) hF (fun _ D10 E10 hF => ?_)
      exact BX35_readName_b44 (N := N) E10 hF
theorem BX35_read_b92 {σo : fS} {q : Int × fS} {N : Nat} {s : fS} {s0 : Int} (E : bE 1 σo s) (hF : FX35_read_b92 N s0 s = some q) : bE 1 σo q.2 := by
  unfold FX35_read_b92 at hF
  exact b_ret E hF
theorem BX35_read_b182 {σo : fS} {q : Int × fS} {N : Nat} {K0 : fS → Option (Int × fS)} (hk0 : ∀ {s : fS} , bE 1 σo s → K0 s = some q → bE 1 σo q.2) {s : fS} (E : bE 1 σo s) (hF : FX35_read_b182 N K0 s = some q) : bE 1 σo q.2 := by
  unfold FX35_read_b182 at hF
  exact hk0 E hF
theorem BX35_read_b20 {σo : fS} {q : Int × fS} {N : Nat} {K0 : fS → Option (Int × fS)} (hk0 : ∀ {s : fS} , bE 1 σo s → K0 s = some q → bE 1 σo q.2) {s : fS} (E : bE 1 σo s) (hF : FX35_read_b20 N K0 s = some q) : bE 1 σo q.2 := by
  unfold FX35_read_b20 at hF
  refine b_rv hF (fun _ hF => ?_)
  refine b_pI E (E.S.m1 (Nat.le_of_ble_eq_true rfl) (Nat.le_of_ble_eq_true rfl)) hF (fun _ D5 E5 hF => ?_)
  refine b_call E5 (fun _ hq => (BX35_category (bE.rf E5.S) hq)) hF (fun _ hq7 D7 E7 hF => ?_)
  refine b_if hF (fun hF => ?_) (fun hF => ?_)
  ·
    refine b_if hF (fun hF => ?_) (fun hF => ?_)
    ·
      refine b_if hF (fun hF => ?_) (fun hF => ?_)
      ·
        refine b_if hF (fun hF => ?_) (fun hF => ?_)
        ·
          refine b_if hF (fun hF => ?_) (fun hF => ?_)
          ·
            refine b_if hF (fun hF => ?_) (fun hF => ?_)
            ·
              refine b_if hF (fun hF => ?_) (fun hF => ?_)
              ·
                exact BX35_read_b182 (N := N) (K0 := K0) @hk0 E7 hF
              ·
                refine b_pI E7 (E7.S.m1 (Nat.le_of_ble_eq_true rfl) (Nat.le_of_ble_eq_true rfl)) hF (fun _ D8 E8 hF => ?_)
                exact b_ret E8 hF
            ·
              refine b_call E7 (fun _ hq => (BX35_fail (bE.rf E7.S) hq)) hF (fun _ hq10 D10 E10 hF => ?_)
              exact b_ret E10 hF
          ·
            refine b_pI E7 (E7.S.m1 (Nat.le_of_ble_eq_true rfl) (Nat.le_of_ble_eq_true rfl)) hF (fun _ D12 E12 hF => ?_)
            exact BX35_read_b182 (N := N) (K0 := K0) @hk0 E12 hF
        ·
          refine b_pI E7 (E7.S.m1 (Nat.le_of_ble_eq_true rfl) (Nat.le_of_ble_eq_true rfl)) hF (fun _ D13 E13 hF => ?_)
          exact b_ret E13 hF
      ·
        refine b_if hF (fun hF => ?_) (fun hF => ?_)
        ·
          exact BX35_read_b182 (N := N) (K0 := K0) @hk0 E7 hF
        ·
          refine b_pI E7 (E7.S.m1 (Nat.le_of_ble_eq_true rfl) (Nat.le_of_ble_eq_true rfl)) hF (fun _ D15 E15 hF => ?_)
          exact b_ret E15 hF
    ·
      refine b_pI E7 (E7.S.m1 (Nat.le_of_ble_eq_true rfl) (Nat.le_of_ble_eq_true rfl)) hF (fun _ D17 E17 hF => ?_)
      refine b_if hF (fun hF => ?_) (fun hF => ?_)
      ·
        exact BX35_read_b182 (N := N) (K0 := K0) @hk0 E17 hF
      ·
        refine b_if hF (fun hF => ?_) (fun hF => ?_)
        ·
          exact BX35_read_b92 (N := N) E17 hF
        ·
          exact BX35_read_b92 (N := N) E17 hF
  ·
    refine b_call E7 (fun _ hq => (BX35_readName (N := N) (bE.rf E7.S) hq)) hF (fun _ hq21 D21 E21 hF => ?_)
    exact b_ret E21 hF
theorem BX35_read_b0 {σo : fS} {q : Int × fS} {N : Nat} : ∀ {n : Nat} {s : fS} , bE 1 σo s → FX35_read_b0 N n s = some q → bE 1 σo q.2 := by
  intro n
  induction n with
  | zero => intro s  E  hF; simp [FX35_read_b0] at hF
  | succ n ih =>
    intro s  E  hF
    rw [FX35_read_b0] at hF
    refine b_if hF (fun hF => ?_) (fun hF => ?_)
    ·
      exact BX35_read_b20 (N := N) (K0 := FX35_read_b0 N n) @ih E hF
    ·
      refine b_call E (fun _ hq => (BX35_beginLine (N := N) (bE.rf E.S) hq)) hF (fun _ hq4 D4 E4 hF => ?_)
      refine b_if hF (fun hF => ?_) (fun hF => ?_)
      ·
        exact BX35_read_b20 (N := N) (K0 := FX35_read_b0 N n) @ih E4 hF
      ·
        exact b_ret E4 hF
theorem BX35_read {σo : fS} {q : Int × fS} {N : Nat} {s : fS} (E : bE 1 σo s) (hF : FX35_read N s = some q) : bE 1 σo q.2 := by
  unfold FX35_read at hF
  exact BX35_read_b0 (N := N) E hF
theorem BX35_get {σo : fS} {q : Int × fS} {N : Nat} {s : fS} (E : bE 1 σo s) (hF : FX35_get N s = some q) : bE 1 σo q.2 := by
  unfold FX35_get at hF
  refine b_if hF (fun hF => ?_) (fun hF => ?_)
  ·
    refine b_if hF (fun hF => ?_) (fun hF => ?_)
    ·
      refine b_call E (fun _ hq => (BX35_read (N := N) (bE.rf E.S) hq)) hF (fun _ hq4 D4 E4 hF => ?_)
      exact b_ret E4 hF
    ·
      refine b_pI E (E.S.m1 (Nat.le_of_ble_eq_true rfl) (Nat.le_of_ble_eq_true rfl)) hF (fun _ D6 E6 hF => ?_)
      refine b_rv hF (fun _ hF => ?_)
      exact b_ret E6 hF
  ·
    exact b_ret E hF
theorem BX35_need_b16 {σo : fS} {q : Int × fS} {N : Nat} {s : fS} {l1 : Int} (E : bE 1 σo s) (hF : FX35_need_b16 N l1 s = some q) : bE 1 σo q.2 := by
  unfold FX35_need_b16 at hF
  exact b_ret E hF
theorem BX35_need {σo : fS} {q : Int × fS} {N : Nat} {s : fS} (E : bE 1 σo s) (hF : FX35_need N s = some q) : bE 1 σo q.2 := by
  unfold FX35_need at hF
  refine b_call E (fun _ hq => (BX35_get (N := N) (bE.rf E.S) hq)) hF (fun _ hq2 D2 E2 hF => ?_)
  refine b_if hF (fun hF => ?_) (fun hF => ?_)
  ·
    exact BX35_need_b16 (N := N) E2 hF
  ·
    refine b_call E2 (fun _ hq => (BX35_fail (bE.rf E2.S) hq)) hF (fun _ hq4 D4 E4 hF => ?_)
    exact BX35_need_b16 (N := N) E4 hF
theorem BX35_isMarked_b12 {σo : fS} {q : Int × fS} {s : fS} {s0 : Int} (E : bE 1 σo s) (hF : FX35_isMarked_b12 s0 s = some q) : bE 1 σo q.2 := by
  unfold FX35_isMarked_b12 at hF
  exact b_z E hF
theorem BX35_isMarked {σo : fS} {q : Int × fS} {s : fS} {p0 : Int} (E : bE 1 σo s) (hF : FX35_isMarked p0 s = some q) : bE 1 σo q.2 := by
  unfold FX35_isMarked at hF
  refine b_if hF (fun hF => ?_) (fun hF => ?_)
  ·
    exact BX35_isMarked_b12 E hF
  ·
    exact BX35_isMarked_b12 E hF
theorem BX35_idOf_b28 {σo : fS} {q : Int × fS} {s : fS} {s0 : Int} (E : bE 1 σo s) (hF : FX35_idOf_b28 s0 s = some q) : bE 1 σo q.2 := by
  unfold FX35_idOf_b28 at hF
  exact b_ret E hF
theorem BX35_idOf {σo : fS} {q : Int × fS} {s : fS} {p0 : Int} (E : bE 1 σo s) (hF : FX35_idOf p0 s = some q) : bE 1 σo q.2 := by
  unfold FX35_idOf at hF
  refine b_call E (fun _ hq => (BX35_bare (bE.rf E.S) hq)) hF (fun _ hq1 D1 E1 hF => ?_)
  refine b_if hF (fun hF => ?_) (fun hF => ?_)
  ·
    exact BX35_idOf_b28 E1 hF
  ·
    exact BX35_idOf_b28 E1 hF
theorem BX35_meaning_b35 {σo : fS} {q : Int × fS} {s : fS} {s0 : Int} (E : bE 1 σo s) (hF : FX35_meaning_b35 s0 s = some q) : bE 1 σo q.2 := by
  unfold FX35_meaning_b35 at hF
  exact b_ret E hF
theorem BX35_meaning {σo : fS} {q : Int × fS} {s : fS} {p0 : Int} (E : bE 1 σo s) (hF : FX35_meaning p0 s = some q) : bE 1 σo q.2 := by
  unfold FX35_meaning at hF
  refine b_call E (fun _ hq => (BX35_isMarked (bE.rf E.S) hq)) hF (fun _ hq1 D1 E1 hF => ?_)
  refine b_if hF (fun hF => ?_) (fun hF => ?_)
  ·
    refine b_call E1 (fun _ hq => (BX35_isCharacter (bE.rf E1.S) hq)) hF (fun _ hq2 D2 E2 hF => ?_)
    refine b_if hF (fun hF => ?_) (fun hF => ?_)
    ·
      refine b_call E2 (fun _ hq => (BX35_idOf (bE.rf E2.S) hq)) hF (fun _ hq4 D4 E4 hF => ?_)
      refine b_call E4 (fun _ hq => (BX35_now (bE.rf E4.S) hq)) hF (fun _ hq6 D6 E6 hF => ?_)
      exact BX35_meaning_b35 E6 hF
    ·
      exact BX35_meaning_b35 E2 hF
  ·
    exact b_ret E1 hF
theorem BX35_isCondition_b25 {σo : fS} {q : Int × fS} {s : fS} {s0 : Int} (E : bE 1 σo s) (hF : FX35_isCondition_b25 s0 s = some q) : bE 1 σo q.2 := by
  unfold FX35_isCondition_b25 at hF
  exact b_z E hF
theorem BX35_isCondition_b24 {σo : fS} {q : Int × fS} {s : fS} (E : bE 1 σo s) (hF : FX35_isCondition_b24 s = some q) : bE 1 σo q.2 := by
  unfold FX35_isCondition_b24 at hF
  exact BX35_isCondition_b25 E hF
theorem BX35_isCondition {σo : fS} {q : Int × fS} {s : fS} {p0 : Int} (E : bE 1 σo s) (hF : FX35_isCondition p0 s = some q) : bE 1 σo q.2 := by
  unfold FX35_isCondition at hF
  refine b_call E (fun _ hq => (BX35_meaning (bE.rf E.S) hq)) hF (fun _ hq2 D2 E2 hF => ?_)
  refine b_if hF (fun hF => ?_) (fun hF => ?_)
  ·
    exact BX35_isCondition_b24 E2 hF
  ·
    refine b_if hF (fun hF => ?_) (fun hF => ?_)
    ·
      exact BX35_isCondition_b24 E2 hF
    ·
      exact BX35_isCondition_b25 E2 hF
theorem BX35_means_b23 {σo : fS} {q : Int × fS} {s : fS} {s0 : Int} (E : bE 1 σo s) (hF : FX35_means_b23 s0 s = some q) : bE 1 σo q.2 := by
  unfold FX35_means_b23 at hF
  exact b_z E hF
theorem BX35_means_b22 {σo : fS} {q : Int × fS} {s : fS} (E : bE 1 σo s) (hF : FX35_means_b22 s = some q) : bE 1 σo q.2 := by
  unfold FX35_means_b22 at hF
  exact BX35_means_b23 E hF
theorem BX35_means {σo : fS} {q : Int × fS} {s : fS} {p0 : Int} {p1 : Int} (E : bE 1 σo s) (hF : FX35_means p0 p1 s = some q) : bE 1 σo q.2 := by
  unfold FX35_means at hF
  refine b_if hF (fun hF => ?_) (fun hF => ?_)
  ·
    exact BX35_means_b22 E hF
  ·
    refine b_call E (fun _ hq => (BX35_meaning (bE.rf E.S) hq)) hF (fun _ hq2 D2 E2 hF => ?_)
    refine b_if hF (fun hF => ?_) (fun hF => ?_)
    ·
      exact BX35_means_b22 E2 hF
    ·
      exact BX35_means_b23 E2 hF
theorem BX35_branch_b76 {σo : fS} {q : Unit × fS} {N : Nat} {s : fS} (E : bE 1 σo s) (hF : FX35_branch_b76 N s = some q) : bE 1 σo q.2 := by
  unfold FX35_branch_b76 at hF
  refine b_call E (fun _ hq => (BX35_fail (bE.rf E.S) hq)) hF (fun _ hq2 D2 E2 hF => ?_)
  exact b_ret E2 hF
theorem BX35_branch_b147 {σo : fS} {q : Unit × fS} {N : Nat} {K86 : Int → Int → fS → Option (Unit × fS)} (hk86 : ∀ {s : fS} {l2 : Int} {l4 : Int}, bE 1 σo s → K86 l2 l4 s = some q → bE 1 σo q.2) {s : fS} {l2 : Int} {s0 : Int} (E : bE 1 σo s) (hF : FX35_branch_b147 N K86 l2 s0 s = some q) : bE 1 σo q.2 := by
  unfold FX35_branch_b147 at hF
  exact hk86 E hF
theorem BX35_branch_b152 {σo : fS} {q : Unit × fS} {N : Nat} {s : fS} (E : bE 1 σo s) (hF : FX35_branch_b152 N s = some q) : bE 1 σo q.2 := by
  unfold FX35_branch_b152 at hF
  refine b_pI E (E.S.m1 (Nat.le_of_ble_eq_true rfl) (Nat.le_of_ble_eq_true rfl)) hF (fun _ D2 E2 hF => ?_)
  exact b_ret E2 hF
theorem BX35_branch_b86 {σo : fS} {q : Unit × fS} {N : Nat} : ∀ {n : Nat} {s : fS} {l2 : Int} {l4 : Int}, bE 1 σo s → FX35_branch_b86 N n l2 l4 s = some q → bE 1 σo q.2 := by
  intro n
  induction n with
  | zero => intro s l2 l4 E  hF; simp [FX35_branch_b86] at hF
  | succ n ih =>
    intro s l2 l4 E  hF
    rw [FX35_branch_b86] at hF
    refine b_if hF (fun hF => ?_) (fun hF => ?_)
    ·
      exact BX35_branch_b152 (N := N) E hF
    ·
      refine b_if hF (fun hF => ?_) (fun hF => ?_)
      ·
        exact BX35_branch_b152 (N := N) E hF
      ·
        refine b_call E (fun _ hq => (BX35_need (N := N) (bE.rf E.S) hq)) hF (fun _ hq2 D2 E2 hF => ?_)
        refine b_if hF (fun hF => ?_) (fun hF => ?_)
        ·
          refine b_call E2 (fun _ hq => (BX35_isCondition (bE.rf E2.S) hq)) hF (fun _ hq5 D5 E5 hF => ?_)
          refine b_if hF (fun hF => ?_) (fun hF => ?_)
          ·
            refine b_call E5 (fun _ hq => (BX35_means (bE.rf E5.S) hq)) hF (fun _ hq7 D7 E7 hF => ?_)
            refine b_if hF (fun hF => ?_) (fun hF => ?_)
            ·
              exact BX35_branch_b147 (N := N) (K86 := FX35_branch_b86 N n) @ih E7 hF
            ·
              exact BX35_branch_b147 (N := N) (K86 := FX35_branch_b86 N n) @ih E7 hF
          ·
            exact BX35_branch_b147 (N := N) (K86 := FX35_branch_b86 N n) @ih E5 hF
        ·
          exact b_ret E2 hF
theorem BX35_branch_b83 {σo : fS} {q : Unit × fS} {N : Nat} {s : fS} {l2 : Int} (E : bE 1 σo s) (hF : FX35_branch_b83 N l2 s = some q) : bE 1 σo q.2 := by
  unfold FX35_branch_b83 at hF
  exact BX35_branch_b86 (N := N) E hF
theorem BX35_branch_b61 {σo : fS} {q : Unit × fS} {N : Nat} {s : fS} {l2 : Int} {l3 : Int} (E : bE 1 σo s) (hF : FX35_branch_b61 N l2 l3 s = some q) : bE 1 σo q.2 := by
  unfold FX35_branch_b61 at hF
  refine b_if hF (fun hF => ?_) (fun hF => ?_)
  ·
    exact BX35_branch_b83 (N := N) E hF
  ·
    refine b_rv hF (fun _ hF => ?_)
    refine b_if hF (fun hF => ?_) (fun hF => ?_)
    ·
      exact BX35_branch_b83 (N := N) E hF
    ·
      exact BX35_branch_b76 (N := N) E hF
theorem BX35_branch_b34 {σo : fS} {q : Unit × fS} {N : Nat} {s : fS} {l2 : Int} (E : bE 1 σo s) (hF : FX35_branch_b34 N l2 s = some q) : bE 1 σo q.2 := by
  unfold FX35_branch_b34 at hF
  refine b_if hF (fun hF => ?_) (fun hF => ?_)
  ·
    exact BX35_branch_b76 (N := N) E hF
  ·
    refine b_if hF (fun hF => ?_) (fun hF => ?_)
    ·
      exact BX35_branch_b61 (N := N) E hF
    ·
      refine b_rv hF (fun _ hF => ?_)
      refine b_if hF (fun hF => ?_) (fun hF => ?_)
      ·
        exact BX35_branch_b76 (N := N) E hF
      ·
        exact BX35_branch_b61 (N := N) E hF
theorem BX35_branch {σo : fS} {q : Unit × fS} {N : Nat} {s : fS} {p0 : Int} {p1 : Int} (E : bE 1 σo s) (hF : FX35_branch N p0 p1 s = some q) : bE 1 σo q.2 := by
  unfold FX35_branch at hF
  refine b_if hF (fun hF => ?_) (fun hF => ?_)
  ·
    exact BX35_branch_b34 (N := N) E hF
  ·
    refine b_rv hF (fun _ hF => ?_)
    refine b_if hF (fun hF => ?_) (fun hF => ?_)
    ·
      exact BX35_branch_b34 (N := N) E hF
    ·
      refine b_call E (fun _ hq => (BX35_put (bE.rf E.S) hq)) hF (fun _ hq6 D6 E6 hF => ?_)
      refine b_call E6 (fun _ hq => (BX35_put (bE.rf E6.S) hq)) hF (fun _ hq8 D8 E8 hF => ?_)
      exact b_ret E8 hF
theorem BX35_isSame_b16 {σo : fS} {q : Int × fS} {s : fS} {s0 : Int} (E : bE 1 σo s) (hF : FX35_isSame_b16 s0 s = some q) : bE 1 σo q.2 := by
  unfold FX35_isSame_b16 at hF
  exact b_z E hF
theorem BX35_isSame {σo : fS} {q : Int × fS} {s : fS} {p0 : Int} {p1 : Int} (E : bE 1 σo s) (hF : FX35_isSame p0 p1 s = some q) : bE 1 σo q.2 := by
  unfold FX35_isSame at hF
  refine b_call E (fun _ hq => (BX35_bare (bE.rf E.S) hq)) hF (fun _ hq1 D1 E1 hF => ?_)
  refine b_call E1 (fun _ hq => (BX35_bare (bE.rf E1.S) hq)) hF (fun _ hq2 D2 E2 hF => ?_)
  refine b_if hF (fun hF => ?_) (fun hF => ?_)
  ·
    exact BX35_isSame_b16 E2 hF
  ·
    exact BX35_isSame_b16 E2 hF
theorem BX35_takeOne_b158 {σo : fS} {q : Unit × fS} {N : Nat} {K86 : Int → Int → Int → Int → fS → Option (Unit × fS)} (hk86 : ∀ {s : fS} {l1 : Int} {l3 : Int} {l4 : Int} {l5 : Int}, bE 1 σo s → K86 l1 l3 l4 l5 s = some q → bE 1 σo q.2) {s : fS} {l1 : Int} {l2 : Int} {l3 : Int} {l5 : Int} {s0 : Int} (E : bE 1 σo s) (hF : FX35_takeOne_b158 N K86 l1 l2 l3 l5 s0 s = some q) : bE 1 σo q.2 := by
  unfold FX35_takeOne_b158 at hF
  refine b_if hF (fun hF => ?_) (fun hF => ?_)
  ·
    exact hk86 E hF
  ·
    refine b_qI E (E.S.m1 (Nat.le_of_ble_eq_true rfl) (Nat.le_of_ble_eq_true rfl)) hF (fun _ D2 E2 hF => ?_)
    exact hk86 E2 hF
theorem BX35_takeOne_b118 {σo : fS} {q : Unit × fS} {N : Nat} {K86 : Int → Int → Int → Int → fS → Option (Unit × fS)} (hk86 : ∀ {s : fS} {l1 : Int} {l3 : Int} {l4 : Int} {l5 : Int}, bE 1 σo s → K86 l1 l3 l4 l5 s = some q → bE 1 σo q.2) {s : fS} {l1 : Int} {l2 : Int} {l3 : Int} {l4 : Int} {l5 : Int} (E : bE 1 σo s) (hF : FX35_takeOne_b118 N K86 l1 l2 l3 l4 l5 s = some q) : bE 1 σo q.2 := by
  unfold FX35_takeOne_b118 at hF
  refine b_if hF (fun hF => ?_) (fun hF => ?_)
  ·
    refine b_call E (fun _ hq => (BX35_isOf (bE.rf E.S) hq)) hF (fun _ hq2 D2 E2 hF => ?_)
    refine b_if hF (fun hF => ?_) (fun hF => ?_)
    ·
      refine b_call E2 (fun _ hq => (BX35_isOf (bE.rf E2.S) hq)) hF (fun _ hq3 D3 E3 hF => ?_)
      refine b_if hF (fun hF => ?_) (fun hF => ?_)
      ·
        exact BX35_takeOne_b158 (N := N) (K86 := K86) @hk86 E3 hF
      ·
        exact BX35_takeOne_b158 (N := N) (K86 := K86) @hk86 E3 hF
    ·
      exact BX35_takeOne_b158 (N := N) (K86 := K86) @hk86 E2 hF
  ·
    exact b_ret E hF
theorem BX35_takeOne_b86 {σo : fS} {q : Unit × fS} {N : Nat} : ∀ {n : Nat} {s : fS} {l1 : Int} {l3 : Int} {l4 : Int} {l5 : Int}, bE 1 σo s → FX35_takeOne_b86 N n l1 l3 l4 l5 s = some q → bE 1 σo q.2 := by
  intro n
  induction n with
  | zero => intro s l1 l3 l4 l5 E  hF; simp [FX35_takeOne_b86] at hF
  | succ n ih =>
    intro s l1 l3 l4 l5 E  hF
    rw [FX35_takeOne_b86] at hF
    refine b_if hF (fun hF => ?_) (fun hF => ?_)
    ·
      refine b_qI E (E.S.m1 (Nat.le_of_ble_eq_true rfl) (Nat.le_of_ble_eq_true rfl)) hF (fun _ D2 E2 hF => ?_)
      exact b_ret E2 hF
    ·
      refine b_call E (fun _ hq => (BX35_need (N := N) (bE.rf E.S) hq)) hF (fun _ hq4 D4 E4 hF => ?_)
      refine b_if hF (fun hF => ?_) (fun hF => ?_)
      ·
        exact BX35_takeOne_b118 (N := N) (K86 := FX35_takeOne_b86 N n) @ih E4 hF
      ·
        refine b_if hF (fun hF => ?_) (fun hF => ?_)
        ·
          exact BX35_takeOne_b118 (N := N) (K86 := FX35_takeOne_b86 N n) @ih E4 hF
        ·
          refine b_call E4 (fun _ hq => (BX35_fail (bE.rf E4.S) hq)) hF (fun _ hq7 D7 E7 hF => ?_)
          exact BX35_takeOne_b118 (N := N) (K86 := FX35_takeOne_b86 N n) @ih E7 hF
theorem BX35_takeOne_b5 {σo : fS} {q : Unit × fS} {N : Nat} : ∀ {n : Nat} {s : fS} {l1 : Int} {l2 : Int}, bE 1 σo s → FX35_takeOne_b5 N n l1 l2 s = some q → bE 1 σo q.2 := by
  intro n
  induction n with
  | zero => intro s l1 l2 E  hF; simp [FX35_takeOne_b5] at hF
  | succ n ih =>
    intro s l1 l2 E  hF
    rw [FX35_takeOne_b5] at hF
    refine b_call E (fun _ hq => (BX35_isOf (bE.rf E.S) hq)) hF (fun _ hq1 D1 E1 hF => ?_)
    refine b_if hF (fun hF => ?_) (fun hF => ?_)
    ·
      refine b_qI E1 (E1.S.m1 (Nat.le_of_ble_eq_true rfl) (Nat.le_of_ble_eq_true rfl)) hF (fun _ D3 E3 hF => ?_)
      refine b_if hF (fun hF => ?_) (fun hF => ?_)
      ·
        refine b_call E3 (fun _ hq => (BX35_isOf (bE.rf E3.S) hq)) hF (fun _ hq5 D5 E5 hF => ?_)
        refine b_if hF (fun hF => ?_) (fun hF => ?_)
        ·
          refine b_call E5 (fun _ hq => (BX35_isOf (bE.rf E5.S) hq)) hF (fun _ hq6 D6 E6 hF => ?_)
          refine b_if hF (fun hF => ?_) (fun hF => ?_)
          ·
            exact BX35_takeOne_b86 (N := N) E6 hF
          ·
            refine b_qI E6 (E6.S.m1 (Nat.le_of_ble_eq_true rfl) (Nat.le_of_ble_eq_true rfl)) hF (fun _ D8 E8 hF => ?_)
            refine b_qI E8 (E8.S.m1 (Nat.le_of_ble_eq_true rfl) (Nat.le_of_ble_eq_true rfl)) hF (fun _ D10 E10 hF => ?_)
            exact b_ret E10 hF
        ·
          refine b_call E5 (fun _ hq => (BX35_fail (bE.rf E5.S) hq)) hF (fun _ hq12 D12 E12 hF => ?_)
          exact b_ret E12 hF
      ·
        exact b_ret E3 hF
    ·
      refine b_call E1 (fun _ hq => (BX35_need (N := N) (bE.rf E1.S) hq)) hF (fun _ hq14 D14 E14 hF => ?_)
      exact ih E14 hF
theorem BX35_takeOne {σo : fS} {q : Unit × fS} {N : Nat} {s : fS} {p0 : Int} (E : bE 1 σo s) (hF : FX35_takeOne N p0 s = some q) : bE 1 σo q.2 := by
  unfold FX35_takeOne at hF
  refine b_call E (fun _ hq => (BX35_need (N := N) (bE.rf E.S) hq)) hF (fun _ hq2 D2 E2 hF => ?_)
  exact BX35_takeOne_b5 (N := N) E2 hF
theorem BX35_takeUpTo_b207 {σo : fS} {q : Unit × fS} {N : Nat} {K14 : Int → Int → Int → Int → Int → Int → fS → Option (Unit × fS)} (hk14 : ∀ {s : fS} {l1 : Int} {l2 : Int} {l4 : Int} {l5 : Int} {l6 : Int} {l7 : Int}, bE 1 σo s → K14 l1 l2 l4 l5 l6 l7 s = some q → bE 1 σo q.2) {s : fS} {l1 : Int} {l2 : Int} {l4 : Int} {l5 : Int} {l6 : Int} {l7 : Int} (E : bE 1 σo s) (hF : FX35_takeUpTo_b207 N K14 l1 l2 l4 l5 l6 l7 s = some q) : bE 1 σo q.2 := by
  unfold FX35_takeUpTo_b207 at hF
  exact hk14 E hF
theorem BX35_takeUpTo_b155 {σo : fS} {q : Unit × fS} {N : Nat} {K14 : Int → Int → Int → Int → Int → Int → fS → Option (Unit × fS)} (hk14 : ∀ {s : fS} {l1 : Int} {l2 : Int} {l4 : Int} {l5 : Int} {l6 : Int} {l7 : Int}, bE 1 σo s → K14 l1 l2 l4 l5 l6 l7 s = some q → bE 1 σo q.2) : ∀ {n : Nat} {s : fS} {l1 : Int} {l2 : Int} {l4 : Int} {l5 : Int} {l6 : Int} {l7 : Int} {l9 : Int}, bE 1 σo s → FX35_takeUpTo_b155 N K14 n l1 l2 l4 l5 l6 l7 l9 s = some q → bE 1 σo q.2 := by
  intro n
  induction n with
  | zero => intro s l1 l2 l4 l5 l6 l7 l9 E  hF; simp [FX35_takeUpTo_b155] at hF
  | succ n ih =>
    intro s l1 l2 l4 l5 l6 l7 l9 E  hF
    rw [FX35_takeUpTo_b155] at hF
    refine b_if hF (fun hF => ?_) (fun hF => ?_)
    ·
      exact BX35_takeUpTo_b207 (N := N) (K14 := K14) @hk14 E hF
    ·
      refine b_if hF (fun hF => ?_) (fun hF => ?_)
      ·
        exact BX35_takeUpTo_b207 (N := N) (K14 := K14) @hk14 E hF
      ·
        refine b_rv hF (fun _ hF => ?_)
        refine b_rv hF (fun _ hF => ?_)
        refine b_call E (fun _ hq => (BX35_isSame (bE.rf E.S) hq)) hF (fun _ hq6 D6 E6 hF => ?_)
        exact ih E6 hF
theorem BX35_takeUpTo_b150 {σo : fS} {q : Unit × fS} {N : Nat} {K14 : Int → Int → Int → Int → Int → Int → fS → Option (Unit × fS)} (hk14 : ∀ {s : fS} {l1 : Int} {l2 : Int} {l4 : Int} {l5 : Int} {l6 : Int} {l7 : Int}, bE 1 σo s → K14 l1 l2 l4 l5 l6 l7 s = some q → bE 1 σo q.2) {s : fS} {l1 : Int} {l2 : Int} {l4 : Int} {l5 : Int} {l6 : Int} {s0 : Int} (E : bE 1 σo s) (hF : FX35_takeUpTo_b150 N K14 l1 l2 l4 l5 l6 s0 s = some q) : bE 1 σo q.2 := by
  unfold FX35_takeUpTo_b150 at hF
  exact BX35_takeUpTo_b155 (N := N) (K14 := K14) @hk14 E hF
theorem BX35_takeUpTo_b149 {σo : fS} {q : Unit × fS} {N : Nat} {K14 : Int → Int → Int → Int → Int → Int → fS → Option (Unit × fS)} (hk14 : ∀ {s : fS} {l1 : Int} {l2 : Int} {l4 : Int} {l5 : Int} {l6 : Int} {l7 : Int}, bE 1 σo s → K14 l1 l2 l4 l5 l6 l7 s = some q → bE 1 σo q.2) {s : fS} {l1 : Int} {l2 : Int} {l4 : Int} {l5 : Int} {l6 : Int} (E : bE 1 σo s) (hF : FX35_takeUpTo_b149 N K14 l1 l2 l4 l5 l6 s = some q) : bE 1 σo q.2 := by
  unfold FX35_takeUpTo_b149 at hF
  exact BX35_takeUpTo_b150 (N := N) (K14 := K14) @hk14 E hF
theorem BX35_takeUpTo_b113 {σo : fS} {q : Unit × fS} {N : Nat} {K14 : Int → Int → Int → Int → Int → Int → fS → Option (Unit × fS)} (hk14 : ∀ {s : fS} {l1 : Int} {l2 : Int} {l4 : Int} {l5 : Int} {l6 : Int} {l7 : Int}, bE 1 σo s → K14 l1 l2 l4 l5 l6 l7 s = some q → bE 1 σo q.2) {s : fS} {l1 : Int} {l2 : Int} {l4 : Int} {l5 : Int} {l8 : Int} {s0 : Int} (E : bE 1 σo s) (hF : FX35_takeUpTo_b113 N K14 l1 l2 l4 l5 l8 s0 s = some q) : bE 1 σo q.2 := by
  unfold FX35_takeUpTo_b113 at hF
  refine b_qI E (E.S.m1 (Nat.le_of_ble_eq_true rfl) (Nat.le_of_ble_eq_true rfl)) hF (fun _ D2 E2 hF => ?_)
  refine b_if hF (fun hF => ?_) (fun hF => ?_)
  ·
    exact BX35_takeUpTo_b149 (N := N) (K14 := K14) @hk14 E2 hF
  ·
    refine b_if hF (fun hF => ?_) (fun hF => ?_)
    ·
      exact BX35_takeUpTo_b149 (N := N) (K14 := K14) @hk14 E2 hF
    ·
      exact BX35_takeUpTo_b150 (N := N) (K14 := K14) @hk14 E2 hF
theorem BX35_takeUpTo_b71 {σo : fS} {q : Unit × fS} {N : Nat} {K14 : Int → Int → Int → Int → Int → Int → fS → Option (Unit × fS)} (hk14 : ∀ {s : fS} {l1 : Int} {l2 : Int} {l4 : Int} {l5 : Int} {l6 : Int} {l7 : Int}, bE 1 σo s → K14 l1 l2 l4 l5 l6 l7 s = some q → bE 1 σo q.2) {s : fS} {l1 : Int} {l2 : Int} {l4 : Int} {l5 : Int} {l6 : Int} {l8 : Int} (E : bE 1 σo s) (hF : FX35_takeUpTo_b71 N K14 l1 l2 l4 l5 l6 l8 s = some q) : bE 1 σo q.2 := by
  unfold FX35_takeUpTo_b71 at hF
  refine b_if hF (fun hF => ?_) (fun hF => ?_)
  ·
    refine b_call E (fun _ hq => (BX35_isOf (bE.rf E.S) hq)) hF (fun _ hq2 D2 E2 hF => ?_)
    refine b_if hF (fun hF => ?_) (fun hF => ?_)
    ·
      refine b_call E2 (fun _ hq => (BX35_isOf (bE.rf E2.S) hq)) hF (fun _ hq3 D3 E3 hF => ?_)
      refine b_if hF (fun hF => ?_) (fun hF => ?_)
      ·
        exact BX35_takeUpTo_b113 (N := N) (K14 := K14) @hk14 E3 hF
      ·
        exact BX35_takeUpTo_b113 (N := N) (K14 := K14) @hk14 E3 hF
    ·
      exact BX35_takeUpTo_b113 (N := N) (K14 := K14) @hk14 E2 hF
  ·
    exact b_ret E hF
theorem BX35_takeUpTo_b45 {σo : fS} {q : Unit × fS} {N : Nat} {K14 : Int → Int → Int → Int → Int → Int → fS → Option (Unit × fS)} (hk14 : ∀ {s : fS} {l1 : Int} {l2 : Int} {l4 : Int} {l5 : Int} {l6 : Int} {l7 : Int}, bE 1 σo s → K14 l1 l2 l4 l5 l6 l7 s = some q → bE 1 σo q.2) {s : fS} {l1 : Int} {l2 : Int} {l4 : Int} {l5 : Int} {l6 : Int} {l8 : Int} (E : bE 1 σo s) (hF : FX35_takeUpTo_b45 N K14 l1 l2 l4 l5 l6 l8 s = some q) : bE 1 σo q.2 := by
  unfold FX35_takeUpTo_b45 at hF
  refine b_if hF (fun hF => ?_) (fun hF => ?_)
  ·
    exact BX35_takeUpTo_b71 (N := N) (K14 := K14) @hk14 E hF
  ·
    refine b_call E (fun _ hq => (BX35_isOf (bE.rf E.S) hq)) hF (fun _ hq2 D2 E2 hF => ?_)
    refine b_if hF (fun hF => ?_) (fun hF => ?_)
    ·
      exact BX35_takeUpTo_b71 (N := N) (K14 := K14) @hk14 E2 hF
    ·
      refine b_if hF (fun hF => ?_) (fun hF => ?_)
      ·
        exact BX35_takeUpTo_b71 (N := N) (K14 := K14) @hk14 E2 hF
      ·
        refine b_call E2 (fun _ hq => (BX35_fail (bE.rf E2.S) hq)) hF (fun _ hq4 D4 E4 hF => ?_)
        exact BX35_takeUpTo_b71 (N := N) (K14 := K14) @hk14 E4 hF
theorem BX35_takeUpTo_b14 {σo : fS} {q : Unit × fS} {N : Nat} : ∀ {n : Nat} {s : fS} {l1 : Int} {l2 : Int} {l4 : Int} {l5 : Int} {l6 : Int} {l7 : Int}, bE 1 σo s → FX35_takeUpTo_b14 N n l1 l2 l4 l5 l6 l7 s = some q → bE 1 σo q.2 := by
  intro n
  induction n with
  | zero => intro s l1 l2 l4 l5 l6 l7 E  hF; simp [FX35_takeUpTo_b14] at hF
  | succ n ih =>
    intro s l1 l2 l4 l5 l6 l7 E  hF
    rw [FX35_takeUpTo_b14] at hF
    refine b_if hF (fun hF => ?_) (fun hF => ?_)
    ·
      refine b_qI E (E.S.m1 (Nat.le_of_ble_eq_true rfl) (Nat.le_of_ble_eq_true rfl)) hF (fun _ D2 E2 hF => ?_)
      refine b_call E2 (fun _ hq => (BX35_bareOf (N := N) (bE.rf E2.S) hq)) hF (fun _ hq4 D4 E4 hF => ?_)
      exact b_ret E4 hF
    ·
      refine b_call E (fun _ hq => (BX35_need (N := N) (bE.rf E.S) hq)) hF (fun _ hq6 D6 E6 hF => ?_)
      refine b_if hF (fun hF => ?_) (fun hF => ?_)
      ·
        exact BX35_takeUpTo_b45 (N := N) (K14 := FX35_takeUpTo_b14 N n) @ih E6 hF
      ·
        refine b_if hF (fun hF => ?_) (fun hF => ?_)
        ·
          exact BX35_takeUpTo_b45 (N := N) (K14 := FX35_takeUpTo_b14 N n) @ih E6 hF
        ·
          refine b_call E6 (fun _ hq => (BX35_fail (bE.rf E6.S) hq)) hF (fun _ hq9 D9 E9 hF => ?_)
          exact BX35_takeUpTo_b45 (N := N) (K14 := FX35_takeUpTo_b14 N n) @ih E9 hF
theorem BX35_takeUpTo {σo : fS} {q : Unit × fS} {N : Nat} {s : fS} {p0 : Int} {p1 : Int} {p2 : Int} (E : bE 1 σo s) (hF : FX35_takeUpTo N p0 p1 p2 s = some q) : bE 1 σo q.2 := by
  unfold FX35_takeUpTo at hF
  exact BX35_takeUpTo_b14 (N := N) E hF
theorem BX35_putOfBody_b15 {σo : fS} {q : Unit × fS} {s : fS} {l1 : Int} (E : bE 1 σo s) (hF : FX35_putOfBody_b15 l1 s = some q) : bE 1 σo q.2 := by
  unfold FX35_putOfBody_b15 at hF
  refine b_call E (fun _ hq => (BX35_put (bE.rf E.S) hq)) hF (fun _ hq2 D2 E2 hF => ?_)
  exact b_ret E2 hF
theorem BX35_putOfBody {σo : fS} {q : Unit × fS} {s : fS} {p0 : Int} (E : bE 1 σo s) (hF : FX35_putOfBody p0 s = some q) : bE 1 σo q.2 := by
  unfold FX35_putOfBody at hF
  refine b_if hF (fun hF => ?_) (fun hF => ?_)
  ·
    exact BX35_putOfBody_b15 E hF
  ·
    refine b_call E (fun _ hq => (BX35_fail (bE.rf E.S) hq)) hF (fun _ hq3 D3 E3 hF => ?_)
    exact BX35_putOfBody_b15 E3 hF
theorem BX35_call_b67 {σo : fS} {q : Unit × fS} {N : Nat} {K7 : Int → Int → fS → Option (Unit × fS)} (hk7 : ∀ {s : fS} {l1 : Int} {l2 : Int}, bE 1 σo s → K7 l1 l2 s = some q → bE 1 σo q.2) {s : fS} {l1 : Int} {l2 : Int} (E : bE 1 σo s) (hF : FX35_call_b67 N K7 l1 l2 s = some q) : bE 1 σo q.2 := by
  unfold FX35_call_b67 at hF
  exact hk7 E hF
theorem BX35_call_b155 {σo : fS} {q : Unit × fS} {N : Nat} {K75 : Int → Int → Int → fS → Option (Unit × fS)} (hk75 : ∀ {s : fS} {l1 : Int} {l2 : Int} {l3 : Int}, bE 1 σo s → K75 l1 l2 l3 s = some q → bE 1 σo q.2) {s : fS} {l1 : Int} {l3 : Int} {l5 : Int} (E : bE 1 σo s) (hF : FX35_call_b155 N K75 l1 l3 l5 s = some q) : bE 1 σo q.2 := by
  unfold FX35_call_b155 at hF
  exact hk75 E hF
theorem BX35_call_b131 {σo : fS} {q : Unit × fS} {N : Nat} {K75 : Int → Int → Int → fS → Option (Unit × fS)} (hk75 : ∀ {s : fS} {l1 : Int} {l2 : Int} {l3 : Int}, bE 1 σo s → K75 l1 l2 l3 s = some q → bE 1 σo q.2) {s : fS} {l1 : Int} {l3 : Int} {l4 : Int} {l5 : Int} (E : bE 1 σo s) (hF : FX35_call_b131 N K75 l1 l3 l4 l5 s = some q) : bE 1 σo q.2 := by
  unfold FX35_call_b131 at hF
  refine b_if hF (fun hF => ?_) (fun hF => ?_)
  ·
    refine b_call E (fun _ hq => (BX35_takeUpTo (N := N) (bE.rf E.S) hq)) hF (fun _ hq2 D2 E2 hF => ?_)
    exact BX35_call_b155 (N := N) (K75 := K75) @hk75 E2 hF
  ·
    refine b_call E (fun _ hq => (BX35_takeOne (N := N) (bE.rf E.S) hq)) hF (fun _ hq4 D4 E4 hF => ?_)
    exact BX35_call_b155 (N := N) (K75 := K75) @hk75 E4 hF
theorem BX35_call_b101 {σo : fS} {q : Unit × fS} {N : Nat} {K75 : Int → Int → Int → fS → Option (Unit × fS)} (hk75 : ∀ {s : fS} {l1 : Int} {l2 : Int} {l3 : Int}, bE 1 σo s → K75 l1 l2 l3 s = some q → bE 1 σo q.2) : ∀ {n : Nat} {s : fS} {l1 : Int} {l3 : Int} {l4 : Int} {l5 : Int}, bE 1 σo s → FX35_call_b101 N K75 n l1 l3 l4 l5 s = some q → bE 1 σo q.2 := by
  intro n
  induction n with
  | zero => intro s l1 l3 l4 l5 E  hF; simp [FX35_call_b101] at hF
  | succ n ih =>
    intro s l1 l3 l4 l5 E  hF
    rw [FX35_call_b101] at hF
    refine b_rv hF (fun _ hF => ?_)
    refine b_if hF (fun hF => ?_) (fun hF => ?_)
    ·
      exact BX35_call_b131 (N := N) (K75 := K75) @hk75 E hF
    ·
      refine b_rv hF (fun _ hF => ?_)
      refine b_if hF (fun hF => ?_) (fun hF => ?_)
      ·
        exact BX35_call_b131 (N := N) (K75 := K75) @hk75 E hF
      ·
        exact ih E hF
theorem BX35_call_b276 {σo : fS} {q : Unit × fS} {N : Nat} {K173 : Int → Int → fS → Option (Unit × fS)} (hk173 : ∀ {s : fS} {l1 : Int} {l3 : Int}, bE 1 σo s → K173 l1 l3 s = some q → bE 1 σo q.2) {s : fS} {l1 : Int} {l3 : Int} (E : bE 1 σo s) (hF : FX35_call_b276 N K173 l1 l3 s = some q) : bE 1 σo q.2 := by
  unfold FX35_call_b276 at hF
  exact hk173 E hF
theorem BX35_call_b240 {σo : fS} {q : Unit × fS} {N : Nat} {K173 : Int → Int → fS → Option (Unit × fS)} (hk173 : ∀ {s : fS} {l1 : Int} {l3 : Int}, bE 1 σo s → K173 l1 l3 s = some q → bE 1 σo q.2) : ∀ {n : Nat} {s : fS} {l1 : Int} {l3 : Int} {l4 : Int} {l5 : Int}, bE 1 σo s → FX35_call_b240 N K173 n l1 l3 l4 l5 s = some q → bE 1 σo q.2 := by
  intro n
  induction n with
  | zero => intro s l1 l3 l4 l5 E  hF; simp [FX35_call_b240] at hF
  | succ n ih =>
    intro s l1 l3 l4 l5 E  hF
    rw [FX35_call_b240] at hF
    refine b_if hF (fun hF => ?_) (fun hF => ?_)
    ·
      exact BX35_call_b276 (N := N) (K173 := K173) @hk173 E hF
    ·
      refine b_if hF (fun hF => ?_) (fun hF => ?_)
      ·
        exact BX35_call_b276 (N := N) (K173 := K173) @hk173 E hF
      ·
        refine b_rv hF (fun _ hF => ?_)
        refine b_call E (fun _ hq => (BX35_putOfBody (bE.rf E.S) hq)) hF (fun _ hq5 D5 E5 hF => ?_)
        exact ih E5 hF
theorem BX35_call_b282 {σo : fS} {q : Unit × fS} {N : Nat} {s : fS} (E : bE 1 σo s) (hF : FX35_call_b282 N s = some q) : bE 1 σo q.2 := by
  unfold FX35_call_b282 at hF
  exact b_ret E hF
theorem BX35_call_b173 {σo : fS} {q : Unit × fS} {N : Nat} : ∀ {n : Nat} {s : fS} {l1 : Int} {l3 : Int}, bE 1 σo s → FX35_call_b173 N n l1 l3 s = some q → bE 1 σo q.2 := by
  intro n
  induction n with
  | zero => intro s l1 l3 E  hF; simp [FX35_call_b173] at hF
  | succ n ih =>
    intro s l1 l3 E  hF
    rw [FX35_call_b173] at hF
    refine b_rv hF (fun _ hF => ?_)
    refine b_if hF (fun hF => ?_) (fun hF => ?_)
    ·
      exact BX35_call_b282 (N := N) E hF
    ·
      refine b_if hF (fun hF => ?_) (fun hF => ?_)
      ·
        exact BX35_call_b282 (N := N) E hF
      ·
        refine b_rv hF (fun _ hF => ?_)
        refine b_if hF (fun hF => ?_) (fun hF => ?_)
        ·
          refine b_rv hF (fun _ hF => ?_)
          refine b_rv hF (fun _ hF => ?_)
          exact BX35_call_b240 (N := N) (K173 := FX35_call_b173 N n) @ih E hF
        ·
          refine b_rv hF (fun _ hF => ?_)
          refine b_call E (fun _ hq => (BX35_putOfBody (bE.rf E.S) hq)) hF (fun _ hq13 D13 E13 hF => ?_)
          exact BX35_call_b276 (N := N) (K173 := FX35_call_b173 N n) @ih E13 hF
theorem BX35_call_b164 {σo : fS} {q : Unit × fS} {N : Nat} {s : fS} {l1 : Int} (E : bE 1 σo s) (hF : FX35_call_b164 N l1 s = some q) : bE 1 σo q.2 := by
  unfold FX35_call_b164 at hF
  refine b_rv hF (fun _ hF => ?_)
  exact BX35_call_b173 (N := N) E hF
theorem BX35_call_b75 {σo : fS} {q : Unit × fS} {N : Nat} : ∀ {n : Nat} {s : fS} {l1 : Int} {l2 : Int} {l3 : Int}, bE 1 σo s → FX35_call_b75 N n l1 l2 l3 s = some q → bE 1 σo q.2 := by
  intro n
  induction n with
  | zero => intro s l1 l2 l3 E  hF; simp [FX35_call_b75] at hF
  | succ n ih =>
    intro s l1 l2 l3 E  hF
    rw [FX35_call_b75] at hF
    refine b_rv hF (fun _ hF => ?_)
    refine b_if hF (fun hF => ?_) (fun hF => ?_)
    ·
      exact BX35_call_b164 (N := N) E hF
    ·
      refine b_if hF (fun hF => ?_) (fun hF => ?_)
      ·
        exact BX35_call_b164 (N := N) E hF
      ·
        exact BX35_call_b101 (N := N) (K75 := FX35_call_b75 N n) @ih E hF
theorem BX35_call_b73 {σo : fS} {q : Unit × fS} {N : Nat} {s : fS} {l1 : Int} {l2 : Int} (E : bE 1 σo s) (hF : FX35_call_b73 N l1 l2 s = some q) : bE 1 σo q.2 := by
  unfold FX35_call_b73 at hF
  exact BX35_call_b75 (N := N) E hF
theorem BX35_call_b7 {σo : fS} {q : Unit × fS} {N : Nat} : ∀ {n : Nat} {s : fS} {l1 : Int} {l2 : Int}, bE 1 σo s → FX35_call_b7 N n l1 l2 s = some q → bE 1 σo q.2 := by
  intro n
  induction n with
  | zero => intro s l1 l2 E  hF; simp [FX35_call_b7] at hF
  | succ n ih =>
    intro s l1 l2 E  hF
    rw [FX35_call_b7] at hF
    refine b_if hF (fun hF => ?_) (fun hF => ?_)
    ·
      exact BX35_call_b73 (N := N) E hF
    ·
      refine b_rv hF (fun _ hF => ?_)
      refine b_if hF (fun hF => ?_) (fun hF => ?_)
      ·
        exact BX35_call_b73 (N := N) E hF
      ·
        refine b_rv hF (fun _ hF => ?_)
        refine b_if hF (fun hF => ?_) (fun hF => ?_)
        ·
          exact BX35_call_b73 (N := N) E hF
        ·
          refine b_call E (fun _ hq => (BX35_need (N := N) (bE.rf E.S) hq)) hF (fun _ hq7 D7 E7 hF => ?_)
          refine b_if hF (fun hF => ?_) (fun hF => ?_)
          ·
            exact BX35_call_b67 (N := N) (K7 := FX35_call_b7 N n) @ih E7 hF
          ·
            refine b_rv hF (fun _ hF => ?_)
            refine b_call E7 (fun _ hq => (BX35_isSame (bE.rf E7.S) hq)) hF (fun _ hq12 D12 E12 hF => ?_)
            refine b_if hF (fun hF => ?_) (fun hF => ?_)
            ·
              exact BX35_call_b67 (N := N) (K7 := FX35_call_b7 N n) @ih E12 hF
            ·
              refine b_call E12 (fun _ hq => (BX35_fail (bE.rf E12.S) hq)) hF (fun _ hq14 D14 E14 hF => ?_)
              exact BX35_call_b67 (N := N) (K7 := FX35_call_b7 N n) @ih E14 hF
theorem BX35_call {σo : fS} {q : Unit × fS} {N : Nat} {s : fS} {p0 : Int} (E : bE 1 σo s) (hF : FX35_call N p0 s = some q) : bE 1 σo q.2 := by
  unfold FX35_call at hF
  refine b_rv hF (fun _ hF => ?_)
  exact BX35_call_b7 (N := N) E hF
theorem BX35_metrics {σo : fS} {q : Nat × fS} {s : fS} {p0 : Int} (E : bE 1 σo s) (hF : FX35_metrics p0 s = some q) : bE 1 σo q.2 ∧ bO 1 q.2 q.1 := by
  unfold FX35_metrics at hF
  refine b_rv hF (fun _ hF => ?_)
  refine b_rO E (E.S.m1 (Nat.le_of_ble_eq_true rfl) (Nat.le_of_ble_eq_true rfl)) hF (fun _ o4 hF => ?_)
  exact ⟨b_ret E hF, by cases hF; exact o4⟩
theorem BX40_half {σo : fS} {q : Int × fS} {s : fS} {p0 : Nat} {p1 : Int} (E : bE 1 σo s) (op0 : bO 1 s p0) (hF : FX40_half p0 p1 s = some q) : bE 1 σo q.2 := by
  unfold FX40_half at hF
  refine b_KA hF (fun hF => ?_)
  refine b_rv hF (fun _ hF => ?_)
  refine b_KA hF (fun hF => ?_)
  refine b_rv hF (fun _ hF => ?_)
  exact b_ret E hF
theorem BX40_words_b40 {σo : fS} {q : Int × fS} {s : fS} {s0 : Int} (E : bE 1 σo s) (hF : FX40_words_b40 s0 s = some q) : bE 1 σo q.2 := by
  unfold FX40_words_b40 at hF
  exact b_ret E hF
theorem BX40_words {σo : fS} {q : Int × fS} {s : fS} {p0 : Nat} {p1 : Int} (E : bE 1 σo s) (op0 : bO 1 s p0) (hF : FX40_words p0 p1 s = some q) : bE 1 σo q.2 := by
  unfold FX40_words at hF
  refine b_if hF (fun hF => ?_) (fun hF => ?_)
  ·
    refine b_if hF (fun hF => ?_) (fun hF => ?_)
    ·
      refine b_call E (fun _ hq => (BX40_half (bE.rf E.S) op0 hq)) hF (fun _ hq1 D1 E1 hF => ?_)
      exact BX40_words_b40 E1 hF
    ·
      refine b_call E (fun _ hq => (BX40_half (bE.rf E.S) op0 hq)) hF (fun _ hq2 D2 E2 hF => ?_)
      refine b_call E2 (fun _ hq => (BX40_half (bE.rf E2.S) (op0.up D2) hq)) hF (fun _ hq3 D3 E3 hF => ?_)
      exact BX40_words_b40 E3 hF
  ·
    refine b_call E (fun _ hq => (BX40_half (bE.rf E.S) op0 hq)) hF (fun _ hq4 D4 E4 hF => ?_)
    exact BX40_words_b40 E4 hF
theorem BX40_start_b5 {σo : fS} {q : Int × fS} {N : Nat} : ∀ {n : Nat} {s : fS} {l0 : Nat} {l1 : Int} {l2 : Int} {l3 : Int}, bE 1 σo s → bO 1 s l0 → FX40_start_b5 N n l0 l1 l2 l3 s = some q → bE 1 σo q.2 := by
  intro n
  induction n with
  | zero => intro s l0 l1 l2 l3 E ol0 hF; simp [FX40_start_b5] at hF
  | succ n ih =>
    intro s l0 l1 l2 l3 E ol0 hF
    rw [FX40_start_b5] at hF
    refine b_if hF (fun hF => ?_) (fun hF => ?_)
    ·
      exact b_ret E hF
    ·
      refine b_call E (fun _ hq => (BX40_words (bE.rf E.S) ol0 hq)) hF (fun _ hq1 D1 E1 hF => ?_)
      exact ih E1 (ol0.up D1) hF
theorem BX40_start {σo : fS} {q : Int × fS} {N : Nat} {s : fS} {p0 : Nat} {p1 : Int} (E : bE 1 σo s) (op0 : bO 1 s p0) (hF : FX40_start N p0 p1 s = some q) : bE 1 σo q.2 := by
  unfold FX40_start at hF
  exact BX40_start_b5 (N := N) E op0 hF
theorem BX40_at {σo : fS} {q : Int × fS} {N : Nat} {s : fS} {p0 : Nat} {p1 : Int} {p2 : Int} {p3 : Int} (E : bE 1 σo s) (op0 : bO 1 s p0) (hF : FX40_at N p0 p1 p2 p3 s = some q) : bE 1 σo q.2 := by
  unfold FX40_at at hF
  refine b_call E (fun _ hq => (BX40_start (N := N) (bE.rf E.S) op0 hq)) hF (fun _ hq1 D1 E1 hF => ?_)
  refine b_KA hF (fun hF => ?_)
  refine b_rv hF (fun _ hF => ?_)
  exact b_ret E1 hF
theorem BX40_isThere_b39 {σo : fS} {q : Int × fS} {N : Nat} {s : fS} {s0 : Int} (E : bE 1 σo s) (hF : FX40_isThere_b39 N s0 s = some q) : bE 1 σo q.2 := by
  unfold FX40_isThere_b39 at hF
  exact b_z E hF
theorem BX40_isThere_b38 {σo : fS} {q : Int × fS} {N : Nat} {s : fS} (E : bE 1 σo s) (hF : FX40_isThere_b38 N s = some q) : bE 1 σo q.2 := by
  unfold FX40_isThere_b38 at hF
  exact BX40_isThere_b39 (N := N) E hF
theorem BX40_isThere {σo : fS} {q : Int × fS} {N : Nat} {s : fS} {p0 : Nat} {p1 : Int} (E : bE 1 σo s) (op0 : bO 1 s p0) (hF : FX40_isThere N p0 p1 s = some q) : bE 1 σo q.2 := by
  unfold FX40_isThere at hF
  refine b_call E (fun _ hq => (BX40_half (bE.rf E.S) op0 hq)) hF (fun _ hq1 D1 E1 hF => ?_)
  refine b_if hF (fun hF => ?_) (fun hF => ?_)
  ·
    exact BX40_isThere_b38 (N := N) E1 hF
  ·
    refine b_call E1 (fun _ hq => (BX40_half (bE.rf E1.S) (op0.up D1) hq)) hF (fun _ hq2 D2 E2 hF => ?_)
    refine b_if hF (fun hF => ?_) (fun hF => ?_)
    ·
      exact BX40_isThere_b38 (N := N) E2 hF
    ·
      refine b_call E2 (fun _ hq => (BX40_half (bE.rf E2.S) ((op0.up D1).up D2) hq)) hF (fun _ hq3 D3 E3 hF => ?_)
      refine b_call E3 (fun _ hq => (BX40_at (N := N) (bE.rf E3.S) (((op0.up D1).up D2).up D3) hq)) hF (fun _ hq4 D4 E4 hF => ?_)
      refine b_if hF (fun hF => ?_) (fun hF => ?_)
      ·
        exact BX40_isThere_b38 (N := N) E4 hF
      ·
        exact BX40_isThere_b39 (N := N) E4 hF
theorem BX40_isThere_2 {σo : fS} {q : Int × fS} {N : Nat} {s : fS} {this : Nat} {p0 : Int} (E : bE 1 σo s) (othis : bO 1 s this) (hF : FX40_isThere_2 N this p0 s = some q) : bE 1 σo q.2 := by
  unfold FX40_isThere_2 at hF
  refine b_K hF (fun hF => ?_)
  refine b_o E othis hF (fun _ o1 hF => ?_)
  refine b_call E (fun _ hq => (BX40_isThere (N := N) (bE.rf E.S) o1 hq)) hF (fun _ hq2 D2 E2 hF => ?_)
  exact b_z E2 hF
theorem BX40_far {σo : fS} {q : Int × fS} {N : Nat} {s : fS} {p0 : Nat} {p1 : Int} (E : bE 1 σo s) (op0 : bO 1 s p0) (hF : FX40_far N p0 p1 s = some q) : bE 1 σo q.2 := by
  unfold FX40_far at hF
  refine b_call E (fun _ hq => (BX40_at (N := N) (bE.rf E.S) op0 hq)) hF (fun _ hq1 D1 E1 hF => ?_)
  refine b_call E1 (fun _ hq => (BX40_at (N := N) (bE.rf E1.S) (op0.up D1) hq)) hF (fun _ hq2 D2 E2 hF => ?_)
  exact b_ret E2 hF
theorem BX40_edgeProgram_b38 {σo : fS} {q : Int × fS} {N : Nat} {s : fS} {s0 : Int} (E : bE 1 σo s) (hF : FX40_edgeProgram_b38 N s0 s = some q) : bE 1 σo q.2 := by
  unfold FX40_edgeProgram_b38 at hF
  exact b_ret E hF
theorem BX40_edgeProgram_b37 {σo : fS} {q : Int × fS} {N : Nat} {s : fS} (E : bE 1 σo s) (hF : FX40_edgeProgram_b37 N s = some q) : bE 1 σo q.2 := by
  unfold FX40_edgeProgram_b37 at hF
  exact BX40_edgeProgram_b38 (N := N) E hF
theorem BX40_edgeProgram {σo : fS} {q : Int × fS} {N : Nat} {s : fS} {p0 : Nat} (E : bE 1 σo s) (op0 : bO 1 s p0) (hF : FX40_edgeProgram N p0 s = some q) : bE 1 σo q.2 := by
  unfold FX40_edgeProgram at hF
  refine b_call E (fun _ hq => (BX40_words (bE.rf E.S) op0 hq)) hF (fun _ hq1 D1 E1 hF => ?_)
  refine b_if hF (fun hF => ?_) (fun hF => ?_)
  ·
    exact BX40_edgeProgram_b37 (N := N) E1 hF
  ·
    refine b_call E1 (fun _ hq => (BX40_at (N := N) (bE.rf E1.S) (op0.up D1) hq)) hF (fun _ hq2 D2 E2 hF => ?_)
    refine b_if hF (fun hF => ?_) (fun hF => ?_)
    ·
      exact BX40_edgeProgram_b37 (N := N) E2 hF
    ·
      refine b_call E2 (fun _ hq => (BX40_far (N := N) (bE.rf E2.S) ((op0.up D1).up D2) hq)) hF (fun _ hq3 D3 E3 hF => ?_)
      exact BX40_edgeProgram_b38 (N := N) E3 hF
theorem BX40_insert_b6 {σo : fS} {q : Unit × fS} {N : Nat} : ∀ {n : Nat} {s : fS} {l0 : Nat} {l1 : Int} {l2 : Int} {l3 : Int} {l4 : Int}, bE 1 σo s → bO 1 s l0 → FX40_insert_b6 N n l0 l1 l2 l3 l4 s = some q → bE 1 σo q.2 := by
  intro n
  induction n with
  | zero => intro s l0 l1 l2 l3 l4 E ol0 hF; simp [FX40_insert_b6] at hF
  | succ n ih =>
    intro s l0 l1 l2 l3 l4 E ol0 hF
    rw [FX40_insert_b6] at hF
    refine b_if hF (fun hF => ?_) (fun hF => ?_)
    ·
      refine b_K hF (fun hF => ?_)
      refine b_o E ol0 hF (fun _ o1 hF => ?_)
      refine b_KA hF (fun hF => ?_)
      refine b_qI E o1 hF (fun _ D2 E2 hF => ?_)
      refine b_K hF (fun hF => ?_)
      refine b_o E2 (ol0.up D2) hF (fun _ o3 hF => ?_)
      refine b_KA hF (fun hF => ?_)
      refine b_qI E2 o3 hF (fun _ D4 E4 hF => ?_)
      refine b_K hF (fun hF => ?_)
      refine b_K hF (fun hF => ?_)
      refine b_pI E4 ((ol0.up D2).up D4) hF (fun _ D6 E6 hF => ?_)
      exact b_ret E6 hF
    ·
      refine b_K hF (fun hF => ?_)
      refine b_o E ol0 hF (fun _ o7 hF => ?_)
      refine b_K hF (fun hF => ?_)
      refine b_o E ol0 hF (fun _ o8 hF => ?_)
      refine b_KA hF (fun hF => ?_)
      refine b_rv hF (fun _ hF => ?_)
      refine b_KA hF (fun hF => ?_)
      refine b_qI E o7 hF (fun _ D10 E10 hF => ?_)
      refine b_K hF (fun hF => ?_)
      refine b_o E10 (ol0.up D10) hF (fun _ o11 hF => ?_)
      refine b_K hF (fun hF => ?_)
      refine b_o E10 (ol0.up D10) hF (fun _ o12 hF => ?_)
      refine b_KA hF (fun hF => ?_)
      refine b_rv hF (fun _ hF => ?_)
      refine b_KA hF (fun hF => ?_)
      refine b_qI E10 o11 hF (fun _ D14 E14 hF => ?_)
      exact ih E14 ((ol0.up D10).up D14) hF
theorem BX40_insert {σo : fS} {q : Unit × fS} {N : Nat} {s : fS} {this : Nat} {p0 : Int} {p1 : Int} {p2 : Int} (E : bE 1 σo s) (othis : bO 1 s this) (hF : FX40_insert N this p0 p1 p2 s = some q) : bE 1 σo q.2 := by
  unfold FX40_insert at hF
  refine b_K hF (fun hF => ?_)
  exact BX40_insert_b6 (N := N) E othis hF
theorem BX40_edgeOf_b35 {σo : fS} {q : Int × fS} {N : Nat} {s : fS} {s0 : Int} (E : bE 1 σo s) (hF : FX40_edgeOf_b35 N s0 s = some q) : bE 1 σo q.2 := by
  unfold FX40_edgeOf_b35 at hF
  exact b_ret E hF
theorem BX40_edgeOf_b34 {σo : fS} {q : Int × fS} {N : Nat} {s : fS} (E : bE 1 σo s) (hF : FX40_edgeOf_b34 N s = some q) : bE 1 σo q.2 := by
  unfold FX40_edgeOf_b34 at hF
  exact BX40_edgeOf_b35 (N := N) E hF
theorem BX40_edgeOf {σo : fS} {q : Int × fS} {N : Nat} {s : fS} {p0 : Nat} (E : bE 1 σo s) (op0 : bO 1 s p0) (hF : FX40_edgeOf N p0 s = some q) : bE 1 σo q.2 := by
  unfold FX40_edgeOf at hF
  refine b_call E (fun _ hq => (BX40_words (bE.rf E.S) op0 hq)) hF (fun _ hq1 D1 E1 hF => ?_)
  refine b_if hF (fun hF => ?_) (fun hF => ?_)
  ·
    exact BX40_edgeOf_b34 (N := N) E1 hF
  ·
    refine b_call E1 (fun _ hq => (BX40_at (N := N) (bE.rf E1.S) (op0.up D1) hq)) hF (fun _ hq2 D2 E2 hF => ?_)
    refine b_if hF (fun hF => ?_) (fun hF => ?_)
    ·
      exact BX40_edgeOf_b34 (N := N) E2 hF
    ·
      refine b_call E2 (fun _ hq => (BX40_at (N := N) (bE.rf E2.S) ((op0.up D1).up D2) hq)) hF (fun _ hq3 D3 E3 hF => ?_)
      exact BX40_edgeOf_b35 (N := N) E3 hF
theorem BX40_tag {σo : fS} {q : Int × fS} {N : Nat} {s : fS} {p0 : Nat} {p1 : Int} (E : bE 1 σo s) (op0 : bO 1 s p0) (hF : FX40_tag N p0 p1 s = some q) : bE 1 σo q.2 := by
  unfold FX40_tag at hF
  refine b_call E (fun _ hq => (BX40_half (bE.rf E.S) op0 hq)) hF (fun _ hq1 D1 E1 hF => ?_)
  refine b_call E1 (fun _ hq => (BX40_at (N := N) (bE.rf E1.S) (op0.up D1) hq)) hF (fun _ hq2 D2 E2 hF => ?_)
  exact b_ret E2 hF
theorem BX40_rest {σo : fS} {q : Int × fS} {N : Nat} {s : fS} {p0 : Nat} {p1 : Int} (E : bE 1 σo s) (op0 : bO 1 s p0) (hF : FX40_rest N p0 p1 s = some q) : bE 1 σo q.2 := by
  unfold FX40_rest at hF
  refine b_call E (fun _ hq => (BX40_half (bE.rf E.S) op0 hq)) hF (fun _ hq1 D1 E1 hF => ?_)
  refine b_call E1 (fun _ hq => (BX40_at (N := N) (bE.rf E1.S) (op0.up D1) hq)) hF (fun _ hq2 D2 E2 hF => ?_)
  exact b_ret E2 hF
theorem BX40_found_b71 {σo : fS} {q : Int × fS} {N : Nat} {s : fS} (E : bE 1 σo s) (hF : FX40_found_b71 N s = some q) : bE 1 σo q.2 := by
  unfold FX40_found_b71 at hF
  exact b_ret E hF
theorem BX40_found_b103 {σo : fS} {q : Int × fS} {N : Nat} : ∀ {n : Nat} {s : fS} {l0 : Nat} {l3 : Int} {l4 : Int}, bE 1 σo s → bO 1 s l0 → FX40_found_b103 N n l0 l3 l4 s = some q → bE 1 σo q.2 := by
  intro n
  induction n with
  | zero => intro s l0 l3 l4 E ol0 hF; simp [FX40_found_b103] at hF
  | succ n ih =>
    intro s l0 l3 l4 E ol0 hF
    rw [FX40_found_b103] at hF
    refine b_K hF (fun hF => ?_)
    refine b_o E ol0 hF (fun _ o1 hF => ?_)
    refine b_call E (fun _ hq => (BX40_at (N := N) (bE.rf E.S) o1 hq)) hF (fun _ hq2 D2 E2 hF => ?_)
    refine b_if hF (fun hF => ?_) (fun hF => ?_)
    ·
      exact b_ret E2 hF
    ·
      refine b_K hF (fun hF => ?_)
      refine b_o E2 (ol0.up D2) hF (fun _ o3 hF => ?_)
      refine b_call E2 (fun _ hq => (BX40_at (N := N) (bE.rf E2.S) o3 hq)) hF (fun _ hq4 D4 E4 hF => ?_)
      refine b_if hF (fun hF => ?_) (fun hF => ?_)
      ·
        refine b_K hF (fun hF => ?_)
        refine b_o E4 ((ol0.up D2).up D4) hF (fun _ o5 hF => ?_)
        refine b_call E4 (fun _ hq => (BX40_at (N := N) (bE.rf E4.S) o5 hq)) hF (fun _ hq6 D6 E6 hF => ?_)
        refine b_if hF (fun hF => ?_) (fun hF => ?_)
        ·
          refine b_K hF (fun hF => ?_)
          refine b_o E6 (((ol0.up D2).up D4).up D6) hF (fun _ o7 hF => ?_)
          refine b_call E6 (fun _ hq => (BX40_at (N := N) (bE.rf E6.S) o7 hq)) hF (fun _ hq8 D8 E8 hF => ?_)
          exact ih E8 ((((ol0.up D2).up D4).up D6).up D8) hF
        ·
          exact b_ret E6 hF
      ·
        exact b_ret E4 hF
theorem BX40_found_b102 {σo : fS} {q : Int × fS} {N : Nat} {s : fS} {l0 : Nat} {l4 : Int} {s0 : Int} (E : bE 1 σo s) (ol0 : bO 1 s l0) (hF : FX40_found_b102 N l0 l4 s0 s = some q) : bE 1 σo q.2 := by
  unfold FX40_found_b102 at hF
  exact BX40_found_b103 (N := N) E ol0 hF
theorem BX40_found_b60 {σo : fS} {q : Int × fS} {N : Nat} {s : fS} {l0 : Nat} {l3 : Int} {s0 : Int} (E : bE 1 σo s) (ol0 : bO 1 s l0) (hF : FX40_found_b60 N l0 l3 s0 s = some q) : bE 1 σo q.2 := by
  unfold FX40_found_b60 at hF
  refine b_if hF (fun hF => ?_) (fun hF => ?_)
  ·
    exact BX40_found_b71 (N := N) E hF
  ·
    refine b_if hF (fun hF => ?_) (fun hF => ?_)
    ·
      refine b_K hF (fun hF => ?_)
      refine b_o E ol0 hF (fun _ o1 hF => ?_)
      refine b_call E (fun _ hq => (BX40_at (N := N) (bE.rf E.S) o1 hq)) hF (fun _ hq2 D2 E2 hF => ?_)
      refine b_if hF (fun hF => ?_) (fun hF => ?_)
      ·
        exact BX40_found_b102 (N := N) E2 (ol0.up D2) hF
      ·
        refine b_K hF (fun hF => ?_)
        refine b_o E2 (ol0.up D2) hF (fun _ o3 hF => ?_)
        refine b_call E2 (fun _ hq => (BX40_far (N := N) (bE.rf E2.S) o3 hq)) hF (fun _ hq4 D4 E4 hF => ?_)
        exact BX40_found_b102 (N := N) E4 ((ol0.up D2).up D4) hF
    ·
      exact BX40_found_b71 (N := N) E hF
theorem BX40_found_b41 {σo : fS} {q : Int × fS} {N : Nat} {s : fS} {l0 : Nat} {l2 : Int} {s0 : Int} (E : bE 1 σo s) (ol0 : bO 1 s l0) (hF : FX40_found_b41 N l0 l2 s0 s = some q) : bE 1 σo q.2 := by
  unfold FX40_found_b41 at hF
  refine b_if hF (fun hF => ?_) (fun hF => ?_)
  ·
    exact BX40_found_b60 (N := N) E ol0 hF
  ·
    refine b_K hF (fun hF => ?_)
    refine b_o E ol0 hF (fun _ o1 hF => ?_)
    refine b_call E (fun _ hq => (BX40_edgeOf (N := N) (bE.rf E.S) o1 hq)) hF (fun _ hq2 D2 E2 hF => ?_)
    exact BX40_found_b60 (N := N) E2 (ol0.up D2) hF
theorem BX40_found {σo : fS} {q : Int × fS} {N : Nat} {s : fS} {this : Nat} {p0 : Int} {p1 : Int} (E : bE 1 σo s) (othis : bO 1 s this) (hF : FX40_found N this p0 p1 s = some q) : bE 1 σo q.2 := by
  unfold FX40_found at hF
  refine b_if hF (fun hF => ?_) (fun hF => ?_)
  ·
    refine b_K hF (fun hF => ?_)
    refine b_o E othis hF (fun _ o1 hF => ?_)
    refine b_call E (fun _ hq => (BX40_tag (N := N) (bE.rf E.S) o1 hq)) hF (fun _ hq2 D2 E2 hF => ?_)
    refine b_if hF (fun hF => ?_) (fun hF => ?_)
    ·
      exact BX40_found_b41 (N := N) E2 (othis.up D2) hF
    ·
      refine b_K hF (fun hF => ?_)
      refine b_o E2 (othis.up D2) hF (fun _ o3 hF => ?_)
      refine b_call E2 (fun _ hq => (BX40_rest (N := N) (bE.rf E2.S) o3 hq)) hF (fun _ hq4 D4 E4 hF => ?_)
      exact BX40_found_b41 (N := N) E4 ((othis.up D2).up D4) hF
  ·
    refine b_K hF (fun hF => ?_)
    refine b_o E othis hF (fun _ o5 hF => ?_)
    refine b_call E (fun _ hq => (BX40_edgeProgram (N := N) (bE.rf E.S) o5 hq)) hF (fun _ hq6 D6 E6 hF => ?_)
    exact BX40_found_b41 (N := N) E6 (othis.up D6) hF
theorem BX40_scaled_b119 {σo : fS} {q : Int × fS} {N : Nat} {s : fS} {s0 : Int} (E : bE 1 σo s) (hF : FX40_scaled_b119 N s0 s = some q) : bE 1 σo q.2 := by
  unfold FX40_scaled_b119 at hF
  exact b_ret E hF
theorem BX40_scaled_b7 {σo : fS} {q : Int × fS} {N : Nat} : ∀ {n : Nat} {s : fS} {l0 : Nat} {l1 : Int} {l2 : Int} {l4 : Int} {l6 : Int}, bE 1 σo s → bO 1 s l0 → FX40_scaled_b7 N n l0 l1 l2 l4 l6 s = some q → bE 1 σo q.2 := by
  intro n
  induction n with
  | zero => intro s l0 l1 l2 l4 l6 E ol0 hF; simp [FX40_scaled_b7] at hF
  | succ n ih =>
    intro s l0 l1 l2 l4 l6 E ol0 hF
    rw [FX40_scaled_b7] at hF
    refine b_if hF (fun hF => ?_) (fun hF => ?_)
    ·
      refine b_K hF (fun hF => ?_)
      refine b_o E ol0 hF (fun _ o1 hF => ?_)
      refine b_call E (fun _ hq => (BX40_at (N := N) (bE.rf E.S) o1 hq)) hF (fun _ hq2 D2 E2 hF => ?_)
      refine b_K hF (fun hF => ?_)
      refine b_o E2 (ol0.up D2) hF (fun _ o3 hF => ?_)
      refine b_call E2 (fun _ hq => (BX40_at (N := N) (bE.rf E2.S) o3 hq)) hF (fun _ hq4 D4 E4 hF => ?_)
      refine b_K hF (fun hF => ?_)
      refine b_o E4 ((ol0.up D2).up D4) hF (fun _ o5 hF => ?_)
      refine b_call E4 (fun _ hq => (BX40_at (N := N) (bE.rf E4.S) o5 hq)) hF (fun _ hq6 D6 E6 hF => ?_)
      refine b_K hF (fun hF => ?_)
      refine b_o E6 (((ol0.up D2).up D4).up D6) hF (fun _ o7 hF => ?_)
      refine b_call E6 (fun _ hq => (BX40_at (N := N) (bE.rf E6.S) o7 hq)) hF (fun _ hq8 D8 E8 hF => ?_)
      refine b_if hF (fun hF => ?_) (fun hF => ?_)
      ·
        exact BX40_scaled_b119 (N := N) E8 hF
      ·
        exact BX40_scaled_b119 (N := N) E8 hF
    ·
      exact ih E ol0 hF
theorem BX40_scaled {σo : fS} {q : Int × fS} {N : Nat} {s : fS} {this : Nat} {p0 : Int} {p1 : Int} {p2 : Int} (E : bE 1 σo s) (othis : bO 1 s this) (hF : FX40_scaled N this p0 p1 p2 s = some q) : bE 1 σo q.2 := by
  unfold FX40_scaled at hF
  exact BX40_scaled_b7 (N := N) E othis hF
