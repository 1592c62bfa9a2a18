set_option maxRecDepth 100000
set_option maxHeartbeats 4000000
theorem BX3_takeItem_b256 {σo : fS} {q : Unit × fS} {s : fS} (E : bE 0 σo s) (hF : FX3_takeItem_b256 s = some q) : bE 0 σo q.2 := by
  unfold FX3_takeItem_b256 at hF
  exact b_ret E hF
theorem BX3_takeItem_b95 {σo : fS} {q : Unit × fS} {s : fS} {s1 : Int} {s2 : Int} (E : bE 0 σo s) (hF : FX3_takeItem_b95 s1 s2 s = some q) : bE 0 σo q.2 := by
  unfold FX3_takeItem_b95 at hF
  refine b_call E (fun _ hq => (BX22_add (bE.rf E.S) hq)) hF (fun _ hq2 D2 E2 hF => ?_)
  exact BX3_takeItem_b256 E2 hF
theorem BX3_takeItem_b183 {σo : fS} {q : Unit × fS} {s : fS} {l2 : Int} {s1 : Int} (E : bE 0 σo s) (hF : FX3_takeItem_b183 l2 s1 s = some q) : bE 0 σo q.2 := by
  unfold FX3_takeItem_b183 at hF
  refine b_call E (fun _ hq => (BX34_of (bE.rf E.S) (E.S.c0 (Nat.le_of_ble_eq_true rfl)) hq)) hF (fun _ hq2 D2 E2 hF => ?_)
  refine b_call E2 (fun _ hq => (BX22_add (bE.rf E2.S) hq)) hF (fun _ hq4 D4 E4 hF => ?_)
  exact BX3_takeItem_b256 E4 hF
theorem BX3_takeItem_b242 {σo : fS} {q : Unit × fS} {s : fS} {l2 : Int} {s1 : Int} {s2 : Int} (E : bE 0 σo s) (hF : FX3_takeItem_b242 l2 s1 s2 s = some q) : bE 0 σo q.2 := by
  unfold FX3_takeItem_b242 at hF
  refine b_call E (fun _ hq => (BX34_of (bE.rf E.S) (E.S.c0 (Nat.le_of_ble_eq_true rfl)) hq)) hF (fun _ hq2 D2 E2 hF => ?_)
  refine b_call E2 (fun _ hq => (BX22_add (bE.rf E2.S) hq)) hF (fun _ hq4 D4 E4 hF => ?_)
  exact BX3_takeItem_b256 E4 hF
theorem BX3_takeItem {σo : fS} {q : Unit × fS} {s : fS} {p1 : Int} (E : bE 0 σo s) (hF : FX3_takeItem p1 s = some q) : bE 0 σo q.2 := by
  unfold FX3_takeItem at hF
  refine b_call E (fun _ hq => (BX34_kind (bE.rf E.S) (E.S.c0 (Nat.le_of_ble_eq_true rfl)) hq)) hF (fun _ hq4 D4 E4 hF => ?_)
  refine b_if hF (fun hF => ?_) (fun hF => ?_)
  ·
    refine b_call E4 (fun _ hq => (BX34_of (bE.rf E4.S) (E4.S.c0 (Nat.le_of_ble_eq_true rfl)) hq)) hF (fun _ hq6 D6 E6 hF => ?_)
    refine b_call E6 (fun _ hq => (BX22_add (bE.rf E6.S) hq)) hF (fun _ hq8 D8 E8 hF => ?_)
    exact BX3_takeItem_b256 E8 hF
  ·
    refine b_if hF (fun hF => ?_) (fun hF => ?_)
    ·
      refine b_call E4 (fun _ hq => (BX34_of (bE.rf E4.S) (E4.S.c0 (Nat.le_of_ble_eq_true rfl)) hq)) hF (fun _ hq10 D10 E10 hF => ?_)
      refine b_if hF (fun hF => ?_) (fun hF => ?_)
      ·
        refine b_call E10 (fun _ hq => (BX34_of (bE.rf E10.S) (E10.S.c0 (Nat.le_of_ble_eq_true rfl)) hq)) hF (fun _ hq12 D12 E12 hF => ?_)
        exact BX3_takeItem_b95 E12 hF
      ·
        exact BX3_takeItem_b95 E10 hF
    ·
      refine b_if hF (fun hF => ?_) (fun hF => ?_)
      ·
        refine b_call E4 (fun _ hq => (BX34_of (bE.rf E4.S) (E4.S.c0 (Nat.le_of_ble_eq_true rfl)) hq)) hF (fun _ hq14 D14 E14 hF => ?_)
        refine b_call E14 (fun _ hq => (BX34_of (bE.rf E14.S) (E14.S.c0 (Nat.le_of_ble_eq_true rfl)) hq)) hF (fun _ hq16 D16 E16 hF => ?_)
        refine b_call E16 (fun _ hq => (BX34_of (bE.rf E16.S) (E16.S.c0 (Nat.le_of_ble_eq_true rfl)) hq)) hF (fun _ hq18 D18 E18 hF => ?_)
        refine b_call E18 (fun _ hq => (BX34_of (bE.rf E18.S) (E18.S.c0 (Nat.le_of_ble_eq_true rfl)) hq)) hF (fun _ hq20 D20 E20 hF => ?_)
        refine b_call E20 (fun _ hq => (BX22_add (bE.rf E20.S) hq)) hF (fun _ hq22 D22 E22 hF => ?_)
        exact BX3_takeItem_b256 E22 hF
      ·
        refine b_if hF (fun hF => ?_) (fun hF => ?_)
        ·
          refine b_call E4 (fun _ hq => (BX34_of (bE.rf E4.S) (E4.S.c0 (Nat.le_of_ble_eq_true rfl)) hq)) hF (fun _ hq24 D24 E24 hF => ?_)
          refine b_if hF (fun hF => ?_) (fun hF => ?_)
          ·
            exact BX3_takeItem_b183 E24 hF
          ·
            exact BX3_takeItem_b183 E24 hF
        ·
          refine b_if hF (fun hF => ?_) (fun hF => ?_)
          ·
            refine b_call E4 (fun _ hq => (BX34_of (bE.rf E4.S) (E4.S.c0 (Nat.le_of_ble_eq_true rfl)) hq)) hF (fun _ hq27 D27 E27 hF => ?_)
            refine b_rO E27 (E27.S.c0 (Nat.le_of_ble_eq_true rfl)) hF (fun _ o28 hF => ?_)
            refine b_K hF (fun hF => ?_)
            refine b_call E27 (fun _ hq => (BX22_add (bE.rf E27.S) hq)) hF (fun _ hq31 D31 E31 hF => ?_)
            exact BX3_takeItem_b256 E31 hF
          ·
            refine b_if hF (fun hF => ?_) (fun hF => ?_)
            ·
              refine b_call E4 (fun _ hq => (BX34_of (bE.rf E4.S) (E4.S.c0 (Nat.le_of_ble_eq_true rfl)) hq)) hF (fun _ hq33 D33 E33 hF => ?_)
              refine b_call E33 (fun _ hq => (BX22_add (bE.rf E33.S) hq)) hF (fun _ hq35 D35 E35 hF => ?_)
              exact BX3_takeItem_b256 E35 hF
            ·
              refine b_call E4 (fun _ hq => (BX34_of (bE.rf E4.S) (E4.S.c0 (Nat.le_of_ble_eq_true rfl)) hq)) hF (fun _ hq37 D37 E37 hF => ?_)
              refine b_if hF (fun hF => ?_) (fun hF => ?_)
              ·
                exact BX3_takeItem_b242 E37 hF
              ·
                refine b_call E37 (fun _ hq => (BX34_of (bE.rf E37.S) (E37.S.c0 (Nat.le_of_ble_eq_true rfl)) hq)) hF (fun _ hq39 D39 E39 hF => ?_)
                exact BX3_takeItem_b242 E39 hF
theorem BX21_plain_b12 {σo : fS} {q : Int × fS} {s : fS} {s0 : Int} (E : bE 0 σo s) (hF : FX21_plain_b12 s0 s = some q) : bE 0 σo q.2 := by
  unfold FX21_plain_b12 at hF
  exact b_ret E hF
theorem BX21_plain {σo : fS} {q : Int × fS} {s : fS} {p0 : Int} (E : bE 0 σo s) (hF : FX21_plain p0 s = some q) : bE 0 σo q.2 := by
  unfold FX21_plain at hF
  refine b_if hF (fun hF => ?_) (fun hF => ?_)
  ·
    exact BX21_plain_b12 E hF
  ·
    exact BX21_plain_b12 E hF
theorem BX1_solid_b11 {σo : fS} {q : Int × fS} {s : fS} {s0 : Int} (E : bE 0 σo s) (hF : FX1_solid_b11 s0 s = some q) : bE 0 σo q.2 := by
  unfold FX1_solid_b11 at hF
  exact b_ret E hF
theorem BX1_solid {σo : fS} {q : Int × fS} {s : fS} {p0 : Int} (E : bE 0 σo s) (hF : FX1_solid p0 s = some q) : bE 0 σo q.2 := by
  unfold FX1_solid at hF
  refine b_if hF (fun hF => ?_) (fun hF => ?_)
  ·
    exact BX1_solid_b11 E hF
  ·
    exact BX1_solid_b11 E hF
theorem BX21_areSizes_b190 {σo : fS} {q : Int × fS} {N : Nat} {K74 : Int → Int → Int → Int → fS → Option (Int × fS)} (hk74 : ∀ {s : fS} {l1 : Int} {l3 : Int} {l5 : Int} {l7 : Int}, bE 0 σo s → K74 l1 l3 l5 l7 s = some q → bE 0 σo q.2) {s : fS} {l1 : Int} {l3 : Int} {l5 : Int} {l7 : Int} (E : bE 0 σo s) (hF : FX21_areSizes_b190 N K74 l1 l3 l5 l7 s = some q) : bE 0 σo q.2 := by
  unfold FX21_areSizes_b190 at hF
  exact hk74 E hF
theorem BX21_areSizes_b151 {σo : fS} {q : Int × fS} {N : Nat} {K74 : Int → Int → Int → Int → fS → Option (Int × fS)} (hk74 : ∀ {s : fS} {l1 : Int} {l3 : Int} {l5 : Int} {l7 : Int}, bE 0 σo s → K74 l1 l3 l5 l7 s = some q → bE 0 σo q.2) {s : fS} {l1 : Int} {l3 : Int} {l5 : Int} {l7 : Int} {l8 : Int} (E : bE 0 σo s) (hF : FX21_areSizes_b151 N K74 l1 l3 l5 l7 l8 s = some q) : bE 0 σo q.2 := by
  unfold FX21_areSizes_b151 at hF
  refine b_if hF (fun hF => ?_) (fun hF => ?_)
  ·
    refine b_rv hF (fun _ hF => ?_)
    refine b_rv hF (fun _ hF => ?_)
    exact BX21_areSizes_b190 (N := N) (K74 := K74) @hk74 E hF
  ·
    exact BX21_areSizes_b190 (N := N) (K74 := K74) @hk74 E hF
theorem BX21_areSizes_b226 {σo : fS} {q : Int × fS} {N : Nat} {s : fS} {s0 : Int} (E : bE 0 σo s) (hF : FX21_areSizes_b226 N s0 s = some q) : bE 0 σo q.2 := by
  unfold FX21_areSizes_b226 at hF
  exact b_z E hF
theorem BX21_areSizes_b225 {σo : fS} {q : Int × fS} {N : Nat} {s : fS} (E : bE 0 σo s) (hF : FX21_areSizes_b225 N s = some q) : bE 0 σo q.2 := by
  unfold FX21_areSizes_b225 at hF
  exact BX21_areSizes_b226 (N := N) E hF
theorem BX21_areSizes_b74 {σo : fS} {q : Int × fS} {N : Nat} : ∀ {n : Nat} {s : fS} {l1 : Int} {l3 : Int} {l5 : Int} {l7 : Int}, bE 0 σo s → FX21_areSizes_b74 N n l1 l3 l5 l7 s = some q → bE 0 σo q.2 := by
  intro n
  induction n with
  | zero => intro s l1 l3 l5 l7 E  hF; simp [FX21_areSizes_b74] at hF
  | succ n ih =>
    intro s l1 l3 l5 l7 E  hF
    rw [FX21_areSizes_b74] at hF
    refine b_if hF (fun hF => ?_) (fun hF => ?_)
    ·
      refine b_if hF (fun hF => ?_) (fun hF => ?_)
      ·
        exact BX21_areSizes_b225 (N := N) E hF
      ·
        refine b_if hF (fun hF => ?_) (fun hF => ?_)
        ·
          exact BX21_areSizes_b225 (N := N) E hF
        ·
          refine b_if hF (fun hF => ?_) (fun hF => ?_)
          ·
            exact BX21_areSizes_b225 (N := N) E hF
          ·
            exact BX21_areSizes_b226 (N := N) E hF
    ·
      refine b_rv hF (fun _ hF => ?_)
      refine b_if hF (fun hF => ?_) (fun hF => ?_)
      ·
        refine b_rv hF (fun _ hF => ?_)
        refine b_call E (fun _ hq => (BX1_solid (bE.rf E.S) hq)) hF (fun _ hq9 D9 E9 hF => ?_)
        refine b_call E9 (fun _ hq => (BX21_plain (bE.rf E9.S) hq)) hF (fun _ hq10 D10 E10 hF => ?_)
        refine b_if hF (fun hF => ?_) (fun hF => ?_)
        ·
          exact BX21_areSizes_b151 (N := N) (K74 := FX21_areSizes_b74 N n) @ih E10 hF
        ·
          refine b_rv hF (fun _ hF => ?_)
          refine b_call E10 (fun _ hq => (BX1_solid (bE.rf E10.S) hq)) hF (fun _ hq14 D14 E14 hF => ?_)
          refine b_call E14 (fun _ hq => (BX21_plain (bE.rf E14.S) hq)) hF (fun _ hq15 D15 E15 hF => ?_)
          exact BX21_areSizes_b151 (N := N) (K74 := FX21_areSizes_b74 N n) @ih E15 hF
      ·
        exact BX21_areSizes_b190 (N := N) (K74 := FX21_areSizes_b74 N n) @ih E hF
theorem BX21_areSizes_b17 {σo : fS} {q : Int × fS} {N : Nat} : ∀ {n : Nat} {s : fS} {l1 : Int} {l3 : Int} {l5 : Int} {l7 : Int}, bE 0 σo s → FX21_areSizes_b17 N n l1 l3 l5 l7 s = some q → bE 0 σo q.2 := by
  intro n
  induction n with
  | zero => intro s l1 l3 l5 l7 E  hF; simp [FX21_areSizes_b17] at hF
  | succ n ih =>
    intro s l1 l3 l5 l7 E  hF
    rw [FX21_areSizes_b17] at hF
    refine b_if hF (fun hF => ?_) (fun hF => ?_)
    ·
      exact BX21_areSizes_b74 (N := N) E hF
    ·
      refine b_rv hF (fun _ hF => ?_)
      refine b_call E (fun _ hq => (BX21_plain (bE.rf E.S) hq)) hF (fun _ hq3 D3 E3 hF => ?_)
      refine b_rv hF (fun _ hF => ?_)
      refine b_rv hF (fun _ hF => ?_)
      exact ih E3 hF
theorem BX21_areSizes {σo : fS} {q : Int × fS} {N : Nat} {s : fS} (E : bE 0 σo s) (hF : FX21_areSizes N s = some q) : bE 0 σo q.2 := by
  unfold FX21_areSizes at hF
  refine b_rv hF (fun _ hF => ?_)
  exact BX21_areSizes_b17 (N := N) E hF
theorem BX22_isDropped_b35 {σo : fS} {q : Int × fS} {s : fS} {s0 : Int} (E : bE 0 σo s) (hF : FX22_isDropped_b35 s0 s = some q) : bE 0 σo q.2 := by
  unfold FX22_isDropped_b35 at hF
  exact b_z E hF
theorem BX22_isDropped_b30 {σo : fS} {q : Int × fS} {s : fS} (E : bE 0 σo s) (hF : FX22_isDropped_b30 s = some q) : bE 0 σo q.2 := by
  unfold FX22_isDropped_b30 at hF
  exact BX22_isDropped_b35 E hF
theorem BX22_isDropped {σo : fS} {q : Int × fS} {s : fS} {p0 : Int} (E : bE 0 σo s) (hF : FX22_isDropped p0 s = some q) : bE 0 σo q.2 := by
  unfold FX22_isDropped at hF
  refine b_rv hF (fun _ hF => ?_)
  refine b_if hF (fun hF => ?_) (fun hF => ?_)
  ·
    exact BX22_isDropped_b30 E hF
  ·
    refine b_rv hF (fun _ hF => ?_)
    refine b_if hF (fun hF => ?_) (fun hF => ?_)
    ·
      exact BX22_isDropped_b30 E hF
    ·
      refine b_rv hF (fun _ hF => ?_)
      refine b_if hF (fun hF => ?_) (fun hF => ?_)
      ·
        exact BX22_isDropped_b35 E hF
      ·
        exact BX22_isDropped_b30 E hF
theorem BX23_take_b166 {σo : fS} {q : Unit × fS} {N : Nat} {K111 : Int → Int → Int → Int → fS → Option (Unit × fS)} (hk111 : ∀ {s : fS} {l2 : Int} {l3 : Int} {l5 : Int} {l6 : Int}, bE 0 σo s → K111 l2 l3 l5 l6 s = some q → bE 0 σo q.2) {s : fS} {l2 : Int} {l3 : Int} {l5 : Int} {l6 : Int} {s1 : Int} {s2 : Int} {s3 : Int} (E : bE 0 σo s) (hF : FX23_take_b166 N K111 l2 l3 l5 l6 s1 s2 s3 s = some q) : bE 0 σo q.2 := by
  unfold FX23_take_b166 at hF
  refine b_qJ E (E.S.c0 (Nat.le_of_ble_eq_true rfl)) hF (fun _ D1 E1 hF => ?_)
  exact hk111 E1 hF
theorem BX23_take_b165 {σo : fS} {q : Unit × fS} {N : Nat} {K111 : Int → Int → Int → Int → fS → Option (Unit × fS)} (hk111 : ∀ {s : fS} {l2 : Int} {l3 : Int} {l5 : Int} {l6 : Int}, bE 0 σo s → K111 l2 l3 l5 l6 s = some q → bE 0 σo q.2) {s : fS} {l2 : Int} {l3 : Int} {l5 : Int} {l6 : Int} {s1 : Int} {s2 : Int} (E : bE 0 σo s) (hF : FX23_take_b165 N K111 l2 l3 l5 l6 s1 s2 s = some q) : bE 0 σo q.2 := by
  unfold FX23_take_b165 at hF
  exact BX23_take_b166 (N := N) (K111 := K111) @hk111 E hF
theorem BX23_take_b216 {σo : fS} {q : Unit × fS} {N : Nat} {K4 : Int → Int → fS → Option (Unit × fS)} (hk4 : ∀ {s : fS} {l2 : Int} {l3 : Int}, bE 0 σo s → K4 l2 l3 s = some q → bE 0 σo q.2) {s : fS} {l3 : Int} {s0 : Int} (E : bE 0 σo s) (hF : FX23_take_b216 N K4 l3 s0 s = some q) : bE 0 σo q.2 := by
  unfold FX23_take_b216 at hF
  exact hk4 E hF
theorem BX23_take_b189 {σo : fS} {q : Unit × fS} {N : Nat} {K4 : Int → Int → fS → Option (Unit × fS)} (hk4 : ∀ {s : fS} {l2 : Int} {l3 : Int}, bE 0 σo s → K4 l2 l3 s = some q → bE 0 σo q.2) {s : fS} {l2 : Int} {l3 : Int} {s1 : Int} {s2 : Int} (E : bE 0 σo s) (hF : FX23_take_b189 N K4 l2 l3 s1 s2 s = some q) : bE 0 σo q.2 := by
  unfold FX23_take_b189 at hF
  refine b_qI E (E.S.c0 (Nat.le_of_ble_eq_true rfl)) hF (fun _ D1 E1 hF => ?_)
  refine b_rv hF (fun _ hF => ?_)
  refine b_if hF (fun hF => ?_) (fun hF => ?_)
  ·
    exact BX23_take_b216 (N := N) (K4 := K4) @hk4 E1 hF
  ·
    refine b_rv hF (fun _ hF => ?_)
    exact BX23_take_b216 (N := N) (K4 := K4) @hk4 E1 hF
theorem BX23_take_b111 {σo : fS} {q : Unit × fS} {N : Nat} {K4 : Int → Int → fS → Option (Unit × fS)} (hk4 : ∀ {s : fS} {l2 : Int} {l3 : Int}, bE 0 σo s → K4 l2 l3 s = some q → bE 0 σo q.2) : ∀ {n : Nat} {s : fS} {l2 : Int} {l3 : Int} {l5 : Int} {l6 : Int}, bE 0 σo s → FX23_take_b111 N K4 n l2 l3 l5 l6 s = some q → bE 0 σo q.2 := by
  intro n
  induction n with
  | zero => intro s l2 l3 l5 l6 E  hF; simp [FX23_take_b111] at hF
  | succ n ih =>
    intro s l2 l3 l5 l6 E  hF
    rw [FX23_take_b111] at hF
    refine b_if hF (fun hF => ?_) (fun hF => ?_)
    ·
      refine b_if hF (fun hF => ?_) (fun hF => ?_)
      ·
        exact BX23_take_b189 (N := N) (K4 := K4) @hk4 E hF
      ·
        exact BX23_take_b189 (N := N) (K4 := K4) @hk4 E hF
    ·
      refine b_rv hF (fun _ hF => ?_)
      refine b_if hF (fun hF => ?_) (fun hF => ?_)
      ·
        exact BX23_take_b165 (N := N) (K111 := FX23_take_b111 N K4 n) @ih E hF
      ·
        refine b_rv hF (fun _ hF => ?_)
        refine b_if hF (fun hF => ?_) (fun hF => ?_)
        ·
          exact BX23_take_b165 (N := N) (K111 := FX23_take_b111 N K4 n) @ih E hF
        ·
          refine b_rv hF (fun _ hF => ?_)
          exact BX23_take_b166 (N := N) (K111 := FX23_take_b111 N K4 n) @ih E hF
theorem BX23_take_b105 {σo : fS} {q : Unit × fS} {N : Nat} {K4 : Int → Int → fS → Option (Unit × fS)} (hk4 : ∀ {s : fS} {l2 : Int} {l3 : Int}, bE 0 σo s → K4 l2 l3 s = some q → bE 0 σo q.2) {s : fS} {l2 : Int} {l3 : Int} {l5 : Int} {s1 : Int} {s2 : Int} {s3 : Int} (E : bE 0 σo s) (hF : FX23_take_b105 N K4 l2 l3 l5 s1 s2 s3 s = some q) : bE 0 σo q.2 := by
  unfold FX23_take_b105 at hF
  refine b_qJ E (E.S.c0 (Nat.le_of_ble_eq_true rfl)) hF (fun _ D1 E1 hF => ?_)
  exact BX23_take_b111 (N := N) (K4 := K4) @hk4 E1 hF
theorem BX23_take_b74 {σo : fS} {q : Unit × fS} {N : Nat} {K4 : Int → Int → fS → Option (Unit × fS)} (hk4 : ∀ {s : fS} {l2 : Int} {l3 : Int}, bE 0 σo s → K4 l2 l3 s = some q → bE 0 σo q.2) {s : fS} {l2 : Int} {l3 : Int} {l5 : Int} {s1 : Int} {s2 : Int} {s3 : Int} (E : bE 0 σo s) (hF : FX23_take_b74 N K4 l2 l3 l5 s1 s2 s3 s = some q) : bE 0 σo q.2 := by
  unfold FX23_take_b74 at hF
  refine b_qJ E (E.S.c0 (Nat.le_of_ble_eq_true rfl)) hF (fun _ D1 E1 hF => ?_)
  refine b_rv hF (fun _ hF => ?_)
  refine b_if hF (fun hF => ?_) (fun hF => ?_)
  ·
    exact BX23_take_b105 (N := N) (K4 := K4) @hk4 E1 hF
  ·
    refine b_rv hF (fun _ hF => ?_)
    exact BX23_take_b105 (N := N) (K4 := K4) @hk4 E1 hF
theorem BX23_take_b44 {σo : fS} {q : Unit × fS} {N : Nat} {K4 : Int → Int → fS → Option (Unit × fS)} (hk4 : ∀ {s : fS} {l2 : Int} {l3 : Int}, bE 0 σo s → K4 l2 l3 s = some q → bE 0 σo q.2) {s : fS} {l2 : Int} {l3 : Int} {l4 : Int} {s0 : Int} (E : bE 0 σo s) (hF : FX23_take_b44 N K4 l2 l3 l4 s0 s = some q) : bE 0 σo q.2 := by
  unfold FX23_take_b44 at hF
  refine b_rv hF (fun _ hF => ?_)
  refine b_if hF (fun hF => ?_) (fun hF => ?_)
  ·
    exact BX23_take_b74 (N := N) (K4 := K4) @hk4 E hF
  ·
    refine b_rv hF (fun _ hF => ?_)
    exact BX23_take_b74 (N := N) (K4 := K4) @hk4 E hF
theorem BX23_take_b27 {σo : fS} {q : Unit × fS} {N : Nat} {K4 : Int → Int → fS → Option (Unit × fS)} (hk4 : ∀ {s : fS} {l2 : Int} {l3 : Int}, bE 0 σo s → K4 l2 l3 s = some q → bE 0 σo q.2) {s : fS} {l2 : Int} {l3 : Int} {s0 : Int} (E : bE 0 σo s) (hF : FX23_take_b27 N K4 l2 l3 s0 s = some q) : bE 0 σo q.2 := by
  unfold FX23_take_b27 at hF
  refine b_rv hF (fun _ hF => ?_)
  refine b_if hF (fun hF => ?_) (fun hF => ?_)
  ·
    exact BX23_take_b44 (N := N) (K4 := K4) @hk4 E hF
  ·
    exact BX23_take_b44 (N := N) (K4 := K4) @hk4 E hF
theorem BX23_take_b311 {σo : fS} {q : Unit × fS} {N : Nat} {K225 : Int → fS → Option (Unit × fS)} (hk225 : ∀ {s : fS} {l3 : Int}, bE 0 σo s → K225 l3 s = some q → bE 0 σo q.2) {s : fS} {l3 : Int} {l5 : Int} (E : bE 0 σo s) (hF : FX23_take_b311 N K225 l3 l5 s = some q) : bE 0 σo q.2 := by
  unfold FX23_take_b311 at hF
  refine b_qI E (E.S.c0 (Nat.le_of_ble_eq_true rfl)) hF (fun _ D2 E2 hF => ?_)
  exact hk225 E2 hF
theorem BX23_take_b287 {σo : fS} {q : Unit × fS} {N : Nat} {K225 : Int → fS → Option (Unit × fS)} (hk225 : ∀ {s : fS} {l3 : Int}, bE 0 σo s → K225 l3 s = some q → bE 0 σo q.2) : ∀ {n : Nat} {s : fS} {l3 : Int} {l5 : Int}, bE 0 σo s → FX23_take_b287 N K225 n l3 l5 s = some q → bE 0 σo q.2 := by
  intro n
  induction n with
  | zero => intro s l3 l5 E  hF; simp [FX23_take_b287] at hF
  | succ n ih =>
    intro s l3 l5 E  hF
    rw [FX23_take_b287] at hF
    refine b_if hF (fun hF => ?_) (fun hF => ?_)
    ·
      exact BX23_take_b311 (N := N) (K225 := K225) @hk225 E hF
    ·
      refine b_call E (fun _ hq => (BX22_isDropped (bE.rf E.S) hq)) hF (fun _ hq3 D3 E3 hF => ?_)
      refine b_if hF (fun hF => ?_) (fun hF => ?_)
      ·
        exact BX23_take_b311 (N := N) (K225 := K225) @hk225 E3 hF
      ·
        exact ih E3 hF
theorem BX23_take_b269 {σo : fS} {q : Unit × fS} {N : Nat} {K225 : Int → fS → Option (Unit × fS)} (hk225 : ∀ {s : fS} {l3 : Int}, bE 0 σo s → K225 l3 s = some q → bE 0 σo q.2) {s : fS} {l3 : Int} {l4 : Int} {s0 : Int} (E : bE 0 σo s) (hF : FX23_take_b269 N K225 l3 l4 s0 s = some q) : bE 0 σo q.2 := by
  unfold FX23_take_b269 at hF
  refine b_if hF (fun hF => ?_) (fun hF => ?_)
  ·
    exact BX23_take_b287 (N := N) (K225 := K225) @hk225 E hF
  ·
    refine b_rv hF (fun _ hF => ?_)
    refine b_if hF (fun hF => ?_) (fun hF => ?_)
    ·
      exact BX23_take_b311 (N := N) (K225 := K225) @hk225 E hF
    ·
      exact BX23_take_b287 (N := N) (K225 := K225) @hk225 E hF
theorem BX23_take_b248 {σo : fS} {q : Unit × fS} {N : Nat} {K225 : Int → fS → Option (Unit × fS)} (hk225 : ∀ {s : fS} {l3 : Int}, bE 0 σo s → K225 l3 s = some q → bE 0 σo q.2) {s : fS} {l3 : Int} {s0 : Int} (E : bE 0 σo s) (hF : FX23_take_b248 N K225 l3 s0 s = some q) : bE 0 σo q.2 := by
  unfold FX23_take_b248 at hF
  refine b_if hF (fun hF => ?_) (fun hF => ?_)
  ·
    exact BX23_take_b269 (N := N) (K225 := K225) @hk225 E hF
  ·
    refine b_rv hF (fun _ hF => ?_)
    exact BX23_take_b269 (N := N) (K225 := K225) @hk225 E hF
theorem BX23_take_b225 {σo : fS} {q : Unit × fS} {N : Nat} : ∀ {n : Nat} {s : fS} {l3 : Int}, bE 0 σo s → FX23_take_b225 N n l3 s = some q → bE 0 σo q.2 := by
  intro n
  induction n with
  | zero => intro s l3 E  hF; simp [FX23_take_b225] at hF
  | succ n ih =>
    intro s l3 E  hF
    rw [FX23_take_b225] at hF
    refine b_if hF (fun hF => ?_) (fun hF => ?_)
    ·
      exact b_ret E hF
    ·
      refine b_rv hF (fun _ hF => ?_)
      refine b_if hF (fun hF => ?_) (fun hF => ?_)
      ·
        exact BX23_take_b248 (N := N) (K225 := FX23_take_b225 N n) @ih E hF
      ·
        exact BX23_take_b248 (N := N) (K225 := FX23_take_b225 N n) @ih E hF
theorem BX23_take_b4 {σo : fS} {q : Unit × fS} {N : Nat} : ∀ {n : Nat} {s : fS} {l2 : Int} {l3 : Int}, bE 0 σo s → FX23_take_b4 N n l2 l3 s = some q → bE 0 σo q.2 := by
  intro n
  induction n with
  | zero => intro s l2 l3 E  hF; simp [FX23_take_b4] at hF
  | succ n ih =>
    intro s l2 l3 E  hF
    rw [FX23_take_b4] at hF
    refine b_if hF (fun hF => ?_) (fun hF => ?_)
    ·
      exact BX23_take_b225 (N := N) E hF
    ·
      refine b_rv hF (fun _ hF => ?_)
      refine b_if hF (fun hF => ?_) (fun hF => ?_)
      ·
        exact BX23_take_b27 (N := N) (K4 := FX23_take_b4 N n) @ih E hF
      ·
        exact BX23_take_b27 (N := N) (K4 := FX23_take_b4 N n) @ih E hF
theorem BX23_take {σo : fS} {q : Unit × fS} {N : Nat} {s : fS} (E : bE 0 σo s) (hF : FX23_take N s = some q) : bE 0 σo q.2 := by
  unfold FX23_take at hF
  exact BX23_take_b4 (N := N) E hF
theorem BX21_takeAround {σo : fS} {q : Unit × fS} {N : Nat} {s : fS} (E : bE 0 σo s) (hF : FX21_takeAround N s = some q) : bE 0 σo q.2 := by
  unfold FX21_takeAround at hF
  refine b_rv hF (fun _ hF => ?_)
  refine b_rv hF (fun _ hF => ?_)
  refine b_pJ E (E.S.c0 (Nat.le_of_ble_eq_true rfl)) hF (fun _ D6 E6 hF => ?_)
  refine b_rv hF (fun _ hF => ?_)
  refine b_rv hF (fun _ hF => ?_)
  refine b_pJ E6 (E6.S.c0 (Nat.le_of_ble_eq_true rfl)) hF (fun _ D12 E12 hF => ?_)
  refine b_call E12 (fun _ hq => (BJ0_fill_4 (N := N) (bE.rf E12.S) hq)) hF (fun _ hq15 D15 E15 hF => ?_)
  refine b_rv hF (fun _ hF => ?_)
  refine b_rv hF (fun _ hF => ?_)
  refine b_rv hF (fun _ hF => ?_)
  refine b_qJ E15 (E15.S.c0 (Nat.le_of_ble_eq_true rfl)) hF (fun _ D23 E23 hF => ?_)
  refine b_rv hF (fun _ hF => ?_)
  refine b_rv hF (fun _ hF => ?_)
  refine b_rv hF (fun _ hF => ?_)
  refine b_qJ E23 (E23.S.c0 (Nat.le_of_ble_eq_true rfl)) hF (fun _ D31 E31 hF => ?_)
  exact b_ret E31 hF
theorem BX25_add {σo : fS} {q : Int × fS} {s : fS} {p0 : Int} {p1 : Int} {p2 : Int} {p3 : Int} {p4 : Int} (E : bE 0 σo s) (hF : FX25_add p0 p1 p2 p3 p4 s = some q) : bE 0 σo q.2 := by
  unfold FX25_add at hF
  refine b_qI E (E.S.c0 (Nat.le_of_ble_eq_true rfl)) hF (fun _ D3 E3 hF => ?_)
  refine b_qI E3 (E3.S.c0 (Nat.le_of_ble_eq_true rfl)) hF (fun _ D6 E6 hF => ?_)
  refine b_qI E6 (E6.S.c0 (Nat.le_of_ble_eq_true rfl)) hF (fun _ D9 E9 hF => ?_)
  refine b_qJ E9 (E9.S.c0 (Nat.le_of_ble_eq_true rfl)) hF (fun _ D12 E12 hF => ?_)
  refine b_qI E12 (E12.S.c0 (Nat.le_of_ble_eq_true rfl)) hF (fun _ D15 E15 hF => ?_)
  refine b_qI E15 (E15.S.c0 (Nat.le_of_ble_eq_true rfl)) hF (fun _ D19 E19 hF => ?_)
  refine b_pI E19 (E19.S.c0 (Nat.le_of_ble_eq_true rfl)) hF (fun _ D21 E21 hF => ?_)
  refine b_pI E21 (E21.S.c0 (Nat.le_of_ble_eq_true rfl)) hF (fun _ D23 E23 hF => ?_)
  exact b_ret E23 hF
theorem BX25_begin {σo : fS} {q : Unit × fS} {s : fS} (E : bE 0 σo s) (hF : FX25_begin s = some q) : bE 0 σo q.2 := by
  unfold FX25_begin at hF
  refine b_pI E (E.S.c0 (Nat.le_of_ble_eq_true rfl)) hF (fun _ D1 E1 hF => ?_)
  refine b_pI E1 (E1.S.c0 (Nat.le_of_ble_eq_true rfl)) hF (fun _ D2 E2 hF => ?_)
  refine b_call E2 (fun _ hq => (BX25_add (bE.rf E2.S) hq)) hF (fun _ hq4 D4 E4 hF => ?_)
  exact b_ret E4 hF
theorem BX24_clear_b2 {σo : fS} {q : Unit × fS} {N : Nat} : ∀ {n : Nat} {s : fS} {l1 : Int}, bE 0 σo s → FX24_clear_b2 N n l1 s = some q → bE 0 σo q.2 := by
  intro n
  induction n with
  | zero => intro s l1 E  hF; simp [FX24_clear_b2] at hF
  | succ n ih =>
    intro s l1 E  hF
    rw [FX24_clear_b2] at hF
    refine b_if hF (fun hF => ?_) (fun hF => ?_)
    ·
      exact b_ret E hF
    ·
      refine b_qI E (E.S.c0 (Nat.le_of_ble_eq_true rfl)) hF (fun _ D4 E4 hF => ?_)
      exact ih E4 hF
theorem BX24_clear {σo : fS} {q : Unit × fS} {N : Nat} {s : fS} (E : bE 0 σo s) (hF : FX24_clear N s = some q) : bE 0 σo q.2 := by
  unfold FX24_clear at hF
  exact BX24_clear_b2 (N := N) E hF
theorem BX24_penaltyOf_b60 {σo : fS} {q : Int × fS} {s : fS} {s0 : Int} (E : bE 0 σo s) (hF : FX24_penaltyOf_b60 s0 s = some q) : bE 0 σo q.2 := by
  unfold FX24_penaltyOf_b60 at hF
  exact b_ret E hF
theorem BX24_penaltyOf_b55 {σo : fS} {q : Int × fS} {s : fS} {s1 : Int} (E : bE 0 σo s) (hF : FX24_penaltyOf_b55 s1 s = some q) : bE 0 σo q.2 := by
  unfold FX24_penaltyOf_b55 at hF
  refine b_rv hF (fun _ hF => ?_)
  exact BX24_penaltyOf_b60 E hF
theorem BX24_penaltyOf {σo : fS} {q : Int × fS} {s : fS} {p0 : Int} (E : bE 0 σo s) (hF : FX24_penaltyOf p0 s = some q) : bE 0 σo q.2 := by
  unfold FX24_penaltyOf at hF
  refine b_rv hF (fun _ hF => ?_)
  refine b_if hF (fun hF => ?_) (fun hF => ?_)
  ·
    refine b_if hF (fun hF => ?_) (fun hF => ?_)
    ·
      exact BX24_penaltyOf_b60 E hF
    ·
      refine b_rv hF (fun _ hF => ?_)
      refine b_if hF (fun hF => ?_) (fun hF => ?_)
      ·
        exact BX24_penaltyOf_b55 E hF
      ·
        exact BX24_penaltyOf_b55 E hF
  ·
    refine b_rv hF (fun _ hF => ?_)
    exact BX24_penaltyOf_b60 E hF
theorem BX24_before_b26 {σo : fS} {q : Int × fS} {N : Nat} {s : fS} {l2 : Int} (E : bE 0 σo s) (hF : FX24_before_b26 N l2 s = some q) : bE 0 σo q.2 := by
  unfold FX24_before_b26 at hF
  exact b_ret E hF
theorem BX24_before_b4 {σo : fS} {q : Int × fS} {N : Nat} : ∀ {n : Nat} {s : fS} {l2 : Int}, bE 0 σo s → FX24_before_b4 N n l2 s = some q → bE 0 σo q.2 := by
  intro n
  induction n with
  | zero => intro s l2 E  hF; simp [FX24_before_b4] at hF
  | succ n ih =>
    intro s l2 E  hF
    rw [FX24_before_b4] at hF
    refine b_if hF (fun hF => ?_) (fun hF => ?_)
    ·
      exact BX24_before_b26 (N := N) E hF
    ·
      refine b_rv hF (fun _ hF => ?_)
      refine b_if hF (fun hF => ?_) (fun hF => ?_)
      ·
        exact BX24_before_b26 (N := N) E hF
      ·
        exact ih E hF
theorem BX24_before {σo : fS} {q : Int × fS} {N : Nat} {s : fS} {p0 : Int} (E : bE 0 σo s) (hF : FX24_before N p0 s = some q) : bE 0 σo q.2 := by
  unfold FX24_before at hF
  exact BX24_before_b4 (N := N) E hF
theorem BX24_isPlace_b23 {σo : fS} {q : Int × fS} {N : Nat} {s : fS} (E : bE 0 σo s) (hF : FX24_isPlace_b23 N s = some q) : bE 0 σo q.2 := by
  unfold FX24_isPlace_b23 at hF
  exact b_ret E hF
theorem BX24_isPlace_b121 {σo : fS} {q : Int × fS} {N : Nat} {s : fS} {s0 : Int} (E : bE 0 σo s) (hF : FX24_isPlace_b121 N s0 s = some q) : bE 0 σo q.2 := by
  unfold FX24_isPlace_b121 at hF
  exact b_z E hF
theorem BX24_isPlace_b116 {σo : fS} {q : Int × fS} {N : Nat} {s : fS} (E : bE 0 σo s) (hF : FX24_isPlace_b116 N s = some q) : bE 0 σo q.2 := by
  unfold FX24_isPlace_b116 at hF
  exact BX24_isPlace_b121 (N := N) E hF
theorem BX24_isPlace_b120 {σo : fS} {q : Int × fS} {N : Nat} {s : fS} (E : bE 0 σo s) (hF : FX24_isPlace_b120 N s = some q) : bE 0 σo q.2 := by
  unfold FX24_isPlace_b120 at hF
  exact BX24_isPlace_b121 (N := N) E hF
theorem BX24_isPlace_b155 {σo : fS} {q : Int × fS} {N : Nat} {s : fS} {s0 : Int} (E : bE 0 σo s) (hF : FX24_isPlace_b155 N s0 s = some q) : bE 0 σo q.2 := by
  unfold FX24_isPlace_b155 at hF
  exact b_z E hF
theorem BX24_isPlace_b154 {σo : fS} {q : Int × fS} {N : Nat} {s : fS} (E : bE 0 σo s) (hF : FX24_isPlace_b154 N s = some q) : bE 0 σo q.2 := by
  unfold FX24_isPlace_b154 at hF
  exact BX24_isPlace_b155 (N := N) E hF
theorem BX24_isPlace {σo : fS} {q : Int × fS} {N : Nat} {s : fS} {p0 : Int} (E : bE 0 σo s) (hF : FX24_isPlace N p0 s = some q) : bE 0 σo q.2 := by
  unfold FX24_isPlace at hF
  refine b_rv hF (fun _ hF => ?_)
  refine b_if hF (fun hF => ?_) (fun hF => ?_)
  ·
    exact BX24_isPlace_b23 (N := N) E hF
  ·
    refine b_call E (fun _ hq => (BX24_penaltyOf (bE.rf E.S) hq)) hF (fun _ hq5 D5 E5 hF => ?_)
    refine b_if hF (fun hF => ?_) (fun hF => ?_)
    ·
      refine b_rv hF (fun _ hF => ?_)
      refine b_if hF (fun hF => ?_) (fun hF => ?_)
      ·
        refine b_call E5 (fun _ hq => (BX24_before (N := N) (bE.rf E5.S) hq)) hF (fun _ hq10 D10 E10 hF => ?_)
        refine b_if hF (fun hF => ?_) (fun hF => ?_)
        ·
          exact BX24_isPlace_b120 (N := N) E10 hF
        ·
          refine b_rv hF (fun _ hF => ?_)
          refine b_if hF (fun hF => ?_) (fun hF => ?_)
          ·
            exact BX24_isPlace_b116 (N := N) E10 hF
          ·
            refine b_rv hF (fun _ hF => ?_)
            refine b_if hF (fun hF => ?_) (fun hF => ?_)
            ·
              exact BX24_isPlace_b116 (N := N) E10 hF
            ·
              refine b_rv hF (fun _ hF => ?_)
              refine b_if hF (fun hF => ?_) (fun hF => ?_)
              ·
                exact BX24_isPlace_b120 (N := N) E10 hF
              ·
                exact BX24_isPlace_b116 (N := N) E10 hF
      ·
        refine b_if hF (fun hF => ?_) (fun hF => ?_)
        ·
          exact b_ret E5 hF
        ·
          refine b_if hF (fun hF => ?_) (fun hF => ?_)
          ·
            refine b_if hF (fun hF => ?_) (fun hF => ?_)
            ·
              exact BX24_isPlace_b154 (N := N) E5 hF
            ·
              refine b_rv hF (fun _ hF => ?_)
              refine b_if hF (fun hF => ?_) (fun hF => ?_)
              ·
                exact BX24_isPlace_b154 (N := N) E5 hF
              ·
                exact BX24_isPlace_b155 (N := N) E5 hF
          ·
            refine b_if hF (fun hF => ?_) (fun hF => ?_)
            ·
              exact b_ret E5 hF
            ·
              refine b_if hF (fun hF => ?_) (fun hF => ?_)
              ·
                exact b_z E5 hF
              ·
                exact b_ret E5 hF
    ·
      exact BX24_isPlace_b23 (N := N) E5 hF
theorem BX23_stretched {σo : fS} {q : Int × fS} {s : fS} {p0 : Int} {p1 : Int} {p2 : Int} (E : bE 0 σo s) (hF : FX23_stretched p0 p1 p2 s = some q) : bE 0 σo q.2 := by
  unfold FX23_stretched at hF
  refine b_rv hF (fun _ hF => ?_)
  refine b_rv hF (fun _ hF => ?_)
  refine b_rv hF (fun _ hF => ?_)
  exact b_ret E hF
theorem BX23_measure_b188 {σo : fS} {q : Unit × fS} {N : Nat} {K157 : Int → Int → Int → fS → Option (Unit × fS)} (hk157 : ∀ {s : fS} {l4 : Int} {l5 : Int} {l6 : Int}, bE 0 σo s → K157 l4 l5 l6 s = some q → bE 0 σo q.2) {s : fS} {l4 : Int} {l5 : Int} {l6 : Int} {s1 : Int} {s2 : Int} (E : bE 0 σo s) (hF : FX23_measure_b188 N K157 l4 l5 l6 s1 s2 s = some q) : bE 0 σo q.2 := by
  unfold FX23_measure_b188 at hF
  refine b_pZ E (E.S.c0 (Nat.le_of_ble_eq_true rfl)) hF (fun _ D1 E1 hF => ?_)
  exact hk157 E1 hF
theorem BX23_measure_b157 {σo : fS} {q : Unit × fS} {N : Nat} : ∀ {n : Nat} {s : fS} {l4 : Int} {l5 : Int} {l6 : Int}, bE 0 σo s → FX23_measure_b157 N n l4 l5 l6 s = some q → bE 0 σo q.2 := by
  intro n
  induction n with
  | zero => intro s l4 l5 l6 E  hF; simp [FX23_measure_b157] at hF
  | succ n ih =>
    intro s l4 l5 l6 E  hF
    rw [FX23_measure_b157] at hF
    refine b_if hF (fun hF => ?_) (fun hF => ?_)
    ·
      exact b_ret E hF
    ·
      refine b_call E (fun _ hq => (BX23_stretched (bE.rf E.S) hq)) hF (fun _ hq3 D3 E3 hF => ?_)
      refine b_if hF (fun hF => ?_) (fun hF => ?_)
      ·
        exact BX23_measure_b188 (N := N) (K157 := FX23_measure_b157 N n) @ih E3 hF
      ·
        exact BX23_measure_b188 (N := N) (K157 := FX23_measure_b157 N n) @ih E3 hF
theorem BX23_measure_b112 {σo : fS} {q : Unit × fS} {N : Nat} {s : fS} {l4 : Int} {l5 : Int} (E : bE 0 σo s) (hF : FX23_measure_b112 N l4 l5 s = some q) : bE 0 σo q.2 := by
  unfold FX23_measure_b112 at hF
  refine b_rv hF (fun _ hF => ?_)
  refine b_rv hF (fun _ hF => ?_)
  refine b_pJ E (E.S.c0 (Nat.le_of_ble_eq_true rfl)) hF (fun _ D6 E6 hF => ?_)
  refine b_call E6 (fun _ hq => (BX23_stretched (bE.rf E6.S) hq)) hF (fun _ hq8 D8 E8 hF => ?_)
  refine b_pJ E8 (E8.S.c0 (Nat.le_of_ble_eq_true rfl)) hF (fun _ D9 E9 hF => ?_)
  refine b_pZ E9 (E9.S.c0 (Nat.le_of_ble_eq_true rfl)) hF (fun _ D10 E10 hF => ?_)
  exact BX23_measure_b157 (N := N) E10 hF
theorem BX23_measure_b83 {σo : fS} {q : Unit × fS} {N : Nat} {s : fS} {l3 : Int} {l4 : Int} {l5 : Int} (E : bE 0 σo s) (hF : FX23_measure_b83 N l3 l4 l5 s = some q) : bE 0 σo q.2 := by
  unfold FX23_measure_b83 at hF
  refine b_rv hF (fun _ hF => ?_)
  refine b_if hF (fun hF => ?_) (fun hF => ?_)
  ·
    exact BX23_measure_b112 (N := N) E hF
  ·
    refine b_rv hF (fun _ hF => ?_)
    refine b_call E (fun _ hq => (BX1_solid (bE.rf E.S) hq)) hF (fun _ hq6 D6 E6 hF => ?_)
    refine b_pJ E6 (E6.S.c0 (Nat.le_of_ble_eq_true rfl)) hF (fun _ D7 E7 hF => ?_)
    exact BX23_measure_b112 (N := N) E7 hF
theorem BX23_measure_b15 {σo : fS} {q : Unit × fS} {N : Nat} {s : fS} {l2 : Int} {l3 : Int} {s0 : Int} (E : bE 0 σo s) (hF : FX23_measure_b15 N l2 l3 s0 s = some q) : bE 0 σo q.2 := by
  unfold FX23_measure_b15 at hF
  refine b_rv hF (fun _ hF => ?_)
  refine b_rv hF (fun _ hF => ?_)
  refine b_pJ E (E.S.c0 (Nat.le_of_ble_eq_true rfl)) hF (fun _ D6 E6 hF => ?_)
  refine b_if hF (fun hF => ?_) (fun hF => ?_)
  ·
    exact BX23_measure_b83 (N := N) E6 hF
  ·
    refine b_rv hF (fun _ hF => ?_)
    refine b_if hF (fun hF => ?_) (fun hF => ?_)
    ·
      exact BX23_measure_b83 (N := N) E6 hF
    ·
      refine b_rv hF (fun _ hF => ?_)
      refine b_call E6 (fun _ hq => (BX1_solid (bE.rf E6.S) hq)) hF (fun _ hq12 D12 E12 hF => ?_)
      refine b_pJ E12 (E12.S.c0 (Nat.le_of_ble_eq_true rfl)) hF (fun _ D13 E13 hF => ?_)
      exact BX23_measure_b83 (N := N) E13 hF
theorem BX23_measure {σo : fS} {q : Unit × fS} {N : Nat} {s : fS} {p1 : Int} {p2 : Int} (E : bE 0 σo s) (hF : FX23_measure N p1 p2 s = some q) : bE 0 σo q.2 := by
  unfold FX23_measure at hF
  refine b_if hF (fun hF => ?_) (fun hF => ?_)
  ·
    refine b_rv hF (fun _ hF => ?_)
    exact BX23_measure_b15 (N := N) E hF
  ·
    exact BX23_measure_b15 (N := N) E hF
theorem BX26_bad_b89 {σo : fS} {q : Int × fS} {s : fS} {s0 : Int} (E : bE 0 σo s) (hF : FX26_bad_b89 s0 s = some q) : bE 0 σo q.2 := by
  unfold FX26_bad_b89 at hF
  exact b_ret E hF
theorem BX26_bad_b55 {σo : fS} {q : Int × fS} {s : fS} {s0 : Int} (E : bE 0 σo s) (hF : FX26_bad_b55 s0 s = some q) : bE 0 σo q.2 := by
  unfold FX26_bad_b55 at hF
  refine b_if hF (fun hF => ?_) (fun hF => ?_)
  ·
    exact BX26_bad_b89 E hF
  ·
    exact BX26_bad_b89 E hF
theorem BX26_bad {σo : fS} {q : Int × fS} {s : fS} {p0 : Int} {p1 : Int} (E : bE 0 σo s) (hF : FX26_bad p0 p1 s = some q) : bE 0 σo q.2 := by
  unfold FX26_bad at hF
  refine b_if hF (fun hF => ?_) (fun hF => ?_)
  ·
    refine b_if hF (fun hF => ?_) (fun hF => ?_)
    ·
      refine b_if hF (fun hF => ?_) (fun hF => ?_)
      ·
        refine b_if hF (fun hF => ?_) (fun hF => ?_)
        ·
          exact BX26_bad_b55 E hF
        ·
          refine b_dv hF (fun hF => ?_)
          exact BX26_bad_b55 E hF
      ·
        refine b_dv hF (fun hF => ?_)
        exact BX26_bad_b55 E hF
    ·
      exact b_ret E hF
  ·
    exact b_ret E hF
theorem BX26_weigh_b122 {σo : fS} {q : Unit × fS} {s : fS} (E : bE 0 σo s) (hF : FX26_weigh_b122 s = some q) : bE 0 σo q.2 := by
  unfold FX26_weigh_b122 at hF
  exact b_ret E hF
theorem BX26_weigh_b57 {σo : fS} {q : Unit × fS} {s : fS} {s1 : Int} (E : bE 0 σo s) (hF : FX26_weigh_b57 s1 s = some q) : bE 0 σo q.2 := by
  unfold FX26_weigh_b57 at hF
  refine b_pI E (E.S.c0 (Nat.le_of_ble_eq_true rfl)) hF (fun _ D1 E1 hF => ?_)
  exact BX26_weigh_b122 E1 hF
theorem BX26_weigh_b26 {σo : fS} {q : Unit × fS} {s : fS} {s1 : Int} (E : bE 0 σo s) (hF : FX26_weigh_b26 s1 s = some q) : bE 0 σo q.2 := by
  unfold FX26_weigh_b26 at hF
  refine b_pI E (E.S.c0 (Nat.le_of_ble_eq_true rfl)) hF (fun _ D1 E1 hF => ?_)
  refine b_if hF (fun hF => ?_) (fun hF => ?_)
  ·
    refine b_if hF (fun hF => ?_) (fun hF => ?_)
    ·
      exact BX26_weigh_b57 E1 hF
    ·
      exact BX26_weigh_b57 E1 hF
  ·
    exact BX26_weigh_b57 E1 hF
theorem BX26_weigh_b119 {σo : fS} {q : Unit × fS} {s : fS} {s1 : Int} (E : bE 0 σo s) (hF : FX26_weigh_b119 s1 s = some q) : bE 0 σo q.2 := by
  unfold FX26_weigh_b119 at hF
  refine b_pI E (E.S.c0 (Nat.le_of_ble_eq_true rfl)) hF (fun _ D1 E1 hF => ?_)
  exact BX26_weigh_b122 E1 hF
theorem BX26_weigh_b101 {σo : fS} {q : Unit × fS} {s : fS} {s1 : Int} (E : bE 0 σo s) (hF : FX26_weigh_b101 s1 s = some q) : bE 0 σo q.2 := by
  unfold FX26_weigh_b101 at hF
  refine b_pI E (E.S.c0 (Nat.le_of_ble_eq_true rfl)) hF (fun _ D1 E1 hF => ?_)
  refine b_if hF (fun hF => ?_) (fun hF => ?_)
  ·
    exact BX26_weigh_b119 E1 hF
  ·
    exact BX26_weigh_b119 E1 hF
theorem BX26_weigh_b78 {σo : fS} {q : Unit × fS} {s : fS} {l1 : Int} {s0 : Int} (E : bE 0 σo s) (hF : FX26_weigh_b78 l1 s0 s = some q) : bE 0 σo q.2 := by
  unfold FX26_weigh_b78 at hF
  refine b_if hF (fun hF => ?_) (fun hF => ?_)
  ·
    refine b_call E (fun _ hq => (BX26_bad (bE.rf E.S) hq)) hF (fun _ hq2 D2 E2 hF => ?_)
    exact BX26_weigh_b101 E2 hF
  ·
    exact BX26_weigh_b101 E hF
theorem BX26_weigh {σo : fS} {q : Unit × fS} {s : fS} {p0 : Int} (E : bE 0 σo s) (hF : FX26_weigh p0 s = some q) : bE 0 σo q.2 := by
  unfold FX26_weigh at hF
  refine b_if hF (fun hF => ?_) (fun hF => ?_)
  ·
    refine b_if hF (fun hF => ?_) (fun hF => ?_)
    ·
      exact BX26_weigh_b78 E hF
    ·
      exact BX26_weigh_b78 E hF
  ·
    refine b_if hF (fun hF => ?_) (fun hF => ?_)
    ·
      refine b_call E (fun _ hq => (BX26_bad (bE.rf E.S) hq)) hF (fun _ hq4 D4 E4 hF => ?_)
      exact BX26_weigh_b26 E4 hF
    ·
      exact BX26_weigh_b26 E hF
theorem BX24_demerits_b209 {σo : fS} {q : Int × fS} {s : fS} {s0 : Int} (E : bE 0 σo s) (hF : FX24_demerits_b209 s0 s = some q) : bE 0 σo q.2 := by
  unfold FX24_demerits_b209 at hF
  exact b_ret E hF
theorem BX24_demerits_b169 {σo : fS} {q : Int × fS} {s : fS} {l1 : Int} {l4 : Int} (E : bE 0 σo s) (hF : FX24_demerits_b169 l1 l4 s = some q) : bE 0 σo q.2 := by
  unfold FX24_demerits_b169 at hF
  refine b_rv hF (fun _ hF => ?_)
  refine b_if hF (fun hF => ?_) (fun hF => ?_)
  ·
    exact BX24_demerits_b209 E hF
  ·
    refine b_rv hF (fun _ hF => ?_)
    exact BX24_demerits_b209 E hF
theorem BX24_demerits_b166 {σo : fS} {q : Int × fS} {s : fS} {l1 : Int} {s0 : Int} {s1 : Int} (E : bE 0 σo s) (hF : FX24_demerits_b166 l1 s0 s1 s = some q) : bE 0 σo q.2 := by
  unfold FX24_demerits_b166 at hF
  exact BX24_demerits_b169 E hF
theorem BX24_demerits_b85 {σo : fS} {q : Int × fS} {s : fS} {l1 : Int} {l2 : Int} {l4 : Int} (E : bE 0 σo s) (hF : FX24_demerits_b85 l1 l2 l4 s = some q) : bE 0 σo q.2 := by
  unfold FX24_demerits_b85 at hF
  refine b_rv hF (fun _ hF => ?_)
  refine b_if hF (fun hF => ?_) (fun hF => ?_)
  ·
    exact BX24_demerits_b169 E hF
  ·
    refine b_rv hF (fun _ hF => ?_)
    refine b_if hF (fun hF => ?_) (fun hF => ?_)
    ·
      exact BX24_demerits_b169 E hF
    ·
      refine b_rv hF (fun _ hF => ?_)
      refine b_if hF (fun hF => ?_) (fun hF => ?_)
      ·
        refine b_if hF (fun hF => ?_) (fun hF => ?_)
        ·
          exact BX24_demerits_b166 E hF
        ·
          refine b_rv hF (fun _ hF => ?_)
          exact BX24_demerits_b166 E hF
      ·
        refine b_rv hF (fun _ hF => ?_)
        exact BX24_demerits_b166 E hF
theorem BX24_demerits_b36 {σo : fS} {q : Int × fS} {s : fS} {l1 : Int} {l2 : Int} {s0 : Int} (E : bE 0 σo s) (hF : FX24_demerits_b36 l1 l2 s0 s = some q) : bE 0 σo q.2 := by
  unfold FX24_demerits_b36 at hF
  refine b_call E (fun _ hq => (BX24_penaltyOf (bE.rf E.S) hq)) hF (fun _ hq2 D2 E2 hF => ?_)
  refine b_if hF (fun hF => ?_) (fun hF => ?_)
  ·
    refine b_if hF (fun hF => ?_) (fun hF => ?_)
    ·
      exact BX24_demerits_b85 E2 hF
    ·
      exact BX24_demerits_b85 E2 hF
  ·
    exact BX24_demerits_b85 E2 hF
theorem BX24_demerits {σo : fS} {q : Int × fS} {s : fS} {p0 : Int} {p1 : Int} (E : bE 0 σo s) (hF : FX24_demerits p0 p1 s = some q) : bE 0 σo q.2 := by
  unfold FX24_demerits at hF
  refine b_rv hF (fun _ hF => ?_)
  refine b_if hF (fun hF => ?_) (fun hF => ?_)
  ·
    exact BX24_demerits_b36 E hF
  ·
    exact BX24_demerits_b36 E hF
theorem BX25_isBetter_b58 {σo : fS} {q : Int × fS} {s : fS} {s0 : Int} (E : bE 0 σo s) (hF : FX25_isBetter_b58 s0 s = some q) : bE 0 σo q.2 := by
  unfold FX25_isBetter_b58 at hF
  exact b_z E hF
theorem BX25_isBetter {σo : fS} {q : Int × fS} {s : fS} {p0 : Int} {p1 : Int} (E : bE 0 σo s) (hF : FX25_isBetter p0 p1 s = some q) : bE 0 σo q.2 := by
  unfold FX25_isBetter at hF
  refine b_rv hF (fun _ hF => ?_)
  refine b_rv hF (fun _ hF => ?_)
  refine b_if hF (fun hF => ?_) (fun hF => ?_)
  ·
    refine b_rv hF (fun _ hF => ?_)
    refine b_rv hF (fun _ hF => ?_)
    refine b_if hF (fun hF => ?_) (fun hF => ?_)
    ·
      exact BX25_isBetter_b58 E hF
    ·
      exact BX25_isBetter_b58 E hF
  ·
    refine b_rv hF (fun _ hF => ?_)
    refine b_rv hF (fun _ hF => ?_)
    refine b_if hF (fun hF => ?_) (fun hF => ?_)
    ·
      exact BX25_isBetter_b58 E hF
    ·
      exact BX25_isBetter_b58 E hF
theorem BX24_offer_b118 {σo : fS} {q : Unit × fS} {s : fS} {l1 : Int} (E : bE 0 σo s) (hF : FX24_offer_b118 l1 s = some q) : bE 0 σo q.2 := by
  unfold FX24_offer_b118 at hF
  refine b_pZ E (E.S.c0 (Nat.le_of_ble_eq_true rfl)) hF (fun _ D1 E1 hF => ?_)
  refine b_rv hF (fun _ hF => ?_)
  refine b_pI E1 (E1.S.c0 (Nat.le_of_ble_eq_true rfl)) hF (fun _ D6 E6 hF => ?_)
  refine b_rv hF (fun _ hF => ?_)
  refine b_pI E6 (E6.S.c0 (Nat.le_of_ble_eq_true rfl)) hF (fun _ D11 E11 hF => ?_)
  exact b_ret E11 hF
theorem BX24_offer_b96 {σo : fS} {q : Unit × fS} {s : fS} {l1 : Int} {l3 : Int} {l4 : Int} {s0 : Int} (E : bE 0 σo s) (hF : FX24_offer_b96 l1 l3 l4 s0 s = some q) : bE 0 σo q.2 := by
  unfold FX24_offer_b96 at hF
  refine b_if hF (fun hF => ?_) (fun hF => ?_)
  ·
    exact BX24_offer_b118 E hF
  ·
    refine b_qI E (E.S.c0 (Nat.le_of_ble_eq_true rfl)) hF (fun _ D2 E2 hF => ?_)
    refine b_qJ E2 (E2.S.c0 (Nat.le_of_ble_eq_true rfl)) hF (fun _ D4 E4 hF => ?_)
    exact BX24_offer_b118 E4 hF
theorem BX24_offer_b91 {σo : fS} {q : Unit × fS} {s : fS} {l1 : Int} {l3 : Int} {l4 : Int} (E : bE 0 σo s) (hF : FX24_offer_b91 l1 l3 l4 s = some q) : bE 0 σo q.2 := by
  unfold FX24_offer_b91 at hF
  exact BX24_offer_b96 E hF
theorem BX24_offer_b95 {σo : fS} {q : Unit × fS} {s : fS} {l1 : Int} {l3 : Int} {l4 : Int} (E : bE 0 σo s) (hF : FX24_offer_b95 l1 l3 l4 s = some q) : bE 0 σo q.2 := by
  unfold FX24_offer_b95 at hF
  exact BX24_offer_b96 E hF
theorem BX24_offer {σo : fS} {q : Unit × fS} {s : fS} {p0 : Int} {p1 : Int} (E : bE 0 σo s) (hF : FX24_offer p0 p1 s = some q) : bE 0 σo q.2 := by
  unfold FX24_offer at hF
  refine b_rv hF (fun _ hF => ?_)
  refine b_rv hF (fun _ hF => ?_)
  refine b_call E (fun _ hq => (BX24_demerits (bE.rf E.S) hq)) hF (fun _ hq10 D10 E10 hF => ?_)
  refine b_rv hF (fun _ hF => ?_)
  refine b_if hF (fun hF => ?_) (fun hF => ?_)
  ·
    exact BX24_offer_b91 E10 hF
  ·
    refine b_rv hF (fun _ hF => ?_)
    refine b_if hF (fun hF => ?_) (fun hF => ?_)
    ·
      exact BX24_offer_b91 E10 hF
    ·
      refine b_rv hF (fun _ hF => ?_)
      refine b_if hF (fun hF => ?_) (fun hF => ?_)
      ·
        exact BX24_offer_b95 E10 hF
      ·
        refine b_rv hF (fun _ hF => ?_)
        refine b_call E10 (fun _ hq => (BX25_isBetter (bE.rf E10.S) hq)) hF (fun _ hq21 D21 E21 hF => ?_)
        refine b_if hF (fun hF => ?_) (fun hF => ?_)
        ·
          exact BX24_offer_b95 E21 hF
        ·
          exact BX24_offer_b91 E21 hF
theorem BX24_isLater_b59 {σo : fS} {q : Int × fS} {s : fS} {s0 : Int} (E : bE 0 σo s) (hF : FX24_isLater_b59 s0 s = some q) : bE 0 σo q.2 := by
  unfold FX24_isLater_b59 at hF
  exact b_z E hF
theorem BX24_isLater {σo : fS} {q : Int × fS} {s : fS} {p0 : Int} {p1 : Int} (E : bE 0 σo s) (hF : FX24_isLater p0 p1 s = some q) : bE 0 σo q.2 := by
  unfold FX24_isLater at hF
  refine b_rv hF (fun _ hF => ?_)
  refine b_rv hF (fun _ hF => ?_)
  refine b_if hF (fun hF => ?_) (fun hF => ?_)
  ·
    refine b_call E (fun _ hq => (BX25_isBetter (bE.rf E.S) hq)) hF (fun _ hq9 D9 E9 hF => ?_)
    exact BX24_isLater_b59 E9 hF
  ·
    refine b_rv hF (fun _ hF => ?_)
    refine b_rv hF (fun _ hF => ?_)
    refine b_if hF (fun hF => ?_) (fun hF => ?_)
    ·
      exact BX24_isLater_b59 E hF
    ·
      exact BX24_isLater_b59 E hF
theorem BX24_goThrough_b245 {σo : fS} {q : Int × fS} {N : Nat} {K51 : Int → Int → Int → Int → Int → Int → fS → Option (Int × fS)} (hk51 : ∀ {s : fS} {l1 : Int} {l2 : Int} {l3 : Int} {l4 : Int} {l5 : Int} {l6 : Int}, bE 0 σo s → K51 l1 l2 l3 l4 l5 l6 s = some q → bE 0 σo q.2) {s : fS} {l1 : Int} {l2 : Int} {l3 : Int} {l4 : Int} {l5 : Int} {l6 : Int} (E : bE 0 σo s) (hF : FX24_goThrough_b245 N K51 l1 l2 l3 l4 l5 l6 s = some q) : bE 0 σo q.2 := by
  unfold FX24_goThrough_b245 at hF
  refine b_rv hF (fun _ hF => ?_)
  exact hk51 E hF
theorem BX24_goThrough_b188 {σo : fS} {q : Int × fS} {N : Nat} {K51 : Int → Int → Int → Int → Int → Int → fS → Option (Int × fS)} (hk51 : ∀ {s : fS} {l1 : Int} {l2 : Int} {l3 : Int} {l4 : Int} {l5 : Int} {l6 : Int}, bE 0 σo s → K51 l1 l2 l3 l4 l5 l6 s = some q → bE 0 σo q.2) {s : fS} {l1 : Int} {l2 : Int} {l4 : Int} {l5 : Int} {l6 : Int} {s0 : Int} (E : bE 0 σo s) (hF : FX24_goThrough_b188 N K51 l1 l2 l4 l5 l6 s0 s = some q) : bE 0 σo q.2 := by
  unfold FX24_goThrough_b188 at hF
  refine b_if hF (fun hF => ?_) (fun hF => ?_)
  ·
    refine b_rv hF (fun _ hF => ?_)
    refine b_qI E (E.S.c0 (Nat.le_of_ble_eq_true rfl)) hF (fun _ D6 E6 hF => ?_)
    exact BX24_goThrough_b245 (N := N) (K51 := K51) @hk51 E6 hF
  ·
    refine b_rv hF (fun _ hF => ?_)
    refine b_pI E (E.S.c0 (Nat.le_of_ble_eq_true rfl)) hF (fun _ D11 E11 hF => ?_)
    exact BX24_goThrough_b245 (N := N) (K51 := K51) @hk51 E11 hF
theorem BX24_goThrough_b182 {σo : fS} {q : Int × fS} {N : Nat} {K51 : Int → Int → Int → Int → Int → Int → fS → Option (Int × fS)} (hk51 : ∀ {s : fS} {l1 : Int} {l2 : Int} {l3 : Int} {l4 : Int} {l5 : Int} {l6 : Int}, bE 0 σo s → K51 l1 l2 l3 l4 l5 l6 s = some q → bE 0 σo q.2) {s : fS} {l1 : Int} {l2 : Int} {l4 : Int} {l5 : Int} {l6 : Int} (E : bE 0 σo s) (hF : FX24_goThrough_b182 N K51 l1 l2 l4 l5 l6 s = some q) : bE 0 σo q.2 := by
  unfold FX24_goThrough_b182 at hF
  exact BX24_goThrough_b188 (N := N) (K51 := K51) @hk51 E hF
theorem BX24_goThrough_b167 {σo : fS} {q : Int × fS} {N : Nat} {K51 : Int → Int → Int → Int → Int → Int → fS → Option (Int × fS)} (hk51 : ∀ {s : fS} {l1 : Int} {l2 : Int} {l3 : Int} {l4 : Int} {l5 : Int} {l6 : Int}, bE 0 σo s → K51 l1 l2 l3 l4 l5 l6 s = some q → bE 0 σo q.2) {s : fS} {l1 : Int} {l2 : Int} {l3 : Int} {l4 : Int} {l5 : Int} {l6 : Int} (E : bE 0 σo s) (hF : FX24_goThrough_b167 N K51 l1 l2 l3 l4 l5 l6 s = some q) : bE 0 σo q.2 := by
  unfold FX24_goThrough_b167 at hF
  refine b_if hF (fun hF => ?_) (fun hF => ?_)
  ·
    exact BX24_goThrough_b182 (N := N) (K51 := K51) @hk51 E hF
  ·
    refine b_call E (fun _ hq => (BX24_isLater (bE.rf E.S) hq)) hF (fun _ hq2 D2 E2 hF => ?_)
    refine b_if hF (fun hF => ?_) (fun hF => ?_)
    ·
      exact BX24_goThrough_b188 (N := N) (K51 := K51) @hk51 E2 hF
    ·
      exact BX24_goThrough_b182 (N := N) (K51 := K51) @hk51 E2 hF
theorem BX24_goThrough_b150 {σo : fS} {q : Int × fS} {N : Nat} {K51 : Int → Int → Int → Int → Int → Int → fS → Option (Int × fS)} (hk51 : ∀ {s : fS} {l1 : Int} {l2 : Int} {l3 : Int} {l4 : Int} {l5 : Int} {l6 : Int}, bE 0 σo s → K51 l1 l2 l3 l4 l5 l6 s = some q → bE 0 σo q.2) {s : fS} {l1 : Int} {l2 : Int} {l3 : Int} {l4 : Int} {l5 : Int} {l6 : Int} (E : bE 0 σo s) (hF : FX24_goThrough_b150 N K51 l1 l2 l3 l4 l5 l6 s = some q) : bE 0 σo q.2 := by
  unfold FX24_goThrough_b150 at hF
  refine b_if hF (fun hF => ?_) (fun hF => ?_)
  ·
    exact BX24_goThrough_b167 (N := N) (K51 := K51) @hk51 E hF
  ·
    refine b_if hF (fun hF => ?_) (fun hF => ?_)
    ·
      exact BX24_goThrough_b245 (N := N) (K51 := K51) @hk51 E hF
    ·
      exact BX24_goThrough_b167 (N := N) (K51 := K51) @hk51 E hF
theorem BX24_goThrough_b270 {σo : fS} {q : Int × fS} {N : Nat} {s : fS} {s0 : Int} (E : bE 0 σo s) (hF : FX24_goThrough_b270 N s0 s = some q) : bE 0 σo q.2 := by
  unfold FX24_goThrough_b270 at hF
  exact b_ret E hF
theorem BX24_goThrough_b51 {σo : fS} {q : Int × fS} {N : Nat} : ∀ {n : Nat} {s : fS} {l1 : Int} {l2 : Int} {l3 : Int} {l4 : Int} {l5 : Int} {l6 : Int}, bE 0 σo s → FX24_goThrough_b51 N n l1 l2 l3 l4 l5 l6 s = some q → bE 0 σo q.2 := by
  intro n
  induction n with
  | zero => intro s l1 l2 l3 l4 l5 l6 E  hF; simp [FX24_goThrough_b51] at hF
  | succ n ih =>
    intro s l1 l2 l3 l4 l5 l6 E  hF
    rw [FX24_goThrough_b51] at hF
    refine b_if hF (fun hF => ?_) (fun hF => ?_)
    ·
      refine b_if hF (fun hF => ?_) (fun hF => ?_)
      ·
        exact BX24_goThrough_b270 (N := N) E hF
      ·
        exact BX24_goThrough_b270 (N := N) E hF
    ·
      refine b_pI E (E.S.c0 (Nat.le_of_ble_eq_true rfl)) hF (fun _ D2 E2 hF => ?_)
      refine b_rv hF (fun _ hF => ?_)
      refine b_call E2 (fun _ hq => (BX23_measure (N := N) (bE.rf E2.S) hq)) hF (fun _ hq9 D9 E9 hF => ?_)
      refine b_rv hF (fun _ hF => ?_)
      refine b_rv hF (fun _ hF => ?_)
      refine b_call E9 (fun _ hq => (BX26_weigh (bE.rf E9.S) hq)) hF (fun _ hq20 D20 E20 hF => ?_)
      refine b_if hF (fun hF => ?_) (fun hF => ?_)
      ·
        exact BX24_goThrough_b150 (N := N) (K51 := FX24_goThrough_b51 N n) @ih E20 hF
      ·
        refine b_call E20 (fun _ hq => (BX24_offer (bE.rf E20.S) hq)) hF (fun _ hq25 D25 E25 hF => ?_)
        exact BX24_goThrough_b150 (N := N) (K51 := FX24_goThrough_b51 N n) @ih E25 hF
theorem BX24_goThrough_b16 {σo : fS} {q : Int × fS} {N : Nat} {s : fS} {l1 : Int} {s0 : Int} (E : bE 0 σo s) (hF : FX24_goThrough_b16 N l1 s0 s = some q) : bE 0 σo q.2 := by
  unfold FX24_goThrough_b16 at hF
  refine b_pZ E (E.S.c0 (Nat.le_of_ble_eq_true rfl)) hF (fun _ D1 E1 hF => ?_)
  refine b_pI E1 (E1.S.c0 (Nat.le_of_ble_eq_true rfl)) hF (fun _ D2 E2 hF => ?_)
  refine b_pI E2 (E2.S.c0 (Nat.le_of_ble_eq_true rfl)) hF (fun _ D3 E3 hF => ?_)
  exact BX24_goThrough_b51 (N := N) E3 hF
theorem BX24_goThrough {σo : fS} {q : Int × fS} {N : Nat} {s : fS} {p0 : Int} (E : bE 0 σo s) (hF : FX24_goThrough N p0 s = some q) : bE 0 σo q.2 := by
  unfold FX24_goThrough at hF
  refine b_call E (fun _ hq => (BX24_penaltyOf (bE.rf E.S) hq)) hF (fun _ hq2 D2 E2 hF => ?_)
  refine b_if hF (fun hF => ?_) (fun hF => ?_)
  ·
    exact BX24_goThrough_b16 (N := N) E2 hF
  ·
    exact BX24_goThrough_b16 (N := N) E2 hF
theorem BX24_makeNodes_b90 {σo : fS} {q : Int × fS} {N : Nat} {K15 : Int → Int → Int → fS → Option (Int × fS)} (hk15 : ∀ {s : fS} {l1 : Int} {l2 : Int} {l3 : Int}, bE 0 σo s → K15 l1 l2 l3 s = some q → bE 0 σo q.2) {s : fS} {l1 : Int} {l2 : Int} {l3 : Int} (E : bE 0 σo s) (hF : FX24_makeNodes_b90 N K15 l1 l2 l3 s = some q) : bE 0 σo q.2 := by
  unfold FX24_makeNodes_b90 at hF
  exact hk15 E hF
theorem BX24_makeNodes_b15 {σo : fS} {q : Int × fS} {N : Nat} {K5 : Int → Int → fS → Option (Int × fS)} (hk5 : ∀ {s : fS} {l1 : Int} {l2 : Int}, bE 0 σo s → K5 l1 l2 s = some q → bE 0 σo q.2) : ∀ {n : Nat} {s : fS} {l1 : Int} {l2 : Int} {l3 : Int}, bE 0 σo s → FX24_makeNodes_b15 N K5 n l1 l2 l3 s = some q → bE 0 σo q.2 := by
  intro n
  induction n with
  | zero => intro s l1 l2 l3 E  hF; simp [FX24_makeNodes_b15] at hF
  | succ n ih =>
    intro s l1 l2 l3 E  hF
    rw [FX24_makeNodes_b15] at hF
    refine b_if hF (fun hF => ?_) (fun hF => ?_)
    ·
      exact hk5 E hF
    ·
      refine b_rv hF (fun _ hF => ?_)
      refine b_if hF (fun hF => ?_) (fun hF => ?_)
      ·
        refine b_if hF (fun hF => ?_) (fun hF => ?_)
        ·
          refine b_rv hF (fun _ hF => ?_)
          refine b_rv hF (fun _ hF => ?_)
          refine b_call E (fun _ hq => (BX25_add (bE.rf E.S) hq)) hF (fun _ hq11 D11 E11 hF => ?_)
          refine b_qI E11 (E11.S.c0 (Nat.le_of_ble_eq_true rfl)) hF (fun _ D13 E13 hF => ?_)
          exact BX24_makeNodes_b90 (N := N) (K15 := FX24_makeNodes_b15 N K5 n) @ih E13 hF
        ·
          exact b_ret E hF
      ·
        exact BX24_makeNodes_b90 (N := N) (K15 := FX24_makeNodes_b15 N K5 n) @ih E hF
theorem BX24_makeNodes_b5 {σo : fS} {q : Int × fS} {N : Nat} : ∀ {n : Nat} {s : fS} {l1 : Int} {l2 : Int}, bE 0 σo s → FX24_makeNodes_b5 N n l1 l2 s = some q → bE 0 σo q.2 := by
  intro n
  induction n with
  | zero => intro s l1 l2 E  hF; simp [FX24_makeNodes_b5] at hF
  | succ n ih =>
    intro s l1 l2 E  hF
    rw [FX24_makeNodes_b5] at hF
    refine b_if hF (fun hF => ?_) (fun hF => ?_)
    ·
      exact b_ret E hF
    ·
      exact BX24_makeNodes_b15 (N := N) (K5 := FX24_makeNodes_b5 N n) @ih E hF
theorem BX24_makeNodes {σo : fS} {q : Int × fS} {N : Nat} {s : fS} {p0 : Int} (E : bE 0 σo s) (hF : FX24_makeNodes N p0 s = some q) : bE 0 σo q.2 := by
  unfold FX24_makeNodes at hF
  exact BX24_makeNodes_b5 (N := N) E hF
