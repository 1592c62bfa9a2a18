set_option maxRecDepth 100000
set_option maxHeartbeats 4000000
theorem BX3_lay_b193 {σo : fS} {q : (Unit ⊕ Nat) × fS} {N : Nat} {K31 : Nat → Int → Int → fS → Option ((Unit ⊕ Nat) × fS)} (hk31 : ∀ {s : fS} {l1 : Nat} {l2 : Int} {l3 : Int}, bE 0 σo s → bO 0 s l1 → K31 l1 l2 l3 s = some q → bE 0 σo q.2) {s : fS} {l1 : Nat} {l2 : Int} {l3 : Int} (E : bE 0 σo s) (ol1 : bO 0 s l1) (hF : FX3_lay_b193 N K31 l1 l2 l3 s = some q) : bE 0 σo q.2 := by
  unfold FX3_lay_b193 at hF
  refine b_K hF (fun hF => ?_)
  refine b_call E (fun _ hq => (BX29_add (bE.rf E.S) (E.S.c0 (Nat.le_of_ble_eq_true rfl)) hq)) hF (fun _ hq5 D5 E5 hF => ?_)
  exact hk31 E5 (ol1.up D5) hF
theorem BX3_lay_b180 {σo : fS} {q : (Unit ⊕ Nat) × fS} {N : Nat} {K31 : Nat → Int → Int → fS → Option ((Unit ⊕ Nat) × fS)} (hk31 : ∀ {s : fS} {l1 : Nat} {l2 : Int} {l3 : Int}, bE 0 σo s → bO 0 s l1 → K31 l1 l2 l3 s = some q → bE 0 σo q.2) {s : fS} {l1 : Nat} {l2 : Int} {l3 : Int} {s0 : Int} (E : bE 0 σo s) (ol1 : bO 0 s l1) (hF : FX3_lay_b180 N K31 l1 l2 l3 s0 s = some q) : bE 0 σo q.2 := by
  unfold FX3_lay_b180 at hF
  refine b_tB E (fun _ hq => BX4_want (bE.rf E.S) hq) hF (fun _ _ D3 E3 hF => ?_)
  exact BX3_lay_b193 (N := N) (K31 := K31) @hk31 E3 (ol1.up D3) hF
theorem BX3_lay_b159 {σo : fS} {q : (Unit ⊕ Nat) × fS} {N : Nat} {K31 : Nat → Int → Int → fS → Option ((Unit ⊕ Nat) × fS)} (hk31 : ∀ {s : fS} {l1 : Nat} {l2 : Int} {l3 : Int}, bE 0 σo s → bO 0 s l1 → K31 l1 l2 l3 s = some q → bE 0 σo q.2) {s : fS} {l1 : Nat} {l2 : Int} {l3 : Int} {s1 : Int} {s2 : Int} {s3 : Int} (E : bE 0 σo s) (ol1 : bO 0 s l1) (hF : FX3_lay_b159 N K31 l1 l2 l3 s1 s2 s3 s = some q) : bE 0 σo q.2 := by
  unfold FX3_lay_b159 at hF
  refine b_rv hF (fun _ hF => ?_)
  refine b_rv hF (fun _ hF => ?_)
  refine b_call E (fun _ hq => (BX20_line (bE.rf E.S) hq)) hF (fun _ hq8 D8 E8 hF => ?_)
  exact BX3_lay_b180 (N := N) (K31 := K31) @hk31 E8 (ol1.up D8) hF
theorem BX3_lay_b31 {σo : fS} {q : (Unit ⊕ Nat) × fS} {N : Nat} : ∀ {n : Nat} {s : fS} {l1 : Nat} {l2 : Int} {l3 : Int}, bE 0 σo s → bO 0 s l1 → FX3_lay_b31 N n l1 l2 l3 s = some q → bE 0 σo q.2 := by
  intro n
  induction n with
  | zero => intro s l1 l2 l3 E ol1 hF; simp [FX3_lay_b31] at hF
  | succ n ih =>
    intro s l1 l2 l3 E ol1 hF
    rw [FX3_lay_b31] at hF
    refine b_K hF (fun hF => ?_)
    refine b_if hF (fun hF => ?_) (fun hF => ?_)
    ·
      exact b_ret E hF
    ·
      refine b_rv hF (fun _ hF => ?_)
      refine b_if hF (fun hF => ?_) (fun hF => ?_)
      ·
        exact BX3_lay_b193 (N := N) (K31 := FX3_lay_b31 N n) @ih E ol1 hF
      ·
        refine b_rv hF (fun _ hF => ?_)
        refine b_K hF (fun hF => ?_)
        refine b_call E (fun _ hq => (BX30_share (N := N) (bE.rf E.S) ol1 hq)) hF (fun _ hq14 D14 E14 hF => ?_)
        refine b_rv hF (fun _ hF => ?_)
        refine b_rv hF (fun _ hF => ?_)
        refine b_if hF (fun hF => ?_) (fun hF => ?_)
        ·
          refine b_if hF (fun hF => ?_) (fun hF => ?_)
          ·
            exact BX3_lay_b159 (N := N) (K31 := FX3_lay_b31 N n) @ih E14 (ol1.up D14) hF
          ·
            exact BX3_lay_b159 (N := N) (K31 := FX3_lay_b31 N n) @ih E14 (ol1.up D14) hF
        ·
          refine b_rO E14 (E14.S.c0 (Nat.le_of_ble_eq_true rfl)) hF (fun _ o24 hF => ?_)
          refine b_call E14 (fun _ hq => (BX20_lay (N := N) (bE.rf E14.S) o24 hq)) hF (fun _ hq26 D26 E26 hF => ?_)
          exact BX3_lay_b180 (N := N) (K31 := FX3_lay_b31 N n) @ih E26 ((ol1.up D14).up D26) hF
theorem BX3_lay {σo : fS} {q : (Unit ⊕ Nat) × fS} {N : Nat} {s : fS} {p0 : Nat} (E : bE 0 σo s) (op0 : bO 0 s p0) (hF : FX3_lay N p0 s = some q) : bE 0 σo q.2 := by
  unfold FX3_lay at hF
  refine b_call E (fun _ hq => (BX3_widthOf (N := N) (bE.rf E.S) op0 hq)) hF (fun _ hq2 D2 E2 hF => ?_)
  refine b_pI E2 (E2.S.c0 (Nat.le_of_ble_eq_true rfl)) hF (fun _ D4 E4 hF => ?_)
  refine b_K hF (fun hF => ?_)
  refine b_call E4 (fun _ hq => (BX30_crown (N := N) (bE.rf E4.S) ((op0.up D2).up D4) (E4.S.c0 (Nat.le_of_ble_eq_true rfl)) hq)) hF (fun _ hq8 D8 E8 hF => ?_)
  refine b_K hF (fun hF => ?_)
  exact BX3_lay_b31 (N := N) E8 (((op0.up D2).up D4).up D8) hF
theorem BX3_isNear_b21 {σo : fS} {q : Int × fS} {s : fS} {s0 : Int} (E : bE 0 σo s) (hF : FX3_isNear_b21 s0 s = some q) : bE 0 σo q.2 := by
  unfold FX3_isNear_b21 at hF
  exact b_z E hF
theorem BX3_isNear_b20 {σo : fS} {q : Int × fS} {s : fS} (E : bE 0 σo s) (hF : FX3_isNear_b20 s = some q) : bE 0 σo q.2 := by
  unfold FX3_isNear_b20 at hF
  exact BX3_isNear_b21 E hF
theorem BX3_isNear {σo : fS} {q : Int × fS} {s : fS} {p0 : Int} (E : bE 0 σo s) (hF : FX3_isNear p0 s = some q) : bE 0 σo q.2 := by
  unfold FX3_isNear at hF
  refine b_if hF (fun hF => ?_) (fun hF => ?_)
  ·
    exact BX3_isNear_b20 E hF
  ·
    refine b_if hF (fun hF => ?_) (fun hF => ?_)
    ·
      exact BX3_isNear_b20 E hF
    ·
      exact BX3_isNear_b21 E hF
theorem BX31_add {σo : fS} {q : Int × fS} {s : fS} {p0 : Int} {p1 : Int} {p2 : Int} {p3 : Int} {p4 : Int} (E : bE 0 σo s) (hF : FX31_add p0 p1 p2 p3 p4 s = some q) : bE 0 σo q.2 := by
  unfold FX31_add at hF
  refine b_qI E (E.S.c0 (Nat.le_of_ble_eq_true rfl)) hF (fun _ D3 E3 hF => ?_)
  refine b_qI E3 (E3.S.c0 (Nat.le_of_ble_eq_true rfl)) hF (fun _ D6 E6 hF => ?_)
  refine b_qI E6 (E6.S.c0 (Nat.le_of_ble_eq_true rfl)) hF (fun _ D9 E9 hF => ?_)
  refine b_qI E9 (E9.S.c0 (Nat.le_of_ble_eq_true rfl)) hF (fun _ D12 E12 hF => ?_)
  refine b_qI E12 (E12.S.c0 (Nat.le_of_ble_eq_true rfl)) hF (fun _ D15 E15 hF => ?_)
  refine b_pI E15 (E15.S.c0 (Nat.le_of_ble_eq_true rfl)) hF (fun _ D17 E17 hF => ?_)
  exact b_ret E17 hF
theorem BX3_hand_b225 {σo : fS} {q : (Unit ⊕ Nat) × fS} {N : Nat} {K2 : Int → fS → Option ((Unit ⊕ Nat) × fS)} (hk2 : ∀ {s : fS} {l1 : Int}, bE 0 σo s → K2 l1 s = some q → bE 0 σo q.2) {s : fS} {l1 : Int} (E : bE 0 σo s) (hF : FX3_hand_b225 N K2 l1 s = some q) : bE 0 σo q.2 := by
  unfold FX3_hand_b225 at hF
  exact hk2 E hF
theorem BX3_hand_b121 {σo : fS} {q : (Unit ⊕ Nat) × fS} {N : Nat} {K2 : Int → fS → Option ((Unit ⊕ Nat) × fS)} (hk2 : ∀ {s : fS} {l1 : Int}, bE 0 σo s → K2 l1 s = some q → bE 0 σo q.2) {s : fS} {l1 : Int} {l3 : Int} {l5 : Int} {l9 : Int} {l11 : Int} {s1 : Int} (E : bE 0 σo s) (hF : FX3_hand_b121 N K2 l1 l3 l5 l9 l11 s1 s = some q) : bE 0 σo q.2 := by
  unfold FX3_hand_b121 at hF
  refine b_tB E (fun _ hq => BX4_want (bE.rf E.S) hq) hF (fun _ _ D2 E2 hF => ?_)
  refine b_rv hF (fun _ hF => ?_)
  refine b_call E2 (fun _ hq => (BX31_add (bE.rf E2.S) hq)) hF (fun _ hq6 D6 E6 hF => ?_)
  exact BX3_hand_b225 (N := N) (K2 := K2) @hk2 E6 hF
theorem BX3_hand_b120 {σo : fS} {q : (Unit ⊕ Nat) × fS} {N : Nat} {K2 : Int → fS → Option ((Unit ⊕ Nat) × fS)} (hk2 : ∀ {s : fS} {l1 : Int}, bE 0 σo s → K2 l1 s = some q → bE 0 σo q.2) {s : fS} {l1 : Int} {l3 : Int} {l5 : Int} {l9 : Int} {l11 : Int} (E : bE 0 σo s) (hF : FX3_hand_b120 N K2 l1 l3 l5 l9 l11 s = some q) : bE 0 σo q.2 := by
  unfold FX3_hand_b120 at hF
  exact BX3_hand_b121 (N := N) (K2 := K2) @hk2 E hF
theorem BX3_hand_b193 {σo : fS} {q : (Unit ⊕ Nat) × fS} {N : Nat} {K2 : Int → fS → Option ((Unit ⊕ Nat) × fS)} (hk2 : ∀ {s : fS} {l1 : Int}, bE 0 σo s → K2 l1 s = some q → bE 0 σo q.2) {s : fS} {l1 : Int} {l4 : Int} {l5 : Int} {l7 : Int} {s1 : Int} (E : bE 0 σo s) (hF : FX3_hand_b193 N K2 l1 l4 l5 l7 s1 s = some q) : bE 0 σo q.2 := by
  unfold FX3_hand_b193 at hF
  refine b_tB E (fun _ hq => BX4_want (bE.rf E.S) hq) hF (fun _ _ D2 E2 hF => ?_)
  refine b_call E2 (fun _ hq => (BX31_add (bE.rf E2.S) hq)) hF (fun _ hq5 D5 E5 hF => ?_)
  exact BX3_hand_b225 (N := N) (K2 := K2) @hk2 E5 hF
theorem BX3_hand_b192 {σo : fS} {q : (Unit ⊕ Nat) × fS} {N : Nat} {K2 : Int → fS → Option ((Unit ⊕ Nat) × fS)} (hk2 : ∀ {s : fS} {l1 : Int}, bE 0 σo s → K2 l1 s = some q → bE 0 σo q.2) {s : fS} {l1 : Int} {l4 : Int} {l5 : Int} {l7 : Int} (E : bE 0 σo s) (hF : FX3_hand_b192 N K2 l1 l4 l5 l7 s = some q) : bE 0 σo q.2 := by
  unfold FX3_hand_b192 at hF
  exact BX3_hand_b193 (N := N) (K2 := K2) @hk2 E hF
theorem BX3_hand_b2 {σo : fS} {q : (Unit ⊕ Nat) × fS} {N : Nat} : ∀ {n : Nat} {s : fS} {l1 : Int}, bE 0 σo s → FX3_hand_b2 N n l1 s = some q → bE 0 σo q.2 := by
  intro n
  induction n with
  | zero => intro s l1 E  hF; simp [FX3_hand_b2] at hF
  | succ n ih =>
    intro s l1 E  hF
    rw [FX3_hand_b2] at hF
    refine b_if hF (fun hF => ?_) (fun hF => ?_)
    ·
      exact b_ret E hF
    ·
      refine b_rv hF (fun _ hF => ?_)
      refine b_rv hF (fun _ hF => ?_)
      refine b_rv hF (fun _ hF => ?_)
      refine b_if hF (fun hF => ?_) (fun hF => ?_)
      ·
        refine b_call E (fun _ hq => (BX3_isNear (bE.rf E.S) hq)) hF (fun _ hq9 D9 E9 hF => ?_)
        refine b_if hF (fun hF => ?_) (fun hF => ?_)
        ·
          exact BX3_hand_b192 (N := N) (K2 := FX3_hand_b2 N n) @ih E9 hF
        ·
          refine b_call E9 (fun _ hq => (BX3_isNear (bE.rf E9.S) hq)) hF (fun _ hq10 D10 E10 hF => ?_)
          refine b_if hF (fun hF => ?_) (fun hF => ?_)
          ·
            exact BX3_hand_b192 (N := N) (K2 := FX3_hand_b2 N n) @ih E10 hF
          ·
            refine b_rv hF (fun _ hF => ?_)
            refine b_call E10 (fun _ hq => (BX3_isNear (bE.rf E10.S) hq)) hF (fun _ hq12 D12 E12 hF => ?_)
            refine b_if hF (fun hF => ?_) (fun hF => ?_)
            ·
              exact BX3_hand_b192 (N := N) (K2 := FX3_hand_b2 N n) @ih E12 hF
            ·
              exact BX3_hand_b193 (N := N) (K2 := FX3_hand_b2 N n) @ih E12 hF
      ·
        refine b_rv hF (fun _ hF => ?_)
        refine b_rv hF (fun _ hF => ?_)
        refine b_rv hF (fun _ hF => ?_)
        refine b_call E (fun _ hq => (BX3_isNear (bE.rf E.S) hq)) hF (fun _ hq17 D17 E17 hF => ?_)
        refine b_if hF (fun hF => ?_) (fun hF => ?_)
        ·
          exact BX3_hand_b120 (N := N) (K2 := FX3_hand_b2 N n) @ih E17 hF
        ·
          refine b_call E17 (fun _ hq => (BX3_isNear (bE.rf E17.S) hq)) hF (fun _ hq18 D18 E18 hF => ?_)
          refine b_if hF (fun hF => ?_) (fun hF => ?_)
          ·
            exact BX3_hand_b120 (N := N) (K2 := FX3_hand_b2 N n) @ih E18 hF
          ·
            refine b_rv hF (fun _ hF => ?_)
            refine b_if hF (fun hF => ?_) (fun hF => ?_)
            ·
              exact BX3_hand_b120 (N := N) (K2 := FX3_hand_b2 N n) @ih E18 hF
            ·
              refine b_if hF (fun hF => ?_) (fun hF => ?_)
              ·
                exact BX3_hand_b120 (N := N) (K2 := FX3_hand_b2 N n) @ih E18 hF
              ·
                exact BX3_hand_b121 (N := N) (K2 := FX3_hand_b2 N n) @ih E18 hF
theorem BX3_hand {σo : fS} {q : (Unit ⊕ Nat) × fS} {N : Nat} {s : fS} (E : bE 0 σo s) (hF : FX3_hand N s = some q) : bE 0 σo q.2 := by
  unfold FX3_hand at hF
  exact BX3_hand_b2 (N := N) E hF
theorem BX33_clear {σo : fS} {q : Unit × fS} {s : fS} {this : Nat} (E : bE 0 σo s) (othis : bO 0 s this) (hF : FX33_clear this s = some q) : bE 0 σo q.2 := by
  unfold FX33_clear at hF
  refine b_K hF (fun hF => ?_)
  refine b_pI E othis hF (fun _ D1 E1 hF => ?_)
  refine b_K hF (fun hF => ?_)
  refine b_pI E1 (othis.up D1) hF (fun _ D2 E2 hF => ?_)
  refine b_K hF (fun hF => ?_)
  refine b_pI E2 ((othis.up D1).up D2) hF (fun _ D3 E3 hF => ?_)
  refine b_K hF (fun hF => ?_)
  refine b_pI E3 (((othis.up D1).up D2).up D3) hF (fun _ D4 E4 hF => ?_)
  exact b_ret E4 hF
theorem BX33_add_b21 {σo : fS} {q : Unit × fS} {s : fS} (E : bE 0 σo s) (hF : FX33_add_b21 s = some q) : bE 0 σo q.2 := by
  unfold FX33_add_b21 at hF
  exact b_ret E hF
theorem BX33_add {σo : fS} {q : Unit × fS} {s : fS} {this : Nat} {p0 : Int} (E : bE 0 σo s) (othis : bO 0 s this) (hF : FX33_add this p0 s = some q) : bE 0 σo q.2 := by
  unfold FX33_add at hF
  refine b_if hF (fun hF => ?_) (fun hF => ?_)
  ·
    exact BX33_add_b21 E hF
  ·
    refine b_K hF (fun hF => ?_)
    refine b_o E othis hF (fun _ o1 hF => ?_)
    refine b_K hF (fun hF => ?_)
    refine b_K hF (fun hF => ?_)
    refine b_pI E othis hF (fun _ D3 E3 hF => ?_)
    refine b_KA hF (fun hF => ?_)
    refine b_qI E3 (o1.up D3) hF (fun _ D4 E4 hF => ?_)
    exact BX33_add_b21 E4 hF
theorem BX31_behind_b45 {σo : fS} {q : Int × fS} {s : fS} {s0 : Int} (E : bE 0 σo s) (hF : FX31_behind_b45 s0 s = some q) : bE 0 σo q.2 := by
  unfold FX31_behind_b45 at hF
  exact b_ret E hF
theorem BX31_behind {σo : fS} {q : Int × fS} {s : fS} {p0 : Int} (E : bE 0 σo s) (hF : FX31_behind p0 s = some q) : bE 0 σo q.2 := by
  unfold FX31_behind at hF
  refine b_rv hF (fun _ hF => ?_)
  refine b_if hF (fun hF => ?_) (fun hF => ?_)
  ·
    refine b_rv hF (fun _ hF => ?_)
    refine b_rv hF (fun _ hF => ?_)
    refine b_rv hF (fun _ hF => ?_)
    refine b_call E (fun _ hq => (BX5_width (bE.rf E.S) hq)) hF (fun _ hq11 D11 E11 hF => ?_)
    exact BX31_behind_b45 E11 hF
  ·
    refine b_rv hF (fun _ hF => ?_)
    exact BX31_behind_b45 E hF
theorem BX33_seek_b49 {σo : fS} {q : Int × fS} {N : Nat} {s : fS} {l2 : Int} (E : bE 0 σo s) (hF : FX33_seek_b49 N l2 s = some q) : bE 0 σo q.2 := by
  unfold FX33_seek_b49 at hF
  exact b_ret E hF
theorem BX33_seek_b12 {σo : fS} {q : Int × fS} {N : Nat} : ∀ {n : Nat} {s : fS} {l0 : Nat} {l1 : Int} {l2 : Int}, bE 0 σo s → bO 0 s l0 → FX33_seek_b12 N n l0 l1 l2 s = some q → bE 0 σo q.2 := by
  intro n
  induction n with
  | zero => intro s l0 l1 l2 E ol0 hF; simp [FX33_seek_b12] at hF
  | succ n ih =>
    intro s l0 l1 l2 E ol0 hF
    rw [FX33_seek_b12] at hF
    refine b_K hF (fun hF => ?_)
    refine b_o E ol0 hF (fun _ o1 hF => ?_)
    refine b_KA hF (fun hF => ?_)
    refine b_rv hF (fun _ hF => ?_)
    refine b_if hF (fun hF => ?_) (fun hF => ?_)
    ·
      exact BX33_seek_b49 (N := N) E hF
    ·
      refine b_K hF (fun hF => ?_)
      refine b_o E ol0 hF (fun _ o3 hF => ?_)
      refine b_K hF (fun hF => ?_)
      refine b_o E ol0 hF (fun _ o4 hF => ?_)
      refine b_KA hF (fun hF => ?_)
      refine b_rv hF (fun _ hF => ?_)
      refine b_KA hF (fun hF => ?_)
      refine b_rv hF (fun _ hF => ?_)
      refine b_if hF (fun hF => ?_) (fun hF => ?_)
      ·
        exact BX33_seek_b49 (N := N) E hF
      ·
        exact ih E ol0 hF
theorem BX33_seek {σo : fS} {q : Int × fS} {N : Nat} {s : fS} {this : Nat} {p0 : Int} (E : bE 0 σo s) (othis : bO 0 s this) (hF : FX33_seek N this p0 s = some q) : bE 0 σo q.2 := by
  unfold FX33_seek at hF
  exact BX33_seek_b12 (N := N) E othis hF
theorem BX33_settle_b62 {σo : fS} {q : Unit × fS} {N : Nat} {K29 : Nat → Int → fS → Option (Unit × fS)} (hk29 : ∀ {s : fS} {l0 : Nat} {l1 : Int}, bE 0 σo s → bO 0 s l0 → K29 l0 l1 s = some q → bE 0 σo q.2) {s : fS} {l0 : Nat} {l1 : Int} {l2 : Int} (E : bE 0 σo s) (ol0 : bO 0 s l0) (hF : FX33_settle_b62 N K29 l0 l1 l2 s = some q) : bE 0 σo q.2 := by
  unfold FX33_settle_b62 at hF
  refine b_K hF (fun hF => ?_)
  refine b_o E ol0 hF (fun _ o1 hF => ?_)
  refine b_K hF (fun hF => ?_)
  refine b_o E ol0 hF (fun _ o2 hF => ?_)
  refine b_KA hF (fun hF => ?_)
  refine b_rv hF (fun _ hF => ?_)
  refine b_KA hF (fun hF => ?_)
  refine b_qI E o1 hF (fun _ D4 E4 hF => ?_)
  exact hk29 E4 (ol0.up D4) hF
theorem BX33_settle_b29 {σo : fS} {q : Unit × fS} {N : Nat} : ∀ {n : Nat} {s : fS} {l0 : Nat} {l1 : Int}, bE 0 σo s → bO 0 s l0 → FX33_settle_b29 N n l0 l1 s = some q → bE 0 σo q.2 := by
  intro n
  induction n with
  | zero => intro s l0 l1 E ol0 hF; simp [FX33_settle_b29] at hF
  | succ n ih =>
    intro s l0 l1 E ol0 hF
    rw [FX33_settle_b29] at hF
    refine b_if hF (fun hF => ?_) (fun hF => ?_)
    ·
      exact b_ret E hF
    ·
      refine b_K hF (fun hF => ?_)
      refine b_o E ol0 hF (fun _ o1 hF => ?_)
      refine b_KA hF (fun hF => ?_)
      refine b_rv hF (fun _ hF => ?_)
      refine b_K hF (fun hF => ?_)
      refine b_call E (fun _ hq => (BX33_seek (N := N) (bE.rf E.S) ol0 hq)) hF (fun _ hq4 D4 E4 hF => ?_)
      refine b_K hF (fun hF => ?_)
      refine b_o E4 (ol0.up D4) hF (fun _ o5 hF => ?_)
      refine b_KA hF (fun hF => ?_)
      refine b_rv hF (fun _ hF => ?_)
      refine b_if hF (fun hF => ?_) (fun hF => ?_)
      ·
        exact BX33_settle_b62 (N := N) (K29 := FX33_settle_b29 N n) @ih E4 (ol0.up D4) hF
      ·
        refine b_K hF (fun hF => ?_)
        refine b_o E4 (ol0.up D4) hF (fun _ o7 hF => ?_)
        refine b_KA hF (fun hF => ?_)
        refine b_qI E4 o7 hF (fun _ D8 E8 hF => ?_)
        exact BX33_settle_b62 (N := N) (K29 := FX33_settle_b29 N n) @ih E8 ((ol0.up D4).up D8) hF
theorem BX33_settle_b2 {σo : fS} {q : Unit × fS} {N : Nat} : ∀ {n : Nat} {s : fS} {l0 : Nat} {l1 : Int}, bE 0 σo s → bO 0 s l0 → FX33_settle_b2 N n l0 l1 s = some q → bE 0 σo q.2 := by
  intro n
  induction n with
  | zero => intro s l0 l1 E ol0 hF; simp [FX33_settle_b2] at hF
  | succ n ih =>
    intro s l0 l1 E ol0 hF
    rw [FX33_settle_b2] at hF
    refine b_if hF (fun hF => ?_) (fun hF => ?_)
    ·
      refine b_K hF (fun hF => ?_)
      exact BX33_settle_b29 (N := N) E ol0 hF
    ·
      refine b_K hF (fun hF => ?_)
      refine b_o E ol0 hF (fun _ o2 hF => ?_)
      refine b_KA hF (fun hF => ?_)
      refine b_qI E o2 hF (fun _ D3 E3 hF => ?_)
      exact ih E3 (ol0.up D3) hF
theorem BX33_settle {σo : fS} {q : Unit × fS} {N : Nat} {s : fS} {this : Nat} (E : bE 0 σo s) (othis : bO 0 s this) (hF : FX33_settle N this s = some q) : bE 0 σo q.2 := by
  unfold FX33_settle at hF
  exact BX33_settle_b2 (N := N) E othis hF
theorem BX31_gather_b20 {σo : fS} {q : Unit × fS} {N : Nat} : ∀ {n : Nat} {s : fS} {l1 : Int} {l2 : Int} {l3 : Int}, bE 0 σo s → FX31_gather_b20 N n l1 l2 l3 s = some q → bE 0 σo q.2 := by
  intro n
  induction n with
  | zero => intro s l1 l2 l3 E  hF; simp [FX31_gather_b20] at hF
  | succ n ih =>
    intro s l1 l2 l3 E  hF
    rw [FX31_gather_b20] at hF
    refine b_if hF (fun hF => ?_) (fun hF => ?_)
    ·
      refine b_call E (fun _ hq => (BX33_settle (N := N) (bE.rf E.S) (E.S.c0 (Nat.le_of_ble_eq_true rfl)) hq)) hF (fun _ hq4 D4 E4 hF => ?_)
      refine b_call E4 (fun _ hq => (BX33_settle (N := N) (bE.rf E4.S) (E4.S.c0 (Nat.le_of_ble_eq_true rfl)) hq)) hF (fun _ hq7 D7 E7 hF => ?_)
      exact b_ret E7 hF
    ·
      refine b_rv hF (fun _ hF => ?_)
      refine b_call E (fun _ hq => (BX33_add (bE.rf E.S) (E.S.c0 (Nat.le_of_ble_eq_true rfl)) hq)) hF (fun _ hq12 D12 E12 hF => ?_)
      refine b_rv hF (fun _ hF => ?_)
      refine b_call E12 (fun _ hq => (BX33_add (bE.rf E12.S) (E12.S.c0 (Nat.le_of_ble_eq_true rfl)) hq)) hF (fun _ hq17 D17 E17 hF => ?_)
      refine b_rv hF (fun _ hF => ?_)
      refine b_call E17 (fun _ hq => (BX31_behind (bE.rf E17.S) hq)) hF (fun _ hq21 D21 E21 hF => ?_)
      exact ih E21 hF
theorem BX31_gather {σo : fS} {q : Unit × fS} {N : Nat} {s : fS} (E : bE 0 σo s) (hF : FX31_gather N s = some q) : bE 0 σo q.2 := by
  unfold FX31_gather at hF
  refine b_call E (fun _ hq => (BX33_clear (bE.rf E.S) (E.S.c0 (Nat.le_of_ble_eq_true rfl)) hq)) hF (fun _ hq3 D3 E3 hF => ?_)
  refine b_call E3 (fun _ hq => (BX33_clear (bE.rf E3.S) (E3.S.c0 (Nat.le_of_ble_eq_true rfl)) hq)) hF (fun _ hq6 D6 E6 hF => ?_)
  exact BX31_gather_b20 (N := N) E6 hF
theorem BX32_add {σo : fS} {q : Unit × fS} {s : fS} {p0 : Int} (E : bE 0 σo s) (hF : FX32_add p0 s = some q) : bE 0 σo q.2 := by
  unfold FX32_add at hF
  refine b_pI E (E.S.c0 (Nat.le_of_ble_eq_true rfl)) hF (fun _ D3 E3 hF => ?_)
  refine b_qI E3 (E3.S.c0 (Nat.le_of_ble_eq_true rfl)) hF (fun _ D4 E4 hF => ?_)
  exact b_ret E4 hF
theorem BX32_number_b7 {σo : fS} {q : Unit × fS} {N : Nat} : ∀ {n : Nat} {s : fS} {l1 : Int} {l3 : Int}, bE 0 σo s → FX32_number_b7 N n l1 l3 s = some q → bE 0 σo q.2 := by
  intro n
  induction n with
  | zero => intro s l1 l3 E  hF; simp [FX32_number_b7] at hF
  | succ n ih =>
    intro s l1 l3 E  hF
    rw [FX32_number_b7] at hF
    refine b_if hF (fun hF => ?_) (fun hF => ?_)
    ·
      exact b_ret E hF
    ·
      refine b_call E (fun _ hq => (BX32_add (bE.rf E.S) hq)) hF (fun _ hq2 D2 E2 hF => ?_)
      exact ih E2 hF
theorem BX32_number {σo : fS} {q : Unit × fS} {N : Nat} {s : fS} {p0 : Int} {p1 : Int} (E : bE 0 σo s) (hF : FX32_number N p0 p1 s = some q) : bE 0 σo q.2 := by
  unfold FX32_number at hF
  exact BX32_number_b7 (N := N) E hF
theorem BX31_open_b73 {σo : fS} {q : Unit × fS} {N : Nat} : ∀ {n : Nat} {s : fS} {l1 : Int}, bE 0 σo s → FX31_open_b73 N n l1 s = some q → bE 0 σo q.2 := by
  intro n
  induction n with
  | zero => intro s l1 E  hF; simp [FX31_open_b73] at hF
  | succ n ih =>
    intro s l1 E  hF
    rw [FX31_open_b73] at hF
    refine b_if hF (fun hF => ?_) (fun hF => ?_)
    ·
      exact b_ret E hF
    ·
      refine b_call E (fun _ hq => (BX32_add (bE.rf E.S) hq)) hF (fun _ hq5 D5 E5 hF => ?_)
      exact ih E5 hF
theorem BX31_open {σo : fS} {q : Unit × fS} {N : Nat} {s : fS} (E : bE 0 σo s) (hF : FX31_open N s = some q) : bE 0 σo q.2 := by
  unfold FX31_open at hF
  refine b_if hF (fun hF => ?_) (fun hF => ?_)
  ·
    refine b_call E (fun _ hq => (BX32_add (bE.rf E.S) hq)) hF (fun _ hq5 D5 E5 hF => ?_)
    refine b_call E5 (fun _ hq => (BX32_add (bE.rf E5.S) hq)) hF (fun _ hq8 D8 E8 hF => ?_)
    refine b_call E8 (fun _ hq => (BX32_number (N := N) (bE.rf E8.S) hq)) hF (fun _ hq11 D11 E11 hF => ?_)
    refine b_call E11 (fun _ hq => (BX32_number (N := N) (bE.rf E11.S) hq)) hF (fun _ hq14 D14 E14 hF => ?_)
    refine b_call E14 (fun _ hq => (BX32_number (N := N) (bE.rf E14.S) hq)) hF (fun _ hq17 D17 E17 hF => ?_)
    refine b_call E17 (fun _ hq => (BX32_add (bE.rf E17.S) hq)) hF (fun _ hq21 D21 E21 hF => ?_)
    exact BX31_open_b73 (N := N) E21 hF
  ·
    exact b_ret E hF
theorem BX33_is_b20 {σo : fS} {q : Int × fS} {s : fS} {s0 : Int} (E : bE 0 σo s) (hF : FX33_is_b20 s0 s = some q) : bE 0 σo q.2 := by
  unfold FX33_is_b20 at hF
  exact b_z E hF
theorem BX33_is_b19 {σo : fS} {q : Int × fS} {s : fS} (E : bE 0 σo s) (hF : FX33_is_b19 s = some q) : bE 0 σo q.2 := by
  unfold FX33_is_b19 at hF
  exact BX33_is_b20 E hF
theorem BX33_is {σo : fS} {q : Int × fS} {s : fS} {this : Nat} {p0 : Int} {p1 : Int} (E : bE 0 σo s) (othis : bO 0 s this) (hF : FX33_is this p0 p1 s = some q) : bE 0 σo q.2 := by
  unfold FX33_is at hF
  refine b_if hF (fun hF => ?_) (fun hF => ?_)
  ·
    exact BX33_is_b19 E hF
  ·
    refine b_K hF (fun hF => ?_)
    refine b_o E othis hF (fun _ o1 hF => ?_)
    refine b_KA hF (fun hF => ?_)
    refine b_rv hF (fun _ hF => ?_)
    refine b_if hF (fun hF => ?_) (fun hF => ?_)
    ·
      exact BX33_is_b19 E hF
    ·
      exact BX33_is_b20 E hF
theorem BX33_isAwaited_b23 {σo : fS} {q : Int × fS} {s : fS} {s0 : Int} (E : bE 0 σo s) (hF : FX33_isAwaited_b23 s0 s = some q) : bE 0 σo q.2 := by
  unfold FX33_isAwaited_b23 at hF
  exact b_z E hF
theorem BX33_isAwaited_b22 {σo : fS} {q : Int × fS} {s : fS} (E : bE 0 σo s) (hF : FX33_isAwaited_b22 s = some q) : bE 0 σo q.2 := by
  unfold FX33_isAwaited_b22 at hF
  exact BX33_isAwaited_b23 E hF
theorem BX33_isAwaited {σo : fS} {q : Int × fS} {s : fS} {this : Nat} {p0 : Int} (E : bE 0 σo s) (othis : bO 0 s this) (hF : FX33_isAwaited this p0 s = some q) : bE 0 σo q.2 := by
  unfold FX33_isAwaited at hF
  refine b_if hF (fun hF => ?_) (fun hF => ?_)
  ·
    exact BX33_isAwaited_b22 E hF
  ·
    refine b_K hF (fun hF => ?_)
    refine b_o E othis hF (fun _ o1 hF => ?_)
    refine b_KA hF (fun hF => ?_)
    refine b_rv hF (fun _ hF => ?_)
    refine b_K hF (fun hF => ?_)
    refine b_if hF (fun hF => ?_) (fun hF => ?_)
    ·
      exact BX33_isAwaited_b22 E hF
    ·
      exact BX33_isAwaited_b23 E hF
theorem BX32_bytesFor_b32 {σo : fS} {q : Int × fS} {N : Nat} {K2 : Int → Int → fS → Option (Int × fS)} (hk2 : ∀ {s : fS} {l0 : Int} {l1 : Int}, bE 0 σo s → K2 l0 l1 s = some q → bE 0 σo q.2) {s : fS} {l0 : Int} {l1 : Int} (E : bE 0 σo s) (hF : FX32_bytesFor_b32 N K2 l0 l1 s = some q) : bE 0 σo q.2 := by
  unfold FX32_bytesFor_b32 at hF
  exact hk2 E hF
theorem BX32_bytesFor_b38 {σo : fS} {q : Int × fS} {N : Nat} {s : fS} {l1 : Int} (E : bE 0 σo s) (hF : FX32_bytesFor_b38 N l1 s = some q) : bE 0 σo q.2 := by
  unfold FX32_bytesFor_b38 at hF
  exact b_ret E hF
theorem BX32_bytesFor_b2 {σo : fS} {q : Int × fS} {N : Nat} : ∀ {n : Nat} {s : fS} {l0 : Int} {l1 : Int}, bE 0 σo s → FX32_bytesFor_b2 N n l0 l1 s = some q → bE 0 σo q.2 := by
  intro n
  induction n with
  | zero => intro s l0 l1 E  hF; simp [FX32_bytesFor_b2] at hF
  | succ n ih =>
    intro s l0 l1 E  hF
    rw [FX32_bytesFor_b2] at hF
    refine b_if hF (fun hF => ?_) (fun hF => ?_)
    ·
      exact BX32_bytesFor_b38 (N := N) E hF
    ·
      refine b_if hF (fun hF => ?_) (fun hF => ?_)
      ·
        exact BX32_bytesFor_b32 (N := N) (K2 := FX32_bytesFor_b2 N n) @ih E hF
      ·
        refine b_if hF (fun hF => ?_) (fun hF => ?_)
        ·
          exact BX32_bytesFor_b38 (N := N) E hF
        ·
          exact BX32_bytesFor_b32 (N := N) (K2 := FX32_bytesFor_b2 N n) @ih E hF
theorem BX32_bytesFor {σo : fS} {q : Int × fS} {N : Nat} {s : fS} {p0 : Int} (E : bE 0 σo s) (hF : FX32_bytesFor N p0 s = some q) : bE 0 σo q.2 := by
  unfold FX32_bytesFor at hF
  exact BX32_bytesFor_b2 (N := N) E hF
theorem BX32_shortest {σo : fS} {q : Unit × fS} {N : Nat} {s : fS} {p0 : Int} {p1 : Int} (E : bE 0 σo s) (hF : FX32_shortest N p0 p1 s = some q) : bE 0 σo q.2 := by
  unfold FX32_shortest at hF
  refine b_call E (fun _ hq => (BX32_bytesFor (N := N) (bE.rf E.S) hq)) hF (fun _ hq1 D1 E1 hF => ?_)
  refine b_call E1 (fun _ hq => (BX32_add (bE.rf E1.S) hq)) hF (fun _ hq3 D3 E3 hF => ?_)
  refine b_call E3 (fun _ hq => (BX32_number (N := N) (bE.rf E3.S) hq)) hF (fun _ hq5 D5 E5 hF => ?_)
  exact b_ret E5 hF
theorem BX33_write_b161 {σo : fS} {q : Unit × fS} {N : Nat} {s : fS} {l0 : Nat} (E : bE 0 σo s) (ol0 : bO 0 s l0) (hF : FX33_write_b161 N l0 s = some q) : bE 0 σo q.2 := by
  unfold FX33_write_b161 at hF
  refine b_K hF (fun hF => ?_)
  refine b_K hF (fun hF => ?_)
  refine b_pI E ol0 hF (fun _ D2 E2 hF => ?_)
  exact b_ret E2 hF
theorem BX33_write_b152 {σo : fS} {q : Unit × fS} {N : Nat} {s : fS} {l0 : Nat} {l1 : Int} (E : bE 0 σo s) (ol0 : bO 0 s l0) (hF : FX33_write_b152 N l0 l1 s = some q) : bE 0 σo q.2 := by
  unfold FX33_write_b152 at hF
  refine b_K hF (fun hF => ?_)
  refine b_call E (fun _ hq => (BX32_shortest (N := N) (bE.rf E.S) hq)) hF (fun _ hq3 D3 E3 hF => ?_)
  exact BX33_write_b161 (N := N) E3 (ol0.up D3) hF
theorem BX33_write_b102 {σo : fS} {q : Unit × fS} {N : Nat} {s : fS} {l0 : Nat} {l1 : Int} (E : bE 0 σo s) (ol0 : bO 0 s l0) (hF : FX33_write_b102 N l0 l1 s = some q) : bE 0 σo q.2 := by
  unfold FX33_write_b102 at hF
  refine b_K hF (fun hF => ?_)
  refine b_o E ol0 hF (fun _ o1 hF => ?_)
  refine b_K hF (fun hF => ?_)
  refine b_KA hF (fun hF => ?_)
  refine b_rv hF (fun _ hF => ?_)
  refine b_K hF (fun hF => ?_)
  refine b_if hF (fun hF => ?_) (fun hF => ?_)
  ·
    exact BX33_write_b152 (N := N) E ol0 hF
  ·
    refine b_K hF (fun hF => ?_)
    refine b_K hF (fun hF => ?_)
    refine b_call E (fun _ hq => (BX33_isAwaited (bE.rf E.S) ol0 hq)) hF (fun _ hq7 D7 E7 hF => ?_)
    refine b_if hF (fun hF => ?_) (fun hF => ?_)
    ·
      exact BX33_write_b152 (N := N) E7 (ol0.up D7) hF
    ·
      refine b_K hF (fun hF => ?_)
      refine b_K hF (fun hF => ?_)
      refine b_pI E7 (ol0.up D7) hF (fun _ D9 E9 hF => ?_)
      refine b_K hF (fun hF => ?_)
      refine b_call E9 (fun _ hq => (BX32_shortest (N := N) (bE.rf E9.S) hq)) hF (fun _ hq12 D12 E12 hF => ?_)
      exact BX33_write_b161 (N := N) E12 (((ol0.up D7).up D9).up D12) hF
theorem BX33_write {σo : fS} {q : Unit × fS} {N : Nat} {s : fS} {this : Nat} {p0 : Int} (E : bE 0 σo s) (othis : bO 0 s this) (hF : FX33_write N this p0 s = some q) : bE 0 σo q.2 := by
  unfold FX33_write at hF
  refine b_if hF (fun hF => ?_) (fun hF => ?_)
  ·
    refine b_K hF (fun hF => ?_)
    refine b_K hF (fun hF => ?_)
    refine b_call E (fun _ hq => (BX33_is (bE.rf E.S) othis hq)) hF (fun _ hq3 D3 E3 hF => ?_)
    refine b_if hF (fun hF => ?_) (fun hF => ?_)
    ·
      refine b_K hF (fun hF => ?_)
      refine b_K hF (fun hF => ?_)
      refine b_call E3 (fun _ hq => (BX33_is (bE.rf E3.S) (othis.up D3) hq)) hF (fun _ hq6 D6 E6 hF => ?_)
      refine b_if hF (fun hF => ?_) (fun hF => ?_)
      ·
        refine b_K hF (fun hF => ?_)
        refine b_o E6 ((othis.up D3).up D6) hF (fun _ o7 hF => ?_)
        refine b_K hF (fun hF => ?_)
        refine b_KA hF (fun hF => ?_)
        refine b_rv hF (fun _ hF => ?_)
        refine b_K hF (fun hF => ?_)
        refine b_if hF (fun hF => ?_) (fun hF => ?_)
        ·
          exact BX33_write_b102 (N := N) E6 ((othis.up D3).up D6) hF
        ·
          refine b_K hF (fun hF => ?_)
          refine b_K hF (fun hF => ?_)
          refine b_call E6 (fun _ hq => (BX33_isAwaited (bE.rf E6.S) ((othis.up D3).up D6) hq)) hF (fun _ hq13 D13 E13 hF => ?_)
          refine b_if hF (fun hF => ?_) (fun hF => ?_)
          ·
            exact BX33_write_b102 (N := N) E13 (((othis.up D3).up D6).up D13) hF
          ·
            refine b_K hF (fun hF => ?_)
            refine b_K hF (fun hF => ?_)
            refine b_pI E13 (((othis.up D3).up D6).up D13) hF (fun _ D15 E15 hF => ?_)
            refine b_K hF (fun hF => ?_)
            refine b_call E15 (fun _ hq => (BX32_shortest (N := N) (bE.rf E15.S) hq)) hF (fun _ hq18 D18 E18 hF => ?_)
            exact BX33_write_b161 (N := N) E18 (((((othis.up D3).up D6).up D13).up D15).up D18) hF
      ·
        refine b_K hF (fun hF => ?_)
        refine b_call E6 (fun _ hq => (BX32_add (bE.rf E6.S) hq)) hF (fun _ hq21 D21 E21 hF => ?_)
        exact BX33_write_b161 (N := N) E21 (((othis.up D3).up D6).up D21) hF
    ·
      refine b_K hF (fun hF => ?_)
      refine b_call E3 (fun _ hq => (BX32_add (bE.rf E3.S) hq)) hF (fun _ hq24 D24 E24 hF => ?_)
      exact BX33_write_b161 (N := N) E24 ((othis.up D3).up D24) hF
  ·
    exact b_ret E hF
theorem BX5_define_b115 {σo : fS} {q : Unit × fS} {N : Nat} {s : fS} {l1 : Int} (E : bE 0 σo s) (hF : FX5_define_b115 N l1 s = some q) : bE 0 σo q.2 := by
  unfold FX5_define_b115 at hF
  refine b_rv hF (fun _ hF => ?_)
  refine b_call E (fun _ hq => (BX32_add (bE.rf E.S) hq)) hF (fun _ hq4 D4 E4 hF => ?_)
  exact b_ret E4 hF
theorem BX5_define_b71 {σo : fS} {q : Unit × fS} {N : Nat} {s : fS} {l1 : Int} {s1 : Int} (E : bE 0 σo s) (hF : FX5_define_b71 N l1 s1 s = some q) : bE 0 σo q.2 := by
  unfold FX5_define_b71 at hF
  refine b_call E (fun _ hq => (BX32_add (bE.rf E.S) hq)) hF (fun _ hq2 D2 E2 hF => ?_)
  refine b_call E2 (fun _ hq => (BX32_add (bE.rf E2.S) hq)) hF (fun _ hq4 D4 E4 hF => ?_)
  refine b_call E4 (fun _ hq => (BX32_add (bE.rf E4.S) hq)) hF (fun _ hq6 D6 E6 hF => ?_)
  refine b_call E6 (fun _ hq => (BX32_add (bE.rf E6.S) hq)) hF (fun _ hq8 D8 E8 hF => ?_)
  refine b_call E8 (fun _ hq => (BX32_add (bE.rf E8.S) hq)) hF (fun _ hq10 D10 E10 hF => ?_)
  refine b_rv hF (fun _ hF => ?_)
  refine b_if hF (fun hF => ?_) (fun hF => ?_)
  ·
    exact BX5_define_b115 (N := N) E10 hF
  ·
    refine b_call E10 (fun _ hq => (BX32_add (bE.rf E10.S) hq)) hF (fun _ hq14 D14 E14 hF => ?_)
    exact BX5_define_b115 (N := N) E14 hF
theorem BX5_define {σo : fS} {q : Unit × fS} {N : Nat} {s : fS} {p0 : Int} (E : bE 0 σo s) (hF : FX5_define N p0 s = some q) : bE 0 σo q.2 := by
  unfold FX5_define at hF
  refine b_rO E (E.S.c0 (Nat.le_of_ble_eq_true rfl)) hF (fun _ o2 hF => ?_)
  refine b_call E (fun _ hq => (BX32_add (bE.rf E.S) hq)) hF (fun _ hq4 D4 E4 hF => ?_)
  refine b_call E4 (fun _ hq => (BX32_add (bE.rf E4.S) hq)) hF (fun _ hq6 D6 E6 hF => ?_)
  refine b_K hF (fun hF => ?_)
  refine b_call E6 (fun _ hq => (BX6_word (bE.rf E6.S) ((o2.up D4).up D6) hq)) hF (fun _ hq8 D8 E8 hF => ?_)
  refine b_call E8 (fun _ hq => (BX32_number (N := N) (bE.rf E8.S) hq)) hF (fun _ hq10 D10 E10 hF => ?_)
  refine b_K hF (fun hF => ?_)
  refine b_call E10 (fun _ hq => (BX32_number (N := N) (bE.rf E10.S) hq)) hF (fun _ hq13 D13 E13 hF => ?_)
  refine b_K hF (fun hF => ?_)
  refine b_call E13 (fun _ hq => (BX32_number (N := N) (bE.rf E13.S) hq)) hF (fun _ hq16 D16 E16 hF => ?_)
  refine b_call E16 (fun _ hq => (BX32_add (bE.rf E16.S) hq)) hF (fun _ hq18 D18 E18 hF => ?_)
  refine b_rv hF (fun _ hF => ?_)
  refine b_if hF (fun hF => ?_) (fun hF => ?_)
  ·
    exact BX5_define_b71 (N := N) E18 hF
  ·
    exact BX5_define_b71 (N := N) E18 hF
theorem BX5_use {σo : fS} {q : Unit × fS} {s : fS} {p0 : Int} (E : bE 0 σo s) (hF : FX5_use p0 s = some q) : bE 0 σo q.2 := by
  unfold FX5_use at hF
  refine b_qI E (E.S.c0 (Nat.le_of_ble_eq_true rfl)) hF (fun _ D2 E2 hF => ?_)
  refine b_pI E2 (E2.S.c0 (Nat.le_of_ble_eq_true rfl)) hF (fun _ D5 E5 hF => ?_)
  refine b_qI E5 (E5.S.c0 (Nat.le_of_ble_eq_true rfl)) hF (fun _ D6 E6 hF => ?_)
  exact b_ret E6 hF
theorem BX31_select_b71 {σo : fS} {q : Unit × fS} {N : Nat} {s : fS} (E : bE 0 σo s) (hF : FX31_select_b71 N s = some q) : bE 0 σo q.2 := by
  unfold FX31_select_b71 at hF
  exact b_ret E hF
theorem BX31_select_b32 {σo : fS} {q : Unit × fS} {N : Nat} {s : fS} {l1 : Int} (E : bE 0 σo s) (hF : FX31_select_b32 N l1 s = some q) : bE 0 σo q.2 := by
  unfold FX31_select_b32 at hF
  refine b_if hF (fun hF => ?_) (fun hF => ?_)
  ·
    refine b_call E (fun _ hq => (BX32_add (bE.rf E.S) hq)) hF (fun _ hq3 D3 E3 hF => ?_)
    refine b_call E3 (fun _ hq => (BX32_add (bE.rf E3.S) hq)) hF (fun _ hq6 D6 E6 hF => ?_)
    exact BX31_select_b71 (N := N) E6 hF
  ·
    refine b_call E (fun _ hq => (BX32_add (bE.rf E.S) hq)) hF (fun _ hq9 D9 E9 hF => ?_)
    exact BX31_select_b71 (N := N) E9 hF
theorem BX31_select {σo : fS} {q : Unit × fS} {N : Nat} {s : fS} {p0 : Int} (E : bE 0 σo s) (hF : FX31_select N p0 s = some q) : bE 0 σo q.2 := by
  unfold FX31_select at hF
  refine b_rv hF (fun _ hF => ?_)
  refine b_if hF (fun hF => ?_) (fun hF => ?_)
  ·
    exact BX31_select_b32 (N := N) E hF
  ·
    refine b_call E (fun _ hq => (BX5_define (N := N) (bE.rf E.S) hq)) hF (fun _ hq7 D7 E7 hF => ?_)
    refine b_call E7 (fun _ hq => (BX5_use (bE.rf E7.S) hq)) hF (fun _ hq10 D10 E10 hF => ?_)
    exact BX31_select_b32 (N := N) E10 hF
theorem BX31_writeMarks_b194 {σo : fS} {q : Unit × fS} {N : Nat} {K9 : Int → Int → Int → Int → fS → Option (Unit × fS)} (hk9 : ∀ {s : fS} {l1 : Int} {l2 : Int} {l3 : Int} {l4 : Int}, bE 0 σo s → K9 l1 l2 l3 l4 s = some q → bE 0 σo q.2) {s : fS} {l1 : Int} {l2 : Int} {l3 : Int} {l4 : Int} (E : bE 0 σo s) (hF : FX31_writeMarks_b194 N K9 l1 l2 l3 l4 s = some q) : bE 0 σo q.2 := by
  unfold FX31_writeMarks_b194 at hF
  exact hk9 E hF
theorem BX31_writeMarks_b180 {σo : fS} {q : Unit × fS} {N : Nat} {K9 : Int → Int → Int → Int → fS → Option (Unit × fS)} (hk9 : ∀ {s : fS} {l1 : Int} {l2 : Int} {l3 : Int} {l4 : Int}, bE 0 σo s → K9 l1 l2 l3 l4 s = some q → bE 0 σo q.2) {s : fS} {l1 : Int} {l2 : Int} {l3 : Int} {l4 : Int} (E : bE 0 σo s) (hF : FX31_writeMarks_b180 N K9 l1 l2 l3 l4 s = some q) : bE 0 σo q.2 := by
  unfold FX31_writeMarks_b180 at hF
  refine b_rv hF (fun _ hF => ?_)
  refine b_call E (fun _ hq => (BX32_add (bE.rf E.S) hq)) hF (fun _ hq5 D5 E5 hF => ?_)
  exact BX31_writeMarks_b194 (N := N) (K9 := K9) @hk9 E5 hF
theorem BX31_writeMarks_b149 {σo : fS} {q : Unit × fS} {N : Nat} {K9 : Int → Int → Int → Int → fS → Option (Unit × fS)} (hk9 : ∀ {s : fS} {l1 : Int} {l2 : Int} {l3 : Int} {l4 : Int}, bE 0 σo s → K9 l1 l2 l3 l4 s = some q → bE 0 σo q.2) {s : fS} {l1 : Int} {l2 : Int} {l4 : Int} (E : bE 0 σo s) (hF : FX31_writeMarks_b149 N K9 l1 l2 l4 s = some q) : bE 0 σo q.2 := by
  unfold FX31_writeMarks_b149 at hF
  refine b_rv hF (fun _ hF => ?_)
  refine b_rv hF (fun _ hF => ?_)
  refine b_if hF (fun hF => ?_) (fun hF => ?_)
  ·
    exact BX31_writeMarks_b180 (N := N) (K9 := K9) @hk9 E hF
  ·
    refine b_call E (fun _ hq => (BX32_add (bE.rf E.S) hq)) hF (fun _ hq7 D7 E7 hF => ?_)
    exact BX31_writeMarks_b180 (N := N) (K9 := K9) @hk9 E7 hF
theorem BX31_writeMarks_b9 {σo : fS} {q : Unit × fS} {N : Nat} : ∀ {n : Nat} {s : fS} {l1 : Int} {l2 : Int} {l3 : Int} {l4 : Int}, bE 0 σo s → FX31_writeMarks_b9 N n l1 l2 l3 l4 s = some q → bE 0 σo q.2 := by
  intro n
  induction n with
  | zero => intro s l1 l2 l3 l4 E  hF; simp [FX31_writeMarks_b9] at hF
  | succ n ih =>
    intro s l1 l2 l3 l4 E  hF
    rw [FX31_writeMarks_b9] at hF
    refine b_if hF (fun hF => ?_) (fun hF => ?_)
    ·
      exact b_ret E hF
    ·
      refine b_rv hF (fun _ hF => ?_)
      refine b_call E (fun _ hq => (BX33_write (N := N) (bE.rf E.S) (E.S.c0 (Nat.le_of_ble_eq_true rfl)) hq)) hF (fun _ hq7 D7 E7 hF => ?_)
      refine b_rv hF (fun _ hF => ?_)
      refine b_call E7 (fun _ hq => (BX33_write (N := N) (bE.rf E7.S) (E7.S.c0 (Nat.le_of_ble_eq_true rfl)) hq)) hF (fun _ hq13 D13 E13 hF => ?_)
      refine b_rv hF (fun _ hF => ?_)
      refine b_call E13 (fun _ hq => (BX31_behind (bE.rf E13.S) hq)) hF (fun _ hq17 D17 E17 hF => ?_)
      refine b_rv hF (fun _ hF => ?_)
      refine b_if hF (fun hF => ?_) (fun hF => ?_)
      ·
        refine b_rv hF (fun _ hF => ?_)
        refine b_if hF (fun hF => ?_) (fun hF => ?_)
        ·
          exact BX31_writeMarks_b149 (N := N) (K9 := FX31_writeMarks_b9 N n) @ih E17 hF
        ·
          refine b_rv hF (fun _ hF => ?_)
          refine b_call E17 (fun _ hq => (BX31_select (N := N) (bE.rf E17.S) hq)) hF (fun _ hq25 D25 E25 hF => ?_)
          exact BX31_writeMarks_b149 (N := N) (K9 := FX31_writeMarks_b9 N n) @ih E25 hF
      ·
        refine b_call E17 (fun _ hq => (BX32_add (bE.rf E17.S) hq)) hF (fun _ hq28 D28 E28 hF => ?_)
        refine b_rv hF (fun _ hF => ?_)
        refine b_call E28 (fun _ hq => (BX32_number (N := N) (bE.rf E28.S) hq)) hF (fun _ hq33 D33 E33 hF => ?_)
        refine b_rv hF (fun _ hF => ?_)
        refine b_call E33 (fun _ hq => (BX32_number (N := N) (bE.rf E33.S) hq)) hF (fun _ hq38 D38 E38 hF => ?_)
        exact BX31_writeMarks_b194 (N := N) (K9 := FX31_writeMarks_b9 N n) @ih E38 hF
theorem BX31_writeMarks {σo : fS} {q : Unit × fS} {N : Nat} {s : fS} (E : bE 0 σo s) (hF : FX31_writeMarks N s = some q) : bE 0 σo q.2 := by
  unfold FX31_writeMarks at hF
  exact BX31_writeMarks_b9 (N := N) E hF
theorem BX5_forget_b0 {σo : fS} {q : Unit × fS} {N : Nat} : ∀ {n : Nat} {s : fS} {l1 : Int}, bE 0 σo s → FX5_forget_b0 N n l1 s = some q → bE 0 σo q.2 := by
  intro n
  induction n with
  | zero => intro s l1 E  hF; simp [FX5_forget_b0] at hF
  | succ n ih =>
    intro s l1 E  hF
    rw [FX5_forget_b0] at hF
    refine b_if hF (fun hF => ?_) (fun hF => ?_)
    ·
      exact b_ret E hF
    ·
      refine b_pI E (E.S.c0 (Nat.le_of_ble_eq_true rfl)) hF (fun _ D5 E5 hF => ?_)
      refine b_rv hF (fun _ hF => ?_)
      refine b_qI E5 (E5.S.c0 (Nat.le_of_ble_eq_true rfl)) hF (fun _ D7 E7 hF => ?_)
      exact ih E7 hF
theorem BX5_forget {σo : fS} {q : Unit × fS} {N : Nat} {s : fS} {p0 : Int} (E : bE 0 σo s) (hF : FX5_forget N p0 s = some q) : bE 0 σo q.2 := by
  unfold FX5_forget at hF
  exact BX5_forget_b0 (N := N) E hF
theorem BX31_ship_b148 {σo : fS} {q : Int × fS} {N : Nat} {s : fS} {l2 : Int} {l3 : Int} {l5 : Int} (E : bE 0 σo s) (hF : FX31_ship_b148 N l2 l3 l5 s = some q) : bE 0 σo q.2 := by
  unfold FX31_ship_b148 at hF
  refine b_pI E (E.S.c0 (Nat.le_of_ble_eq_true rfl)) hF (fun _ D2 E2 hF => ?_)
  refine b_call E2 (fun _ hq => (BX5_forget (N := N) (bE.rf E2.S) hq)) hF (fun _ hq5 D5 E5 hF => ?_)
  exact b_z E5 hF
theorem BX31_ship_b170 {σo : fS} {q : Int × fS} {N : Nat} : ∀ {n : Nat} {s : fS} {l4 : Int} {l6 : Int}, bE 0 σo s → FX31_ship_b170 N n l4 l6 s = some q → bE 0 σo q.2 := by
  intro n
  induction n with
  | zero => intro s l4 l6 E  hF; simp [FX31_ship_b170] at hF
  | succ n ih =>
    intro s l4 l6 E  hF
    rw [FX31_ship_b170] at hF
    refine b_if hF (fun hF => ?_) (fun hF => ?_)
    ·
      refine b_pI E (E.S.c0 (Nat.le_of_ble_eq_true rfl)) hF (fun _ D2 E2 hF => ?_)
      refine b_pI E2 (E2.S.c0 (Nat.le_of_ble_eq_true rfl)) hF (fun _ D4 E4 hF => ?_)
      refine b_pI E4 (E4.S.c0 (Nat.le_of_ble_eq_true rfl)) hF (fun _ D5 E5 hF => ?_)
      exact b_ret E5 hF
    ·
      refine b_rv hF (fun _ hF => ?_)
      refine b_pI E (E.S.c0 (Nat.le_of_ble_eq_true rfl)) hF (fun _ D9 E9 hF => ?_)
      refine b_call E9 (fun _ hq => (BX31_behind (bE.rf E9.S) hq)) hF (fun _ hq12 D12 E12 hF => ?_)
      refine b_pI E12 (E12.S.c0 (Nat.le_of_ble_eq_true rfl)) hF (fun _ D13 E13 hF => ?_)
      exact ih E13 hF
theorem BX31_ship_b137 {σo : fS} {q : Int × fS} {N : Nat} {s : fS} {l1 : Int} {l2 : Int} {l3 : Int} {l4 : Int} {s0 : Int} (E : bE 0 σo s) (hF : FX31_ship_b137 N l1 l2 l3 l4 s0 s = some q) : bE 0 σo q.2 := by
  unfold FX31_ship_b137 at hF
  refine b_if hF (fun hF => ?_) (fun hF => ?_)
  ·
    exact BX31_ship_b148 (N := N) E hF
  ·
    refine b_if hF (fun hF => ?_) (fun hF => ?_)
    ·
      exact BX31_ship_b170 (N := N) E hF
    ·
      exact BX31_ship_b148 (N := N) E hF
theorem BX31_ship_b46 {σo : fS} {q : Int × fS} {N : Nat} : ∀ {n : Nat} {s : fS} {l1 : Int} {l2 : Int} {l3 : Int} {l4 : Int} {l5 : Int}, bE 0 σo s → FX31_ship_b46 N n l1 l2 l3 l4 l5 s = some q → bE 0 σo q.2 := by
  intro n
  induction n with
  | zero => intro s l1 l2 l3 l4 l5 E  hF; simp [FX31_ship_b46] at hF
  | succ n ih =>
    intro s l1 l2 l3 l4 l5 E  hF
    rw [FX31_ship_b46] at hF
    refine b_if hF (fun hF => ?_) (fun hF => ?_)
    ·
      refine b_call E (fun _ hq => (BX32_number (N := N) (bE.rf E.S) hq)) hF (fun _ hq4 D4 E4 hF => ?_)
      refine b_call E4 (fun _ hq => (BX32_add (bE.rf E4.S) hq)) hF (fun _ hq7 D7 E7 hF => ?_)
      refine b_call E7 (fun _ hq => (BX31_writeMarks (N := N) (bE.rf E7.S) hq)) hF (fun _ hq9 D9 E9 hF => ?_)
      refine b_call E9 (fun _ hq => (BX32_add (bE.rf E9.S) hq)) hF (fun _ hq12 D12 E12 hF => ?_)
      refine b_call E12 (fun _ hq => (BX32_add (bE.rf E12.S) hq)) hF (fun _ hq15 D15 E15 hF => ?_)
      refine b_if hF (fun hF => ?_) (fun hF => ?_)
      ·
        exact BX31_ship_b137 (N := N) E15 hF
      ·
        exact BX31_ship_b137 (N := N) E15 hF
    ·
      refine b_rv hF (fun _ hF => ?_)
      refine b_call E (fun _ hq => (BX32_number (N := N) (bE.rf E.S) hq)) hF (fun _ hq22 D22 E22 hF => ?_)
      exact ih E22 hF
theorem BX31_ship {σo : fS} {q : Int × fS} {N : Nat} {s : fS} {p0 : Int} (E : bE 0 σo s) (hF : FX31_ship N p0 s = some q) : bE 0 σo q.2 := by
  unfold FX31_ship at hF
  refine b_call E (fun _ hq => (BX31_gather (N := N) (bE.rf E.S) hq)) hF (fun _ hq2 D2 E2 hF => ?_)
  refine b_call E2 (fun _ hq => (BX31_open (N := N) (bE.rf E2.S) hq)) hF (fun _ hq8 D8 E8 hF => ?_)
  refine b_call E8 (fun _ hq => (BX32_add (bE.rf E8.S) hq)) hF (fun _ hq13 D13 E13 hF => ?_)
  exact BX31_ship_b46 (N := N) E13 hF
theorem BX9_set_b73 {σo : fS} {q : Unit × fS} {N : Nat} {s : fS} {s1 : Int} {s2 : Int} (E : bE 0 σo s) (hF : FX9_set_b73 N s1 s2 s = some q) : bE 0 σo q.2 := by
  unfold FX9_set_b73 at hF
  refine b_qI E (E.S.c0 (Nat.le_of_ble_eq_true rfl)) hF (fun _ D1 E1 hF => ?_)
  exact b_ret E1 hF
theorem BX9_set_b49 {σo : fS} {q : Unit × fS} {N : Nat} {s : fS} {l1 : Int} {l2 : Int} {l3 : Int} (E : bE 0 σo s) (hF : FX9_set_b49 N l1 l2 l3 s = some q) : bE 0 σo q.2 := by
  unfold FX9_set_b49 at hF
  refine b_qI E (E.S.c0 (Nat.le_of_ble_eq_true rfl)) hF (fun _ D2 E2 hF => ?_)
  refine b_if hF (fun hF => ?_) (fun hF => ?_)
  ·
    exact BX9_set_b73 (N := N) E2 hF
  ·
    exact BX9_set_b73 (N := N) E2 hF
theorem BX9_set {σo : fS} {q : Unit × fS} {N : Nat} {s : fS} {p0 : Int} {p1 : Int} {p2 : Int} (E : bE 0 σo s) (hF : FX9_set N p0 p1 p2 s = some q) : bE 0 σo q.2 := by
  unfold FX9_set at hF
  refine b_if hF (fun hF => ?_) (fun hF => ?_)
  ·
    exact BX9_set_b49 (N := N) E hF
  ·
    refine b_rv hF (fun _ hF => ?_)
    refine b_if hF (fun hF => ?_) (fun hF => ?_)
    ·
      exact BX9_set_b49 (N := N) E hF
    ·
      refine b_rv hF (fun _ hF => ?_)
      refine b_rv hF (fun _ hF => ?_)
      refine b_rv hF (fun _ hF => ?_)
      refine b_call E (fun _ hq => (BX9_save (N := N) (bE.rf E.S) hq)) hF (fun _ hq12 D12 E12 hF => ?_)
      refine b_qI E12 (E12.S.c0 (Nat.le_of_ble_eq_true rfl)) hF (fun _ D13 E13 hF => ?_)
      exact BX9_set_b49 (N := N) E13 hF
theorem BX3_ship_b74 {σo : fS} {q : (Unit ⊕ Nat) × fS} {N : Nat} {s : fS} {s0 : Int} (E : bE 0 σo s) (hF : FX3_ship_b74 N s0 s = some q) : bE 0 σo q.2 := by
  unfold FX3_ship_b74 at hF
  refine b_call E (fun _ hq => (BX31_ship (N := N) (bE.rf E.S) hq)) hF (fun _ hq4 D4 E4 hF => ?_)
  refine b_tB E4 (fun _ hq => BX4_want (bE.rf E4.S) hq) hF (fun _ _ D6 E6 hF => ?_)
  refine b_tB E6 (fun _ hq => BX4_want (bE.rf E6.S) hq) hF (fun _ _ D9 E9 hF => ?_)
  refine b_rv hF (fun _ hF => ?_)
  refine b_call E9 (fun _ hq => (BX9_set (N := N) (bE.rf E9.S) hq)) hF (fun _ hq15 D15 E15 hF => ?_)
  exact b_ret E15 hF
theorem BX3_ship_b24 {σo : fS} {q : (Unit ⊕ Nat) × fS} {N : Nat} : ∀ {n : Nat} {s : fS} {l2 : Int}, bE 0 σo s → FX3_ship_b24 N n l2 s = some q → bE 0 σo q.2 := by
  intro n
  induction n with
  | zero => intro s l2 E  hF; simp [FX3_ship_b24] at hF
  | succ n ih =>
    intro s l2 E  hF
    rw [FX3_ship_b24] at hF
    refine b_if hF (fun hF => ?_) (fun hF => ?_)
    ·
      refine b_rv hF (fun _ hF => ?_)
      refine b_if hF (fun hF => ?_) (fun hF => ?_)
      ·
        exact BX3_ship_b74 (N := N) E hF
      ·
        exact BX3_ship_b74 (N := N) E hF
    ·
      refine b_rv hF (fun _ hF => ?_)
      refine b_qI E (E.S.c0 (Nat.le_of_ble_eq_true rfl)) hF (fun _ D9 E9 hF => ?_)
      exact ih E9 hF
theorem BX3_ship {σo : fS} {q : (Unit ⊕ Nat) × fS} {N : Nat} {s : fS} {p0 : Nat} (E : bE 0 σo s) (op0 : bO 0 s p0) (hF : FX3_ship N p0 s = some q) : bE 0 σo q.2 := by
  unfold FX3_ship at hF
  refine b_tB E (fun _ hq => BX3_wantFew (N := N) (bE.rf E.S) op0 hq) hF (fun _ _ D2 E2 hF => ?_)
  refine b_tB E2 (fun _ hq => BX3_lay (N := N) (bE.rf E2.S) (op0.up D2) hq) hF (fun _ _ D4 E4 hF => ?_)
  refine b_pI E4 (E4.S.c0 (Nat.le_of_ble_eq_true rfl)) hF (fun _ D6 E6 hF => ?_)
  refine b_tB E6 (fun _ hq => BX3_hand (N := N) (bE.rf E6.S) hq) hF (fun _ _ D8 E8 hF => ?_)
  exact BX3_ship_b24 (N := N) E8 hF
theorem BX3_goOn_b62 {σo : fS} {q : (Unit ⊕ Nat) × fS} {N : Nat} : ∀ {n : Nat} {s : fS} , bE 0 σo s → FX3_goOn_b62 N n s = some q → bE 0 σo q.2 := by
  intro n
  induction n with
  | zero => intro s  E  hF; simp [FX3_goOn_b62] at hF
  | succ n ih =>
    intro s  E  hF
    rw [FX3_goOn_b62] at hF
    refine b_call E (fun _ hq => (BX28_canStep (bE.rf E.S) hq)) hF (fun _ hq3 D3 E3 hF => ?_)
    refine b_if hF (fun hF => ?_) (fun hF => ?_)
    ·
      exact b_ret E3 hF
    ·
      refine b_call E3 (fun _ hq => (BX28_step (N := N) (bE.rf E3.S) hq)) hF (fun _ hq6 D6 E6 hF => ?_)
      refine b_if hF (fun hF => ?_) (fun hF => ?_)
      ·
        exact ih E6 hF
      ·
        refine b_o E6 (E6.S.c0 (Nat.le_of_ble_eq_true rfl)) hF (fun _ o8 hF => ?_)
        refine b_tB E6 (fun _ hq => BX3_ship (N := N) (bE.rf E6.S) o8 hq) hF (fun _ _ D10 E10 hF => ?_)
        exact ih E10 hF
theorem BX3_goOn {σo : fS} {q : (Unit ⊕ Nat) × fS} {N : Nat} {s : fS} (E : bE 0 σo s) (hF : FX3_goOn N s = some q) : bE 0 σo q.2 := by
  unfold FX3_goOn at hF
  refine b_rv hF (fun _ hF => ?_)
  refine b_pI E (E.S.c0 (Nat.le_of_ble_eq_true rfl)) hF (fun _ D5 E5 hF => ?_)
  refine b_rv hF (fun _ hF => ?_)
  refine b_pI E5 (E5.S.c0 (Nat.le_of_ble_eq_true rfl)) hF (fun _ D10 E10 hF => ?_)
  refine b_rv hF (fun _ hF => ?_)
  refine b_pI E10 (E10.S.c0 (Nat.le_of_ble_eq_true rfl)) hF (fun _ D15 E15 hF => ?_)
  exact BX3_goOn_b62 (N := N) E15 hF
theorem BX3_addVertical_b207 {σo : fS} {q : (Unit ⊕ Nat) × fS} {N : Nat} {s : fS} (E : bE 0 σo s) (hF : FX3_addVertical_b207 N s = some q) : bE 0 σo q.2 := by
  unfold FX3_addVertical_b207 at hF
  refine b_tB E (fun _ hq => BX3_goOn (N := N) (bE.rf E.S) hq) hF (fun _ _ D2 E2 hF => ?_)
  exact b_ret E2 hF
theorem BX3_addVertical_b170 {σo : fS} {q : (Unit ⊕ Nat) × fS} {N : Nat} {s : fS} {l2 : Int} {s1 : Int} {s2 : Int} {s3 : Int} {s4 : Int} (E : bE 0 σo s) (hF : FX3_addVertical_b170 N l2 s1 s2 s3 s4 s = some q) : bE 0 σo q.2 := by
  unfold FX3_addVertical_b170 at hF
  refine b_call E (fun _ hq => (BX27_add (bE.rf E.S) hq)) hF (fun _ hq2 D2 E2 hF => ?_)
  exact BX3_addVertical_b207 (N := N) E2 hF
theorem BX3_addVertical_b156 {σo : fS} {q : (Unit ⊕ Nat) × fS} {N : Nat} {s : fS} {l2 : Int} {l4 : Int} {s1 : Int} {s2 : Int} {s3 : Int} (E : bE 0 σo s) (hF : FX3_addVertical_b156 N l2 l4 s1 s2 s3 s = some q) : bE 0 σo q.2 := by
  unfold FX3_addVertical_b156 at hF
  refine b_if hF (fun hF => ?_) (fun hF => ?_)
  ·
    exact BX3_addVertical_b170 (N := N) E hF
  ·
    exact BX3_addVertical_b170 (N := N) E hF
theorem BX3_addVertical_b47 {σo : fS} {q : (Unit ⊕ Nat) × fS} {N : Nat} {s : fS} {l1 : Int} {l2 : Int} {l3 : Int} {l4 : Int} {l5 : Int} {s1 : Int} (E : bE 0 σo s) (hF : FX3_addVertical_b47 N l1 l2 l3 l4 l5 s1 s = some q) : bE 0 σo q.2 := by
  unfold FX3_addVertical_b47 at hF
  refine b_tB E (fun _ hq => BX4_want (bE.rf E.S) hq) hF (fun _ _ D2 E2 hF => ?_)
  refine b_if hF (fun hF => ?_) (fun hF => ?_)
  ·
    refine b_if hF (fun hF => ?_) (fun hF => ?_)
    ·
      exact BX3_addVertical_b156 (N := N) E2 hF
    ·
      exact BX3_addVertical_b156 (N := N) E2 hF
  ·
    refine b_if hF (fun hF => ?_) (fun hF => ?_)
    ·
      refine b_call E2 (fun _ hq => (BX27_add (bE.rf E2.S) hq)) hF (fun _ hq6 D6 E6 hF => ?_)
      exact BX3_addVertical_b207 (N := N) E6 hF
    ·
      refine b_if hF (fun hF => ?_) (fun hF => ?_)
      ·
        refine b_call E2 (fun _ hq => (BX27_add (bE.rf E2.S) hq)) hF (fun _ hq9 D9 E9 hF => ?_)
        exact BX3_addVertical_b207 (N := N) E9 hF
      ·
        refine b_if hF (fun hF => ?_) (fun hF => ?_)
        ·
          refine b_rO E2 (E2.S.c0 (Nat.le_of_ble_eq_true rfl)) hF (fun _ o12 hF => ?_)
          refine b_K hF (fun hF => ?_)
          refine b_rO E2 (E2.S.c0 (Nat.le_of_ble_eq_true rfl)) hF (fun _ o15 hF => ?_)
          refine b_K hF (fun hF => ?_)
          refine b_call E2 (fun _ hq => (BX27_add (bE.rf E2.S) hq)) hF (fun _ hq18 D18 E18 hF => ?_)
          exact BX3_addVertical_b207 (N := N) E18 hF
        ·
          refine b_if hF (fun hF => ?_) (fun hF => ?_)
          ·
            refine b_call E2 (fun _ hq => (BX27_add (bE.rf E2.S) hq)) hF (fun _ hq21 D21 E21 hF => ?_)
            exact BX3_addVertical_b207 (N := N) E21 hF
          ·
            refine b_rO E2 (E2.S.c0 (Nat.le_of_ble_eq_true rfl)) hF (fun _ o24 hF => ?_)
            refine b_K hF (fun hF => ?_)
            refine b_rO E2 (E2.S.c0 (Nat.le_of_ble_eq_true rfl)) hF (fun _ o27 hF => ?_)
            refine b_K hF (fun hF => ?_)
            refine b_call E2 (fun _ hq => (BX27_add (bE.rf E2.S) hq)) hF (fun _ hq30 D30 E30 hF => ?_)
            exact BX3_addVertical_b207 (N := N) E30 hF
theorem BX3_addVertical {σo : fS} {q : (Unit ⊕ Nat) × fS} {N : Nat} {s : fS} {p0 : Int} {p1 : Int} {p2 : Int} {p3 : Int} {p4 : Int} (E : bE 0 σo s) (hF : FX3_addVertical N p0 p1 p2 p3 p4 s = some q) : bE 0 σo q.2 := by
  unfold FX3_addVertical at hF
  refine b_rv hF (fun _ hF => ?_)
  refine b_if hF (fun hF => ?_) (fun hF => ?_)
  ·
    refine b_if hF (fun hF => ?_) (fun hF => ?_)
    ·
      exact BX3_addVertical_b47 (N := N) E hF
    ·
      exact BX3_addVertical_b47 (N := N) E hF
  ·
    refine b_tB E (fun _ hq => BX3_put (bE.rf E.S) hq) hF (fun _ _ D8 E8 hF => ?_)
    exact b_ret E8 hF
theorem BX3_addGlue {σo : fS} {q : (Unit ⊕ Nat) × fS} {N : Nat} {s : fS} {p0 : Int} (E : bE 0 σo s) (hF : FX3_addGlue N p0 s = some q) : bE 0 σo q.2 := by
  unfold FX3_addGlue at hF
  refine b_rv hF (fun _ hF => ?_)
  refine b_rv hF (fun _ hF => ?_)
  refine b_rv hF (fun _ hF => ?_)
  refine b_rv hF (fun _ hF => ?_)
  refine b_tB E (fun _ hq => BX3_addVertical (N := N) (bE.rf E.S) hq) hF (fun _ _ D8 E8 hF => ?_)
  exact b_ret E8 hF
theorem BX3_push {σo : fS} {q : Unit × fS} {s : fS} {p0 : Int} (E : bE 0 σo s) (hF : FX3_push p0 s = some q) : bE 0 σo q.2 := by
  unfold FX3_push at hF
  refine b_pI E (E.S.c0 (Nat.le_of_ble_eq_true rfl)) hF (fun _ D2 E2 hF => ?_)
  refine b_qI E2 (E2.S.c0 (Nat.le_of_ble_eq_true rfl)) hF (fun _ D5 E5 hF => ?_)
  refine b_qI E5 (E5.S.c0 (Nat.le_of_ble_eq_true rfl)) hF (fun _ D10 E10 hF => ?_)
  refine b_qI E10 (E10.S.c0 (Nat.le_of_ble_eq_true rfl)) hF (fun _ D13 E13 hF => ?_)
  refine b_call E13 (fun _ hq => (BX3_isVertical (bE.rf E13.S) hq)) hF (fun _ hq16 D16 E16 hF => ?_)
  refine b_pZ E16 (E16.S.c0 (Nat.le_of_ble_eq_true rfl)) hF (fun _ D17 E17 hF => ?_)
  exact b_ret E17 hF
theorem BX7_grow {σo : fS} {q : Unit × fS} {s : fS} (E : bE 0 σo s) (hF : FX7_grow s = some q) : bE 0 σo q.2 := by
  unfold FX7_grow at hF
  refine b_nA E hF (fun _ D2 E2 o2 hF => ?_)
  refine b_nA E2 hF (fun _ D4 E4 o4 hF => ?_)
  refine b_nA E4 hF (fun _ D6 E6 o6 hF => ?_)
  refine b_KA hF (fun hF => ?_)
  refine b_cp E6 ((o2.up D4).up D6) hF (fun _ D9 E9 hF => ?_)
  refine b_KA hF (fun hF => ?_)
  refine b_cp E9 ((o4.up D6).up D9) hF (fun _ D12 E12 hF => ?_)
  refine b_KA hF (fun hF => ?_)
  refine b_cp E12 ((o6.up D9).up D12) hF (fun _ D15 E15 hF => ?_)
  refine b_mv E15 (E15.S.c0 (Nat.le_of_ble_eq_true rfl)) (((((o2.up D4).up D6).up D9).up D12).up D15) hF (fun _ D16 E16 hF => ?_)
  refine b_rv hF (fun _ hF => ?_)
  refine b_rv hF (fun _ hF => ?_)
  refine b_rv hF (fun _ hF => ?_)
  refine b_rv hF (fun _ hF => ?_)
  refine b_mv E16 (E16.S.c0 (Nat.le_of_ble_eq_true rfl)) (((((o4.up D6).up D9).up D12).up D15).up D16) hF (fun _ D17 E17 hF => ?_)
  refine b_rv hF (fun _ hF => ?_)
  refine b_rv hF (fun _ hF => ?_)
  refine b_mv E17 (E17.S.c0 (Nat.le_of_ble_eq_true rfl)) (((((o6.up D9).up D12).up D15).up D16).up D17) hF (fun _ D18 E18 hF => ?_)
  exact b_ret E18 hF
