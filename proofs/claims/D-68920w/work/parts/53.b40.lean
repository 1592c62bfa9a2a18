set_option maxRecDepth 100000
set_option maxHeartbeats 4000000
theorem BX37_choose_b43 {σo : fS} {q : Int × fS} {N : Nat} {K4 : Int → Int → fS → Option (Int × fS)} (hk4 : ∀ {s : fS} {l1 : Int} {l2 : Int}, bE 1 σo s → K4 l1 l2 s = some q → bE 1 σo q.2) {s : fS} {l2 : Int} {s0 : Int} (E : bE 1 σo s) (hF : FX37_choose_b43 N K4 l2 s0 s = some q) : bE 1 σo q.2 := by
  unfold FX37_choose_b43 at hF
  exact hk4 E hF
theorem BX37_choose_b38 {σo : fS} {q : Int × fS} {N : Nat} {K4 : Int → Int → fS → Option (Int × fS)} (hk4 : ∀ {s : fS} {l1 : Int} {l2 : Int}, bE 1 σo s → K4 l1 l2 s = some q → bE 1 σo q.2) {s : fS} {l2 : Int} (E : bE 1 σo s) (hF : FX37_choose_b38 N K4 l2 s = some q) : bE 1 σo q.2 := by
  unfold FX37_choose_b38 at hF
  exact BX37_choose_b43 (N := N) (K4 := K4) @hk4 E hF
theorem BX37_choose_b42 {σo : fS} {q : Int × fS} {N : Nat} {K4 : Int → Int → fS → Option (Int × fS)} (hk4 : ∀ {s : fS} {l1 : Int} {l2 : Int}, bE 1 σo s → K4 l1 l2 s = some q → bE 1 σo q.2) {s : fS} {l1 : Int} {l2 : Int} (E : bE 1 σo s) (hF : FX37_choose_b42 N K4 l1 l2 s = some q) : bE 1 σo q.2 := by
  unfold FX37_choose_b42 at hF
  exact BX37_choose_b43 (N := N) (K4 := K4) @hk4 E hF
theorem BX37_choose_b64 {σo : fS} {q : Int × fS} {N : Nat} {s : fS} {l1 : Int} (E : bE 1 σo s) (hF : FX37_choose_b64 N l1 s = some q) : bE 1 σo q.2 := by
  unfold FX37_choose_b64 at hF
  exact b_ret E hF
theorem BX37_choose_b220 {σo : fS} {q : Int × fS} {N : Nat} {K86 : Int → Int → Int → Int → fS → Option (Int × fS)} (hk86 : ∀ {s : fS} {l1 : Int} {l2 : Int} {l3 : Int} {l4 : Int}, bE 1 σo s → K86 l1 l2 l3 l4 s = some q → bE 1 σo q.2) {s : fS} {l1 : Int} {l2 : Int} {l3 : Int} {l4 : Int} (E : bE 1 σo s) (hF : FX37_choose_b220 N K86 l1 l2 l3 l4 s = some q) : bE 1 σo q.2 := by
  unfold FX37_choose_b220 at hF
  exact hk86 E hF
theorem BX37_choose_b219 {σo : fS} {q : Int × fS} {N : Nat} {K86 : Int → Int → Int → Int → fS → Option (Int × fS)} (hk86 : ∀ {s : fS} {l1 : Int} {l2 : Int} {l3 : Int} {l4 : Int}, bE 1 σo s → K86 l1 l2 l3 l4 s = some q → bE 1 σo q.2) {s : fS} {l1 : Int} {l2 : Int} {l4 : Int} {s0 : Int} (E : bE 1 σo s) (hF : FX37_choose_b219 N K86 l1 l2 l4 s0 s = some q) : bE 1 σo q.2 := by
  unfold FX37_choose_b219 at hF
  exact BX37_choose_b220 (N := N) (K86 := K86) @hk86 E hF
theorem BX37_choose_b213 {σo : fS} {q : Int × fS} {N : Nat} {K86 : Int → Int → Int → Int → fS → Option (Int × fS)} (hk86 : ∀ {s : fS} {l1 : Int} {l2 : Int} {l3 : Int} {l4 : Int}, bE 1 σo s → K86 l1 l2 l3 l4 s = some q → bE 1 σo q.2) {s : fS} {l1 : Int} {l2 : Int} {l4 : Int} (E : bE 1 σo s) (hF : FX37_choose_b213 N K86 l1 l2 l4 s = some q) : bE 1 σo q.2 := by
  unfold FX37_choose_b213 at hF
  exact BX37_choose_b219 (N := N) (K86 := K86) @hk86 E hF
theorem BX37_choose_b218 {σo : fS} {q : Int × fS} {N : Nat} {K86 : Int → Int → Int → Int → fS → Option (Int × fS)} (hk86 : ∀ {s : fS} {l1 : Int} {l2 : Int} {l3 : Int} {l4 : Int}, bE 1 σo s → K86 l1 l2 l3 l4 s = some q → bE 1 σo q.2) {s : fS} {l1 : Int} {l2 : Int} {l3 : Int} {l4 : Int} (E : bE 1 σo s) (hF : FX37_choose_b218 N K86 l1 l2 l3 l4 s = some q) : bE 1 σo q.2 := by
  unfold FX37_choose_b218 at hF
  exact BX37_choose_b219 (N := N) (K86 := K86) @hk86 E hF
theorem BX37_choose_b141 {σo : fS} {q : Int × fS} {N : Nat} {K86 : Int → Int → Int → Int → fS → Option (Int × fS)} (hk86 : ∀ {s : fS} {l1 : Int} {l2 : Int} {l3 : Int} {l4 : Int}, bE 1 σo s → K86 l1 l2 l3 l4 s = some q → bE 1 σo q.2) {s : fS} {l1 : Int} {l2 : Int} {l3 : Int} {l4 : Int} {s0 : Int} (E : bE 1 σo s) (hF : FX37_choose_b141 N K86 l1 l2 l3 l4 s0 s = some q) : bE 1 σo q.2 := by
  unfold FX37_choose_b141 at hF
  refine b_if hF (fun hF => ?_) (fun hF => ?_)
  ·
    exact BX37_choose_b220 (N := N) (K86 := K86) @hk86 E hF
  ·
    refine b_rv hF (fun _ hF => ?_)
    refine b_call E (fun _ hq => (BX37_apart (bE.rf E.S) hq)) hF (fun _ hq3 D3 E3 hF => ?_)
    refine b_rv hF (fun _ hF => ?_)
    refine b_call E3 (fun _ hq => (BX37_apart (bE.rf E3.S) hq)) hF (fun _ hq6 D6 E6 hF => ?_)
    refine b_if hF (fun hF => ?_) (fun hF => ?_)
    ·
      exact BX37_choose_b213 (N := N) (K86 := K86) @hk86 E6 hF
    ·
      refine b_if hF (fun hF => ?_) (fun hF => ?_)
      ·
        exact BX37_choose_b218 (N := N) (K86 := K86) @hk86 E6 hF
      ·
        refine b_rv hF (fun _ hF => ?_)
        refine b_rv hF (fun _ hF => ?_)
        refine b_if hF (fun hF => ?_) (fun hF => ?_)
        ·
          exact BX37_choose_b218 (N := N) (K86 := K86) @hk86 E6 hF
        ·
          refine b_call E6 (fun _ hq => (BX37_isLess (bE.rf E6.S) hq)) hF (fun _ hq12 D12 E12 hF => ?_)
          refine b_if hF (fun hF => ?_) (fun hF => ?_)
          ·
            exact BX37_choose_b218 (N := N) (K86 := K86) @hk86 E12 hF
          ·
            exact BX37_choose_b213 (N := N) (K86 := K86) @hk86 E12 hF
theorem BX37_choose_b140 {σo : fS} {q : Int × fS} {N : Nat} {K86 : Int → Int → Int → Int → fS → Option (Int × fS)} (hk86 : ∀ {s : fS} {l1 : Int} {l2 : Int} {l3 : Int} {l4 : Int}, bE 1 σo s → K86 l1 l2 l3 l4 s = some q → bE 1 σo q.2) {s : fS} {l1 : Int} {l2 : Int} {l3 : Int} {l4 : Int} (E : bE 1 σo s) (hF : FX37_choose_b140 N K86 l1 l2 l3 l4 s = some q) : bE 1 σo q.2 := by
  unfold FX37_choose_b140 at hF
  exact BX37_choose_b141 (N := N) (K86 := K86) @hk86 E hF
theorem BX37_choose_b275 {σo : fS} {q : Int × fS} {N : Nat} {s : fS} {s0 : Int} (E : bE 1 σo s) (hF : FX37_choose_b275 N s0 s = some q) : bE 1 σo q.2 := by
  unfold FX37_choose_b275 at hF
  exact b_ret E hF
theorem BX37_choose_b274 {σo : fS} {q : Int × fS} {N : Nat} {s : fS} {l3 : Int} (E : bE 1 σo s) (hF : FX37_choose_b274 N l3 s = some q) : bE 1 σo q.2 := by
  unfold FX37_choose_b274 at hF
  exact BX37_choose_b275 (N := N) E hF
theorem BX37_choose_b253 {σo : fS} {q : Int × fS} {N : Nat} {s : fS} {l2 : Int} {l3 : Int} {s0 : Int} (E : bE 1 σo s) (hF : FX37_choose_b253 N l2 l3 s0 s = some q) : bE 1 σo q.2 := by
  unfold FX37_choose_b253 at hF
  refine b_if hF (fun hF => ?_) (fun hF => ?_)
  ·
    exact BX37_choose_b274 (N := N) E hF
  ·
    refine b_rv hF (fun _ hF => ?_)
    refine b_if hF (fun hF => ?_) (fun hF => ?_)
    ·
      exact BX37_choose_b274 (N := N) E hF
    ·
      exact BX37_choose_b275 (N := N) E hF
theorem BX37_choose_b245 {σo : fS} {q : Int × fS} {N : Nat} {s : fS} {l2 : Int} {l3 : Int} {s0 : Int} {s1 : Int} (E : bE 1 σo s) (hF : FX37_choose_b245 N l2 l3 s0 s1 s = some q) : bE 1 σo q.2 := by
  unfold FX37_choose_b245 at hF
  refine b_if hF (fun hF => ?_) (fun hF => ?_)
  ·
    exact BX37_choose_b253 (N := N) E hF
  ·
    exact BX37_choose_b253 (N := N) E hF
theorem BX37_choose_b86 {σo : fS} {q : Int × fS} {N : Nat} : ∀ {n : Nat} {s : fS} {l1 : Int} {l2 : Int} {l3 : Int} {l4 : Int}, bE 1 σo s → FX37_choose_b86 N n l1 l2 l3 l4 s = some q → bE 1 σo q.2 := by
  intro n
  induction n with
  | zero => intro s l1 l2 l3 l4 E  hF; simp [FX37_choose_b86] at hF
  | succ n ih =>
    intro s l1 l2 l3 l4 E  hF
    rw [FX37_choose_b86] at hF
    refine b_if hF (fun hF => ?_) (fun hF => ?_)
    ·
      refine b_rv hF (fun _ hF => ?_)
      refine b_if hF (fun hF => ?_) (fun hF => ?_)
      ·
        exact BX37_choose_b245 (N := N) E hF
      ·
        exact BX37_choose_b245 (N := N) E hF
    ·
      refine b_rv hF (fun _ hF => ?_)
      refine b_if hF (fun hF => ?_) (fun hF => ?_)
      ·
        exact BX37_choose_b140 (N := N) (K86 := FX37_choose_b86 N n) @ih E hF
      ·
        refine b_rv hF (fun _ hF => ?_)
        refine b_rv hF (fun _ hF => ?_)
        refine b_rv hF (fun _ hF => ?_)
        refine b_if hF (fun hF => ?_) (fun hF => ?_)
        ·
          exact BX37_choose_b140 (N := N) (K86 := FX37_choose_b86 N n) @ih E hF
        ·
          exact BX37_choose_b141 (N := N) (K86 := FX37_choose_b86 N n) @ih E hF
theorem BX37_choose_b4 {σo : fS} {q : Int × fS} {N : Nat} : ∀ {n : Nat} {s : fS} {l1 : Int} {l2 : Int}, bE 1 σo s → FX37_choose_b4 N n l1 l2 s = some q → bE 1 σo q.2 := by
  intro n
  induction n with
  | zero => intro s l1 l2 E  hF; simp [FX37_choose_b4] at hF
  | succ n ih =>
    intro s l1 l2 E  hF
    rw [FX37_choose_b4] at hF
    refine b_if hF (fun hF => ?_) (fun hF => ?_)
    ·
      refine b_if hF (fun hF => ?_) (fun hF => ?_)
      ·
        exact BX37_choose_b64 (N := N) E hF
      ·
        refine b_rv hF (fun _ hF => ?_)
        refine b_if hF (fun hF => ?_) (fun hF => ?_)
        ·
          refine b_rv hF (fun _ hF => ?_)
          refine b_rv hF (fun _ hF => ?_)
          exact BX37_choose_b86 (N := N) E hF
        ·
          exact BX37_choose_b64 (N := N) E hF
    ·
      refine b_rv hF (fun _ hF => ?_)
      refine b_if hF (fun hF => ?_) (fun hF => ?_)
      ·
        exact BX37_choose_b42 (N := N) (K4 := FX37_choose_b4 N n) @ih E hF
      ·
        refine b_if hF (fun hF => ?_) (fun hF => ?_)
        ·
          exact BX37_choose_b38 (N := N) (K4 := FX37_choose_b4 N n) @ih E hF
        ·
          refine b_call E (fun _ hq => (BX37_isLess (bE.rf E.S) hq)) hF (fun _ hq12 D12 E12 hF => ?_)
          refine b_if hF (fun hF => ?_) (fun hF => ?_)
          ·
            exact BX37_choose_b42 (N := N) (K4 := FX37_choose_b4 N n) @ih E12 hF
          ·
            exact BX37_choose_b38 (N := N) (K4 := FX37_choose_b4 N n) @ih E12 hF
theorem BX37_choose {σo : fS} {q : Int × fS} {N : Nat} {s : fS} (E : bE 1 σo s) (hF : FX37_choose N s = some q) : bE 1 σo q.2 := by
  unfold FX37_choose at hF
  exact BX37_choose_b4 (N := N) E hF
theorem BX37_tell_b28 {σo : fS} {q : Int × fS} {N : Nat} : ∀ {n : Nat} {s : fS} {l2 : Int}, bE 1 σo s → FX37_tell_b28 N n l2 s = some q → bE 1 σo q.2 := by
  intro n
  induction n with
  | zero => intro s l2 E  hF; simp [FX37_tell_b28] at hF
  | succ n ih =>
    intro s l2 E  hF
    rw [FX37_tell_b28] at hF
    refine b_if hF (fun hF => ?_) (fun hF => ?_)
    ·
      exact b_ret E hF
    ·
      refine b_rv hF (fun _ hF => ?_)
      refine b_rv hF (fun _ hF => ?_)
      refine b_rv hF (fun _ hF => ?_)
      refine b_rv hF (fun _ hF => ?_)
      refine b_call E (fun _ hq => (BX37_measure (N := N) (bE.rf E.S) hq)) hF (fun _ hq11 D11 E11 hF => ?_)
      refine b_call E11 (fun _ hq => (BX37_judge (bE.rf E11.S) hq)) hF (fun _ hq13 D13 E13 hF => ?_)
      refine b_rv hF (fun _ hF => ?_)
      refine b_qI E13 (E13.S.m1 (Nat.le_of_ble_eq_true rfl) (Nat.le_of_ble_eq_true rfl)) hF (fun _ D17 E17 hF => ?_)
      refine b_qI E17 (E17.S.m1 (Nat.le_of_ble_eq_true rfl) (Nat.le_of_ble_eq_true rfl)) hF (fun _ D20 E20 hF => ?_)
      refine b_qI E20 (E20.S.m1 (Nat.le_of_ble_eq_true rfl) (Nat.le_of_ble_eq_true rfl)) hF (fun _ D23 E23 hF => ?_)
      refine b_qI E23 (E23.S.m1 (Nat.le_of_ble_eq_true rfl) (Nat.le_of_ble_eq_true rfl)) hF (fun _ D26 E26 hF => ?_)
      refine b_qI E26 (E26.S.m1 (Nat.le_of_ble_eq_true rfl) (Nat.le_of_ble_eq_true rfl)) hF (fun _ D29 E29 hF => ?_)
      refine b_rv hF (fun _ hF => ?_)
      refine b_qJ E29 (E29.S.m1 (Nat.le_of_ble_eq_true rfl) (Nat.le_of_ble_eq_true rfl)) hF (fun _ D33 E33 hF => ?_)
      refine b_rv hF (fun _ hF => ?_)
      exact ih E33 hF
theorem BX37_tell {σo : fS} {q : Int × fS} {N : Nat} {s : fS} {p0 : Int} (E : bE 1 σo s) (hF : FX37_tell N p0 s = some q) : bE 1 σo q.2 := by
  unfold FX37_tell at hF
  refine b_pI E (E.S.m1 (Nat.le_of_ble_eq_true rfl) (Nat.le_of_ble_eq_true rfl)) hF (fun _ D2 E2 hF => ?_)
  refine b_pI E2 (E2.S.m1 (Nat.le_of_ble_eq_true rfl) (Nat.le_of_ble_eq_true rfl)) hF (fun _ D4 E4 hF => ?_)
  refine b_rv hF (fun _ hF => ?_)
  refine b_pI E4 (E4.S.m1 (Nat.le_of_ble_eq_true rfl) (Nat.le_of_ble_eq_true rfl)) hF (fun _ D7 E7 hF => ?_)
  exact BX37_tell_b28 (N := N) E7 hF
theorem BX37_breakUp_b46 {σo : fS} {q : Int × fS} {N : Nat} {K4 : Int → Int → fS → Option (Int × fS)} (hk4 : ∀ {s : fS} {l1 : Int} {l2 : Int}, bE 1 σo s → K4 l1 l2 s = some q → bE 1 σo q.2) {s : fS} {l2 : Int} {s0 : Int} (E : bE 1 σo s) (hF : FX37_breakUp_b46 N K4 l2 s0 s = some q) : bE 1 σo q.2 := by
  unfold FX37_breakUp_b46 at hF
  exact hk4 E hF
theorem BX37_breakUp_b41 {σo : fS} {q : Int × fS} {N : Nat} {K4 : Int → Int → fS → Option (Int × fS)} (hk4 : ∀ {s : fS} {l1 : Int} {l2 : Int}, bE 1 σo s → K4 l1 l2 s = some q → bE 1 σo q.2) {s : fS} {l2 : Int} (E : bE 1 σo s) (hF : FX37_breakUp_b41 N K4 l2 s = some q) : bE 1 σo q.2 := by
  unfold FX37_breakUp_b41 at hF
  exact BX37_breakUp_b46 (N := N) (K4 := K4) @hk4 E hF
theorem BX37_breakUp_b45 {σo : fS} {q : Int × fS} {N : Nat} {K4 : Int → Int → fS → Option (Int × fS)} (hk4 : ∀ {s : fS} {l1 : Int} {l2 : Int}, bE 1 σo s → K4 l1 l2 s = some q → bE 1 σo q.2) {s : fS} {l2 : Int} (E : bE 1 σo s) (hF : FX37_breakUp_b45 N K4 l2 s = some q) : bE 1 σo q.2 := by
  unfold FX37_breakUp_b45 at hF
  exact BX37_breakUp_b46 (N := N) (K4 := K4) @hk4 E hF
theorem BX37_breakUp_b340 {σo : fS} {q : Int × fS} {N : Nat} {K287 : Int → Int → Int → Int → Int → Int → Int → Int → Int → Int → fS → Option (Int × fS)} (hk287 : ∀ {s : fS} {l2 : Int} {l3 : Int} {l4 : Int} {l5 : Int} {l6 : Int} {l7 : Int} {l8 : Int} {l10 : Int} {l11 : Int} {l12 : Int}, bE 1 σo s → K287 l2 l3 l4 l5 l6 l7 l8 l10 l11 l12 s = some q → bE 1 σo q.2) {s : fS} {l2 : Int} {l3 : Int} {l4 : Int} {l5 : Int} {l6 : Int} {l7 : Int} {l8 : Int} {l10 : Int} {l11 : Int} {l12 : Int} (E : bE 1 σo s) (hF : FX37_breakUp_b340 N K287 l2 l3 l4 l5 l6 l7 l8 l10 l11 l12 s = some q) : bE 1 σo q.2 := by
  unfold FX37_breakUp_b340 at hF
  refine b_pI E (E.S.m1 (Nat.le_of_ble_eq_true rfl) (Nat.le_of_ble_eq_true rfl)) hF (fun _ D2 E2 hF => ?_)
  exact hk287 E2 hF
theorem BX37_breakUp_b353 {σo : fS} {q : Int × fS} {N : Nat} {s : fS} {l2 : Int} {l3 : Int} {l4 : Int} {l5 : Int} {l6 : Int} {l7 : Int} {l8 : Int} {l10 : Int} (E : bE 1 σo s) (hF : FX37_breakUp_b353 N l2 l3 l4 l5 l6 l7 l8 l10 s = some q) : bE 1 σo q.2 := by
  unfold FX37_breakUp_b353 at hF
  refine b_pI E (E.S.m1 (Nat.le_of_ble_eq_true rfl) (Nat.le_of_ble_eq_true rfl)) hF (fun _ D1 E1 hF => ?_)
  refine b_qI E1 (E1.S.m1 (Nat.le_of_ble_eq_true rfl) (Nat.le_of_ble_eq_true rfl)) hF (fun _ D3 E3 hF => ?_)
  refine b_qI E3 (E3.S.m1 (Nat.le_of_ble_eq_true rfl) (Nat.le_of_ble_eq_true rfl)) hF (fun _ D5 E5 hF => ?_)
  refine b_qI E5 (E5.S.m1 (Nat.le_of_ble_eq_true rfl) (Nat.le_of_ble_eq_true rfl)) hF (fun _ D7 E7 hF => ?_)
  refine b_qI E7 (E7.S.m1 (Nat.le_of_ble_eq_true rfl) (Nat.le_of_ble_eq_true rfl)) hF (fun _ D9 E9 hF => ?_)
  refine b_qI E9 (E9.S.m1 (Nat.le_of_ble_eq_true rfl) (Nat.le_of_ble_eq_true rfl)) hF (fun _ D11 E11 hF => ?_)
  exact b_ret E11 hF
theorem BX37_breakUp_b287 {σo : fS} {q : Int × fS} {N : Nat} : ∀ {n : Nat} {s : fS} {l2 : Int} {l3 : Int} {l4 : Int} {l5 : Int} {l6 : Int} {l7 : Int} {l8 : Int} {l10 : Int} {l11 : Int} {l12 : Int}, bE 1 σo s → FX37_breakUp_b287 N n l2 l3 l4 l5 l6 l7 l8 l10 l11 l12 s = some q → bE 1 σo q.2 := by
  intro n
  induction n with
  | zero => intro s l2 l3 l4 l5 l6 l7 l8 l10 l11 l12 E  hF; simp [FX37_breakUp_b287] at hF
  | succ n ih =>
    intro s l2 l3 l4 l5 l6 l7 l8 l10 l11 l12 E  hF
    rw [FX37_breakUp_b287] at hF
    refine b_if hF (fun hF => ?_) (fun hF => ?_)
    ·
      exact BX37_breakUp_b353 (N := N) E hF
    ·
      refine b_if hF (fun hF => ?_) (fun hF => ?_)
      ·
        exact BX37_breakUp_b353 (N := N) E hF
      ·
        refine b_call E (fun _ hq => (BX37_make (N := N) (bE.rf E.S) hq)) hF (fun _ hq3 D3 E3 hF => ?_)
        refine b_if hF (fun hF => ?_) (fun hF => ?_)
        ·
          refine b_call E3 (fun _ hq => (BX37_choose (N := N) (bE.rf E3.S) hq)) hF (fun _ hq5 D5 E5 hF => ?_)
          refine b_if hF (fun hF => ?_) (fun hF => ?_)
          ·
            exact BX37_breakUp_b340 (N := N) (K287 := FX37_breakUp_b287 N n) @ih E5 hF
          ·
            refine b_call E5 (fun _ hq => (BX37_tell (N := N) (bE.rf E5.S) hq)) hF (fun _ hq7 D7 E7 hF => ?_)
            exact BX37_breakUp_b340 (N := N) (K287 := FX37_breakUp_b287 N n) @ih E7 hF
        ·
          exact BX37_breakUp_b340 (N := N) (K287 := FX37_breakUp_b287 N n) @ih E3 hF
theorem BX37_breakUp_b284 {σo : fS} {q : Int × fS} {N : Nat} {s : fS} {l2 : Int} {l3 : Int} {l4 : Int} {l5 : Int} {l6 : Int} {l7 : Int} {l8 : Int} {l10 : Int} {l11 : Int} {l12 : Int} {s1 : Int} (E : bE 1 σo s) (hF : FX37_breakUp_b284 N l2 l3 l4 l5 l6 l7 l8 l10 l11 l12 s1 s = some q) : bE 1 σo q.2 := by
  unfold FX37_breakUp_b284 at hF
  refine b_pI E (E.S.m1 (Nat.le_of_ble_eq_true rfl) (Nat.le_of_ble_eq_true rfl)) hF (fun _ D1 E1 hF => ?_)
  exact BX37_breakUp_b287 (N := N) E1 hF
theorem BX37_breakUp_b267 {σo : fS} {q : Int × fS} {N : Nat} {s : fS} {l2 : Int} {l3 : Int} {l4 : Int} {l5 : Int} {l6 : Int} {l7 : Int} {l8 : Int} {l10 : Int} {l11 : Int} {s0 : Int} (E : bE 1 σo s) (hF : FX37_breakUp_b267 N l2 l3 l4 l5 l6 l7 l8 l10 l11 s0 s = some q) : bE 1 σo q.2 := by
  unfold FX37_breakUp_b267 at hF
  refine b_rv hF (fun _ hF => ?_)
  refine b_if hF (fun hF => ?_) (fun hF => ?_)
  ·
    exact BX37_breakUp_b284 (N := N) E hF
  ·
    exact BX37_breakUp_b284 (N := N) E hF
theorem BX37_breakUp_b126 {σo : fS} {q : Int × fS} {N : Nat} {s : fS} {l2 : Int} {s0 : Int} (E : bE 1 σo s) (hF : FX37_breakUp_b126 N l2 s0 s = some q) : bE 1 σo q.2 := by
  unfold FX37_breakUp_b126 at hF
  refine b_rv hF (fun _ hF => ?_)
  refine b_rv hF (fun _ hF => ?_)
  refine b_rv hF (fun _ hF => ?_)
  refine b_rv hF (fun _ hF => ?_)
  refine b_rv hF (fun _ hF => ?_)
  refine b_pI E (E.S.m1 (Nat.le_of_ble_eq_true rfl) (Nat.le_of_ble_eq_true rfl)) hF (fun _ D11 E11 hF => ?_)
  refine b_call E11 (fun _ hq => (BX37_append (bE.rf E11.S) hq)) hF (fun _ hq13 D13 E13 hF => ?_)
  refine b_rv hF (fun _ hF => ?_)
  refine b_rv hF (fun _ hF => ?_)
  refine b_rv hF (fun _ hF => ?_)
  refine b_rv hF (fun _ hF => ?_)
  refine b_call E13 (fun _ hq => (BX37_append (bE.rf E13.S) hq)) hF (fun _ hq23 D23 E23 hF => ?_)
  refine b_call E23 (fun _ hq => (BX37_append (bE.rf E23.S) hq)) hF (fun _ hq25 D25 E25 hF => ?_)
  refine b_pI E25 (E25.S.m1 (Nat.le_of_ble_eq_true rfl) (Nat.le_of_ble_eq_true rfl)) hF (fun _ D26 E26 hF => ?_)
  refine b_call E26 (fun _ hq => (BX37_sumUp (N := N) (bE.rf E26.S) hq)) hF (fun _ hq28 D28 E28 hF => ?_)
  refine b_pI E28 (E28.S.m1 (Nat.le_of_ble_eq_true rfl) (Nat.le_of_ble_eq_true rfl)) hF (fun _ D29 E29 hF => ?_)
  refine b_rv hF (fun _ hF => ?_)
  refine b_if hF (fun hF => ?_) (fun hF => ?_)
  ·
    exact BX37_breakUp_b267 (N := N) E29 hF
  ·
    exact BX37_breakUp_b267 (N := N) E29 hF
theorem BX37_breakUp_b122 {σo : fS} {q : Int × fS} {N : Nat} {s : fS} {l2 : Int} (E : bE 1 σo s) (hF : FX37_breakUp_b122 N l2 s = some q) : bE 1 σo q.2 := by
  unfold FX37_breakUp_b122 at hF
  exact BX37_breakUp_b126 (N := N) E hF
theorem BX37_breakUp_b74 {σo : fS} {q : Int × fS} {N : Nat} {s : fS} {s1 : Int} (E : bE 1 σo s) (hF : FX37_breakUp_b74 N s1 s = some q) : bE 1 σo q.2 := by
  unfold FX37_breakUp_b74 at hF
  refine b_pI E (E.S.m1 (Nat.le_of_ble_eq_true rfl) (Nat.le_of_ble_eq_true rfl)) hF (fun _ D1 E1 hF => ?_)
  refine b_if hF (fun hF => ?_) (fun hF => ?_)
  ·
    refine b_if hF (fun hF => ?_) (fun hF => ?_)
    ·
      exact BX37_breakUp_b122 (N := N) E1 hF
    ·
      refine b_rv hF (fun _ hF => ?_)
      refine b_if hF (fun hF => ?_) (fun hF => ?_)
      ·
        exact BX37_breakUp_b122 (N := N) E1 hF
      ·
        exact BX37_breakUp_b126 (N := N) E1 hF
  ·
    exact b_ret E1 hF
theorem BX37_breakUp_b4 {σo : fS} {q : Int × fS} {N : Nat} : ∀ {n : Nat} {s : fS} {l1 : Int} {l2 : Int}, bE 1 σo s → FX37_breakUp_b4 N n l1 l2 s = some q → bE 1 σo q.2 := by
  intro n
  induction n with
  | zero => intro s l1 l2 E  hF; simp [FX37_breakUp_b4] at hF
  | succ n ih =>
    intro s l1 l2 E  hF
    rw [FX37_breakUp_b4] at hF
    refine b_if hF (fun hF => ?_) (fun hF => ?_)
    ·
      refine b_if hF (fun hF => ?_) (fun hF => ?_)
      ·
        refine b_call E (fun _ hq => (BX37_fitsInSizes (N := N) (bE.rf E.S) hq)) hF (fun _ hq3 D3 E3 hF => ?_)
        refine b_if hF (fun hF => ?_) (fun hF => ?_)
        ·
          exact BX37_breakUp_b74 (N := N) E3 hF
        ·
          exact BX37_breakUp_b74 (N := N) E3 hF
      ·
        exact BX37_breakUp_b74 (N := N) E hF
    ·
      refine b_if hF (fun hF => ?_) (fun hF => ?_)
      ·
        exact BX37_breakUp_b41 (N := N) (K4 := FX37_breakUp_b4 N n) @ih E hF
      ·
        refine b_rv hF (fun _ hF => ?_)
        refine b_if hF (fun hF => ?_) (fun hF => ?_)
        ·
          exact BX37_breakUp_b45 (N := N) (K4 := FX37_breakUp_b4 N n) @ih E hF
        ·
          refine b_rv hF (fun _ hF => ?_)
          refine b_if hF (fun hF => ?_) (fun hF => ?_)
          ·
            exact BX37_breakUp_b45 (N := N) (K4 := FX37_breakUp_b4 N n) @ih E hF
          ·
            exact BX37_breakUp_b41 (N := N) (K4 := FX37_breakUp_b4 N n) @ih E hF
theorem BX37_breakUp {σo : fS} {q : Int × fS} {N : Nat} {s : fS} (E : bE 1 σo s) (hF : FX37_breakUp N s = some q) : bE 1 σo q.2 := by
  unfold FX37_breakUp at hF
  exact BX37_breakUp_b4 (N := N) E hF
theorem BX37_nodes_b15 {σo : fS} {q : Int × fS} {s : fS} {s0 : Int} (E : bE 1 σo s) (hF : FX37_nodes_b15 s0 s = some q) : bE 1 σo q.2 := by
  unfold FX37_nodes_b15 at hF
  exact b_ret E hF
theorem BX37_nodes {σo : fS} {q : Int × fS} {s : fS} (E : bE 1 σo s) (hF : FX37_nodes s = some q) : bE 1 σo q.2 := by
  unfold FX37_nodes at hF
  refine b_if hF (fun hF => ?_) (fun hF => ?_)
  ·
    exact BX37_nodes_b15 E hF
  ·
    exact BX37_nodes_b15 E hF
theorem BX35_lineItem {σo : fS} {q : Unit × fS} {s : fS} {p0 : Int} {p1 : Int} {p2 : Int} {p3 : Int} {p4 : Int} {p5 : Int} (E : bE 1 σo s) (hF : FX35_lineItem p0 p1 p2 p3 p4 p5 s = some q) : bE 1 σo q.2 := by
  unfold FX35_lineItem at hF
  refine b_qI E (E.S.m1 (Nat.le_of_ble_eq_true rfl) (Nat.le_of_ble_eq_true rfl)) hF (fun _ D3 E3 hF => ?_)
  refine b_qI E3 (E3.S.m1 (Nat.le_of_ble_eq_true rfl) (Nat.le_of_ble_eq_true rfl)) hF (fun _ D5 E5 hF => ?_)
  refine b_qI E5 (E5.S.m1 (Nat.le_of_ble_eq_true rfl) (Nat.le_of_ble_eq_true rfl)) hF (fun _ D7 E7 hF => ?_)
  refine b_qI E7 (E7.S.m1 (Nat.le_of_ble_eq_true rfl) (Nat.le_of_ble_eq_true rfl)) hF (fun _ D9 E9 hF => ?_)
  refine b_qI E9 (E9.S.m1 (Nat.le_of_ble_eq_true rfl) (Nat.le_of_ble_eq_true rfl)) hF (fun _ D11 E11 hF => ?_)
  refine b_qI E11 (E11.S.m1 (Nat.le_of_ble_eq_true rfl) (Nat.le_of_ble_eq_true rfl)) hF (fun _ D13 E13 hF => ?_)
  refine b_pI E13 (E13.S.m1 (Nat.le_of_ble_eq_true rfl) (Nat.le_of_ble_eq_true rfl)) hF (fun _ D15 E15 hF => ?_)
  exact b_ret E15 hF
theorem BX35_lineGlue {σo : fS} {q : Unit × fS} {s : fS} {p0 : Int} (E : bE 1 σo s) (hF : FX35_lineGlue p0 s = some q) : bE 1 σo q.2 := by
  unfold FX35_lineGlue at hF
  refine b_call E (fun _ hq => (BX35_now (bE.rf E.S) hq)) hF (fun _ hq2 D2 E2 hF => ?_)
  refine b_call E2 (fun _ hq => (BX35_now (bE.rf E2.S) hq)) hF (fun _ hq4 D4 E4 hF => ?_)
  refine b_call E4 (fun _ hq => (BX35_now (bE.rf E4.S) hq)) hF (fun _ hq6 D6 E6 hF => ?_)
  refine b_call E6 (fun _ hq => (BX35_now (bE.rf E6.S) hq)) hF (fun _ hq8 D8 E8 hF => ?_)
  refine b_call E8 (fun _ hq => (BX35_lineItem (bE.rf E8.S) hq)) hF (fun _ hq10 D10 E10 hF => ?_)
  exact b_ret E10 hF
theorem BX35_kept_b29 {σo : fS} {q : Int × fS} {s : fS} {s0 : Int} (E : bE 1 σo s) (hF : FX35_kept_b29 s0 s = some q) : bE 1 σo q.2 := by
  unfold FX35_kept_b29 at hF
  exact b_ret E hF
theorem BX35_kept {σo : fS} {q : Int × fS} {s : fS} {p0 : Int} (E : bE 1 σo s) (hF : FX35_kept p0 s = some q) : bE 1 σo q.2 := by
  unfold FX35_kept at hF
  refine b_if hF (fun hF => ?_) (fun hF => ?_)
  ·
    refine b_if hF (fun hF => ?_) (fun hF => ?_)
    ·
      exact BX35_kept_b29 E hF
    ·
      exact BX35_kept_b29 E hF
  ·
    exact BX35_kept_b29 E hF
theorem BX35_penaltyItem_b37 {σo : fS} {q : Unit × fS} {N : Nat} {SL : Int → Int → Int → fS → Option (Int × fS)} (hsL : ∀ {s : fS} {x1 : Int} {x2 : Int} {x3 : Int} {q}, bS 1 s → SL x1 x2 x3 s = some q → bE 1 s q.2) {s : fS} (E : bE 1 σo s) (hF : FX35_penaltyItem_b37 N SL s = some q) : bE 1 σo q.2 := by
  unfold FX35_penaltyItem_b37 at hF
  exact b_ret E hF
theorem BX35_penaltyItem {σo : fS} {q : Unit × fS} {N : Nat} {SL : Int → Int → Int → fS → Option (Int × fS)} (hsL : ∀ {s : fS} {x1 : Int} {x2 : Int} {x3 : Int} {q}, bS 1 s → SL x1 x2 x3 s = some q → bE 1 s q.2) {s : fS} {p0 : Int} (E : bE 1 σo s) (hF : FX35_penaltyItem N SL p0 s = some q) : bE 1 σo q.2 := by
  unfold FX35_penaltyItem at hF
  refine b_call E (fun _ hq => (BX35_mode (bE.rf E.S) hq)) hF (fun _ hq2 D2 E2 hF => ?_)
  refine b_if hF (fun hF => ?_) (fun hF => ?_)
  ·
    refine b_call E2 (fun _ hq => (BX35_kept (bE.rf E2.S) hq)) hF (fun _ hq3 D3 E3 hF => ?_)
    refine b_call E3 (fun _ hq => (BX35_item (N := N) (bE.rf E3.S) hq)) hF (fun _ hq5 D5 E5 hF => ?_)
    exact BX35_penaltyItem_b37 (N := N) (SL := SL) @hsL E5 hF
  ·
    refine b_call E2 (fun _ hq => (BX35_kept (bE.rf E2.S) hq)) hF (fun _ hq6 D6 E6 hF => ?_)
    refine b_call E6 (fun _ hq => (BX35_outer (N := N) (SL := SL) @hsL (bE.rf E6.S) hq)) hF (fun _ hq8 D8 E8 hF => ?_)
    exact BX35_penaltyItem_b37 (N := N) (SL := SL) @hsL E8 hF
theorem BX35_paragraphLine_b204 {σo : fS} {q : Unit × fS} {N : Nat} {SL : Int → Int → Int → fS → Option (Int × fS)} {K63 : Int → Int → Int → Int → Int → fS → Option (Unit × fS)} (hsL : ∀ {s : fS} {x1 : Int} {x2 : Int} {x3 : Int} {q}, bS 1 s → SL x1 x2 x3 s = some q → bE 1 s q.2) (hk63 : ∀ {s : fS} {l1 : Int} {l3 : Int} {l4 : Int} {l5 : Int} {l6 : Int}, bE 1 σo s → K63 l1 l3 l4 l5 l6 s = some q → bE 1 σo q.2) {s : fS} {l1 : Int} {l3 : Int} {l4 : Int} {l5 : Int} {l6 : Int} (E : bE 1 σo s) (hF : FX35_paragraphLine_b204 N SL K63 l1 l3 l4 l5 l6 s = some q) : bE 1 σo q.2 := by
  unfold FX35_paragraphLine_b204 at hF
  exact hk63 E hF
theorem BX35_paragraphLine_b104 {σo : fS} {q : Unit × fS} {N : Nat} {SL : Int → Int → Int → fS → Option (Int × fS)} {K63 : Int → Int → Int → Int → Int → fS → Option (Unit × fS)} (hsL : ∀ {s : fS} {x1 : Int} {x2 : Int} {x3 : Int} {q}, bS 1 s → SL x1 x2 x3 s = some q → bE 1 s q.2) (hk63 : ∀ {s : fS} {l1 : Int} {l3 : Int} {l4 : Int} {l5 : Int} {l6 : Int}, bE 1 σo s → K63 l1 l3 l4 l5 l6 s = some q → bE 1 σo q.2) {s : fS} {l1 : Int} {l3 : Int} {l4 : Int} {l5 : Int} {l6 : Int} {s0 : Int} (E : bE 1 σo s) (hF : FX35_paragraphLine_b104 N SL K63 l1 l3 l4 l5 l6 s0 s = some q) : bE 1 σo q.2 := by
  unfold FX35_paragraphLine_b104 at hF
  refine b_if hF (fun hF => ?_) (fun hF => ?_)
  ·
    refine b_if hF (fun hF => ?_) (fun hF => ?_)
    ·
      exact BX35_paragraphLine_b204 (N := N) (SL := SL) (K63 := K63) @hsL @hk63 E hF
    ·
      refine b_if hF (fun hF => ?_) (fun hF => ?_)
      ·
        exact BX35_paragraphLine_b204 (N := N) (SL := SL) (K63 := K63) @hsL @hk63 E hF
      ·
        refine b_rv hF (fun _ hF => ?_)
        refine b_rv hF (fun _ hF => ?_)
        refine b_rv hF (fun _ hF => ?_)
        refine b_rv hF (fun _ hF => ?_)
        refine b_rv hF (fun _ hF => ?_)
        refine b_call E (fun _ hq => (BX35_lineItem (bE.rf E.S) hq)) hF (fun _ hq12 D12 E12 hF => ?_)
        exact BX35_paragraphLine_b204 (N := N) (SL := SL) (K63 := K63) @hsL @hk63 E12 hF
  ·
    refine b_call E (fun _ hq => (BX35_lineGlue (bE.rf E.S) hq)) hF (fun _ hq14 D14 E14 hF => ?_)
    exact BX35_paragraphLine_b204 (N := N) (SL := SL) (K63 := K63) @hsL @hk63 E14 hF
theorem BX35_paragraphLine_b492 {σo : fS} {q : Unit × fS} {N : Nat} {SL : Int → Int → Int → fS → Option (Int × fS)} (hsL : ∀ {s : fS} {x1 : Int} {x2 : Int} {x3 : Int} {q}, bS 1 s → SL x1 x2 x3 s = some q → bE 1 s q.2) {s : fS} (E : bE 1 σo s) (hF : FX35_paragraphLine_b492 N SL s = some q) : bE 1 σo q.2 := by
  unfold FX35_paragraphLine_b492 at hF
  exact b_ret E hF
theorem BX35_paragraphLine_b477 {σo : fS} {q : Unit × fS} {N : Nat} {SL : Int → Int → Int → fS → Option (Int × fS)} (hsL : ∀ {s : fS} {x1 : Int} {x2 : Int} {x3 : Int} {q}, bS 1 s → SL x1 x2 x3 s = some q → bE 1 s q.2) {s : fS} {s0 : Int} (E : bE 1 σo s) (hF : FX35_paragraphLine_b477 N SL s0 s = some q) : bE 1 σo q.2 := by
  unfold FX35_paragraphLine_b477 at hF
  refine b_if hF (fun hF => ?_) (fun hF => ?_)
  ·
    exact BX35_paragraphLine_b492 (N := N) (SL := SL) @hsL E hF
  ·
    refine b_call E (fun _ hq => (BX35_penaltyItem (N := N) (SL := SL) @hsL (bE.rf E.S) hq)) hF (fun _ hq2 D2 E2 hF => ?_)
    exact BX35_paragraphLine_b492 (N := N) (SL := SL) @hsL E2 hF
theorem BX35_paragraphLine_b454 {σo : fS} {q : Unit × fS} {N : Nat} {SL : Int → Int → Int → fS → Option (Int × fS)} (hsL : ∀ {s : fS} {x1 : Int} {x2 : Int} {x3 : Int} {q}, bS 1 s → SL x1 x2 x3 s = some q → bE 1 s q.2) {s : fS} {l6 : Int} {s0 : Int} (E : bE 1 σo s) (hF : FX35_paragraphLine_b454 N SL l6 s0 s = some q) : bE 1 σo q.2 := by
  unfold FX35_paragraphLine_b454 at hF
  refine b_if hF (fun hF => ?_) (fun hF => ?_)
  ·
    exact BX35_paragraphLine_b477 (N := N) (SL := SL) @hsL E hF
  ·
    refine b_call E (fun _ hq => (BX35_counter (bE.rf E.S) hq)) hF (fun _ hq2 D2 E2 hF => ?_)
    exact BX35_paragraphLine_b477 (N := N) (SL := SL) @hsL E2 hF
theorem BX35_paragraphLine_b429 {σo : fS} {q : Unit × fS} {N : Nat} {SL : Int → Int → Int → fS → Option (Int × fS)} (hsL : ∀ {s : fS} {x1 : Int} {x2 : Int} {x3 : Int} {q}, bS 1 s → SL x1 x2 x3 s = some q → bE 1 s q.2) {s : fS} {l1 : Int} {l3 : Int} {l6 : Int} {s0 : Int} (E : bE 1 σo s) (hF : FX35_paragraphLine_b429 N SL l1 l3 l6 s0 s = some q) : bE 1 σo q.2 := by
  unfold FX35_paragraphLine_b429 at hF
  refine b_if hF (fun hF => ?_) (fun hF => ?_)
  ·
    exact BX35_paragraphLine_b454 (N := N) (SL := SL) @hsL E hF
  ·
    refine b_call E (fun _ hq => (BX35_counter (bE.rf E.S) hq)) hF (fun _ hq2 D2 E2 hF => ?_)
    exact BX35_paragraphLine_b454 (N := N) (SL := SL) @hsL E2 hF
theorem BX35_paragraphLine_b339 {σo : fS} {q : Unit × fS} {N : Nat} {SL : Int → Int → Int → fS → Option (Int × fS)} (hsL : ∀ {s : fS} {x1 : Int} {x2 : Int} {x3 : Int} {q}, bS 1 s → SL x1 x2 x3 s = some q → bE 1 s q.2) {s : fS} {l1 : Int} {l3 : Int} {l6 : Int} (E : bE 1 σo s) (hF : FX35_paragraphLine_b339 N SL l1 l3 l6 s = some q) : bE 1 σo q.2 := by
  unfold FX35_paragraphLine_b339 at hF
  refine b_call E (fun _ hq => (BX35_lineGlue (bE.rf E.S) hq)) hF (fun _ hq2 D2 E2 hF => ?_)
  refine b_call E2 (fun _ hq => (BX35_now (bE.rf E2.S) hq)) hF (fun _ hq6 D6 E6 hF => ?_)
  refine b_call E6 (fun _ hq => (BX35_pack (N := N) (bE.rf E6.S) (E6.S.m1 (Nat.le_of_ble_eq_true rfl) (Nat.le_of_ble_eq_true rfl)) hq)) hF (fun _ hq8 D8 E8 hF => ?_)
  refine b_if hF (fun hF => ?_) (fun hF => ?_)
  ·
    refine b_call E8 (fun _ hq => (BX35_boxItem (N := N) (SL := SL) @hsL (bE.rf E8.S) hq)) hF (fun _ hq11 D11 E11 hF => ?_)
    refine b_if hF (fun hF => ?_) (fun hF => ?_)
    ·
      exact BX35_paragraphLine_b492 (N := N) (SL := SL) @hsL E11 hF
    ·
      refine b_if hF (fun hF => ?_) (fun hF => ?_)
      ·
        exact BX35_paragraphLine_b492 (N := N) (SL := SL) @hsL E11 hF
      ·
        refine b_call E11 (fun _ hq => (BX35_counter (bE.rf E11.S) hq)) hF (fun _ hq14 D14 E14 hF => ?_)
        refine b_if hF (fun hF => ?_) (fun hF => ?_)
        ·
          exact BX35_paragraphLine_b429 (N := N) (SL := SL) @hsL E14 hF
        ·
          refine b_call E14 (fun _ hq => (BX35_counter (bE.rf E14.S) hq)) hF (fun _ hq16 D16 E16 hF => ?_)
          exact BX35_paragraphLine_b429 (N := N) (SL := SL) @hsL E16 hF
  ·
    exact b_ret E8 hF
theorem BX35_paragraphLine_b237 {σo : fS} {q : Unit × fS} {N : Nat} {SL : Int → Int → Int → fS → Option (Int × fS)} (hsL : ∀ {s : fS} {x1 : Int} {x2 : Int} {x3 : Int} {q}, bS 1 s → SL x1 x2 x3 s = some q → bE 1 s q.2) {s : fS} {l1 : Int} {l3 : Int} {l4 : Int} {s0 : Int} (E : bE 1 σo s) (hF : FX35_paragraphLine_b237 N SL l1 l3 l4 s0 s = some q) : bE 1 σo q.2 := by
  unfold FX35_paragraphLine_b237 at hF
  refine b_if hF (fun hF => ?_) (fun hF => ?_)
  ·
    exact BX35_paragraphLine_b339 (N := N) (SL := SL) @hsL E hF
  ·
    refine b_rv hF (fun _ hF => ?_)
    refine b_if hF (fun hF => ?_) (fun hF => ?_)
    ·
      exact BX35_paragraphLine_b339 (N := N) (SL := SL) @hsL E hF
    ·
      refine b_rv hF (fun _ hF => ?_)
      refine b_call E (fun _ hq => (BX35_metrics (bE.rf E.S) hq).1) hF (fun _ hq6 D6 E6 hF => ?_)
      refine b_rv hF (fun _ hF => ?_)
      refine b_K hF (fun hF => ?_)
      refine b_call E6 (fun _ hq => (BX40_of (N := N) (bE.rf E6.S) (BX35_metrics (bE.rf E.S) hq6).2 hq)) hF (fun _ hq10 D10 E10 hF => ?_)
      refine b_call E10 (fun _ hq => (BX35_metrics (bE.rf E10.S) hq).1) hF (fun _ hq12 D12 E12 hF => ?_)
      refine b_rv hF (fun _ hF => ?_)
      refine b_K hF (fun hF => ?_)
      refine b_call E12 (fun _ hq => (BX40_of (N := N) (bE.rf E12.S) (BX35_metrics (bE.rf E10.S) hq12).2 hq)) hF (fun _ hq16 D16 E16 hF => ?_)
      refine b_call E16 (fun _ hq => (BX35_metrics (bE.rf E16.S) hq).1) hF (fun _ hq18 D18 E18 hF => ?_)
      refine b_rv hF (fun _ hF => ?_)
      refine b_K hF (fun hF => ?_)
      refine b_call E18 (fun _ hq => (BX40_of (N := N) (bE.rf E18.S) (BX35_metrics (bE.rf E16.S) hq18).2 hq)) hF (fun _ hq22 D22 E22 hF => ?_)
      refine b_call E22 (fun _ hq => (BX35_lineItem (bE.rf E22.S) hq)) hF (fun _ hq24 D24 E24 hF => ?_)
      exact BX35_paragraphLine_b339 (N := N) (SL := SL) @hsL E24 hF
theorem BX35_paragraphLine_b236 {σo : fS} {q : Unit × fS} {N : Nat} {SL : Int → Int → Int → fS → Option (Int × fS)} (hsL : ∀ {s : fS} {x1 : Int} {x2 : Int} {x3 : Int} {q}, bS 1 s → SL x1 x2 x3 s = some q → bE 1 s q.2) {s : fS} {l1 : Int} {l3 : Int} {l4 : Int} (E : bE 1 σo s) (hF : FX35_paragraphLine_b236 N SL l1 l3 l4 s = some q) : bE 1 σo q.2 := by
  unfold FX35_paragraphLine_b236 at hF
  exact BX35_paragraphLine_b237 (N := N) (SL := SL) @hsL E hF
theorem BX35_paragraphLine_b63 {σo : fS} {q : Unit × fS} {N : Nat} {SL : Int → Int → Int → fS → Option (Int × fS)} (hsL : ∀ {s : fS} {x1 : Int} {x2 : Int} {x3 : Int} {q}, bS 1 s → SL x1 x2 x3 s = some q → bE 1 s q.2) : ∀ {n : Nat} {s : fS} {l1 : Int} {l3 : Int} {l4 : Int} {l5 : Int} {l6 : Int}, bE 1 σo s → FX35_paragraphLine_b63 N SL n l1 l3 l4 l5 l6 s = some q → bE 1 σo q.2 := by
  intro n
  induction n with
  | zero => intro s l1 l3 l4 l5 l6 E  hF; simp [FX35_paragraphLine_b63] at hF
  | succ n ih =>
    intro s l1 l3 l4 l5 l6 E  hF
    rw [FX35_paragraphLine_b63] at hF
    refine b_if hF (fun hF => ?_) (fun hF => ?_)
    ·
      refine b_if hF (fun hF => ?_) (fun hF => ?_)
      ·
        exact BX35_paragraphLine_b236 (N := N) (SL := SL) @hsL E hF
      ·
        refine b_rv hF (fun _ hF => ?_)
        refine b_if hF (fun hF => ?_) (fun hF => ?_)
        ·
          exact BX35_paragraphLine_b236 (N := N) (SL := SL) @hsL E hF
        ·
          exact BX35_paragraphLine_b237 (N := N) (SL := SL) @hsL E hF
    ·
      refine b_if hF (fun hF => ?_) (fun hF => ?_)
      ·
        refine b_if hF (fun hF => ?_) (fun hF => ?_)
        ·
          exact BX35_paragraphLine_b104 (N := N) (SL := SL) (K63 := FX35_paragraphLine_b63 N SL n) @hsL @ih E hF
        ·
          exact BX35_paragraphLine_b104 (N := N) (SL := SL) (K63 := FX35_paragraphLine_b63 N SL n) @hsL @ih E hF
      ·
        refine b_rv hF (fun _ hF => ?_)
        exact BX35_paragraphLine_b104 (N := N) (SL := SL) (K63 := FX35_paragraphLine_b63 N SL n) @hsL @ih E hF
theorem BX35_paragraphLine_b50 {σo : fS} {q : Unit × fS} {N : Nat} {SL : Int → Int → Int → fS → Option (Int × fS)} (hsL : ∀ {s : fS} {x1 : Int} {x2 : Int} {x3 : Int} {q}, bS 1 s → SL x1 x2 x3 s = some q → bE 1 s q.2) {s : fS} {l1 : Int} {l3 : Int} {l4 : Int} {s0 : Int} (E : bE 1 σo s) (hF : FX35_paragraphLine_b50 N SL l1 l3 l4 s0 s = some q) : bE 1 σo q.2 := by
  unfold FX35_paragraphLine_b50 at hF
  refine b_rv hF (fun _ hF => ?_)
  exact BX35_paragraphLine_b63 (N := N) (SL := SL) @hsL E hF
theorem BX35_paragraphLine_b49 {σo : fS} {q : Unit × fS} {N : Nat} {SL : Int → Int → Int → fS → Option (Int × fS)} (hsL : ∀ {s : fS} {x1 : Int} {x2 : Int} {x3 : Int} {q}, bS 1 s → SL x1 x2 x3 s = some q → bE 1 s q.2) {s : fS} {l1 : Int} {l2 : Int} {l3 : Int} {l4 : Int} (E : bE 1 σo s) (hF : FX35_paragraphLine_b49 N SL l1 l2 l3 l4 s = some q) : bE 1 σo q.2 := by
  unfold FX35_paragraphLine_b49 at hF
  exact BX35_paragraphLine_b50 (N := N) (SL := SL) @hsL E hF
theorem BX35_paragraphLine {σo : fS} {q : Unit × fS} {N : Nat} {SL : Int → Int → Int → fS → Option (Int × fS)} (hsL : ∀ {s : fS} {x1 : Int} {x2 : Int} {x3 : Int} {q}, bS 1 s → SL x1 x2 x3 s = some q → bE 1 s q.2) {s : fS} {p0 : Int} {p1 : Int} {p2 : Int} (E : bE 1 σo s) (hF : FX35_paragraphLine N SL p0 p1 p2 s = some q) : bE 1 σo q.2 := by
  unfold FX35_paragraphLine at hF
  refine b_pI E (E.S.m1 (Nat.le_of_ble_eq_true rfl) (Nat.le_of_ble_eq_true rfl)) hF (fun _ D1 E1 hF => ?_)
  refine b_call E1 (fun _ hq => (BX35_lineGlue (bE.rf E1.S) hq)) hF (fun _ hq3 D3 E3 hF => ?_)
  refine b_rv hF (fun _ hF => ?_)
  refine b_if hF (fun hF => ?_) (fun hF => ?_)
  ·
    exact BX35_paragraphLine_b49 (N := N) (SL := SL) @hsL E3 hF
  ·
    refine b_rv hF (fun _ hF => ?_)
    refine b_if hF (fun hF => ?_) (fun hF => ?_)
    ·
      exact BX35_paragraphLine_b49 (N := N) (SL := SL) @hsL E3 hF
    ·
      exact BX35_paragraphLine_b50 (N := N) (SL := SL) @hsL E3 hF
theorem BX35_endParagraph_b237 {σo : fS} {q : Unit × fS} {N : Nat} {SL : Int → Int → Int → fS → Option (Int × fS)} {K184 : Int → Int → Int → fS → Option (Unit × fS)} (hsL : ∀ {s : fS} {x1 : Int} {x2 : Int} {x3 : Int} {q}, bS 1 s → SL x1 x2 x3 s = some q → bE 1 s q.2) (hk184 : ∀ {s : fS} {l2 : Int} {l3 : Int} {l4 : Int}, bE 1 σo s → K184 l2 l3 l4 s = some q → bE 1 σo q.2) {s : fS} {l2 : Int} {l3 : Int} {l4 : Int} {s1 : Int} (E : bE 1 σo s) (hF : FX35_endParagraph_b237 N SL K184 l2 l3 l4 s1 s = some q) : bE 1 σo q.2 := by
  unfold FX35_endParagraph_b237 at hF
  refine b_pI E (E.S.m1 (Nat.le_of_ble_eq_true rfl) (Nat.le_of_ble_eq_true rfl)) hF (fun _ D1 E1 hF => ?_)
  exact hk184 E1 hF
theorem BX35_endParagraph_b233 {σo : fS} {q : Unit × fS} {N : Nat} {SL : Int → Int → Int → fS → Option (Int × fS)} {K184 : Int → Int → Int → fS → Option (Unit × fS)} (hsL : ∀ {s : fS} {x1 : Int} {x2 : Int} {x3 : Int} {q}, bS 1 s → SL x1 x2 x3 s = some q → bE 1 s q.2) (hk184 : ∀ {s : fS} {l2 : Int} {l3 : Int} {l4 : Int}, bE 1 σo s → K184 l2 l3 l4 s = some q → bE 1 σo q.2) {s : fS} {l2 : Int} {l3 : Int} {l4 : Int} (E : bE 1 σo s) (hF : FX35_endParagraph_b233 N SL K184 l2 l3 l4 s = some q) : bE 1 σo q.2 := by
  unfold FX35_endParagraph_b233 at hF
  exact BX35_endParagraph_b237 (N := N) (SL := SL) (K184 := K184) @hsL @hk184 E hF
theorem BX35_endParagraph_b276 {σo : fS} {q : Unit × fS} {N : Nat} {SL : Int → Int → Int → fS → Option (Int × fS)} (hsL : ∀ {s : fS} {x1 : Int} {x2 : Int} {x3 : Int} {q}, bS 1 s → SL x1 x2 x3 s = some q → bE 1 s q.2) {s : fS} (E : bE 1 σo s) (hF : FX35_endParagraph_b276 N SL s = some q) : bE 1 σo q.2 := by
  unfold FX35_endParagraph_b276 at hF
  exact b_ret E hF
theorem BX35_endParagraph_b249 {σo : fS} {q : Unit × fS} {N : Nat} {SL : Int → Int → Int → fS → Option (Int × fS)} (hsL : ∀ {s : fS} {x1 : Int} {x2 : Int} {x3 : Int} {q}, bS 1 s → SL x1 x2 x3 s = some q → bE 1 s q.2) : ∀ {n : Nat} {s : fS} {l2 : Int} {l3 : Int} {l4 : Int}, bE 1 σo s → FX35_endParagraph_b249 N SL n l2 l3 l4 s = some q → bE 1 σo q.2 := by
  intro n
  induction n with
  | zero => intro s l2 l3 l4 E  hF; simp [FX35_endParagraph_b249] at hF
  | succ n ih =>
    intro s l2 l3 l4 E  hF
    rw [FX35_endParagraph_b249] at hF
    refine b_if hF (fun hF => ?_) (fun hF => ?_)
    ·
      exact BX35_endParagraph_b276 (N := N) (SL := SL) @hsL E hF
    ·
      refine b_if hF (fun hF => ?_) (fun hF => ?_)
      ·
        exact BX35_endParagraph_b276 (N := N) (SL := SL) @hsL E hF
      ·
        refine b_call E (fun _ hq => (BX35_paragraphLine (N := N) (SL := SL) @hsL (bE.rf E.S) hq)) hF (fun _ hq3 D3 E3 hF => ?_)
        exact ih E3 hF
theorem BX35_endParagraph_b184 {σo : fS} {q : Unit × fS} {N : Nat} {SL : Int → Int → Int → fS → Option (Int × fS)} (hsL : ∀ {s : fS} {x1 : Int} {x2 : Int} {x3 : Int} {q}, bS 1 s → SL x1 x2 x3 s = some q → bE 1 s q.2) : ∀ {n : Nat} {s : fS} {l2 : Int} {l3 : Int} {l4 : Int}, bE 1 σo s → FX35_endParagraph_b184 N SL n l2 l3 l4 s = some q → bE 1 σo q.2 := by
  intro n
  induction n with
  | zero => intro s l2 l3 l4 E  hF; simp [FX35_endParagraph_b184] at hF
  | succ n ih =>
    intro s l2 l3 l4 E  hF
    rw [FX35_endParagraph_b184] at hF
    refine b_if hF (fun hF => ?_) (fun hF => ?_)
    ·
      exact BX35_endParagraph_b249 (N := N) (SL := SL) @hsL E hF
    ·
      refine b_rv hF (fun _ hF => ?_)
      refine b_if hF (fun hF => ?_) (fun hF => ?_)
      ·
        exact BX35_endParagraph_b233 (N := N) (SL := SL) (K184 := FX35_endParagraph_b184 N SL n) @hsL @ih E hF
      ·
        refine b_rv hF (fun _ hF => ?_)
        refine b_if hF (fun hF => ?_) (fun hF => ?_)
        ·
          exact BX35_endParagraph_b233 (N := N) (SL := SL) (K184 := FX35_endParagraph_b184 N SL n) @hsL @ih E hF
        ·
          exact BX35_endParagraph_b237 (N := N) (SL := SL) (K184 := FX35_endParagraph_b184 N SL n) @hsL @ih E hF
theorem BX35_endParagraph_b138 {σo : fS} {q : Unit × fS} {N : Nat} {SL : Int → Int → Int → fS → Option (Int × fS)} (hsL : ∀ {s : fS} {x1 : Int} {x2 : Int} {x3 : Int} {q}, bS 1 s → SL x1 x2 x3 s = some q → bE 1 s q.2) {s : fS} {l2 : Int} {l3 : Int} (E : bE 1 σo s) (hF : FX35_endParagraph_b138 N SL l2 l3 s = some q) : bE 1 σo q.2 := by
  unfold FX35_endParagraph_b138 at hF
  refine b_if hF (fun hF => ?_) (fun hF => ?_)
  ·
    refine b_call E (fun _ hq => (BX35_setAt (N := N) (bE.rf E.S) hq)) hF (fun _ hq3 D3 E3 hF => ?_)
    refine b_pI E3 (E3.S.m1 (Nat.le_of_ble_eq_true rfl) (Nat.le_of_ble_eq_true rfl)) hF (fun _ D5 E5 hF => ?_)
    refine b_call E5 (fun _ hq => (BX37_nodes (bE.rf E5.S) hq)) hF (fun _ hq9 D9 E9 hF => ?_)
    refine b_pI E9 (E9.S.m1 (Nat.le_of_ble_eq_true rfl) (Nat.le_of_ble_eq_true rfl)) hF (fun _ D10 E10 hF => ?_)
    exact BX35_endParagraph_b184 (N := N) (SL := SL) @hsL E10 hF
  ·
    exact b_ret E hF
theorem BX35_endParagraph_b66 {σo : fS} {q : Unit × fS} {N : Nat} {SL : Int → Int → Int → fS → Option (Int × fS)} (hsL : ∀ {s : fS} {x1 : Int} {x2 : Int} {x3 : Int} {q}, bS 1 s → SL x1 x2 x3 s = some q → bE 1 s q.2) : ∀ {n : Nat} {s : fS} {l1 : Int} {l2 : Int} {l3 : Int}, bE 1 σo s → FX35_endParagraph_b66 N SL n l1 l2 l3 s = some q → bE 1 σo q.2 := by
  intro n
  induction n with
  | zero => intro s l1 l2 l3 E  hF; simp [FX35_endParagraph_b66] at hF
  | succ n ih =>
    intro s l1 l2 l3 E  hF
    rw [FX35_endParagraph_b66] at hF
    refine b_if hF (fun hF => ?_) (fun hF => ?_)
    ·
      refine b_call E (fun _ hq => (BX35_tell (N := N) (bE.rf E.S) hq)) hF (fun _ hq2 D2 E2 hF => ?_)
      refine b_call E2 (fun _ hq => (BX37_breakUp (N := N) (bE.rf E2.S) hq)) hF (fun _ hq5 D5 E5 hF => ?_)
      refine b_if hF (fun hF => ?_) (fun hF => ?_)
      ·
        refine b_if hF (fun hF => ?_) (fun hF => ?_)
        ·
          exact BX35_endParagraph_b138 (N := N) (SL := SL) @hsL E5 hF
        ·
          refine b_call E5 (fun _ hq => (BX35_fail (bE.rf E5.S) hq)) hF (fun _ hq9 D9 E9 hF => ?_)
          exact BX35_endParagraph_b138 (N := N) (SL := SL) @hsL E9 hF
      ·
        refine b_call E5 (fun _ hq => (BX35_fail (bE.rf E5.S) hq)) hF (fun _ hq11 D11 E11 hF => ?_)
        exact BX35_endParagraph_b138 (N := N) (SL := SL) @hsL E11 hF
    ·
      refine b_rv hF (fun _ hF => ?_)
      refine b_qI E (E.S.m1 (Nat.le_of_ble_eq_true rfl) (Nat.le_of_ble_eq_true rfl)) hF (fun _ D15 E15 hF => ?_)
      exact ih E15 hF
theorem BX35_endParagraph {σo : fS} {q : Unit × fS} {N : Nat} {SL : Int → Int → Int → fS → Option (Int × fS)} (hsL : ∀ {s : fS} {x1 : Int} {x2 : Int} {x3 : Int} {q}, bS 1 s → SL x1 x2 x3 s = some q → bE 1 s q.2) {s : fS} (E : bE 1 σo s) (hF : FX35_endParagraph N SL s = some q) : bE 1 σo q.2 := by
  unfold FX35_endParagraph at hF
  refine b_call E (fun _ hq => (BX35_endWord (N := N) (bE.rf E.S) hq)) hF (fun _ hq2 D2 E2 hF => ?_)
  refine b_if hF (fun hF => ?_) (fun hF => ?_)
  ·
    refine b_rv hF (fun _ hF => ?_)
    refine b_pI E2 (E2.S.m1 (Nat.le_of_ble_eq_true rfl) (Nat.le_of_ble_eq_true rfl)) hF (fun _ D9 E9 hF => ?_)
    refine b_pI E9 (E9.S.m1 (Nat.le_of_ble_eq_true rfl) (Nat.le_of_ble_eq_true rfl)) hF (fun _ D10 E10 hF => ?_)
    refine b_if hF (fun hF => ?_) (fun hF => ?_)
    ·
      refine b_if hF (fun hF => ?_) (fun hF => ?_)
      ·
        exact BX35_endParagraph_b66 (N := N) (SL := SL) @hsL E10 hF
      ·
        refine b_call E10 (fun _ hq => (BX35_fail (bE.rf E10.S) hq)) hF (fun _ hq12 D12 E12 hF => ?_)
        exact b_ret E12 hF
    ·
      exact b_ret E10 hF
  ·
    exact b_ret E2 hF
theorem BX35_goesTo_b53 {σo : fS} {q : Unit × fS} {N : Nat} {SL : Int → Int → Int → fS → Option (Int × fS)} (hsL : ∀ {s : fS} {x1 : Int} {x2 : Int} {x3 : Int} {q}, bS 1 s → SL x1 x2 x3 s = some q → bE 1 s q.2) {s : fS} (E : bE 1 σo s) (hF : FX35_goesTo_b53 N SL s = some q) : bE 1 σo q.2 := by
  unfold FX35_goesTo_b53 at hF
  exact b_ret E hF
theorem BX35_goesTo_b35 {σo : fS} {q : Unit × fS} {N : Nat} {SL : Int → Int → Int → fS → Option (Int × fS)} (hsL : ∀ {s : fS} {x1 : Int} {x2 : Int} {x3 : Int} {q}, bS 1 s → SL x1 x2 x3 s = some q → bE 1 s q.2) {s : fS} {l4 : Int} {s1 : Int} {s2 : Int} (E : bE 1 σo s) (hF : FX35_goesTo_b35 N SL l4 s1 s2 s = some q) : bE 1 σo q.2 := by
  unfold FX35_goesTo_b35 at hF
  refine b_call E (fun _ hq => (BX35_setAt (N := N) (bE.rf E.S) hq)) hF (fun _ hq2 D2 E2 hF => ?_)
  exact BX35_goesTo_b53 (N := N) (SL := SL) @hsL E2 hF
theorem BX35_goesTo {σo : fS} {q : Unit × fS} {N : Nat} {SL : Int → Int → Int → fS → Option (Int × fS)} (hsL : ∀ {s : fS} {x1 : Int} {x2 : Int} {x3 : Int} {q}, bS 1 s → SL x1 x2 x3 s = some q → bE 1 s q.2) {s : fS} {p0 : Int} {p1 : Int} {p2 : Int} {p3 : Int} (E : bE 1 σo s) (hF : FX35_goesTo N SL p0 p1 p2 p3 s = some q) : bE 1 σo q.2 := by
  unfold FX35_goesTo at hF
  refine b_if hF (fun hF => ?_) (fun hF => ?_)
  ·
    refine b_if hF (fun hF => ?_) (fun hF => ?_)
    ·
      exact BX35_goesTo_b53 (N := N) (SL := SL) @hsL E hF
    ·
      refine b_call E (fun _ hq => (BX35_boxItem (N := N) (SL := SL) @hsL (bE.rf E.S) hq)) hF (fun _ hq2 D2 E2 hF => ?_)
      exact BX35_goesTo_b53 (N := N) (SL := SL) @hsL E2 hF
  ·
    refine b_call E (fun _ hq => (BX35_setAt (N := N) (bE.rf E.S) hq)) hF (fun _ hq4 D4 E4 hF => ?_)
    refine b_if hF (fun hF => ?_) (fun hF => ?_)
    ·
      exact BX35_goesTo_b35 (N := N) (SL := SL) @hsL E4 hF
    ·
      exact BX35_goesTo_b35 (N := N) (SL := SL) @hsL E4 hF
theorem BX35_closeBox_b12 {σo : fS} {q : Unit × fS} {N : Nat} {SL : Int → Int → Int → fS → Option (Int × fS)} (hsL : ∀ {s : fS} {x1 : Int} {x2 : Int} {x3 : Int} {q}, bS 1 s → SL x1 x2 x3 s = some q → bE 1 s q.2) {s : fS} (E : bE 1 σo s) (hF : FX35_closeBox_b12 N SL s = some q) : bE 1 σo q.2 := by
  unfold FX35_closeBox_b12 at hF
  refine b_if hF (fun hF => ?_) (fun hF => ?_)
  ·
    refine b_rv hF (fun _ hF => ?_)
    refine b_rv hF (fun _ hF => ?_)
    refine b_rv hF (fun _ hF => ?_)
    refine b_rv hF (fun _ hF => ?_)
    refine b_call E (fun _ hq => (BX35_pack (N := N) (bE.rf E.S) E.S.p1 hq)) hF (fun _ hq15 D15 E15 hF => ?_)
    refine b_if hF (fun hF => ?_) (fun hF => ?_)
    ·
      refine b_pI E15 (E15.S.m1 (Nat.le_of_ble_eq_true rfl) (Nat.le_of_ble_eq_true rfl)) hF (fun _ D18 E18 hF => ?_)
      refine b_pI E18 (E18.S.m1 (Nat.le_of_ble_eq_true rfl) (Nat.le_of_ble_eq_true rfl)) hF (fun _ D19 E19 hF => ?_)
      refine b_pI E19 (E19.S.m1 (Nat.le_of_ble_eq_true rfl) (Nat.le_of_ble_eq_true rfl)) hF (fun _ D21 E21 hF => ?_)
      refine b_rv hF (fun _ hF => ?_)
      refine b_rv hF (fun _ hF => ?_)
      refine b_rv hF (fun _ hF => ?_)
      refine b_call E21 (fun _ hq => (BX35_goesTo (N := N) (SL := SL) @hsL (bE.rf E21.S) hq)) hF (fun _ hq29 D29 E29 hF => ?_)
      exact b_ret E29 hF
    ·
      exact b_ret E15 hF
  ·
    exact b_ret E hF
theorem BX35_closeBox {σo : fS} {q : Unit × fS} {N : Nat} {SL : Int → Int → Int → fS → Option (Int × fS)} (hsL : ∀ {s : fS} {x1 : Int} {x2 : Int} {x3 : Int} {q}, bS 1 s → SL x1 x2 x3 s = some q → bE 1 s q.2) {s : fS} (E : bE 1 σo s) (hF : FX35_closeBox N SL s = some q) : bE 1 σo q.2 := by
  unfold FX35_closeBox at hF
  refine b_call E (fun _ hq => (BX35_mode (bE.rf E.S) hq)) hF (fun _ hq2 D2 E2 hF => ?_)
  refine b_if hF (fun hF => ?_) (fun hF => ?_)
  ·
    exact BX35_closeBox_b12 (N := N) (SL := SL) @hsL E2 hF
  ·
    refine b_call E2 (fun _ hq => (BX35_endParagraph (N := N) (SL := SL) @hsL (bE.rf E2.S) hq)) hF (fun _ hq4 D4 E4 hF => ?_)
    exact BX35_closeBox_b12 (N := N) (SL := SL) @hsL E4 hF
theorem BX35_closeBrace_b59 {σo : fS} {q : Unit × fS} {N : Nat} {SL : Int → Int → Int → fS → Option (Int × fS)} (hsL : ∀ {s : fS} {x1 : Int} {x2 : Int} {x3 : Int} {q}, bS 1 s → SL x1 x2 x3 s = some q → bE 1 s q.2) {s : fS} (E : bE 1 σo s) (hF : FX35_closeBrace_b59 N SL s = some q) : bE 1 σo q.2 := by
  unfold FX35_closeBrace_b59 at hF
  exact b_ret E hF
theorem BX35_closeBrace_b20 {σo : fS} {q : Unit × fS} {N : Nat} {SL : Int → Int → Int → fS → Option (Int × fS)} (hsL : ∀ {s : fS} {x1 : Int} {x2 : Int} {x3 : Int} {q}, bS 1 s → SL x1 x2 x3 s = some q → bE 1 s q.2) {s : fS} (E : bE 1 σo s) (hF : FX35_closeBrace_b20 N SL s = some q) : bE 1 σo q.2 := by
  unfold FX35_closeBrace_b20 at hF
  refine b_call E (fun _ hq => (BX35_fail (bE.rf E.S) hq)) hF (fun _ hq2 D2 E2 hF => ?_)
  exact BX35_closeBrace_b59 (N := N) (SL := SL) @hsL E2 hF
theorem BX35_closeBrace {σo : fS} {q : Unit × fS} {N : Nat} {SL : Int → Int → Int → fS → Option (Int × fS)} (hsL : ∀ {s : fS} {x1 : Int} {x2 : Int} {x3 : Int} {q}, bS 1 s → SL x1 x2 x3 s = some q → bE 1 s q.2) {s : fS} (E : bE 1 σo s) (hF : FX35_closeBrace N SL s = some q) : bE 1 σo q.2 := by
  unfold FX35_closeBrace at hF
  refine b_if hF (fun hF => ?_) (fun hF => ?_)
  ·
    exact BX35_closeBrace_b20 (N := N) (SL := SL) @hsL E hF
  ·
    refine b_rv hF (fun _ hF => ?_)
    refine b_if hF (fun hF => ?_) (fun hF => ?_)
    ·
      refine b_rv hF (fun _ hF => ?_)
      refine b_if hF (fun hF => ?_) (fun hF => ?_)
      ·
        refine b_call E (fun _ hq => (BX35_closeBox (N := N) (SL := SL) @hsL (bE.rf E.S) hq)) hF (fun _ hq9 D9 E9 hF => ?_)
        exact BX35_closeBrace_b59 (N := N) (SL := SL) @hsL E9 hF
      ·
        refine b_pI E (E.S.m1 (Nat.le_of_ble_eq_true rfl) (Nat.le_of_ble_eq_true rfl)) hF (fun _ D11 E11 hF => ?_)
        exact BX35_closeBrace_b59 (N := N) (SL := SL) @hsL E11 hF
    ·
      exact BX35_closeBrace_b20 (N := N) (SL := SL) @hsL E hF
theorem BX35_isExpandable_b19 {σo : fS} {q : Int × fS} {s : fS} (E : bE 1 σo s) (hF : FX35_isExpandable_b19 s = some q) : bE 1 σo q.2 := by
  unfold FX35_isExpandable_b19 at hF
  exact b_ret E hF
theorem BX35_isExpandable_b59 {σo : fS} {q : Int × fS} {s : fS} {s0 : Int} (E : bE 1 σo s) (hF : FX35_isExpandable_b59 s0 s = some q) : bE 1 σo q.2 := by
  unfold FX35_isExpandable_b59 at hF
  exact b_z E hF
theorem BX35_isExpandable_b54 {σo : fS} {q : Int × fS} {s : fS} (E : bE 1 σo s) (hF : FX35_isExpandable_b54 s = some q) : bE 1 σo q.2 := by
  unfold FX35_isExpandable_b54 at hF
  exact BX35_isExpandable_b59 E hF
theorem BX35_isExpandable_b58 {σo : fS} {q : Int × fS} {s : fS} (E : bE 1 σo s) (hF : FX35_isExpandable_b58 s = some q) : bE 1 σo q.2 := by
  unfold FX35_isExpandable_b58 at hF
  exact BX35_isExpandable_b59 E hF
theorem BX35_isExpandable_b41 {σo : fS} {q : Int × fS} {s : fS} {l2 : Int} (E : bE 1 σo s) (hF : FX35_isExpandable_b41 l2 s = some q) : bE 1 σo q.2 := by
  unfold FX35_isExpandable_b41 at hF
  refine b_if hF (fun hF => ?_) (fun hF => ?_)
  ·
    exact BX35_isExpandable_b58 E hF
  ·
    refine b_if hF (fun hF => ?_) (fun hF => ?_)
    ·
      exact BX35_isExpandable_b58 E hF
    ·
      exact BX35_isExpandable_b54 E hF
theorem BX35_isExpandable {σo : fS} {q : Int × fS} {s : fS} {p0 : Int} (E : bE 1 σo s) (hF : FX35_isExpandable p0 s = some q) : bE 1 σo q.2 := by
  unfold FX35_isExpandable at hF
  refine b_if hF (fun hF => ?_) (fun hF => ?_)
  ·
    exact BX35_isExpandable_b19 E hF
  ·
    refine b_call E (fun _ hq => (BX35_isMarked (bE.rf E.S) hq)) hF (fun _ hq1 D1 E1 hF => ?_)
    refine b_if hF (fun hF => ?_) (fun hF => ?_)
    ·
      exact BX35_isExpandable_b19 E1 hF
    ·
      refine b_call E1 (fun _ hq => (BX35_isCharacter (bE.rf E1.S) hq)) hF (fun _ hq2 D2 E2 hF => ?_)
      refine b_if hF (fun hF => ?_) (fun hF => ?_)
      ·
        refine b_call E2 (fun _ hq => (BX35_meaning (bE.rf E2.S) hq)) hF (fun _ hq4 D4 E4 hF => ?_)
        refine b_if hF (fun hF => ?_) (fun hF => ?_)
        ·
          exact BX35_isExpandable_b41 E4 hF
        ·
          refine b_if hF (fun hF => ?_) (fun hF => ?_)
          ·
            exact BX35_isExpandable_b54 E4 hF
          ·
            exact BX35_isExpandable_b41 E4 hF
      ·
        exact BX35_isExpandable_b19 E2 hF
theorem BX35_getExpanded_b5 {σo : fS} {q : Int × fS} {N : Nat} {SE : Int → fS → Option (Unit × fS)} (hsE : ∀ {s : fS} {x1 : Int} {q}, bS 1 s → SE x1 s = some q → bE 1 s q.2) : ∀ {n : Nat} {s : fS} {l1 : Int}, bE 1 σo s → FX35_getExpanded_b5 N SE n l1 s = some q → bE 1 σo q.2 := by
  intro n
  induction n with
  | zero => intro s l1 E  hF; simp [FX35_getExpanded_b5] at hF
  | succ n ih =>
    intro s l1 E  hF
    rw [FX35_getExpanded_b5] at hF
    refine b_call E (fun _ hq => (BX35_isExpandable (bE.rf E.S) hq)) hF (fun _ hq2 D2 E2 hF => ?_)
    refine b_if hF (fun hF => ?_) (fun hF => ?_)
    ·
      exact b_ret E2 hF
    ·
      refine b_call E2 (fun _ hq => (hsE E2.S hq)) hF (fun _ hq4 D4 E4 hF => ?_)
      refine b_call E4 (fun _ hq => (BX35_get (N := N) (bE.rf E4.S) hq)) hF (fun _ hq6 D6 E6 hF => ?_)
      exact ih E6 hF
theorem BX35_getExpanded {σo : fS} {q : Int × fS} {N : Nat} {SE : Int → fS → Option (Unit × fS)} (hsE : ∀ {s : fS} {x1 : Int} {q}, bS 1 s → SE x1 s = some q → bE 1 s q.2) {s : fS} (E : bE 1 σo s) (hF : FX35_getExpanded N SE s = some q) : bE 1 σo q.2 := by
  unfold FX35_getExpanded at hF
  refine b_call E (fun _ hq => (BX35_get (N := N) (bE.rf E.S) hq)) hF (fun _ hq2 D2 E2 hF => ?_)
  exact BX35_getExpanded_b5 (N := N) (SE := SE) @hsE E2 hF
theorem BX35_needExpanded_b16 {σo : fS} {q : Int × fS} {N : Nat} {SE : Int → fS → Option (Unit × fS)} (hsE : ∀ {s : fS} {x1 : Int} {q}, bS 1 s → SE x1 s = some q → bE 1 s q.2) {s : fS} {l1 : Int} (E : bE 1 σo s) (hF : FX35_needExpanded_b16 N SE l1 s = some q) : bE 1 σo q.2 := by
  unfold FX35_needExpanded_b16 at hF
  exact b_ret E hF
theorem BX35_needExpanded {σo : fS} {q : Int × fS} {N : Nat} {SE : Int → fS → Option (Unit × fS)} (hsE : ∀ {s : fS} {x1 : Int} {q}, bS 1 s → SE x1 s = some q → bE 1 s q.2) {s : fS} (E : bE 1 σo s) (hF : FX35_needExpanded N SE s = some q) : bE 1 σo q.2 := by
  unfold FX35_needExpanded at hF
  refine b_call E (fun _ hq => (BX35_getExpanded (N := N) (SE := SE) @hsE (bE.rf E.S) hq)) hF (fun _ hq2 D2 E2 hF => ?_)
  refine b_if hF (fun hF => ?_) (fun hF => ?_)
  ·
    exact BX35_needExpanded_b16 (N := N) (SE := SE) @hsE E2 hF
  ·
    refine b_call E2 (fun _ hq => (BX35_fail (bE.rf E2.S) hq)) hF (fun _ hq4 D4 E4 hF => ?_)
    exact BX35_needExpanded_b16 (N := N) (SE := SE) @hsE E4 hF
theorem BX35_needExpandedNoSpace_b5 {σo : fS} {q : Int × fS} {N : Nat} {SE : Int → fS → Option (Unit × fS)} (hsE : ∀ {s : fS} {x1 : Int} {q}, bS 1 s → SE x1 s = some q → bE 1 s q.2) : ∀ {n : Nat} {s : fS} {l1 : Int}, bE 1 σo s → FX35_needExpandedNoSpace_b5 N SE n l1 s = some q → bE 1 σo q.2 := by
  intro n
  induction n with
  | zero => intro s l1 E  hF; simp [FX35_needExpandedNoSpace_b5] at hF
  | succ n ih =>
    intro s l1 E  hF
    rw [FX35_needExpandedNoSpace_b5] at hF
    refine b_call E (fun _ hq => (BX35_isOf (bE.rf E.S) hq)) hF (fun _ hq1 D1 E1 hF => ?_)
    refine b_if hF (fun hF => ?_) (fun hF => ?_)
    ·
      exact b_ret E1 hF
    ·
      refine b_call E1 (fun _ hq => (BX35_needExpanded (N := N) (SE := SE) @hsE (bE.rf E1.S) hq)) hF (fun _ hq3 D3 E3 hF => ?_)
      exact ih E3 hF
theorem BX35_needExpandedNoSpace {σo : fS} {q : Int × fS} {N : Nat} {SE : Int → fS → Option (Unit × fS)} (hsE : ∀ {s : fS} {x1 : Int} {q}, bS 1 s → SE x1 s = some q → bE 1 s q.2) {s : fS} (E : bE 1 σo s) (hF : FX35_needExpandedNoSpace N SE s = some q) : bE 1 σo q.2 := by
  unfold FX35_needExpandedNoSpace at hF
  refine b_call E (fun _ hq => (BX35_needExpanded (N := N) (SE := SE) @hsE (bE.rf E.S) hq)) hF (fun _ hq2 D2 E2 hF => ?_)
  exact BX35_needExpandedNoSpace_b5 (N := N) (SE := SE) @hsE E2 hF
theorem BX35_is_b16 {σo : fS} {q : Int × fS} {s : fS} {s0 : Int} (E : bE 1 σo s) (hF : FX35_is_b16 s0 s = some q) : bE 1 σo q.2 := by
  unfold FX35_is_b16 at hF
  exact b_z E hF
theorem BX35_is {σo : fS} {q : Int × fS} {s : fS} {p0 : Int} {p1 : Int} {p2 : Int} (E : bE 1 σo s) (hF : FX35_is p0 p1 p2 s = some q) : bE 1 σo q.2 := by
  unfold FX35_is at hF
  refine b_if hF (fun hF => ?_) (fun hF => ?_)
  ·
    exact BX35_is_b16 E hF
  ·
    exact BX35_is_b16 E hF
theorem BX35_compare_b113 {σo : fS} {q : Int × fS} {N : Nat} {SE : Int → fS → Option (Unit × fS)} {SN : fS → Option (Int × fS)} (hsE : ∀ {s : fS} {x1 : Int} {q}, bS 1 s → SE x1 s = some q → bE 1 s q.2) (hsN : ∀ {s : fS} {q}, bS 1 s → SN s = some q → bE 1 s q.2) {s : fS} {s0 : Int} (E : bE 1 σo s) (hF : FX35_compare_b113 N SE SN s0 s = some q) : bE 1 σo q.2 := by
  unfold FX35_compare_b113 at hF
  exact b_z E hF
theorem BX35_compare_b108 {σo : fS} {q : Int × fS} {N : Nat} {SE : Int → fS → Option (Unit × fS)} {SN : fS → Option (Int × fS)} (hsE : ∀ {s : fS} {x1 : Int} {q}, bS 1 s → SE x1 s = some q → bE 1 s q.2) (hsN : ∀ {s : fS} {q}, bS 1 s → SN s = some q → bE 1 s q.2) {s : fS} (E : bE 1 σo s) (hF : FX35_compare_b108 N SE SN s = some q) : bE 1 σo q.2 := by
  unfold FX35_compare_b108 at hF
  exact BX35_compare_b113 (N := N) (SE := SE) (SN := SN) @hsE @hsN E hF
theorem BX35_compare_b112 {σo : fS} {q : Int × fS} {N : Nat} {SE : Int → fS → Option (Unit × fS)} {SN : fS → Option (Int × fS)} (hsE : ∀ {s : fS} {x1 : Int} {q}, bS 1 s → SE x1 s = some q → bE 1 s q.2) (hsN : ∀ {s : fS} {q}, bS 1 s → SN s = some q → bE 1 s q.2) {s : fS} (E : bE 1 σo s) (hF : FX35_compare_b112 N SE SN s = some q) : bE 1 σo q.2 := by
  unfold FX35_compare_b112 at hF
  exact BX35_compare_b113 (N := N) (SE := SE) (SN := SN) @hsE @hsN E hF
theorem BX35_compare_b62 {σo : fS} {q : Int × fS} {N : Nat} {SE : Int → fS → Option (Unit × fS)} {SN : fS → Option (Int × fS)} (hsE : ∀ {s : fS} {x1 : Int} {q}, bS 1 s → SE x1 s = some q → bE 1 s q.2) (hsN : ∀ {s : fS} {q}, bS 1 s → SN s = some q → bE 1 s q.2) {s : fS} {l1 : Int} {l3 : Int} {l4 : Int} (E : bE 1 σo s) (hF : FX35_compare_b62 N SE SN l1 l3 l4 s = some q) : bE 1 σo q.2 := by
  unfold FX35_compare_b62 at hF
  refine b_call E (fun _ hq => (hsN E.S hq)) hF (fun _ hq2 D2 E2 hF => ?_)
  refine b_if hF (fun hF => ?_) (fun hF => ?_)
  ·
    exact BX35_compare_b112 (N := N) (SE := SE) (SN := SN) @hsE @hsN E2 hF
  ·
    refine b_if hF (fun hF => ?_) (fun hF => ?_)
    ·
      refine b_if hF (fun hF => ?_) (fun hF => ?_)
      ·
        refine b_if hF (fun hF => ?_) (fun hF => ?_)
        ·
          exact BX35_compare_b112 (N := N) (SE := SE) (SN := SN) @hsE @hsN E2 hF
        ·
          exact BX35_compare_b108 (N := N) (SE := SE) (SN := SN) @hsE @hsN E2 hF
      ·
        refine b_if hF (fun hF => ?_) (fun hF => ?_)
        ·
          exact BX35_compare_b112 (N := N) (SE := SE) (SN := SN) @hsE @hsN E2 hF
        ·
          exact BX35_compare_b108 (N := N) (SE := SE) (SN := SN) @hsE @hsN E2 hF
    ·
      refine b_if hF (fun hF => ?_) (fun hF => ?_)
      ·
        exact BX35_compare_b112 (N := N) (SE := SE) (SN := SN) @hsE @hsN E2 hF
      ·
        exact BX35_compare_b108 (N := N) (SE := SE) (SN := SN) @hsE @hsN E2 hF
theorem BX35_compare {σo : fS} {q : Int × fS} {N : Nat} {SE : Int → fS → Option (Unit × fS)} {SN : fS → Option (Int × fS)} (hsE : ∀ {s : fS} {x1 : Int} {q}, bS 1 s → SE x1 s = some q → bE 1 s q.2) (hsN : ∀ {s : fS} {q}, bS 1 s → SN s = some q → bE 1 s q.2) {s : fS} (E : bE 1 σo s) (hF : FX35_compare N SE SN s = some q) : bE 1 σo q.2 := by
  unfold FX35_compare at hF
  refine b_call E (fun _ hq => (hsN E.S hq)) hF (fun _ hq2 D2 E2 hF => ?_)
  refine b_call E2 (fun _ hq => (BX35_needExpandedNoSpace (N := N) (SE := SE) @hsE (bE.rf E2.S) hq)) hF (fun _ hq4 D4 E4 hF => ?_)
  refine b_call E4 (fun _ hq => (BX35_is (bE.rf E4.S) hq)) hF (fun _ hq5 D5 E5 hF => ?_)
  refine b_call E5 (fun _ hq => (BX35_is (bE.rf E5.S) hq)) hF (fun _ hq6 D6 E6 hF => ?_)
  refine b_if hF (fun hF => ?_) (fun hF => ?_)
  ·
    exact BX35_compare_b62 (N := N) (SE := SE) (SN := SN) @hsE @hsN E6 hF
  ·
    refine b_if hF (fun hF => ?_) (fun hF => ?_)
    ·
      exact BX35_compare_b62 (N := N) (SE := SE) (SN := SN) @hsE @hsN E6 hF
    ·
      refine b_if hF (fun hF => ?_) (fun hF => ?_)
      ·
        exact BX35_compare_b62 (N := N) (SE := SE) (SN := SN) @hsE @hsN E6 hF
      ·
        refine b_call E6 (fun _ hq => (BX35_is (bE.rf E6.S) hq)) hF (fun _ hq8 D8 E8 hF => ?_)
        refine b_if hF (fun hF => ?_) (fun hF => ?_)
        ·
          exact BX35_compare_b62 (N := N) (SE := SE) (SN := SN) @hsE @hsN E8 hF
        ·
          refine b_call E8 (fun _ hq => (BX35_fail (bE.rf E8.S) hq)) hF (fun _ hq10 D10 E10 hF => ?_)
          exact BX35_compare_b62 (N := N) (SE := SE) (SN := SN) @hsE @hsN E10 hF
theorem BX35_signs_b55 {σo : fS} {q : Unit × fS} {N : Nat} {SE : Int → fS → Option (Unit × fS)} {K7 : Int → Int → fS → Option (Unit × fS)} (hsE : ∀ {s : fS} {x1 : Int} {q}, bS 1 s → SE x1 s = some q → bE 1 s q.2) (hk7 : ∀ {s : fS} {l1 : Int} {l2 : Int}, bE 1 σo s → K7 l1 l2 s = some q → bE 1 σo q.2) {s : fS} {s0 : Int} (E : bE 1 σo s) (hF : FX35_signs_b55 N SE K7 s0 s = some q) : bE 1 σo q.2 := by
  unfold FX35_signs_b55 at hF
  refine b_call E (fun _ hq => (BX35_needExpanded (N := N) (SE := SE) @hsE (bE.rf E.S) hq)) hF (fun _ hq2 D2 E2 hF => ?_)
  exact hk7 E2 hF
theorem BX35_signs_b38 {σo : fS} {q : Unit × fS} {N : Nat} {SE : Int → fS → Option (Unit × fS)} {K7 : Int → Int → fS → Option (Unit × fS)} (hsE : ∀ {s : fS} {x1 : Int} {q}, bS 1 s → SE x1 s = some q → bE 1 s q.2) (hk7 : ∀ {s : fS} {l1 : Int} {l2 : Int}, bE 1 σo s → K7 l1 l2 s = some q → bE 1 σo q.2) {s : fS} {l1 : Int} {l2 : Int} (E : bE 1 σo s) (hF : FX35_signs_b38 N SE K7 l1 l2 s = some q) : bE 1 σo q.2 := by
  unfold FX35_signs_b38 at hF
  refine b_call E (fun _ hq => (BX35_is (bE.rf E.S) hq)) hF (fun _ hq1 D1 E1 hF => ?_)
  refine b_if hF (fun hF => ?_) (fun hF => ?_)
  ·
    exact BX35_signs_b55 (N := N) (SE := SE) (K7 := K7) @hsE @hk7 E1 hF
  ·
    exact BX35_signs_b55 (N := N) (SE := SE) (K7 := K7) @hsE @hk7 E1 hF
theorem BX35_signs_b7 {σo : fS} {q : Unit × fS} {N : Nat} {SE : Int → fS → Option (Unit × fS)} (hsE : ∀ {s : fS} {x1 : Int} {q}, bS 1 s → SE x1 s = some q → bE 1 s q.2) : ∀ {n : Nat} {s : fS} {l1 : Int} {l2 : Int}, bE 1 σo s → FX35_signs_b7 N SE n l1 l2 s = some q → bE 1 σo q.2 := by
  intro n
  induction n with
  | zero => intro s l1 l2 E  hF; simp [FX35_signs_b7] at hF
  | succ n ih =>
    intro s l1 l2 E  hF
    rw [FX35_signs_b7] at hF
    refine b_call E (fun _ hq => (BX35_isOf (bE.rf E.S) hq)) hF (fun _ hq1 D1 E1 hF => ?_)
    refine b_if hF (fun hF => ?_) (fun hF => ?_)
    ·
      exact BX35_signs_b38 (N := N) (SE := SE) (K7 := FX35_signs_b7 N SE n) @hsE @ih E1 hF
    ·
      refine b_call E1 (fun _ hq => (BX35_is (bE.rf E1.S) hq)) hF (fun _ hq2 D2 E2 hF => ?_)
      refine b_if hF (fun hF => ?_) (fun hF => ?_)
      ·
        exact BX35_signs_b38 (N := N) (SE := SE) (K7 := FX35_signs_b7 N SE n) @hsE @ih E2 hF
      ·
        refine b_call E2 (fun _ hq => (BX35_is (bE.rf E2.S) hq)) hF (fun _ hq3 D3 E3 hF => ?_)
        refine b_if hF (fun hF => ?_) (fun hF => ?_)
        ·
          refine b_pI E3 (E3.S.m1 (Nat.le_of_ble_eq_true rfl) (Nat.le_of_ble_eq_true rfl)) hF (fun _ D4 E4 hF => ?_)
          refine b_pZ E4 (E4.S.m1 (Nat.le_of_ble_eq_true rfl) (Nat.le_of_ble_eq_true rfl)) hF (fun _ D5 E5 hF => ?_)
          exact b_ret E5 hF
        ·
          exact BX35_signs_b38 (N := N) (SE := SE) (K7 := FX35_signs_b7 N SE n) @hsE @ih E3 hF
theorem BX35_signs {σo : fS} {q : Unit × fS} {N : Nat} {SE : Int → fS → Option (Unit × fS)} (hsE : ∀ {s : fS} {x1 : Int} {q}, bS 1 s → SE x1 s = some q → bE 1 s q.2) {s : fS} (E : bE 1 σo s) (hF : FX35_signs N SE s = some q) : bE 1 σo q.2 := by
  unfold FX35_signs at hF
  refine b_call E (fun _ hq => (BX35_needExpanded (N := N) (SE := SE) @hsE (bE.rf E.S) hq)) hF (fun _ hq2 D2 E2 hF => ?_)
  exact BX35_signs_b7 (N := N) (SE := SE) @hsE E2 hF
theorem BX35_primitiveOf_b38 {σo : fS} {q : Int × fS} {s : fS} {s0 : Int} (E : bE 1 σo s) (hF : FX35_primitiveOf_b38 s0 s = some q) : bE 1 σo q.2 := by
  unfold FX35_primitiveOf_b38 at hF
  exact b_ret E hF
theorem BX35_primitiveOf_b37 {σo : fS} {q : Int × fS} {s : fS} (E : bE 1 σo s) (hF : FX35_primitiveOf_b37 s = some q) : bE 1 σo q.2 := by
  unfold FX35_primitiveOf_b37 at hF
  exact BX35_primitiveOf_b38 E hF
theorem BX35_primitiveOf_b14 {σo : fS} {q : Int × fS} {s : fS} {s0 : Int} (E : bE 1 σo s) (hF : FX35_primitiveOf_b14 s0 s = some q) : bE 1 σo q.2 := by
  unfold FX35_primitiveOf_b14 at hF
  refine b_if hF (fun hF => ?_) (fun hF => ?_)
  ·
    exact BX35_primitiveOf_b37 E hF
  ·
    refine b_if hF (fun hF => ?_) (fun hF => ?_)
    ·
      exact BX35_primitiveOf_b37 E hF
    ·
      exact BX35_primitiveOf_b38 E hF
theorem BX35_primitiveOf {σo : fS} {q : Int × fS} {s : fS} {p0 : Int} (E : bE 1 σo s) (hF : FX35_primitiveOf p0 s = some q) : bE 1 σo q.2 := by
  unfold FX35_primitiveOf at hF
  refine b_if hF (fun hF => ?_) (fun hF => ?_)
  ·
    refine b_call E (fun _ hq => (BX35_meaning (bE.rf E.S) hq)) hF (fun _ hq2 D2 E2 hF => ?_)
    exact BX35_primitiveOf_b14 E2 hF
  ·
    exact BX35_primitiveOf_b14 E hF
theorem BX35_isLength_b23 {σo : fS} {q : Int × fS} {s : fS} {s0 : Int} (E : bE 1 σo s) (hF : FX35_isLength_b23 s0 s = some q) : bE 1 σo q.2 := by
  unfold FX35_isLength_b23 at hF
  exact b_z E hF
theorem BX35_isLength_b18 {σo : fS} {q : Int × fS} {s : fS} (E : bE 1 σo s) (hF : FX35_isLength_b18 s = some q) : bE 1 σo q.2 := by
  unfold FX35_isLength_b18 at hF
  exact BX35_isLength_b23 E hF
theorem BX35_isLength_b22 {σo : fS} {q : Int × fS} {s : fS} (E : bE 1 σo s) (hF : FX35_isLength_b22 s = some q) : bE 1 σo q.2 := by
  unfold FX35_isLength_b22 at hF
  exact BX35_isLength_b23 E hF
theorem BX35_isLength {σo : fS} {q : Int × fS} {s : fS} {p0 : Int} (E : bE 1 σo s) (hF : FX35_isLength p0 s = some q) : bE 1 σo q.2 := by
  unfold FX35_isLength at hF
  refine b_if hF (fun hF => ?_) (fun hF => ?_)
  ·
    exact BX35_isLength_b18 E hF
  ·
    refine b_if hF (fun hF => ?_) (fun hF => ?_)
    ·
      exact BX35_isLength_b22 E hF
    ·
      refine b_if hF (fun hF => ?_) (fun hF => ?_)
      ·
        exact BX35_isLength_b22 E hF
      ·
        exact BX35_isLength_b18 E hF
theorem BX35_isOfBox_b23 {σo : fS} {q : Int × fS} {s : fS} {s0 : Int} (E : bE 1 σo s) (hF : FX35_isOfBox_b23 s0 s = some q) : bE 1 σo q.2 := by
  unfold FX35_isOfBox_b23 at hF
  exact b_z E hF
theorem BX35_isOfBox_b18 {σo : fS} {q : Int × fS} {s : fS} (E : bE 1 σo s) (hF : FX35_isOfBox_b18 s = some q) : bE 1 σo q.2 := by
  unfold FX35_isOfBox_b18 at hF
  exact BX35_isOfBox_b23 E hF
theorem BX35_isOfBox {σo : fS} {q : Int × fS} {s : fS} {p0 : Int} (E : bE 1 σo s) (hF : FX35_isOfBox p0 s = some q) : bE 1 σo q.2 := by
  unfold FX35_isOfBox at hF
  refine b_if hF (fun hF => ?_) (fun hF => ?_)
  ·
    exact BX35_isOfBox_b18 E hF
  ·
    refine b_if hF (fun hF => ?_) (fun hF => ?_)
    ·
      exact BX35_isOfBox_b18 E hF
    ·
      refine b_if hF (fun hF => ?_) (fun hF => ?_)
      ·
        exact BX35_isOfBox_b23 E hF
      ·
        exact BX35_isOfBox_b18 E hF
theorem BX35_hasLength_b25 {σo : fS} {q : Int × fS} {s : fS} {s0 : Int} (E : bE 1 σo s) (hF : FX35_hasLength_b25 s0 s = some q) : bE 1 σo q.2 := by
  unfold FX35_hasLength_b25 at hF
  exact b_z E hF
theorem BX35_hasLength_b20 {σo : fS} {q : Int × fS} {s : fS} (E : bE 1 σo s) (hF : FX35_hasLength_b20 s = some q) : bE 1 σo q.2 := by
  unfold FX35_hasLength_b20 at hF
  exact BX35_hasLength_b25 E hF
theorem BX35_hasLength {σo : fS} {q : Int × fS} {s : fS} {p0 : Int} (E : bE 1 σo s) (hF : FX35_hasLength p0 s = some q) : bE 1 σo q.2 := by
  unfold FX35_hasLength at hF
  refine b_call E (fun _ hq => (BX35_primitiveOf (bE.rf E.S) hq)) hF (fun _ hq2 D2 E2 hF => ?_)
  refine b_call E2 (fun _ hq => (BX35_isLength (bE.rf E2.S) hq)) hF (fun _ hq3 D3 E3 hF => ?_)
  refine b_if hF (fun hF => ?_) (fun hF => ?_)
  ·
    exact BX35_hasLength_b20 E3 hF
  ·
    refine b_call E3 (fun _ hq => (BX35_isOfBox (bE.rf E3.S) hq)) hF (fun _ hq4 D4 E4 hF => ?_)
    refine b_if hF (fun hF => ?_) (fun hF => ?_)
    ·
      exact BX35_hasLength_b25 E4 hF
    ·
      exact BX35_hasLength_b20 E4 hF
theorem BX35_isGlue_b17 {σo : fS} {q : Int × fS} {s : fS} {s0 : Int} (E : bE 1 σo s) (hF : FX35_isGlue_b17 s0 s = some q) : bE 1 σo q.2 := by
  unfold FX35_isGlue_b17 at hF
  exact b_z E hF
theorem BX35_isGlue_b12 {σo : fS} {q : Int × fS} {s : fS} (E : bE 1 σo s) (hF : FX35_isGlue_b12 s = some q) : bE 1 σo q.2 := by
  unfold FX35_isGlue_b12 at hF
  exact BX35_isGlue_b17 E hF
theorem BX35_isGlue {σo : fS} {q : Int × fS} {s : fS} {p0 : Int} (E : bE 1 σo s) (hF : FX35_isGlue p0 s = some q) : bE 1 σo q.2 := by
  unfold FX35_isGlue at hF
  refine b_if hF (fun hF => ?_) (fun hF => ?_)
  ·
    exact BX35_isGlue_b12 E hF
  ·
    refine b_if hF (fun hF => ?_) (fun hF => ?_)
    ·
      exact BX35_isGlue_b17 E hF
    ·
      exact BX35_isGlue_b12 E hF
theorem BX35_hasGlue {σo : fS} {q : Int × fS} {s : fS} {p0 : Int} (E : bE 1 σo s) (hF : FX35_hasGlue p0 s = some q) : bE 1 σo q.2 := by
  unfold FX35_hasGlue at hF
  refine b_call E (fun _ hq => (BX35_primitiveOf (bE.rf E.S) hq)) hF (fun _ hq2 D2 E2 hF => ?_)
  refine b_call E2 (fun _ hq => (BX35_isGlue (bE.rf E2.S) hq)) hF (fun _ hq3 D3 E3 hF => ?_)
  exact b_z E3 hF
theorem BX35_lengthOf_b90 {σo : fS} {q : Int × fS} {SN : fS → Option (Int × fS)} (hsN : ∀ {s : fS} {q}, bS 1 s → SN s = some q → bE 1 s q.2) {s : fS} {s0 : Int} (E : bE 1 σo s) (hF : FX35_lengthOf_b90 SN s0 s = some q) : bE 1 σo q.2 := by
  unfold FX35_lengthOf_b90 at hF
  exact b_ret E hF
theorem BX35_lengthOf_b50 {σo : fS} {q : Int × fS} {SN : fS → Option (Int × fS)} (hsN : ∀ {s : fS} {q}, bS 1 s → SN s = some q → bE 1 s q.2) {s : fS} (E : bE 1 σo s) (hF : FX35_lengthOf_b50 SN s = some q) : bE 1 σo q.2 := by
  unfold FX35_lengthOf_b50 at hF
  exact BX35_lengthOf_b90 (SN := SN) @hsN E hF
theorem BX35_lengthOf {σo : fS} {q : Int × fS} {SN : fS → Option (Int × fS)} (hsN : ∀ {s : fS} {q}, bS 1 s → SN s = some q → bE 1 s q.2) {s : fS} {p0 : Int} (E : bE 1 σo s) (hF : FX35_lengthOf SN p0 s = some q) : bE 1 σo q.2 := by
  unfold FX35_lengthOf at hF
  refine b_call E (fun _ hq => (BX35_primitiveOf (bE.rf E.S) hq)) hF (fun _ hq2 D2 E2 hF => ?_)
  refine b_call E2 (fun _ hq => (BX35_isOfBox (bE.rf E2.S) hq)) hF (fun _ hq3 D3 E3 hF => ?_)
  refine b_if hF (fun hF => ?_) (fun hF => ?_)
  ·
    refine b_call E3 (fun _ hq => (BX35_small (SN := SN) @hsN (bE.rf E3.S) hq)) hF (fun _ hq5 D5 E5 hF => ?_)
    refine b_call E5 (fun _ hq => (BX35_now (bE.rf E5.S) hq)) hF (fun _ hq7 D7 E7 hF => ?_)
    refine b_if hF (fun hF => ?_) (fun hF => ?_)
    ·
      exact BX35_lengthOf_b50 (SN := SN) @hsN E7 hF
    ·
      refine b_if hF (fun hF => ?_) (fun hF => ?_)
      ·
        refine b_if hF (fun hF => ?_) (fun hF => ?_)
        ·
          refine b_if hF (fun hF => ?_) (fun hF => ?_)
          ·
            refine b_rv hF (fun _ hF => ?_)
            exact BX35_lengthOf_b90 (SN := SN) @hsN E7 hF
          ·
            refine b_rv hF (fun _ hF => ?_)
            exact BX35_lengthOf_b90 (SN := SN) @hsN E7 hF
        ·
          refine b_rv hF (fun _ hF => ?_)
          exact BX35_lengthOf_b90 (SN := SN) @hsN E7 hF
      ·
        exact BX35_lengthOf_b50 (SN := SN) @hsN E7 hF
  ·
    refine b_call E3 (fun _ hq => (BX35_at (SN := SN) @hsN (bE.rf E3.S) hq)) hF (fun _ hq16 D16 E16 hF => ?_)
    refine b_call E16 (fun _ hq => (BX35_now (bE.rf E16.S) hq)) hF (fun _ hq18 D18 E18 hF => ?_)
    exact b_ret E18 hF
theorem BX35_isDigit_b19 {σo : fS} {q : Int × fS} {s : fS} {s0 : Int} (E : bE 1 σo s) (hF : FX35_isDigit_b19 s0 s = some q) : bE 1 σo q.2 := by
  unfold FX35_isDigit_b19 at hF
  exact b_z E hF
theorem BX35_isDigit_b18 {σo : fS} {q : Int × fS} {s : fS} (E : bE 1 σo s) (hF : FX35_isDigit_b18 s = some q) : bE 1 σo q.2 := by
  unfold FX35_isDigit_b18 at hF
  exact BX35_isDigit_b19 E hF
theorem BX35_isDigit {σo : fS} {q : Int × fS} {s : fS} {p0 : Int} (E : bE 1 σo s) (hF : FX35_isDigit p0 s = some q) : bE 1 σo q.2 := by
  unfold FX35_isDigit at hF
  refine b_if hF (fun hF => ?_) (fun hF => ?_)
  ·
    exact BX35_isDigit_b18 E hF
  ·
    refine b_if hF (fun hF => ?_) (fun hF => ?_)
    ·
      exact BX35_isDigit_b18 E hF
    ·
      exact BX35_isDigit_b19 E hF
theorem BX35_dropSpace_b19 {σo : fS} {q : Unit × fS} {N : Nat} {SE : Int → fS → Option (Unit × fS)} (hsE : ∀ {s : fS} {x1 : Int} {q}, bS 1 s → SE x1 s = some q → bE 1 s q.2) {s : fS} (E : bE 1 σo s) (hF : FX35_dropSpace_b19 N SE s = some q) : bE 1 σo q.2 := by
  unfold FX35_dropSpace_b19 at hF
  exact b_ret E hF
theorem BX35_dropSpace {σo : fS} {q : Unit × fS} {N : Nat} {SE : Int → fS → Option (Unit × fS)} (hsE : ∀ {s : fS} {x1 : Int} {q}, bS 1 s → SE x1 s = some q → bE 1 s q.2) {s : fS} (E : bE 1 σo s) (hF : FX35_dropSpace N SE s = some q) : bE 1 σo q.2 := by
  unfold FX35_dropSpace at hF
  refine b_call E (fun _ hq => (BX35_getExpanded (N := N) (SE := SE) @hsE (bE.rf E.S) hq)) hF (fun _ hq2 D2 E2 hF => ?_)
  refine b_call E2 (fun _ hq => (BX35_isOf (bE.rf E2.S) hq)) hF (fun _ hq3 D3 E3 hF => ?_)
  refine b_if hF (fun hF => ?_) (fun hF => ?_)
  ·
    exact BX35_dropSpace_b19 (N := N) (SE := SE) @hsE E3 hF
  ·
    refine b_call E3 (fun _ hq => (BX35_put (bE.rf E3.S) hq)) hF (fun _ hq5 D5 E5 hF => ?_)
    exact BX35_dropSpace_b19 (N := N) (SE := SE) @hsE E5 hF
