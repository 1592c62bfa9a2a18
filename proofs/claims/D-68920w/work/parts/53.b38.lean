set_option maxRecDepth 100000
set_option maxHeartbeats 4000000
theorem BX40_remove_b12 {σo : fS} {q : Unit × fS} {N : Nat} : ∀ {n : Nat} {s : fS} {l0 : Nat} {l2 : Int}, bE 1 σo s → bO 1 s l0 → FX40_remove_b12 N n l0 l2 s = some q → bE 1 σo q.2 := by
  intro n
  induction n with
  | zero => intro s l0 l2 E ol0 hF; simp [FX40_remove_b12] at hF
  | succ n ih =>
    intro s l0 l2 E ol0 hF
    rw [FX40_remove_b12] at hF
    refine b_K hF (fun hF => ?_)
    refine b_if hF (fun hF => ?_) (fun hF => ?_)
    ·
      exact b_ret E hF
    ·
      refine b_K hF (fun hF => ?_)
      refine b_o E ol0 hF (fun _ o2 hF => ?_)
      refine b_K hF (fun hF => ?_)
      refine b_o E ol0 hF (fun _ o3 hF => ?_)
      refine b_KA hF (fun hF => ?_)
      refine b_rv hF (fun _ hF => ?_)
      refine b_KA hF (fun hF => ?_)
      refine b_qI E o2 hF (fun _ D5 E5 hF => ?_)
      refine b_K hF (fun hF => ?_)
      refine b_o E5 (ol0.up D5) hF (fun _ o6 hF => ?_)
      refine b_K hF (fun hF => ?_)
      refine b_o E5 (ol0.up D5) hF (fun _ o7 hF => ?_)
      refine b_KA hF (fun hF => ?_)
      refine b_rv hF (fun _ hF => ?_)
      refine b_KA hF (fun hF => ?_)
      refine b_qI E5 o6 hF (fun _ D9 E9 hF => ?_)
      exact ih E9 ((ol0.up D5).up D9) hF
theorem BX40_remove {σo : fS} {q : Unit × fS} {N : Nat} {s : fS} {this : Nat} {p0 : Int} (E : bE 1 σo s) (othis : bO 1 s this) (hF : FX40_remove N this p0 s = some q) : bE 1 σo q.2 := by
  unfold FX40_remove at hF
  refine b_K hF (fun hF => ?_)
  refine b_K hF (fun hF => ?_)
  refine b_pI E othis hF (fun _ D2 E2 hF => ?_)
  exact BX40_remove_b12 (N := N) E2 (othis.up D2) hF
theorem BX40_step_b161 {σo : fS} {q : Int × fS} {N : Nat} {s : fS} {s0 : Int} (E : bE 1 σo s) (hF : FX40_step_b161 N s0 s = some q) : bE 1 σo q.2 := by
  unfold FX40_step_b161 at hF
  exact b_ret E hF
theorem BX40_step_b133 {σo : fS} {q : Int × fS} {N : Nat} {s : fS} {l0 : Nat} {l1 : Int} {l4 : Int} (E : bE 1 σo s) (ol0 : bO 1 s l0) (hF : FX40_step_b133 N l0 l1 l4 s = some q) : bE 1 σo q.2 := by
  unfold FX40_step_b133 at hF
  refine b_K hF (fun hF => ?_)
  refine b_if hF (fun hF => ?_) (fun hF => ?_)
  ·
    refine b_K hF (fun hF => ?_)
    exact BX40_step_b161 (N := N) E hF
  ·
    exact BX40_step_b161 (N := N) E hF
theorem BX40_step_b119 {σo : fS} {q : Int × fS} {N : Nat} {s : fS} {l0 : Nat} {l1 : Int} {l4 : Int} (E : bE 1 σo s) (ol0 : bO 1 s l0) (hF : FX40_step_b119 N l0 l1 l4 s = some q) : bE 1 σo q.2 := by
  unfold FX40_step_b119 at hF
  refine b_if hF (fun hF => ?_) (fun hF => ?_)
  ·
    exact BX40_step_b133 (N := N) E ol0 hF
  ·
    refine b_K hF (fun hF => ?_)
    refine b_call E (fun _ hq => (BX40_remove (N := N) (bE.rf E.S) ol0 hq)) hF (fun _ hq2 D2 E2 hF => ?_)
    exact BX40_step_b133 (N := N) E2 (ol0.up D2) hF
theorem BX40_step {σo : fS} {q : Int × fS} {N : Nat} {s : fS} {this : Nat} {p0 : Int} {p1 : Int} (E : bE 1 σo s) (othis : bO 1 s this) (hF : FX40_step N this p0 p1 s = some q) : bE 1 σo q.2 := by
  unfold FX40_step at hF
  refine b_K hF (fun hF => ?_)
  refine b_o E othis hF (fun _ o1 hF => ?_)
  refine b_KA hF (fun hF => ?_)
  refine b_rv hF (fun _ hF => ?_)
  refine b_K hF (fun hF => ?_)
  refine b_o E othis hF (fun _ o3 hF => ?_)
  refine b_KA hF (fun hF => ?_)
  refine b_rv hF (fun _ hF => ?_)
  refine b_K hF (fun hF => ?_)
  refine b_call E (fun _ hq => (BX40_found (N := N) (bE.rf E.S) othis hq)) hF (fun _ hq6 D6 E6 hF => ?_)
  refine b_if hF (fun hF => ?_) (fun hF => ?_)
  ·
    refine b_K hF (fun hF => ?_)
    refine b_o E6 (othis.up D6) hF (fun _ o7 hF => ?_)
    refine b_call E6 (fun _ hq => (BX40_at (N := N) (bE.rf E6.S) o7 hq)) hF (fun _ hq8 D8 E8 hF => ?_)
    refine b_K hF (fun hF => ?_)
    refine b_o E8 ((othis.up D6).up D8) hF (fun _ o9 hF => ?_)
    refine b_call E8 (fun _ hq => (BX40_at (N := N) (bE.rf E8.S) o9 hq)) hF (fun _ hq10 D10 E10 hF => ?_)
    refine b_if hF (fun hF => ?_) (fun hF => ?_)
    ·
      refine b_K hF (fun hF => ?_)
      refine b_call E10 (fun _ hq => (BX40_insert (N := N) (bE.rf E10.S) (((othis.up D6).up D8).up D10) hq)) hF (fun _ hq12 D12 E12 hF => ?_)
      refine b_if hF (fun hF => ?_) (fun hF => ?_)
      ·
        exact BX40_step_b119 (N := N) E12 ((((othis.up D6).up D8).up D10).up D12) hF
      ·
        refine b_K hF (fun hF => ?_)
        refine b_call E12 (fun _ hq => (BX40_remove (N := N) (bE.rf E12.S) ((((othis.up D6).up D8).up D10).up D12) hq)) hF (fun _ hq14 D14 E14 hF => ?_)
        exact BX40_step_b119 (N := N) E14 (((((othis.up D6).up D8).up D10).up D12).up D14) hF
    ·
      refine b_K hF (fun hF => ?_)
      refine b_call E10 (fun _ hq => (BX40_scaled (N := N) (bE.rf E10.S) (((othis.up D6).up D8).up D10) hq)) hF (fun _ hq16 D16 E16 hF => ?_)
      refine b_K hF (fun hF => ?_)
      refine b_call E16 (fun _ hq => (BX40_insert (N := N) (bE.rf E16.S) ((((othis.up D6).up D8).up D10).up D16) hq)) hF (fun _ hq18 D18 E18 hF => ?_)
      exact b_ret E18 hF
  ·
    exact b_ret E6 hF
theorem BX40_set_b149 {σo : fS} {q : Int × fS} {N : Nat} {K125 : Nat → Int → fS → Option (Int × fS)} (hk125 : ∀ {s : fS} {l0 : Nat} {l7 : Int}, bE 1 σo s → bO 1 s l0 → K125 l0 l7 s = some q → bE 1 σo q.2) {s : fS} {l0 : Nat} {l7 : Int} (E : bE 1 σo s) (ol0 : bO 1 s l0) (hF : FX40_set_b149 N K125 l0 l7 s = some q) : bE 1 σo q.2 := by
  unfold FX40_set_b149 at hF
  exact hk125 E ol0 hF
theorem BX40_set_b125 {σo : fS} {q : Int × fS} {N : Nat} : ∀ {n : Nat} {s : fS} {l0 : Nat} {l7 : Int}, bE 1 σo s → bO 1 s l0 → FX40_set_b125 N n l0 l7 s = some q → bE 1 σo q.2 := by
  intro n
  induction n with
  | zero => intro s l0 l7 E ol0 hF; simp [FX40_set_b125] at hF
  | succ n ih =>
    intro s l0 l7 E ol0 hF
    rw [FX40_set_b125] at hF
    refine b_if hF (fun hF => ?_) (fun hF => ?_)
    ·
      exact b_ret E hF
    ·
      refine b_K hF (fun hF => ?_)
      refine b_o E ol0 hF (fun _ o1 hF => ?_)
      refine b_KA hF (fun hF => ?_)
      refine b_rv hF (fun _ hF => ?_)
      refine b_if hF (fun hF => ?_) (fun hF => ?_)
      ·
        exact BX40_set_b149 (N := N) (K125 := FX40_set_b125 N n) @ih E ol0 hF
      ·
        refine b_K hF (fun hF => ?_)
        refine b_call E (fun _ hq => (BX40_remove (N := N) (bE.rf E.S) ol0 hq)) hF (fun _ hq4 D4 E4 hF => ?_)
        exact BX40_set_b149 (N := N) (K125 := FX40_set_b125 N n) @ih E4 (ol0.up D4) hF
theorem BX40_set_b80 {σo : fS} {q : Int × fS} {N : Nat} : ∀ {n : Nat} {s : fS} {l0 : Nat} {l4 : Int} {l5 : Int} {l6 : Int}, bE 1 σo s → bO 1 s l0 → FX40_set_b80 N n l0 l4 l5 l6 s = some q → bE 1 σo q.2 := by
  intro n
  induction n with
  | zero => intro s l0 l4 l5 l6 E ol0 hF; simp [FX40_set_b80] at hF
  | succ n ih =>
    intro s l0 l4 l5 l6 E ol0 hF
    rw [FX40_set_b80] at hF
    refine b_K hF (fun hF => ?_)
    refine b_if hF (fun hF => ?_) (fun hF => ?_)
    ·
      refine b_K hF (fun hF => ?_)
      exact BX40_set_b125 (N := N) E ol0 hF
    ·
      refine b_if hF (fun hF => ?_) (fun hF => ?_)
      ·
        refine b_K hF (fun hF => ?_)
        refine b_call E (fun _ hq => (BX40_step (N := N) (bE.rf E.S) ol0 hq)) hF (fun _ hq4 D4 E4 hF => ?_)
        exact ih E4 (ol0.up D4) hF
      ·
        exact b_ret E hF
theorem BX40_set_b74 {σo : fS} {q : Int × fS} {N : Nat} {s : fS} {l0 : Nat} {l4 : Int} (E : bE 1 σo s) (ol0 : bO 1 s l0) (hF : FX40_set_b74 N l0 l4 s = some q) : bE 1 σo q.2 := by
  unfold FX40_set_b74 at hF
  exact BX40_set_b80 (N := N) E ol0 hF
theorem BX40_set_b27 {σo : fS} {q : Int × fS} {N : Nat} : ∀ {n : Nat} {s : fS} {l0 : Nat} {l3 : Int} {l4 : Int} {l5 : Int}, bE 1 σo s → bO 1 s l0 → FX40_set_b27 N n l0 l3 l4 l5 s = some q → bE 1 σo q.2 := by
  intro n
  induction n with
  | zero => intro s l0 l3 l4 l5 E ol0 hF; simp [FX40_set_b27] at hF
  | succ n ih =>
    intro s l0 l3 l4 l5 E ol0 hF
    rw [FX40_set_b27] at hF
    refine b_if hF (fun hF => ?_) (fun hF => ?_)
    ·
      refine b_K hF (fun hF => ?_)
      refine b_o E ol0 hF (fun _ o1 hF => ?_)
      refine b_call E (fun _ hq => (BX40_edgeOf (N := N) (bE.rf E.S) o1 hq)) hF (fun _ hq2 D2 E2 hF => ?_)
      refine b_if hF (fun hF => ?_) (fun hF => ?_)
      ·
        exact BX40_set_b74 (N := N) E2 (ol0.up D2) hF
      ·
        refine b_K hF (fun hF => ?_)
        refine b_K hF (fun hF => ?_)
        refine b_call E2 (fun _ hq => (BX40_insert (N := N) (bE.rf E2.S) (ol0.up D2) hq)) hF (fun _ hq5 D5 E5 hF => ?_)
        exact BX40_set_b74 (N := N) E5 ((ol0.up D2).up D5) hF
    ·
      refine b_K hF (fun hF => ?_)
      refine b_rv hF (fun _ hF => ?_)
      refine b_K hF (fun hF => ?_)
      refine b_call E (fun _ hq => (BX40_insert (N := N) (bE.rf E.S) ol0 hq)) hF (fun _ hq9 D9 E9 hF => ?_)
      exact ih E9 (ol0.up D9) hF
theorem BX40_set_b24 {σo : fS} {q : Int × fS} {N : Nat} {s : fS} {l0 : Nat} {l2 : Int} {l3 : Int} {l4 : Int} (E : bE 1 σo s) (ol0 : bO 1 s l0) (hF : FX40_set_b24 N l0 l2 l3 l4 s = some q) : bE 1 σo q.2 := by
  unfold FX40_set_b24 at hF
  exact BX40_set_b27 (N := N) E ol0 hF
theorem BX40_set {σo : fS} {q : Int × fS} {N : Nat} {s : fS} {this : Nat} {p1 : Int} {p2 : Int} {p3 : Int} (E : bE 1 σo s) (othis : bO 1 s this) (hF : FX40_set N this p1 p2 p3 s = some q) : bE 1 σo q.2 := by
  unfold FX40_set at hF
  refine b_K hF (fun hF => ?_)
  refine b_pI E othis hF (fun _ D1 E1 hF => ?_)
  refine b_K hF (fun hF => ?_)
  refine b_o E1 (othis.up D1) hF (fun _ o2 hF => ?_)
  refine b_call E1 (fun _ hq => (BX40_edgeProgram (N := N) (bE.rf E1.S) o2 hq)) hF (fun _ hq3 D3 E3 hF => ?_)
  refine b_if hF (fun hF => ?_) (fun hF => ?_)
  ·
    exact BX40_set_b24 (N := N) E3 ((othis.up D1).up D3) hF
  ·
    refine b_K hF (fun hF => ?_)
    refine b_call E3 (fun _ hq => (BX40_insert (N := N) (bE.rf E3.S) ((othis.up D1).up D3) hq)) hF (fun _ hq5 D5 E5 hF => ?_)
    exact BX40_set_b24 (N := N) E5 (((othis.up D1).up D3).up D5) hF
theorem BX36_toldAt_b76 {σo : fS} {q : Int × fS} {N : Nat} {K39 : Nat → Int → Int → Int → Int → fS → Option (Int × fS)} (hk39 : ∀ {s : fS} {l1 : Nat} {l2 : Int} {l3 : Int} {l4 : Int} {l5 : Int}, bE 1 σo s → bO 1 s l1 → K39 l1 l2 l3 l4 l5 s = some q → bE 1 σo q.2) {s : fS} {l1 : Nat} {l2 : Int} {l3 : Int} {l5 : Int} {s0 : Int} (E : bE 1 σo s) (ol1 : bO 1 s l1) (hF : FX36_toldAt_b76 N K39 l1 l2 l3 l5 s0 s = some q) : bE 1 σo q.2 := by
  unfold FX36_toldAt_b76 at hF
  exact hk39 E ol1 hF
theorem BX36_toldAt_b84 {σo : fS} {q : Int × fS} {N : Nat} {K2 : Nat → Int → Int → fS → Option (Int × fS)} (hk2 : ∀ {s : fS} {l1 : Nat} {l2 : Int} {l3 : Int}, bE 1 σo s → bO 1 s l1 → K2 l1 l2 l3 s = some q → bE 1 σo q.2) {s : fS} {l1 : Nat} {l2 : Int} {l3 : Int} {l4 : Int} (E : bE 1 σo s) (ol1 : bO 1 s l1) (hF : FX36_toldAt_b84 N K2 l1 l2 l3 l4 s = some q) : bE 1 σo q.2 := by
  unfold FX36_toldAt_b84 at hF
  refine b_if hF (fun hF => ?_) (fun hF => ?_)
  ·
    exact hk2 E ol1 hF
  ·
    exact b_ret E hF
theorem BX36_toldAt_b39 {σo : fS} {q : Int × fS} {N : Nat} {K2 : Nat → Int → Int → fS → Option (Int × fS)} (hk2 : ∀ {s : fS} {l1 : Nat} {l2 : Int} {l3 : Int}, bE 1 σo s → bO 1 s l1 → K2 l1 l2 l3 s = some q → bE 1 σo q.2) : ∀ {n : Nat} {s : fS} {l1 : Nat} {l2 : Int} {l3 : Int} {l4 : Int} {l5 : Int}, bE 1 σo s → bO 1 s l1 → FX36_toldAt_b39 N K2 n l1 l2 l3 l4 l5 s = some q → bE 1 σo q.2 := by
  intro n
  induction n with
  | zero => intro s l1 l2 l3 l4 l5 E ol1 hF; simp [FX36_toldAt_b39] at hF
  | succ n ih =>
    intro s l1 l2 l3 l4 l5 E ol1 hF
    rw [FX36_toldAt_b39] at hF
    refine b_if hF (fun hF => ?_) (fun hF => ?_)
    ·
      exact BX36_toldAt_b84 (N := N) (K2 := K2) @hk2 E ol1 hF
    ·
      refine b_if hF (fun hF => ?_) (fun hF => ?_)
      ·
        exact BX36_toldAt_b84 (N := N) (K2 := K2) @hk2 E ol1 hF
      ·
        refine b_rv hF (fun _ hF => ?_)
        refine b_rv hF (fun _ hF => ?_)
        refine b_KA hF (fun hF => ?_)
        refine b_rv hF (fun _ hF => ?_)
        refine b_if hF (fun hF => ?_) (fun hF => ?_)
        ·
          exact BX36_toldAt_b76 (N := N) (K39 := FX36_toldAt_b39 N K2 n) @ih E ol1 hF
        ·
          exact BX36_toldAt_b76 (N := N) (K39 := FX36_toldAt_b39 N K2 n) @ih E ol1 hF
theorem BX36_toldAt_b34 {σo : fS} {q : Int × fS} {N : Nat} {K2 : Nat → Int → Int → fS → Option (Int × fS)} (hk2 : ∀ {s : fS} {l1 : Nat} {l2 : Int} {l3 : Int}, bE 1 σo s → bO 1 s l1 → K2 l1 l2 l3 s = some q → bE 1 σo q.2) {s : fS} {l1 : Nat} {l2 : Int} {l3 : Int} {s0 : Int} (E : bE 1 σo s) (ol1 : bO 1 s l1) (hF : FX36_toldAt_b34 N K2 l1 l2 l3 s0 s = some q) : bE 1 σo q.2 := by
  unfold FX36_toldAt_b34 at hF
  exact BX36_toldAt_b39 (N := N) (K2 := K2) @hk2 E ol1 hF
theorem BX36_toldAt_b2 {σo : fS} {q : Int × fS} {N : Nat} : ∀ {n : Nat} {s : fS} {l1 : Nat} {l2 : Int} {l3 : Int}, bE 1 σo s → bO 1 s l1 → FX36_toldAt_b2 N n l1 l2 l3 s = some q → bE 1 σo q.2 := by
  intro n
  induction n with
  | zero => intro s l1 l2 l3 E ol1 hF; simp [FX36_toldAt_b2] at hF
  | succ n ih =>
    intro s l1 l2 l3 E ol1 hF
    rw [FX36_toldAt_b2] at hF
    refine b_if hF (fun hF => ?_) (fun hF => ?_)
    ·
      exact b_ret E hF
    ·
      refine b_rv hF (fun _ hF => ?_)
      refine b_rv hF (fun _ hF => ?_)
      refine b_if hF (fun hF => ?_) (fun hF => ?_)
      ·
        exact BX36_toldAt_b34 (N := N) (K2 := FX36_toldAt_b2 N n) @ih E ol1 hF
      ·
        exact BX36_toldAt_b34 (N := N) (K2 := FX36_toldAt_b2 N n) @ih E ol1 hF
theorem BX36_toldAt {σo : fS} {q : Int × fS} {N : Nat} {s : fS} {p0 : Nat} {p1 : Int} (E : bE 1 σo s) (op0 : bO 1 s p0) (hF : FX36_toldAt N p0 p1 s = some q) : bE 1 σo q.2 := by
  unfold FX36_toldAt at hF
  exact BX36_toldAt_b2 (N := N) E op0 hF
theorem BX36_fits_b58 {σo : fS} {q : Int × fS} {N : Nat} {s : fS} (E : bE 1 σo s) (hF : FX36_fits_b58 N s = some q) : bE 1 σo q.2 := by
  unfold FX36_fits_b58 at hF
  exact b_ret E hF
theorem BX36_fits_b108 {σo : fS} {q : Int × fS} {N : Nat} {K66 : Int → Int → Int → Int → Int → fS → Option (Int × fS)} (hk66 : ∀ {s : fS} {l1 : Int} {l2 : Int} {l3 : Int} {l4 : Int} {l5 : Int}, bE 1 σo s → K66 l1 l2 l3 l4 l5 s = some q → bE 1 σo q.2) {s : fS} {l1 : Int} {l2 : Int} {l3 : Int} {l5 : Int} {s0 : Int} (E : bE 1 σo s) (hF : FX36_fits_b108 N K66 l1 l2 l3 l5 s0 s = some q) : bE 1 σo q.2 := by
  unfold FX36_fits_b108 at hF
  exact hk66 E hF
theorem BX36_fits_b116 {σo : fS} {q : Int × fS} {N : Nat} {s : fS} {l4 : Int} (E : bE 1 σo s) (hF : FX36_fits_b116 N l4 s = some q) : bE 1 σo q.2 := by
  unfold FX36_fits_b116 at hF
  exact b_z E hF
theorem BX36_fits_b66 {σo : fS} {q : Int × fS} {N : Nat} : ∀ {n : Nat} {s : fS} {l1 : Int} {l2 : Int} {l3 : Int} {l4 : Int} {l5 : Int}, bE 1 σo s → FX36_fits_b66 N n l1 l2 l3 l4 l5 s = some q → bE 1 σo q.2 := by
  intro n
  induction n with
  | zero => intro s l1 l2 l3 l4 l5 E  hF; simp [FX36_fits_b66] at hF
  | succ n ih =>
    intro s l1 l2 l3 l4 l5 E  hF
    rw [FX36_fits_b66] at hF
    refine b_if hF (fun hF => ?_) (fun hF => ?_)
    ·
      exact BX36_fits_b116 (N := N) E hF
    ·
      refine b_if hF (fun hF => ?_) (fun hF => ?_)
      ·
        exact BX36_fits_b116 (N := N) E hF
      ·
        refine b_rv hF (fun _ hF => ?_)
        refine b_rv hF (fun _ hF => ?_)
        refine b_rv hF (fun _ hF => ?_)
        refine b_if hF (fun hF => ?_) (fun hF => ?_)
        ·
          exact BX36_fits_b108 (N := N) (K66 := FX36_fits_b66 N n) @ih E hF
        ·
          exact BX36_fits_b108 (N := N) (K66 := FX36_fits_b66 N n) @ih E hF
theorem BX36_fits_b60 {σo : fS} {q : Int × fS} {N : Nat} {s : fS} {l1 : Int} {l2 : Int} {l3 : Int} (E : bE 1 σo s) (hF : FX36_fits_b60 N l1 l2 l3 s = some q) : bE 1 σo q.2 := by
  unfold FX36_fits_b60 at hF
  exact BX36_fits_b66 (N := N) E hF
theorem BX36_fits_b39 {σo : fS} {q : Int × fS} {N : Nat} {s : fS} {l1 : Int} {l2 : Int} {l3 : Int} (E : bE 1 σo s) (hF : FX36_fits_b39 N l1 l2 l3 s = some q) : bE 1 σo q.2 := by
  unfold FX36_fits_b39 at hF
  refine b_rv hF (fun _ hF => ?_)
  refine b_if hF (fun hF => ?_) (fun hF => ?_)
  ·
    exact BX36_fits_b60 (N := N) E hF
  ·
    refine b_if hF (fun hF => ?_) (fun hF => ?_)
    ·
      exact BX36_fits_b60 (N := N) E hF
    ·
      exact BX36_fits_b58 (N := N) E hF
theorem BX36_fits {σo : fS} {q : Int × fS} {N : Nat} {s : fS} {p0 : Int} {p1 : Int} (E : bE 1 σo s) (hF : FX36_fits N p0 p1 s = some q) : bE 1 σo q.2 := by
  unfold FX36_fits at hF
  refine b_rv hF (fun _ hF => ?_)
  refine b_rv hF (fun _ hF => ?_)
  refine b_if hF (fun hF => ?_) (fun hF => ?_)
  ·
    exact BX36_fits_b58 (N := N) E hF
  ·
    refine b_rv hF (fun _ hF => ?_)
    refine b_if hF (fun hF => ?_) (fun hF => ?_)
    ·
      exact BX36_fits_b39 (N := N) E hF
    ·
      refine b_if hF (fun hF => ?_) (fun hF => ?_)
      ·
        exact BX36_fits_b58 (N := N) E hF
      ·
        exact BX36_fits_b39 (N := N) E hF
theorem BX36_find_b59 {σo : fS} {q : Unit × fS} {N : Nat} {K15 : Int → Int → fS → Option (Unit × fS)} (hk15 : ∀ {s : fS} {l1 : Int} {l2 : Int}, bE 1 σo s → K15 l1 l2 s = some q → bE 1 σo q.2) {s : fS} {l1 : Int} {l2 : Int} {s1 : Int} {s2 : Int} (E : bE 1 σo s) (hF : FX36_find_b59 N K15 l1 l2 s1 s2 s = some q) : bE 1 σo q.2 := by
  unfold FX36_find_b59 at hF
  refine b_qI E (E.S.m1 (Nat.le_of_ble_eq_true rfl) (Nat.le_of_ble_eq_true rfl)) hF (fun _ D1 E1 hF => ?_)
  exact hk15 E1 hF
theorem BX36_find_b183 {σo : fS} {q : Unit × fS} {N : Nat} {K119 : Int → Int → Int → Int → Int → fS → Option (Unit × fS)} (hk119 : ∀ {s : fS} {l1 : Int} {l2 : Int} {l3 : Int} {l4 : Int} {l5 : Int}, bE 1 σo s → K119 l1 l2 l3 l4 l5 s = some q → bE 1 σo q.2) {s : fS} {l1 : Int} {l2 : Int} {l3 : Int} {l4 : Int} {l5 : Int} (E : bE 1 σo s) (hF : FX36_find_b183 N K119 l1 l2 l3 l4 l5 s = some q) : bE 1 σo q.2 := by
  unfold FX36_find_b183 at hF
  exact hk119 E hF
theorem BX36_find_b189 {σo : fS} {q : Unit × fS} {N : Nat} {K82 : Int → Int → Int → fS → Option (Unit × fS)} (hk82 : ∀ {s : fS} {l1 : Int} {l2 : Int} {l3 : Int}, bE 1 σo s → K82 l1 l2 l3 s = some q → bE 1 σo q.2) {s : fS} {l1 : Int} {l2 : Int} {l3 : Int} (E : bE 1 σo s) (hF : FX36_find_b189 N K82 l1 l2 l3 s = some q) : bE 1 σo q.2 := by
  unfold FX36_find_b189 at hF
  exact hk82 E hF
theorem BX36_find_b119 {σo : fS} {q : Unit × fS} {N : Nat} {K82 : Int → Int → Int → fS → Option (Unit × fS)} (hk82 : ∀ {s : fS} {l1 : Int} {l2 : Int} {l3 : Int}, bE 1 σo s → K82 l1 l2 l3 s = some q → bE 1 σo q.2) : ∀ {n : Nat} {s : fS} {l1 : Int} {l2 : Int} {l3 : Int} {l4 : Int} {l5 : Int}, bE 1 σo s → FX36_find_b119 N K82 n l1 l2 l3 l4 l5 s = some q → bE 1 σo q.2 := by
  intro n
  induction n with
  | zero => intro s l1 l2 l3 l4 l5 E  hF; simp [FX36_find_b119] at hF
  | succ n ih =>
    intro s l1 l2 l3 l4 l5 E  hF
    rw [FX36_find_b119] at hF
    refine b_if hF (fun hF => ?_) (fun hF => ?_)
    ·
      exact BX36_find_b189 (N := N) (K82 := K82) @hk82 E hF
    ·
      refine b_rv hF (fun _ hF => ?_)
      refine b_rv hF (fun _ hF => ?_)
      refine b_if hF (fun hF => ?_) (fun hF => ?_)
      ·
        exact BX36_find_b183 (N := N) (K119 := FX36_find_b119 N K82 n) @ih E hF
      ·
        refine b_if hF (fun hF => ?_) (fun hF => ?_)
        ·
          exact BX36_find_b183 (N := N) (K119 := FX36_find_b119 N K82 n) @ih E hF
        ·
          refine b_rv hF (fun _ hF => ?_)
          refine b_if hF (fun hF => ?_) (fun hF => ?_)
          ·
            exact BX36_find_b183 (N := N) (K119 := FX36_find_b119 N K82 n) @ih E hF
          ·
            refine b_qI E (E.S.m1 (Nat.le_of_ble_eq_true rfl) (Nat.le_of_ble_eq_true rfl)) hF (fun _ D9 E9 hF => ?_)
            exact BX36_find_b183 (N := N) (K119 := FX36_find_b119 N K82 n) @ih E9 hF
theorem BX36_find_b82 {σo : fS} {q : Unit × fS} {N : Nat} {K68 : Int → Int → fS → Option (Unit × fS)} (hk68 : ∀ {s : fS} {l1 : Int} {l2 : Int}, bE 1 σo s → K68 l1 l2 s = some q → bE 1 σo q.2) : ∀ {n : Nat} {s : fS} {l1 : Int} {l2 : Int} {l3 : Int}, bE 1 σo s → FX36_find_b82 N K68 n l1 l2 l3 s = some q → bE 1 σo q.2 := by
  intro n
  induction n with
  | zero => intro s l1 l2 l3 E  hF; simp [FX36_find_b82] at hF
  | succ n ih =>
    intro s l1 l2 l3 E  hF
    rw [FX36_find_b82] at hF
    refine b_if hF (fun hF => ?_) (fun hF => ?_)
    ·
      exact hk68 E hF
    ·
      refine b_call E (fun _ hq => (BX36_fits (N := N) (bE.rf E.S) hq)) hF (fun _ hq3 D3 E3 hF => ?_)
      refine b_if hF (fun hF => ?_) (fun hF => ?_)
      ·
        exact BX36_find_b189 (N := N) (K82 := FX36_find_b82 N K68 n) @ih E3 hF
      ·
        refine b_rv hF (fun _ hF => ?_)
        refine b_rv hF (fun _ hF => ?_)
        exact BX36_find_b119 (N := N) (K82 := FX36_find_b82 N K68 n) @ih E3 hF
theorem BX36_find_b269 {σo : fS} {q : Unit × fS} {N : Nat} {K208 : Int → fS → Option (Unit × fS)} (hk208 : ∀ {s : fS} {l2 : Int}, bE 1 σo s → K208 l2 s = some q → bE 1 σo q.2) {s : fS} {l2 : Int} (E : bE 1 σo s) (hF : FX36_find_b269 N K208 l2 s = some q) : bE 1 σo q.2 := by
  unfold FX36_find_b269 at hF
  exact hk208 E hF
theorem BX36_find_b208 {σo : fS} {q : Unit × fS} {N : Nat} : ∀ {n : Nat} {s : fS} {l2 : Int}, bE 1 σo s → FX36_find_b208 N n l2 s = some q → bE 1 σo q.2 := by
  intro n
  induction n with
  | zero => intro s l2 E  hF; simp [FX36_find_b208] at hF
  | succ n ih =>
    intro s l2 E  hF
    rw [FX36_find_b208] at hF
    refine b_if hF (fun hF => ?_) (fun hF => ?_)
    ·
      exact b_ret E hF
    ·
      refine b_rv hF (fun _ hF => ?_)
      refine b_if hF (fun hF => ?_) (fun hF => ?_)
      ·
        exact BX36_find_b269 (N := N) (K208 := FX36_find_b208 N n) @ih E hF
      ·
        refine b_if hF (fun hF => ?_) (fun hF => ?_)
        ·
          exact BX36_find_b269 (N := N) (K208 := FX36_find_b208 N n) @ih E hF
        ·
          refine b_if hF (fun hF => ?_) (fun hF => ?_)
          ·
            exact BX36_find_b269 (N := N) (K208 := FX36_find_b208 N n) @ih E hF
          ·
            refine b_qI E (E.S.m1 (Nat.le_of_ble_eq_true rfl) (Nat.le_of_ble_eq_true rfl)) hF (fun _ D9 E9 hF => ?_)
            refine b_pI E9 (E9.S.m1 (Nat.le_of_ble_eq_true rfl) (Nat.le_of_ble_eq_true rfl)) hF (fun _ D11 E11 hF => ?_)
            exact BX36_find_b269 (N := N) (K208 := FX36_find_b208 N n) @ih E11 hF
theorem BX36_find_b201 {σo : fS} {q : Unit × fS} {N : Nat} {s : fS} (E : bE 1 σo s) (hF : FX36_find_b201 N s = some q) : bE 1 σo q.2 := by
  unfold FX36_find_b201 at hF
  refine b_pI E (E.S.m1 (Nat.le_of_ble_eq_true rfl) (Nat.le_of_ble_eq_true rfl)) hF (fun _ D1 E1 hF => ?_)
  exact BX36_find_b208 (N := N) E1 hF
theorem BX36_find_b68 {σo : fS} {q : Unit × fS} {N : Nat} : ∀ {n : Nat} {s : fS} {l1 : Int} {l2 : Int}, bE 1 σo s → FX36_find_b68 N n l1 l2 s = some q → bE 1 σo q.2 := by
  intro n
  induction n with
  | zero => intro s l1 l2 E  hF; simp [FX36_find_b68] at hF
  | succ n ih =>
    intro s l1 l2 E  hF
    rw [FX36_find_b68] at hF
    refine b_if hF (fun hF => ?_) (fun hF => ?_)
    ·
      exact BX36_find_b201 (N := N) E hF
    ·
      refine b_if hF (fun hF => ?_) (fun hF => ?_)
      ·
        exact BX36_find_b201 (N := N) E hF
      ·
        exact BX36_find_b82 (N := N) (K68 := FX36_find_b68 N n) @ih E hF
theorem BX36_find_b15 {σo : fS} {q : Unit × fS} {N : Nat} : ∀ {n : Nat} {s : fS} {l1 : Int} {l2 : Int}, bE 1 σo s → FX36_find_b15 N n l1 l2 s = some q → bE 1 σo q.2 := by
  intro n
  induction n with
  | zero => intro s l1 l2 E  hF; simp [FX36_find_b15] at hF
  | succ n ih =>
    intro s l1 l2 E  hF
    rw [FX36_find_b15] at hF
    refine b_if hF (fun hF => ?_) (fun hF => ?_)
    ·
      exact BX36_find_b68 (N := N) E hF
    ·
      refine b_if hF (fun hF => ?_) (fun hF => ?_)
      ·
        exact BX36_find_b59 (N := N) (K15 := FX36_find_b15 N n) @ih E hF
      ·
        refine b_rv hF (fun _ hF => ?_)
        refine b_rv hF (fun _ hF => ?_)
        refine b_if hF (fun hF => ?_) (fun hF => ?_)
        ·
          exact BX36_find_b59 (N := N) (K15 := FX36_find_b15 N n) @ih E hF
        ·
          exact BX36_find_b59 (N := N) (K15 := FX36_find_b15 N n) @ih E hF
theorem BX36_find {σo : fS} {q : Unit × fS} {N : Nat} {s : fS} (E : bE 1 σo s) (hF : FX36_find N s = some q) : bE 1 σo q.2 := by
  unfold FX36_find at hF
  refine b_call E (fun _ hq => (BX36_toldAt (N := N) (bE.rf E.S) (E.S.m1 (Nat.le_of_ble_eq_true rfl) (Nat.le_of_ble_eq_true rfl)) hq)) hF (fun _ hq4 D4 E4 hF => ?_)
  exact BX36_find_b15 (N := N) E4 hF
theorem BX36_take_b46 {σo : fS} {q : Int × fS} {N : Nat} {K5 : Int → Int → Int → fS → Option (Int × fS)} (hk5 : ∀ {s : fS} {l2 : Int} {l3 : Int} {l4 : Int}, bE 1 σo s → K5 l2 l3 l4 s = some q → bE 1 σo q.2) {s : fS} {l2 : Int} {l4 : Int} {s0 : Int} (E : bE 1 σo s) (hF : FX36_take_b46 N K5 l2 l4 s0 s = some q) : bE 1 σo q.2 := by
  unfold FX36_take_b46 at hF
  exact hk5 E hF
theorem BX36_take_b45 {σo : fS} {q : Int × fS} {N : Nat} {K5 : Int → Int → Int → fS → Option (Int × fS)} (hk5 : ∀ {s : fS} {l2 : Int} {l3 : Int} {l4 : Int}, bE 1 σo s → K5 l2 l3 l4 s = some q → bE 1 σo q.2) {s : fS} {l2 : Int} {l4 : Int} (E : bE 1 σo s) (hF : FX36_take_b45 N K5 l2 l4 s = some q) : bE 1 σo q.2 := by
  unfold FX36_take_b45 at hF
  exact BX36_take_b46 (N := N) (K5 := K5) @hk5 E hF
theorem BX36_take_b66 {σo : fS} {q : Int × fS} {N : Nat} {s : fS} {l3 : Int} (E : bE 1 σo s) (hF : FX36_take_b66 N l3 s = some q) : bE 1 σo q.2 := by
  unfold FX36_take_b66 at hF
  exact b_z E hF
theorem BX36_take_b5 {σo : fS} {q : Int × fS} {N : Nat} : ∀ {n : Nat} {s : fS} {l2 : Int} {l3 : Int} {l4 : Int}, bE 1 σo s → FX36_take_b5 N n l2 l3 l4 s = some q → bE 1 σo q.2 := by
  intro n
  induction n with
  | zero => intro s l2 l3 l4 E  hF; simp [FX36_take_b5] at hF
  | succ n ih =>
    intro s l2 l3 l4 E  hF
    rw [FX36_take_b5] at hF
    refine b_if hF (fun hF => ?_) (fun hF => ?_)
    ·
      refine b_pI E (E.S.m1 (Nat.le_of_ble_eq_true rfl) (Nat.le_of_ble_eq_true rfl)) hF (fun _ D1 E1 hF => ?_)
      refine b_if hF (fun hF => ?_) (fun hF => ?_)
      ·
        exact BX36_take_b66 (N := N) E1 hF
      ·
        refine b_call E1 (fun _ hq => (BX36_find (N := N) (bE.rf E1.S) hq)) hF (fun _ hq3 D3 E3 hF => ?_)
        exact BX36_take_b66 (N := N) E3 hF
    ·
      refine b_rv hF (fun _ hF => ?_)
      refine b_rv hF (fun _ hF => ?_)
      refine b_qI E (E.S.m1 (Nat.le_of_ble_eq_true rfl) (Nat.le_of_ble_eq_true rfl)) hF (fun _ D8 E8 hF => ?_)
      refine b_if hF (fun hF => ?_) (fun hF => ?_)
      ·
        exact BX36_take_b45 (N := N) (K5 := FX36_take_b5 N n) @ih E8 hF
      ·
        refine b_rv hF (fun _ hF => ?_)
        refine b_if hF (fun hF => ?_) (fun hF => ?_)
        ·
          exact BX36_take_b45 (N := N) (K5 := FX36_take_b5 N n) @ih E8 hF
        ·
          exact BX36_take_b46 (N := N) (K5 := FX36_take_b5 N n) @ih E8 hF
theorem BX36_take {σo : fS} {q : Int × fS} {N : Nat} {s : fS} {p1 : Int} (E : bE 1 σo s) (hF : FX36_take N p1 s = some q) : bE 1 σo q.2 := by
  unfold FX36_take at hF
  exact BX36_take_b5 (N := N) E hF
theorem BX35_isPart_b91 {σo : fS} {q : Int × fS} {N : Nat} {K22 : Nat → Int → Int → Int → fS → Option (Int × fS)} (hk22 : ∀ {s : fS} {l1 : Nat} {l2 : Int} {l3 : Int} {l4 : Int}, bE 1 σo s → bO 1 s l1 → K22 l1 l2 l3 l4 s = some q → bE 1 σo q.2) {s : fS} {l1 : Nat} {l2 : Int} {l4 : Int} {s0 : Int} (E : bE 1 σo s) (ol1 : bO 1 s l1) (hF : FX35_isPart_b91 N K22 l1 l2 l4 s0 s = some q) : bE 1 σo q.2 := by
  unfold FX35_isPart_b91 at hF
  exact hk22 E ol1 hF
theorem BX35_isPart_b86 {σo : fS} {q : Int × fS} {N : Nat} {K22 : Nat → Int → Int → Int → fS → Option (Int × fS)} (hk22 : ∀ {s : fS} {l1 : Nat} {l2 : Int} {l3 : Int} {l4 : Int}, bE 1 σo s → bO 1 s l1 → K22 l1 l2 l3 l4 s = some q → bE 1 σo q.2) {s : fS} {l1 : Nat} {l2 : Int} {l4 : Int} (E : bE 1 σo s) (ol1 : bO 1 s l1) (hF : FX35_isPart_b86 N K22 l1 l2 l4 s = some q) : bE 1 σo q.2 := by
  unfold FX35_isPart_b86 at hF
  exact BX35_isPart_b91 (N := N) (K22 := K22) @hk22 E ol1 hF
theorem BX35_isPart_b90 {σo : fS} {q : Int × fS} {N : Nat} {K22 : Nat → Int → Int → Int → fS → Option (Int × fS)} (hk22 : ∀ {s : fS} {l1 : Nat} {l2 : Int} {l3 : Int} {l4 : Int}, bE 1 σo s → bO 1 s l1 → K22 l1 l2 l3 l4 s = some q → bE 1 σo q.2) {s : fS} {l1 : Nat} {l2 : Int} {l4 : Int} (E : bE 1 σo s) (ol1 : bO 1 s l1) (hF : FX35_isPart_b90 N K22 l1 l2 l4 s = some q) : bE 1 σo q.2 := by
  unfold FX35_isPart_b90 at hF
  exact BX35_isPart_b91 (N := N) (K22 := K22) @hk22 E ol1 hF
theorem BX35_isPart_b98 {σo : fS} {q : Int × fS} {N : Nat} {s : fS} {l3 : Int} (E : bE 1 σo s) (hF : FX35_isPart_b98 N l3 s = some q) : bE 1 σo q.2 := by
  unfold FX35_isPart_b98 at hF
  exact b_z E hF
theorem BX35_isPart_b22 {σo : fS} {q : Int × fS} {N : Nat} : ∀ {n : Nat} {s : fS} {l1 : Nat} {l2 : Int} {l3 : Int} {l4 : Int}, bE 1 σo s → bO 1 s l1 → FX35_isPart_b22 N n l1 l2 l3 l4 s = some q → bE 1 σo q.2 := by
  intro n
  induction n with
  | zero => intro s l1 l2 l3 l4 E ol1 hF; simp [FX35_isPart_b22] at hF
  | succ n ih =>
    intro s l1 l2 l3 l4 E ol1 hF
    rw [FX35_isPart_b22] at hF
    refine b_K hF (fun hF => ?_)
    refine b_if hF (fun hF => ?_) (fun hF => ?_)
    ·
      exact BX35_isPart_b98 (N := N) E hF
    ·
      refine b_if hF (fun hF => ?_) (fun hF => ?_)
      ·
        exact BX35_isPart_b98 (N := N) E hF
      ·
        refine b_K hF (fun hF => ?_)
        refine b_o E ol1 hF (fun _ o2 hF => ?_)
        refine b_KA hF (fun hF => ?_)
        refine b_rv hF (fun _ hF => ?_)
        refine b_rv hF (fun _ hF => ?_)
        refine b_if hF (fun hF => ?_) (fun hF => ?_)
        ·
          exact BX35_isPart_b90 (N := N) (K22 := FX35_isPart_b22 N n) @ih E ol1 hF
        ·
          refine b_K hF (fun hF => ?_)
          refine b_o E ol1 hF (fun _ o6 hF => ?_)
          refine b_KA hF (fun hF => ?_)
          refine b_rv hF (fun _ hF => ?_)
          refine b_if hF (fun hF => ?_) (fun hF => ?_)
          ·
            exact BX35_isPart_b86 (N := N) (K22 := FX35_isPart_b22 N n) @ih E ol1 hF
          ·
            refine b_K hF (fun hF => ?_)
            refine b_o E ol1 hF (fun _ o8 hF => ?_)
            refine b_KA hF (fun hF => ?_)
            refine b_rv hF (fun _ hF => ?_)
            refine b_rv hF (fun _ hF => ?_)
            refine b_if hF (fun hF => ?_) (fun hF => ?_)
            ·
              exact BX35_isPart_b90 (N := N) (K22 := FX35_isPart_b22 N n) @ih E ol1 hF
            ·
              exact BX35_isPart_b86 (N := N) (K22 := FX35_isPart_b22 N n) @ih E ol1 hF
theorem BX35_isPart_b18 {σo : fS} {q : Int × fS} {N : Nat} {s : fS} {l1 : Nat} {l2 : Int} {s0 : Int} (E : bE 1 σo s) (ol1 : bO 1 s l1) (hF : FX35_isPart_b18 N l1 l2 s0 s = some q) : bE 1 σo q.2 := by
  unfold FX35_isPart_b18 at hF
  exact BX35_isPart_b22 (N := N) E ol1 hF
theorem BX35_isPart {σo : fS} {q : Int × fS} {N : Nat} {s : fS} {p0 : Nat} {p1 : Int} (E : bE 1 σo s) (op0 : bO 1 s p0) (hF : FX35_isPart N p0 p1 s = some q) : bE 1 σo q.2 := by
  unfold FX35_isPart at hF
  refine b_K hF (fun hF => ?_)
  refine b_if hF (fun hF => ?_) (fun hF => ?_)
  ·
    exact BX35_isPart_b18 (N := N) E op0 hF
  ·
    exact BX35_isPart_b18 (N := N) E op0 hF
theorem BX35_findSofts_b180 {σo : fS} {q : Unit × fS} {N : Nat} {K149 : Int → Nat → Int → Int → Int → Int → Int → Int → fS → Option (Unit × fS)} (hk149 : ∀ {s : fS} {l1 : Int} {l2 : Nat} {l3 : Int} {l6 : Int} {l7 : Int} {l8 : Int} {l9 : Int} {l10 : Int}, bE 1 σo s → bO 1 s l2 → K149 l1 l2 l3 l6 l7 l8 l9 l10 s = some q → bE 1 σo q.2) {s : fS} {l1 : Int} {l2 : Nat} {l3 : Int} {l6 : Int} {l7 : Int} {l8 : Int} {l10 : Int} {s0 : Int} (E : bE 1 σo s) (ol2 : bO 1 s l2) (hF : FX35_findSofts_b180 N K149 l1 l2 l3 l6 l7 l8 l10 s0 s = some q) : bE 1 σo q.2 := by
  unfold FX35_findSofts_b180 at hF
  exact hk149 E ol2 hF
theorem BX35_findSofts_b175 {σo : fS} {q : Unit × fS} {N : Nat} {K149 : Int → Nat → Int → Int → Int → Int → Int → Int → fS → Option (Unit × fS)} (hk149 : ∀ {s : fS} {l1 : Int} {l2 : Nat} {l3 : Int} {l6 : Int} {l7 : Int} {l8 : Int} {l9 : Int} {l10 : Int}, bE 1 σo s → bO 1 s l2 → K149 l1 l2 l3 l6 l7 l8 l9 l10 s = some q → bE 1 σo q.2) {s : fS} {l1 : Int} {l2 : Nat} {l3 : Int} {l6 : Int} {l7 : Int} {l8 : Int} {l10 : Int} (E : bE 1 σo s) (ol2 : bO 1 s l2) (hF : FX35_findSofts_b175 N K149 l1 l2 l3 l6 l7 l8 l10 s = some q) : bE 1 σo q.2 := by
  unfold FX35_findSofts_b175 at hF
  exact BX35_findSofts_b180 (N := N) (K149 := K149) @hk149 E ol2 hF
theorem BX35_findSofts_b248 {σo : fS} {q : Unit × fS} {N : Nat} {K16 : Int → Nat → Int → fS → Option (Unit × fS)} (hk16 : ∀ {s : fS} {l1 : Int} {l2 : Nat} {l3 : Int}, bE 1 σo s → bO 1 s l2 → K16 l1 l2 l3 s = some q → bE 1 σo q.2) {s : fS} {l1 : Int} {l2 : Nat} {l3 : Int} (E : bE 1 σo s) (ol2 : bO 1 s l2) (hF : FX35_findSofts_b248 N K16 l1 l2 l3 s = some q) : bE 1 σo q.2 := by
  unfold FX35_findSofts_b248 at hF
  exact hk16 E ol2 hF
theorem BX35_findSofts_b198 {σo : fS} {q : Unit × fS} {N : Nat} {K16 : Int → Nat → Int → fS → Option (Unit × fS)} (hk16 : ∀ {s : fS} {l1 : Int} {l2 : Nat} {l3 : Int}, bE 1 σo s → bO 1 s l2 → K16 l1 l2 l3 s = some q → bE 1 σo q.2) {s : fS} {l1 : Int} {l2 : Nat} {l3 : Int} {l6 : Int} {l7 : Int} {l9 : Int} (E : bE 1 σo s) (ol2 : bO 1 s l2) (hF : FX35_findSofts_b198 N K16 l1 l2 l3 l6 l7 l9 s = some q) : bE 1 σo q.2 := by
  unfold FX35_findSofts_b198 at hF
  refine b_call E (fun _ hq => (BX35_isPart (N := N) (bE.rf E.S) ol2 hq)) hF (fun _ hq2 D2 E2 hF => ?_)
  refine b_if hF (fun hF => ?_) (fun hF => ?_)
  ·
    exact BX35_findSofts_b248 (N := N) (K16 := K16) @hk16 E2 (ol2.up D2) hF
  ·
    refine b_if hF (fun hF => ?_) (fun hF => ?_)
    ·
      exact BX35_findSofts_b248 (N := N) (K16 := K16) @hk16 E2 (ol2.up D2) hF
    ·
      refine b_qI E2 (E2.S.m1 (Nat.le_of_ble_eq_true rfl) (Nat.le_of_ble_eq_true rfl)) hF (fun _ D5 E5 hF => ?_)
      refine b_qI E5 (E5.S.m1 (Nat.le_of_ble_eq_true rfl) (Nat.le_of_ble_eq_true rfl)) hF (fun _ D8 E8 hF => ?_)
      refine b_pI E8 (E8.S.m1 (Nat.le_of_ble_eq_true rfl) (Nat.le_of_ble_eq_true rfl)) hF (fun _ D10 E10 hF => ?_)
      exact BX35_findSofts_b248 (N := N) (K16 := K16) @hk16 E10 ((((ol2.up D2).up D5).up D8).up D10) hF
theorem BX35_findSofts_b149 {σo : fS} {q : Unit × fS} {N : Nat} {K16 : Int → Nat → Int → fS → Option (Unit × fS)} (hk16 : ∀ {s : fS} {l1 : Int} {l2 : Nat} {l3 : Int}, bE 1 σo s → bO 1 s l2 → K16 l1 l2 l3 s = some q → bE 1 σo q.2) : ∀ {n : Nat} {s : fS} {l1 : Int} {l2 : Nat} {l3 : Int} {l6 : Int} {l7 : Int} {l8 : Int} {l9 : Int} {l10 : Int}, bE 1 σo s → bO 1 s l2 → FX35_findSofts_b149 N K16 n l1 l2 l3 l6 l7 l8 l9 l10 s = some q → bE 1 σo q.2 := by
  intro n
  induction n with
  | zero => intro s l1 l2 l3 l6 l7 l8 l9 l10 E ol2 hF; simp [FX35_findSofts_b149] at hF
  | succ n ih =>
    intro s l1 l2 l3 l6 l7 l8 l9 l10 E ol2 hF
    rw [FX35_findSofts_b149] at hF
    refine b_if hF (fun hF => ?_) (fun hF => ?_)
    ·
      refine b_if hF (fun hF => ?_) (fun hF => ?_)
      ·
        exact BX35_findSofts_b198 (N := N) (K16 := K16) @hk16 E ol2 hF
      ·
        refine b_if hF (fun hF => ?_) (fun hF => ?_)
        ·
          exact BX35_findSofts_b248 (N := N) (K16 := K16) @hk16 E ol2 hF
        ·
          exact BX35_findSofts_b198 (N := N) (K16 := K16) @hk16 E ol2 hF
    ·
      refine b_if hF (fun hF => ?_) (fun hF => ?_)
      ·
        exact BX35_findSofts_b175 (N := N) (K149 := FX35_findSofts_b149 N K16 n) @ih E ol2 hF
      ·
        refine b_rv hF (fun _ hF => ?_)
        refine b_if hF (fun hF => ?_) (fun hF => ?_)
        ·
          exact BX35_findSofts_b180 (N := N) (K149 := FX35_findSofts_b149 N K16 n) @ih E ol2 hF
        ·
          exact BX35_findSofts_b175 (N := N) (K149 := FX35_findSofts_b149 N K16 n) @ih E ol2 hF
theorem BX35_findSofts_b141 {σo : fS} {q : Unit × fS} {N : Nat} {K16 : Int → Nat → Int → fS → Option (Unit × fS)} (hk16 : ∀ {s : fS} {l1 : Int} {l2 : Nat} {l3 : Int}, bE 1 σo s → bO 1 s l2 → K16 l1 l2 l3 s = some q → bE 1 σo q.2) {s : fS} {l1 : Int} {l2 : Nat} {l3 : Int} {l6 : Int} {l7 : Int} {s0 : Int} (E : bE 1 σo s) (ol2 : bO 1 s l2) (hF : FX35_findSofts_b141 N K16 l1 l2 l3 l6 l7 s0 s = some q) : bE 1 σo q.2 := by
  unfold FX35_findSofts_b141 at hF
  exact BX35_findSofts_b149 (N := N) (K16 := K16) @hk16 E ol2 hF
theorem BX35_findSofts_b140 {σo : fS} {q : Unit × fS} {N : Nat} {K16 : Int → Nat → Int → fS → Option (Unit × fS)} (hk16 : ∀ {s : fS} {l1 : Int} {l2 : Nat} {l3 : Int}, bE 1 σo s → bO 1 s l2 → K16 l1 l2 l3 s = some q → bE 1 σo q.2) {s : fS} {l1 : Int} {l2 : Nat} {l3 : Int} {l6 : Int} {l7 : Int} (E : bE 1 σo s) (ol2 : bO 1 s l2) (hF : FX35_findSofts_b140 N K16 l1 l2 l3 l6 l7 s = some q) : bE 1 σo q.2 := by
  unfold FX35_findSofts_b140 at hF
  exact BX35_findSofts_b141 (N := N) (K16 := K16) @hk16 E ol2 hF
theorem BX35_findSofts_b16 {σo : fS} {q : Unit × fS} {N : Nat} : ∀ {n : Nat} {s : fS} {l1 : Int} {l2 : Nat} {l3 : Int}, bE 1 σo s → bO 1 s l2 → FX35_findSofts_b16 N n l1 l2 l3 s = some q → bE 1 σo q.2 := by
  intro n
  induction n with
  | zero => intro s l1 l2 l3 E ol2 hF; simp [FX35_findSofts_b16] at hF
  | succ n ih =>
    intro s l1 l2 l3 E ol2 hF
    rw [FX35_findSofts_b16] at hF
    refine b_if hF (fun hF => ?_) (fun hF => ?_)
    ·
      exact b_ret E hF
    ·
      refine b_rv hF (fun _ hF => ?_)
      refine b_rv hF (fun _ hF => ?_)
      refine b_K hF (fun hF => ?_)
      refine b_call E (fun _ hq => (BX40_set (N := N) (bE.rf E.S) ol2 hq)) hF (fun _ hq11 D11 E11 hF => ?_)
      refine b_K hF (fun hF => ?_)
      refine b_if hF (fun hF => ?_) (fun hF => ?_)
      ·
        exact BX35_findSofts_b248 (N := N) (K16 := FX35_findSofts_b16 N n) @ih E11 (ol2.up D11) hF
      ·
        refine b_call E11 (fun _ hq => (BX35_isPart (N := N) (bE.rf E11.S) (ol2.up D11) hq)) hF (fun _ hq14 D14 E14 hF => ?_)
        refine b_if hF (fun hF => ?_) (fun hF => ?_)
        ·
          exact BX35_findSofts_b248 (N := N) (K16 := FX35_findSofts_b16 N n) @ih E14 ((ol2.up D11).up D14) hF
        ·
          refine b_rv hF (fun _ hF => ?_)
          refine b_K hF (fun hF => ?_)
          refine b_call E14 (fun _ hq => (BX40_set (N := N) (bE.rf E14.S) ((ol2.up D11).up D14) hq)) hF (fun _ hq20 D20 E20 hF => ?_)
          refine b_if hF (fun hF => ?_) (fun hF => ?_)
          ·
            exact BX35_findSofts_b248 (N := N) (K16 := FX35_findSofts_b16 N n) @ih E20 (((ol2.up D11).up D14).up D20) hF
          ·
            refine b_K hF (fun hF => ?_)
            refine b_if hF (fun hF => ?_) (fun hF => ?_)
            ·
              exact BX35_findSofts_b140 (N := N) (K16 := FX35_findSofts_b16 N n) @ih E20 (((ol2.up D11).up D14).up D20) hF
            ·
              refine b_rv hF (fun _ hF => ?_)
              refine b_if hF (fun hF => ?_) (fun hF => ?_)
              ·
                exact BX35_findSofts_b140 (N := N) (K16 := FX35_findSofts_b16 N n) @ih E20 (((ol2.up D11).up D14).up D20) hF
              ·
                exact BX35_findSofts_b141 (N := N) (K16 := FX35_findSofts_b16 N n) @ih E20 (((ol2.up D11).up D14).up D20) hF
theorem BX35_findSofts {σo : fS} {q : Unit × fS} {N : Nat} {s : fS} {p0 : Int} (E : bE 1 σo s) (hF : FX35_findSofts N p0 s = some q) : bE 1 σo q.2 := by
  unfold FX35_findSofts at hF
  refine b_call E (fun _ hq => (BX35_metrics (bE.rf E.S) hq).1) hF (fun _ hq3 D3 E3 hF => ?_)
  refine b_pI E3 (E3.S.m1 (Nat.le_of_ble_eq_true rfl) (Nat.le_of_ble_eq_true rfl)) hF (fun _ D4 E4 hF => ?_)
  exact BX35_findSofts_b16 (N := N) E4 ((BX35_metrics (bE.rf E.S) hq3).2.up D4) hF
theorem BX40_of_b66 {σo : fS} {q : Int × fS} {N : Nat} {s : fS} {l0 : Nat} {l2 : Int} {l3 : Int} {s0 : Int} (E : bE 1 σo s) (ol0 : bO 1 s l0) (hF : FX40_of_b66 N l0 l2 l3 s0 s = some q) : bE 1 σo q.2 := by
  unfold FX40_of_b66 at hF
  refine b_K hF (fun hF => ?_)
  refine b_call E (fun _ hq => (BX40_scaled (N := N) (bE.rf E.S) ol0 hq)) hF (fun _ hq2 D2 E2 hF => ?_)
  exact b_ret E2 hF
theorem BX40_of {σo : fS} {q : Int × fS} {N : Nat} {s : fS} {this : Nat} {p0 : Int} {p1 : Int} {p2 : Int} (E : bE 1 σo s) (othis : bO 1 s this) (hF : FX40_of N this p0 p1 p2 s = some q) : bE 1 σo q.2 := by
  unfold FX40_of at hF
  refine b_K hF (fun hF => ?_)
  refine b_o E othis hF (fun _ o1 hF => ?_)
  refine b_call E (fun _ hq => (BX40_half (bE.rf E.S) o1 hq)) hF (fun _ hq2 D2 E2 hF => ?_)
  refine b_if hF (fun hF => ?_) (fun hF => ?_)
  ·
    refine b_if hF (fun hF => ?_) (fun hF => ?_)
    ·
      refine b_K hF (fun hF => ?_)
      refine b_o E2 (othis.up D2) hF (fun _ o3 hF => ?_)
      refine b_call E2 (fun _ hq => (BX40_at (N := N) (bE.rf E2.S) o3 hq)) hF (fun _ hq4 D4 E4 hF => ?_)
      exact BX40_of_b66 (N := N) E4 ((othis.up D2).up D4) hF
    ·
      refine b_K hF (fun hF => ?_)
      refine b_o E2 (othis.up D2) hF (fun _ o5 hF => ?_)
      refine b_call E2 (fun _ hq => (BX40_at (N := N) (bE.rf E2.S) o5 hq)) hF (fun _ hq6 D6 E6 hF => ?_)
      exact BX40_of_b66 (N := N) E6 ((othis.up D2).up D6) hF
  ·
    refine b_K hF (fun hF => ?_)
    refine b_o E2 (othis.up D2) hF (fun _ o7 hF => ?_)
    refine b_call E2 (fun _ hq => (BX40_at (N := N) (bE.rf E2.S) o7 hq)) hF (fun _ hq8 D8 E8 hF => ?_)
    exact BX40_of_b66 (N := N) E8 ((othis.up D2).up D8) hF
theorem BX35_leaf {σo : fS} {q : Unit × fS} {N : Nat} {s : fS} {p0 : Int} {p1 : Int} (E : bE 1 σo s) (hF : FX35_leaf N p0 p1 s = some q) : bE 1 σo q.2 := by
  unfold FX35_leaf at hF
  refine b_call E (fun _ hq => (BX35_metrics (bE.rf E.S) hq).1) hF (fun _ hq2 D2 E2 hF => ?_)
  refine b_rv hF (fun _ hF => ?_)
  refine b_K hF (fun hF => ?_)
  refine b_call E2 (fun _ hq => (BX40_of (N := N) (bE.rf E2.S) (BX35_metrics (bE.rf E.S) hq2).2 hq)) hF (fun _ hq6 D6 E6 hF => ?_)
  refine b_K hF (fun hF => ?_)
  refine b_call E6 (fun _ hq => (BX40_of (N := N) (bE.rf E6.S) ((BX35_metrics (bE.rf E.S) hq2).2.up D6) hq)) hF (fun _ hq8 D8 E8 hF => ?_)
  refine b_K hF (fun hF => ?_)
  refine b_call E8 (fun _ hq => (BX40_of (N := N) (bE.rf E8.S) (((BX35_metrics (bE.rf E.S) hq2).2.up D6).up D8) hq)) hF (fun _ hq10 D10 E10 hF => ?_)
  refine b_call E10 (fun _ hq => (BX35_item (N := N) (bE.rf E10.S) hq)) hF (fun _ hq12 D12 E12 hF => ?_)
  exact b_ret E12 hF
theorem BX35_endWord_b21 {σo : fS} {q : Unit × fS} {N : Nat} {s : fS} (E : bE 1 σo s) (hF : FX35_endWord_b21 N s = some q) : bE 1 σo q.2 := by
  unfold FX35_endWord_b21 at hF
  exact b_ret E hF
theorem BX35_endWord_b223 {σo : fS} {q : Unit × fS} {N : Nat} {K168 : Int → Nat → Int → Int → fS → Option (Unit × fS)} (hk168 : ∀ {s : fS} {l1 : Int} {l2 : Nat} {l3 : Int} {l4 : Int}, bE 1 σo s → bO 1 s l2 → K168 l1 l2 l3 l4 s = some q → bE 1 σo q.2) {s : fS} {l1 : Int} {l2 : Nat} {l3 : Int} {l4 : Int} (E : bE 1 σo s) (ol2 : bO 1 s l2) (hF : FX35_endWord_b223 N K168 l1 l2 l3 l4 s = some q) : bE 1 σo q.2 := by
  unfold FX35_endWord_b223 at hF
  exact hk168 E ol2 hF
theorem BX35_endWord_b289 {σo : fS} {q : Unit × fS} {N : Nat} {K157 : Int → Nat → Int → fS → Option (Unit × fS)} (hk157 : ∀ {s : fS} {l1 : Int} {l2 : Nat} {l3 : Int}, bE 1 σo s → bO 1 s l2 → K157 l1 l2 l3 s = some q → bE 1 σo q.2) {s : fS} {l1 : Int} {l2 : Nat} {l3 : Int} (E : bE 1 σo s) (ol2 : bO 1 s l2) (hF : FX35_endWord_b289 N K157 l1 l2 l3 s = some q) : bE 1 σo q.2 := by
  unfold FX35_endWord_b289 at hF
  exact hk157 E ol2 hF
theorem BX35_endWord_b267 {σo : fS} {q : Unit × fS} {N : Nat} {K157 : Int → Nat → Int → fS → Option (Unit × fS)} (hk157 : ∀ {s : fS} {l1 : Int} {l2 : Nat} {l3 : Int}, bE 1 σo s → bO 1 s l2 → K157 l1 l2 l3 s = some q → bE 1 σo q.2) {s : fS} {l1 : Int} {l2 : Nat} {l3 : Int} (E : bE 1 σo s) (ol2 : bO 1 s l2) (hF : FX35_endWord_b267 N K157 l1 l2 l3 s = some q) : bE 1 σo q.2 := by
  unfold FX35_endWord_b267 at hF
  refine b_if hF (fun hF => ?_) (fun hF => ?_)
  ·
    exact BX35_endWord_b289 (N := N) (K157 := K157) @hk157 E ol2 hF
  ·
    refine b_rv hF (fun _ hF => ?_)
    refine b_call E (fun _ hq => (BX35_leaf (N := N) (bE.rf E.S) hq)) hF (fun _ hq6 D6 E6 hF => ?_)
    exact BX35_endWord_b289 (N := N) (K157 := K157) @hk157 E6 (ol2.up D6) hF
theorem BX35_endWord_b168 {σo : fS} {q : Unit × fS} {N : Nat} {K157 : Int → Nat → Int → fS → Option (Unit × fS)} (hk157 : ∀ {s : fS} {l1 : Int} {l2 : Nat} {l3 : Int}, bE 1 σo s → bO 1 s l2 → K157 l1 l2 l3 s = some q → bE 1 σo q.2) : ∀ {n : Nat} {s : fS} {l1 : Int} {l2 : Nat} {l3 : Int} {l4 : Int}, bE 1 σo s → bO 1 s l2 → FX35_endWord_b168 N K157 n l1 l2 l3 l4 s = some q → bE 1 σo q.2 := by
  intro n
  induction n with
  | zero => intro s l1 l2 l3 l4 E ol2 hF; simp [FX35_endWord_b168] at hF
  | succ n ih =>
    intro s l1 l2 l3 l4 E ol2 hF
    rw [FX35_endWord_b168] at hF
    refine b_if hF (fun hF => ?_) (fun hF => ?_)
    ·
      refine b_if hF (fun hF => ?_) (fun hF => ?_)
      ·
        exact BX35_endWord_b267 (N := N) (K157 := K157) @hk157 E ol2 hF
      ·
        refine b_rv hF (fun _ hF => ?_)
        refine b_if hF (fun hF => ?_) (fun hF => ?_)
        ·
          exact BX35_endWord_b267 (N := N) (K157 := K157) @hk157 E ol2 hF
        ·
          refine b_rv hF (fun _ hF => ?_)
          refine b_call E (fun _ hq => (BX35_item (N := N) (bE.rf E.S) hq)) hF (fun _ hq8 D8 E8 hF => ?_)
          exact BX35_endWord_b289 (N := N) (K157 := K157) @hk157 E8 (ol2.up D8) hF
    ·
      refine b_rv hF (fun _ hF => ?_)
      refine b_if hF (fun hF => ?_) (fun hF => ?_)
      ·
        exact BX35_endWord_b223 (N := N) (K168 := FX35_endWord_b168 N K157 n) @ih E ol2 hF
      ·
        refine b_rv hF (fun _ hF => ?_)
        refine b_rv hF (fun _ hF => ?_)
        refine b_K hF (fun hF => ?_)
        refine b_call E (fun _ hq => (BX40_of (N := N) (bE.rf E.S) ol2 hq)) hF (fun _ hq18 D18 E18 hF => ?_)
        refine b_call E18 (fun _ hq => (BX35_item (N := N) (bE.rf E18.S) hq)) hF (fun _ hq20 D20 E20 hF => ?_)
        exact BX35_endWord_b223 (N := N) (K168 := FX35_endWord_b168 N K157 n) @ih E20 ((ol2.up D18).up D20) hF
theorem BX35_endWord_b327 {σo : fS} {q : Unit × fS} {N : Nat} {s : fS} (E : bE 1 σo s) (hF : FX35_endWord_b327 N s = some q) : bE 1 σo q.2 := by
  unfold FX35_endWord_b327 at hF
  exact b_ret E hF
theorem BX35_endWord_b157 {σo : fS} {q : Unit × fS} {N : Nat} : ∀ {n : Nat} {s : fS} {l1 : Int} {l2 : Nat} {l3 : Int}, bE 1 σo s → bO 1 s l2 → FX35_endWord_b157 N n l1 l2 l3 s = some q → bE 1 σo q.2 := by
  intro n
  induction n with
  | zero => intro s l1 l2 l3 E ol2 hF; simp [FX35_endWord_b157] at hF
  | succ n ih =>
    intro s l1 l2 l3 E ol2 hF
    rw [FX35_endWord_b157] at hF
    refine b_if hF (fun hF => ?_) (fun hF => ?_)
    ·
      refine b_call E (fun _ hq => (BX35_mode (bE.rf E.S) hq)) hF (fun _ hq3 D3 E3 hF => ?_)
      refine b_if hF (fun hF => ?_) (fun hF => ?_)
      ·
        exact BX35_endWord_b327 (N := N) E3 hF
      ·
        refine b_rv hF (fun _ hF => ?_)
        refine b_if hF (fun hF => ?_) (fun hF => ?_)
        ·
          exact BX35_endWord_b327 (N := N) E3 hF
        ·
          refine b_call E3 (fun _ hq => (BX35_item (N := N) (bE.rf E3.S) hq)) hF (fun _ hq7 D7 E7 hF => ?_)
          exact BX35_endWord_b327 (N := N) E7 hF
    ·
      exact BX35_endWord_b168 (N := N) (K157 := FX35_endWord_b157 N n) @ih E ol2 hF
theorem BX35_endWord_b155 {σo : fS} {q : Unit × fS} {N : Nat} {s : fS} {l1 : Int} {l2 : Nat} (E : bE 1 σo s) (ol2 : bO 1 s l2) (hF : FX35_endWord_b155 N l1 l2 s = some q) : bE 1 σo q.2 := by
  unfold FX35_endWord_b155 at hF
  exact BX35_endWord_b157 (N := N) E ol2 hF
theorem BX35_endWord_b69 {σo : fS} {q : Unit × fS} {N : Nat} : ∀ {n : Nat} {s : fS} {l1 : Int} {l2 : Nat} {l3 : Int}, bE 1 σo s → bO 1 s l2 → FX35_endWord_b69 N n l1 l2 l3 s = some q → bE 1 σo q.2 := by
  intro n
  induction n with
  | zero => intro s l1 l2 l3 E ol2 hF; simp [FX35_endWord_b69] at hF
  | succ n ih =>
    intro s l1 l2 l3 E ol2 hF
    rw [FX35_endWord_b69] at hF
    refine b_if hF (fun hF => ?_) (fun hF => ?_)
    ·
      refine b_pI E (E.S.m1 (Nat.le_of_ble_eq_true rfl) (Nat.le_of_ble_eq_true rfl)) hF (fun _ D2 E2 hF => ?_)
      refine b_call E2 (fun _ hq => (BX35_mode (bE.rf E2.S) hq)) hF (fun _ hq4 D4 E4 hF => ?_)
      refine b_if hF (fun hF => ?_) (fun hF => ?_)
      ·
        exact BX35_endWord_b155 (N := N) E4 ((ol2.up D2).up D4) hF
      ·
        refine b_if hF (fun hF => ?_) (fun hF => ?_)
        ·
          exact BX35_endWord_b155 (N := N) E4 ((ol2.up D2).up D4) hF
        ·
          refine b_K hF (fun hF => ?_)
          refine b_call E4 (fun _ hq => (BX40_isThere_2 (N := N) (bE.rf E4.S) ((ol2.up D2).up D4) hq)) hF (fun _ hq6 D6 E6 hF => ?_)
          refine b_if hF (fun hF => ?_) (fun hF => ?_)
          ·
            exact BX35_endWord_b155 (N := N) E6 (((ol2.up D2).up D4).up D6) hF
          ·
            refine b_call E6 (fun _ hq => (BX36_take (N := N) (bE.rf E6.S) hq)) hF (fun _ hq10 D10 E10 hF => ?_)
            refine b_if hF (fun hF => ?_) (fun hF => ?_)
            ·
              exact BX35_endWord_b155 (N := N) E10 ((((ol2.up D2).up D4).up D6).up D10) hF
            ·
              refine b_call E10 (fun _ hq => (BX35_findSofts (N := N) (bE.rf E10.S) hq)) hF (fun _ hq12 D12 E12 hF => ?_)
              exact BX35_endWord_b155 (N := N) E12 (((((ol2.up D2).up D4).up D6).up D10).up D12) hF
    ·
      refine b_K hF (fun hF => ?_)
      refine b_o E ol2 hF (fun _ o14 hF => ?_)
      refine b_KA hF (fun hF => ?_)
      refine b_rv hF (fun _ hF => ?_)
      refine b_qI E (E.S.m1 (Nat.le_of_ble_eq_true rfl) (Nat.le_of_ble_eq_true rfl)) hF (fun _ D16 E16 hF => ?_)
      refine b_K hF (fun hF => ?_)
      refine b_o E16 (ol2.up D16) hF (fun _ o18 hF => ?_)
      refine b_KA hF (fun hF => ?_)
      refine b_rv hF (fun _ hF => ?_)
      refine b_qI E16 (E16.S.m1 (Nat.le_of_ble_eq_true rfl) (Nat.le_of_ble_eq_true rfl)) hF (fun _ D20 E20 hF => ?_)
      exact ih E20 ((ol2.up D16).up D20) hF
theorem BX35_endWord {σo : fS} {q : Unit × fS} {N : Nat} {s : fS} (E : bE 1 σo s) (hF : FX35_endWord N s = some q) : bE 1 σo q.2 := by
  unfold FX35_endWord at hF
  refine b_pI E (E.S.m1 (Nat.le_of_ble_eq_true rfl) (Nat.le_of_ble_eq_true rfl)) hF (fun _ D2 E2 hF => ?_)
  refine b_if hF (fun hF => ?_) (fun hF => ?_)
  ·
    exact BX35_endWord_b21 (N := N) E2 hF
  ·
    refine b_if hF (fun hF => ?_) (fun hF => ?_)
    ·
      refine b_call E2 (fun _ hq => (BX35_metrics (bE.rf E2.S) hq).1) hF (fun _ hq6 D6 E6 hF => ?_)
      refine b_rv hF (fun _ hF => ?_)
      refine b_K hF (fun hF => ?_)
      refine b_call E6 (fun _ hq => (BX40_set (N := N) (bE.rf E6.S) (BX35_metrics (bE.rf E2.S) hq6).2 hq)) hF (fun _ hq12 D12 E12 hF => ?_)
      refine b_if hF (fun hF => ?_) (fun hF => ?_)
      ·
        refine b_K hF (fun hF => ?_)
        refine b_pI E12 (E12.S.m1 (Nat.le_of_ble_eq_true rfl) (Nat.le_of_ble_eq_true rfl)) hF (fun _ D14 E14 hF => ?_)
        exact BX35_endWord_b69 (N := N) E14 (((BX35_metrics (bE.rf E2.S) hq6).2.up D12).up D14) hF
      ·
        refine b_call E12 (fun _ hq => (BX35_fail (bE.rf E12.S) hq)) hF (fun _ hq16 D16 E16 hF => ?_)
        exact b_ret E16 hF
    ·
      exact BX35_endWord_b21 (N := N) E2 hF
theorem BX35_character_b120 {σo : fS} {q : Unit × fS} {N : Nat} {SL : Int → Int → Int → fS → Option (Int × fS)} (hsL : ∀ {s : fS} {x1 : Int} {x2 : Int} {x3 : Int} {q}, bS 1 s → SL x1 x2 x3 s = some q → bE 1 s q.2) {s : fS} (E : bE 1 σo s) (hF : FX35_character_b120 N SL s = some q) : bE 1 σo q.2 := by
  unfold FX35_character_b120 at hF
  exact b_ret E hF
theorem BX35_character_b116 {σo : fS} {q : Unit × fS} {N : Nat} {SL : Int → Int → Int → fS → Option (Int × fS)} (hsL : ∀ {s : fS} {x1 : Int} {x2 : Int} {x3 : Int} {q}, bS 1 s → SL x1 x2 x3 s = some q → bE 1 s q.2) {s : fS} (E : bE 1 σo s) (hF : FX35_character_b116 N SL s = some q) : bE 1 σo q.2 := by
  unfold FX35_character_b116 at hF
  refine b_call E (fun _ hq => (BX35_endWord (N := N) (bE.rf E.S) hq)) hF (fun _ hq2 D2 E2 hF => ?_)
  exact BX35_character_b120 (N := N) (SL := SL) @hsL E2 hF
theorem BX35_character_b76 {σo : fS} {q : Unit × fS} {N : Nat} {SL : Int → Int → Int → fS → Option (Int × fS)} (hsL : ∀ {s : fS} {x1 : Int} {x2 : Int} {x3 : Int} {q}, bS 1 s → SL x1 x2 x3 s = some q → bE 1 s q.2) {s : fS} {l1 : Int} {l2 : Int} (E : bE 1 σo s) (hF : FX35_character_b76 N SL l1 l2 s = some q) : bE 1 σo q.2 := by
  unfold FX35_character_b76 at hF
  refine b_pI E (E.S.m1 (Nat.le_of_ble_eq_true rfl) (Nat.le_of_ble_eq_true rfl)) hF (fun _ D1 E1 hF => ?_)
  refine b_qI E1 (E1.S.m1 (Nat.le_of_ble_eq_true rfl) (Nat.le_of_ble_eq_true rfl)) hF (fun _ D4 E4 hF => ?_)
  refine b_pI E4 (E4.S.m1 (Nat.le_of_ble_eq_true rfl) (Nat.le_of_ble_eq_true rfl)) hF (fun _ D6 E6 hF => ?_)
  refine b_if hF (fun hF => ?_) (fun hF => ?_)
  ·
    exact BX35_character_b116 (N := N) (SL := SL) @hsL E6 hF
  ·
    refine b_if hF (fun hF => ?_) (fun hF => ?_)
    ·
      exact BX35_character_b120 (N := N) (SL := SL) @hsL E6 hF
    ·
      exact BX35_character_b116 (N := N) (SL := SL) @hsL E6 hF
theorem BX35_character_b49 {σo : fS} {q : Unit × fS} {N : Nat} {SL : Int → Int → Int → fS → Option (Int × fS)} (hsL : ∀ {s : fS} {x1 : Int} {x2 : Int} {x3 : Int} {q}, bS 1 s → SL x1 x2 x3 s = some q → bE 1 s q.2) {s : fS} {l1 : Int} {l2 : Int} (E : bE 1 σo s) (hF : FX35_character_b49 N SL l1 l2 s = some q) : bE 1 σo q.2 := by
  unfold FX35_character_b49 at hF
  refine b_if hF (fun hF => ?_) (fun hF => ?_)
  ·
    refine b_if hF (fun hF => ?_) (fun hF => ?_)
    ·
      exact BX35_character_b76 (N := N) (SL := SL) @hsL E hF
    ·
      refine b_if hF (fun hF => ?_) (fun hF => ?_)
      ·
        exact BX35_character_b76 (N := N) (SL := SL) @hsL E hF
      ·
        refine b_call E (fun _ hq => (BX35_endWord (N := N) (bE.rf E.S) hq)) hF (fun _ hq5 D5 E5 hF => ?_)
        exact BX35_character_b76 (N := N) (SL := SL) @hsL E5 hF
  ·
    exact b_ret E hF
theorem BX35_character_b43 {σo : fS} {q : Unit × fS} {N : Nat} {SL : Int → Int → Int → fS → Option (Int × fS)} (hsL : ∀ {s : fS} {x1 : Int} {x2 : Int} {x3 : Int} {q}, bS 1 s → SL x1 x2 x3 s = some q → bE 1 s q.2) {s : fS} {l1 : Int} {l2 : Int} (E : bE 1 σo s) (hF : FX35_character_b43 N SL l1 l2 s = some q) : bE 1 σo q.2 := by
  unfold FX35_character_b43 at hF
  refine b_call E (fun _ hq => (BX35_fail (bE.rf E.S) hq)) hF (fun _ hq2 D2 E2 hF => ?_)
  exact BX35_character_b49 (N := N) (SL := SL) @hsL E2 hF
theorem BX35_character_b12 {σo : fS} {q : Unit × fS} {N : Nat} {SL : Int → Int → Int → fS → Option (Int × fS)} (hsL : ∀ {s : fS} {x1 : Int} {x2 : Int} {x3 : Int} {q}, bS 1 s → SL x1 x2 x3 s = some q → bE 1 s q.2) {s : fS} {l1 : Int} (E : bE 1 σo s) (hF : FX35_character_b12 N SL l1 s = some q) : bE 1 σo q.2 := by
  unfold FX35_character_b12 at hF
  refine b_call E (fun _ hq => (BX35_now (bE.rf E.S) hq)) hF (fun _ hq2 D2 E2 hF => ?_)
  refine b_if hF (fun hF => ?_) (fun hF => ?_)
  ·
    exact BX35_character_b49 (N := N) (SL := SL) @hsL E2 hF
  ·
    refine b_if hF (fun hF => ?_) (fun hF => ?_)
    ·
      exact BX35_character_b43 (N := N) (SL := SL) @hsL E2 hF
    ·
      refine b_call E2 (fun _ hq => (BX35_metrics (bE.rf E2.S) hq).1) hF (fun _ hq5 D5 E5 hF => ?_)
      refine b_K hF (fun hF => ?_)
      refine b_call E5 (fun _ hq => (BX40_isThere_2 (N := N) (bE.rf E5.S) (BX35_metrics (bE.rf E2.S) hq5).2 hq)) hF (fun _ hq7 D7 E7 hF => ?_)
      refine b_if hF (fun hF => ?_) (fun hF => ?_)
      ·
        exact BX35_character_b49 (N := N) (SL := SL) @hsL E7 hF
      ·
        exact BX35_character_b43 (N := N) (SL := SL) @hsL E7 hF
theorem BX35_character {σo : fS} {q : Unit × fS} {N : Nat} {SL : Int → Int → Int → fS → Option (Int × fS)} (hsL : ∀ {s : fS} {x1 : Int} {x2 : Int} {x3 : Int} {q}, bS 1 s → SL x1 x2 x3 s = some q → bE 1 s q.2) {s : fS} {p0 : Int} (E : bE 1 σo s) (hF : FX35_character N SL p0 s = some q) : bE 1 σo q.2 := by
  unfold FX35_character at hF
  refine b_call E (fun _ hq => (BX35_isVertical (bE.rf E.S) hq)) hF (fun _ hq2 D2 E2 hF => ?_)
  refine b_if hF (fun hF => ?_) (fun hF => ?_)
  ·
    exact BX35_character_b12 (N := N) (SL := SL) @hsL E2 hF
  ·
    refine b_call E2 (fun _ hq => (BX35_beginParagraph (N := N) (SL := SL) @hsL (bE.rf E2.S) hq)) hF (fun _ hq4 D4 E4 hF => ?_)
    exact BX35_character_b12 (N := N) (SL := SL) @hsL E4 hF
theorem BX36_clear_b45 {σo : fS} {q : Int × fS} {s : fS} {l2 : Int} {s1 : Int} (E : bE 1 σo s) (hF : FX36_clear_b45 l2 s1 s = some q) : bE 1 σo q.2 := by
  unfold FX36_clear_b45 at hF
  refine b_pI E (E.S.m1 (Nat.le_of_ble_eq_true rfl) (Nat.le_of_ble_eq_true rfl)) hF (fun _ D1 E1 hF => ?_)
  exact b_ret E1 hF
theorem BX36_clear_b29 {σo : fS} {q : Int × fS} {s : fS} {l1 : Int} {l2 : Int} {s1 : Int} (E : bE 1 σo s) (hF : FX36_clear_b29 l1 l2 s1 s = some q) : bE 1 σo q.2 := by
  unfold FX36_clear_b29 at hF
  refine b_pI E (E.S.m1 (Nat.le_of_ble_eq_true rfl) (Nat.le_of_ble_eq_true rfl)) hF (fun _ D1 E1 hF => ?_)
  refine b_if hF (fun hF => ?_) (fun hF => ?_)
  ·
    exact BX36_clear_b45 E1 hF
  ·
    exact BX36_clear_b45 E1 hF
theorem BX36_clear_b15 {σo : fS} {q : Int × fS} {s : fS} {l1 : Int} {s0 : Int} (E : bE 1 σo s) (hF : FX36_clear_b15 l1 s0 s = some q) : bE 1 σo q.2 := by
  unfold FX36_clear_b15 at hF
  refine b_if hF (fun hF => ?_) (fun hF => ?_)
  ·
    exact BX36_clear_b29 E hF
  ·
    exact BX36_clear_b29 E hF
theorem BX36_clear {σo : fS} {q : Int × fS} {s : fS} {p0 : Int} (E : bE 1 σo s) (hF : FX36_clear p0 s = some q) : bE 1 σo q.2 := by
  unfold FX36_clear at hF
  refine b_if hF (fun hF => ?_) (fun hF => ?_)
  ·
    exact BX36_clear_b15 E hF
  ·
    exact BX36_clear_b15 E hF
theorem BX35_clear_2 {σo : fS} {q : Int × fS} {s : fS} {p0 : Int} (E : bE 1 σo s) (hF : FX35_clear_2 p0 s = some q) : bE 1 σo q.2 := by
  unfold FX35_clear_2 at hF
  refine b_pI E (E.S.m1 (Nat.le_of_ble_eq_true rfl) (Nat.le_of_ble_eq_true rfl)) hF (fun _ D1 E1 hF => ?_)
  refine b_call E1 (fun _ hq => (BX36_clear (bE.rf E1.S) hq)) hF (fun _ hq4 D4 E4 hF => ?_)
  exact b_ret E4 hF
theorem BX37_append {σo : fS} {q : Int × fS} {s : fS} {p0 : Int} {p1 : Int} {p2 : Int} {p3 : Int} {p4 : Int} {p5 : Int} {p6 : Int} (E : bE 1 σo s) (hF : FX37_append p0 p1 p2 p3 p4 p5 p6 s = some q) : bE 1 σo q.2 := by
  unfold FX37_append at hF
  refine b_qI E (E.S.m1 (Nat.le_of_ble_eq_true rfl) (Nat.le_of_ble_eq_true rfl)) hF (fun _ D3 E3 hF => ?_)
  refine b_qI E3 (E3.S.m1 (Nat.le_of_ble_eq_true rfl) (Nat.le_of_ble_eq_true rfl)) hF (fun _ D5 E5 hF => ?_)
  refine b_qI E5 (E5.S.m1 (Nat.le_of_ble_eq_true rfl) (Nat.le_of_ble_eq_true rfl)) hF (fun _ D7 E7 hF => ?_)
  refine b_qI E7 (E7.S.m1 (Nat.le_of_ble_eq_true rfl) (Nat.le_of_ble_eq_true rfl)) hF (fun _ D9 E9 hF => ?_)
  refine b_qI E9 (E9.S.m1 (Nat.le_of_ble_eq_true rfl) (Nat.le_of_ble_eq_true rfl)) hF (fun _ D11 E11 hF => ?_)
  refine b_qI E11 (E11.S.m1 (Nat.le_of_ble_eq_true rfl) (Nat.le_of_ble_eq_true rfl)) hF (fun _ D13 E13 hF => ?_)
  refine b_qI E13 (E13.S.m1 (Nat.le_of_ble_eq_true rfl) (Nat.le_of_ble_eq_true rfl)) hF (fun _ D15 E15 hF => ?_)
  refine b_qI E15 (E15.S.m1 (Nat.le_of_ble_eq_true rfl) (Nat.le_of_ble_eq_true rfl)) hF (fun _ D17 E17 hF => ?_)
  refine b_pI E17 (E17.S.m1 (Nat.le_of_ble_eq_true rfl) (Nat.le_of_ble_eq_true rfl)) hF (fun _ D19 E19 hF => ?_)
  refine b_pI E19 (E19.S.m1 (Nat.le_of_ble_eq_true rfl) (Nat.le_of_ble_eq_true rfl)) hF (fun _ D20 E20 hF => ?_)
  exact b_ret E20 hF
theorem BX35_within_b19 {σo : fS} {q : Int × fS} {s : fS} {s0 : Int} (E : bE 1 σo s) (hF : FX35_within_b19 s0 s = some q) : bE 1 σo q.2 := by
  unfold FX35_within_b19 at hF
  exact b_ret E hF
theorem BX35_within {σo : fS} {q : Int × fS} {s : fS} {p0 : Int} {p1 : Int} {p2 : Int} (E : bE 1 σo s) (hF : FX35_within p0 p1 p2 s = some q) : bE 1 σo q.2 := by
  unfold FX35_within at hF
  refine b_if hF (fun hF => ?_) (fun hF => ?_)
  ·
    refine b_if hF (fun hF => ?_) (fun hF => ?_)
    ·
      exact BX35_within_b19 E hF
    ·
      exact BX35_within_b19 E hF
  ·
    exact BX35_within_b19 E hF
theorem BX35_tell_b321 {σo : fS} {q : Unit × fS} {N : Nat} {K10 : Int → Int → fS → Option (Unit × fS)} (hk10 : ∀ {s : fS} {l1 : Int} {l2 : Int}, bE 1 σo s → K10 l1 l2 s = some q → bE 1 σo q.2) {s : fS} {l1 : Int} {l2 : Int} (E : bE 1 σo s) (hF : FX35_tell_b321 N K10 l1 l2 s = some q) : bE 1 σo q.2 := by
  unfold FX35_tell_b321 at hF
  exact hk10 E hF
theorem BX35_tell_b95 {σo : fS} {q : Unit × fS} {N : Nat} {K10 : Int → Int → fS → Option (Unit × fS)} (hk10 : ∀ {s : fS} {l1 : Int} {l2 : Int}, bE 1 σo s → K10 l1 l2 s = some q → bE 1 σo q.2) {s : fS} {l1 : Int} {l2 : Int} {s1 : Int} {s2 : Int} (E : bE 1 σo s) (hF : FX35_tell_b95 N K10 l1 l2 s1 s2 s = some q) : bE 1 σo q.2 := by
  unfold FX35_tell_b95 at hF
  refine b_call E (fun _ hq => (BX37_append (bE.rf E.S) hq)) hF (fun _ hq2 D2 E2 hF => ?_)
  exact BX35_tell_b321 (N := N) (K10 := K10) @hk10 E2 hF
theorem BX35_tell_b222 {σo : fS} {q : Unit × fS} {N : Nat} {K10 : Int → Int → fS → Option (Unit × fS)} (hk10 : ∀ {s : fS} {l1 : Int} {l2 : Int}, bE 1 σo s → K10 l1 l2 s = some q → bE 1 σo q.2) {s : fS} {l1 : Int} {l2 : Int} {l3 : Int} {s1 : Int} (E : bE 1 σo s) (hF : FX35_tell_b222 N K10 l1 l2 l3 s1 s = some q) : bE 1 σo q.2 := by
  unfold FX35_tell_b222 at hF
  refine b_rv hF (fun _ hF => ?_)
  refine b_call E (fun _ hq => (BX37_append (bE.rf E.S) hq)) hF (fun _ hq4 D4 E4 hF => ?_)
  exact BX35_tell_b321 (N := N) (K10 := K10) @hk10 E4 hF
theorem BX35_tell_b303 {σo : fS} {q : Unit × fS} {N : Nat} {K10 : Int → Int → fS → Option (Unit × fS)} (hk10 : ∀ {s : fS} {l1 : Int} {l2 : Int}, bE 1 σo s → K10 l1 l2 s = some q → bE 1 σo q.2) {s : fS} {l1 : Int} {l2 : Int} {l3 : Int} {s1 : Int} {s2 : Int} (E : bE 1 σo s) (hF : FX35_tell_b303 N K10 l1 l2 l3 s1 s2 s = some q) : bE 1 σo q.2 := by
  unfold FX35_tell_b303 at hF
  refine b_rv hF (fun _ hF => ?_)
  refine b_call E (fun _ hq => (BX37_append (bE.rf E.S) hq)) hF (fun _ hq4 D4 E4 hF => ?_)
  exact BX35_tell_b321 (N := N) (K10 := K10) @hk10 E4 hF
theorem BX35_tell_b10 {σo : fS} {q : Unit × fS} {N : Nat} : ∀ {n : Nat} {s : fS} {l1 : Int} {l2 : Int}, bE 1 σo s → FX35_tell_b10 N n l1 l2 s = some q → bE 1 σo q.2 := by
  intro n
  induction n with
  | zero => intro s l1 l2 E  hF; simp [FX35_tell_b10] at hF
  | succ n ih =>
    intro s l1 l2 E  hF
    rw [FX35_tell_b10] at hF
    refine b_if hF (fun hF => ?_) (fun hF => ?_)
    ·
      refine b_call E (fun _ hq => (BX35_counter (bE.rf E.S) hq)) hF (fun _ hq4 D4 E4 hF => ?_)
      refine b_call E4 (fun _ hq => (BX35_within (bE.rf E4.S) hq)) hF (fun _ hq5 D5 E5 hF => ?_)
      refine b_qI E5 (E5.S.m1 (Nat.le_of_ble_eq_true rfl) (Nat.le_of_ble_eq_true rfl)) hF (fun _ D6 E6 hF => ?_)
      refine b_call E6 (fun _ hq => (BX35_counter (bE.rf E6.S) hq)) hF (fun _ hq10 D10 E10 hF => ?_)
      refine b_call E10 (fun _ hq => (BX35_within (bE.rf E10.S) hq)) hF (fun _ hq11 D11 E11 hF => ?_)
      refine b_qI E11 (E11.S.m1 (Nat.le_of_ble_eq_true rfl) (Nat.le_of_ble_eq_true rfl)) hF (fun _ D12 E12 hF => ?_)
      refine b_call E12 (fun _ hq => (BX35_counter (bE.rf E12.S) hq)) hF (fun _ hq16 D16 E16 hF => ?_)
      refine b_call E16 (fun _ hq => (BX35_within (bE.rf E16.S) hq)) hF (fun _ hq17 D17 E17 hF => ?_)
      refine b_qI E17 (E17.S.m1 (Nat.le_of_ble_eq_true rfl) (Nat.le_of_ble_eq_true rfl)) hF (fun _ D18 E18 hF => ?_)
      refine b_call E18 (fun _ hq => (BX35_counter (bE.rf E18.S) hq)) hF (fun _ hq22 D22 E22 hF => ?_)
      refine b_call E22 (fun _ hq => (BX35_within (bE.rf E22.S) hq)) hF (fun _ hq23 D23 E23 hF => ?_)
      refine b_qI E23 (E23.S.m1 (Nat.le_of_ble_eq_true rfl) (Nat.le_of_ble_eq_true rfl)) hF (fun _ D24 E24 hF => ?_)
      refine b_call E24 (fun _ hq => (BX35_counter (bE.rf E24.S) hq)) hF (fun _ hq28 D28 E28 hF => ?_)
      refine b_call E28 (fun _ hq => (BX35_within (bE.rf E28.S) hq)) hF (fun _ hq29 D29 E29 hF => ?_)
      refine b_qI E29 (E29.S.m1 (Nat.le_of_ble_eq_true rfl) (Nat.le_of_ble_eq_true rfl)) hF (fun _ D30 E30 hF => ?_)
      refine b_call E30 (fun _ hq => (BX35_counter (bE.rf E30.S) hq)) hF (fun _ hq34 D34 E34 hF => ?_)
      refine b_call E34 (fun _ hq => (BX35_within (bE.rf E34.S) hq)) hF (fun _ hq35 D35 E35 hF => ?_)
      refine b_qI E35 (E35.S.m1 (Nat.le_of_ble_eq_true rfl) (Nat.le_of_ble_eq_true rfl)) hF (fun _ D36 E36 hF => ?_)
      refine b_call E36 (fun _ hq => (BX35_counter (bE.rf E36.S) hq)) hF (fun _ hq40 D40 E40 hF => ?_)
      refine b_call E40 (fun _ hq => (BX35_within (bE.rf E40.S) hq)) hF (fun _ hq41 D41 E41 hF => ?_)
      refine b_qI E41 (E41.S.m1 (Nat.le_of_ble_eq_true rfl) (Nat.le_of_ble_eq_true rfl)) hF (fun _ D42 E42 hF => ?_)
      refine b_call E42 (fun _ hq => (BX35_counter (bE.rf E42.S) hq)) hF (fun _ hq46 D46 E46 hF => ?_)
      refine b_call E46 (fun _ hq => (BX35_within (bE.rf E46.S) hq)) hF (fun _ hq47 D47 E47 hF => ?_)
      refine b_qI E47 (E47.S.m1 (Nat.le_of_ble_eq_true rfl) (Nat.le_of_ble_eq_true rfl)) hF (fun _ D48 E48 hF => ?_)
      refine b_call E48 (fun _ hq => (BX35_now (bE.rf E48.S) hq)) hF (fun _ hq52 D52 E52 hF => ?_)
      refine b_call E52 (fun _ hq => (BX35_within (bE.rf E52.S) hq)) hF (fun _ hq53 D53 E53 hF => ?_)
      refine b_qI E53 (E53.S.m1 (Nat.le_of_ble_eq_true rfl) (Nat.le_of_ble_eq_true rfl)) hF (fun _ D54 E54 hF => ?_)
      refine b_call E54 (fun _ hq => (BX35_counter (bE.rf E54.S) hq)) hF (fun _ hq58 D58 E58 hF => ?_)
      refine b_call E58 (fun _ hq => (BX35_within (bE.rf E58.S) hq)) hF (fun _ hq59 D59 E59 hF => ?_)
      refine b_qI E59 (E59.S.m1 (Nat.le_of_ble_eq_true rfl) (Nat.le_of_ble_eq_true rfl)) hF (fun _ D60 E60 hF => ?_)
      refine b_call E60 (fun _ hq => (BX35_around (bE.rf E60.S) hq)) hF (fun _ hq62 D62 E62 hF => ?_)
      refine b_call E62 (fun _ hq => (BX35_around (bE.rf E62.S) hq)) hF (fun _ hq64 D64 E64 hF => ?_)
      refine b_call E64 (fun _ hq => (BX35_around (bE.rf E64.S) hq)) hF (fun _ hq66 D66 E66 hF => ?_)
      refine b_call E66 (fun _ hq => (BX35_now (bE.rf E66.S) hq)) hF (fun _ hq69 D69 E69 hF => ?_)
      refine b_pI E69 (E69.S.m1 (Nat.le_of_ble_eq_true rfl) (Nat.le_of_ble_eq_true rfl)) hF (fun _ D70 E70 hF => ?_)
      exact b_ret E70 hF
    ·
      refine b_rv hF (fun _ hF => ?_)
      refine b_if hF (fun hF => ?_) (fun hF => ?_)
      ·
        refine b_if hF (fun hF => ?_) (fun hF => ?_)
        ·
          refine b_if hF (fun hF => ?_) (fun hF => ?_)
          ·
            refine b_if hF (fun hF => ?_) (fun hF => ?_)
            ·
              refine b_if hF (fun hF => ?_) (fun hF => ?_)
              ·
                refine b_if hF (fun hF => ?_) (fun hF => ?_)
                ·
                  refine b_rv hF (fun _ hF => ?_)
                  refine b_if hF (fun hF => ?_) (fun hF => ?_)
                  ·
                    refine b_rv hF (fun _ hF => ?_)
                    exact BX35_tell_b303 (N := N) (K10 := FX35_tell_b10 N n) @ih E hF
                  ·
                    exact BX35_tell_b303 (N := N) (K10 := FX35_tell_b10 N n) @ih E hF
                ·
                  refine b_rv hF (fun _ hF => ?_)
                  refine b_call E (fun _ hq => (BX37_append (bE.rf E.S) hq)) hF (fun _ hq82 D82 E82 hF => ?_)
                  exact BX35_tell_b321 (N := N) (K10 := FX35_tell_b10 N n) @ih E82 hF
              ·
                refine b_rv hF (fun _ hF => ?_)
                refine b_if hF (fun hF => ?_) (fun hF => ?_)
                ·
                  exact BX35_tell_b222 (N := N) (K10 := FX35_tell_b10 N n) @ih E hF
                ·
                  exact BX35_tell_b222 (N := N) (K10 := FX35_tell_b10 N n) @ih E hF
            ·
              refine b_rv hF (fun _ hF => ?_)
              refine b_rv hF (fun _ hF => ?_)
              refine b_rv hF (fun _ hF => ?_)
              refine b_rv hF (fun _ hF => ?_)
              refine b_call E (fun _ hq => (BX37_append (bE.rf E.S) hq)) hF (fun _ hq96 D96 E96 hF => ?_)
              exact BX35_tell_b321 (N := N) (K10 := FX35_tell_b10 N n) @ih E96 hF
          ·
            refine b_rv hF (fun _ hF => ?_)
            refine b_rv hF (fun _ hF => ?_)
            refine b_call E (fun _ hq => (BX37_append (bE.rf E.S) hq)) hF (fun _ hq103 D103 E103 hF => ?_)
            exact BX35_tell_b321 (N := N) (K10 := FX35_tell_b10 N n) @ih E103 hF
        ·
          refine b_rv hF (fun _ hF => ?_)
          refine b_if hF (fun hF => ?_) (fun hF => ?_)
          ·
            refine b_rv hF (fun _ hF => ?_)
            exact BX35_tell_b95 (N := N) (K10 := FX35_tell_b10 N n) @ih E hF
          ·
            exact BX35_tell_b95 (N := N) (K10 := FX35_tell_b10 N n) @ih E hF
      ·
        refine b_rv hF (fun _ hF => ?_)
        refine b_call E (fun _ hq => (BX37_append (bE.rf E.S) hq)) hF (fun _ hq113 D113 E113 hF => ?_)
        exact BX35_tell_b321 (N := N) (K10 := FX35_tell_b10 N n) @ih E113 hF
theorem BX35_tell {σo : fS} {q : Unit × fS} {N : Nat} {s : fS} {p0 : Int} (E : bE 1 σo s) (hF : FX35_tell N p0 s = some q) : bE 1 σo q.2 := by
  unfold FX35_tell at hF
  refine b_pI E (E.S.m1 (Nat.le_of_ble_eq_true rfl) (Nat.le_of_ble_eq_true rfl)) hF (fun _ D2 E2 hF => ?_)
  exact BX35_tell_b10 (N := N) E2 hF
theorem BX37_without_b22 {σo : fS} {q : Int × fS} {s : fS} {s0 : Int} (E : bE 1 σo s) (hF : FX37_without_b22 s0 s = some q) : bE 1 σo q.2 := by
  unfold FX37_without_b22 at hF
  exact b_ret E hF
theorem BX37_without {σo : fS} {q : Int × fS} {s : fS} {p0 : Int} (E : bE 1 σo s) (hF : FX37_without p0 s = some q) : bE 1 σo q.2 := by
  unfold FX37_without at hF
  refine b_if hF (fun hF => ?_) (fun hF => ?_)
  ·
    refine b_if hF (fun hF => ?_) (fun hF => ?_)
    ·
      exact BX37_without_b22 E hF
    ·
      exact BX37_without_b22 E hF
  ·
    exact BX37_without_b22 E hF
