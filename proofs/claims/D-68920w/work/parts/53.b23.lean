set_option maxRecDepth 100000
set_option maxHeartbeats 4000000
theorem BX2_become {σo : fS} {q : Unit × fS} {s : fS} {this : Nat} (E : bE 0 σo s) (othis : bO 0 s this) (hF : FX2_become this s = some q) : bE 0 σo q.2 := by
  unfold FX2_become at hF
  refine b_K hF (fun hF => ?_)
  refine b_o E othis hF (fun _ o2 hF => ?_)
  refine b_KA hF (fun hF => ?_)
  refine b_cp E o2 hF (fun _ D4 E4 hF => ?_)
  refine b_K hF (fun hF => ?_)
  refine b_pI E4 (othis.up D4) hF (fun _ D6 E6 hF => ?_)
  exact b_ret E6 hF
theorem BX5_load_b37 {σo : fS} {q : Int × fS} {N : Nat} {s : fS} {l1 : Int} (E : bE 0 σo s) (hF : FX5_load_b37 N l1 s = some q) : bE 0 σo q.2 := by
  unfold FX5_load_b37 at hF
  refine b_rO E (E.S.c0 (Nat.le_of_ble_eq_true rfl)) hF (fun _ o2 hF => ?_)
  refine b_K hF (fun hF => ?_)
  refine b_call E (fun _ hq => (BX2_become (bE.rf E.S) o2 hq)) hF (fun _ hq4 D4 E4 hF => ?_)
  exact b_ret E4 hF
theorem BX5_load {σo : fS} {q : Int × fS} {N : Nat} {s : fS} {p0 : Int} (E : bE 0 σo s) (hF : FX5_load N p0 s = some q) : bE 0 σo q.2 := by
  unfold FX5_load at hF
  refine b_call E (fun _ hq => (BX6_check (N := N) (bE.rf E.S) (E.S.c0 (Nat.le_of_ble_eq_true rfl)) (E.S.c0 (Nat.le_of_ble_eq_true rfl)) hq)) hF (fun _ hq3 D3 E3 hF => ?_)
  refine b_if hF (fun hF => ?_) (fun hF => ?_)
  ·
    refine b_rQ E3 (E3.S.c0 (Nat.le_of_ble_eq_true rfl)) hF (fun a8 o5 hF => ?_)
    cases a8 with
    | none =>
      dsimp only at hF
      refine b_nO E3 hF (fun _ D7 E7 o7 hF => ?_)
      refine b_call E7 (fun _ hq => (BX2_init (bE.rf E7.S) o7 hq)) hF (fun _ hq8 D8 E8 hF => ?_)
      refine b_K hF (fun hF => ?_)
      refine b_qO E8 (E8.S.c0 (Nat.le_of_ble_eq_true rfl)) (o7.up D8) hF (fun _ D9 E9 hF => ?_)
      exact BX5_load_b37 (N := N) E9 hF
    | some a10 =>
      dsimp only at hF
      exact BX5_load_b37 (N := N) E3 hF
  ·
    exact b_ret E3 hF
theorem BX15_mark {σo : fS} {q : Unit × fS} {s : fS} (E : bE 0 σo s) (hF : FX15_mark s = some q) : bE 0 σo q.2 := by
  unfold FX15_mark at hF
  refine b_pI E (E.S.c0 (Nat.le_of_ble_eq_true rfl)) hF (fun _ D1 E1 hF => ?_)
  refine b_pI E1 (E1.S.c0 (Nat.le_of_ble_eq_true rfl)) hF (fun _ D3 E3 hF => ?_)
  refine b_pI E3 (E3.S.c0 (Nat.le_of_ble_eq_true rfl)) hF (fun _ D5 E5 hF => ?_)
  refine b_pI E5 (E5.S.c0 (Nat.le_of_ble_eq_true rfl)) hF (fun _ D7 E7 hF => ?_)
  refine b_pI E7 (E7.S.c0 (Nat.le_of_ble_eq_true rfl)) hF (fun _ D9 E9 hF => ?_)
  refine b_pZ E9 (E9.S.c0 (Nat.le_of_ble_eq_true rfl)) hF (fun _ D11 E11 hF => ?_)
  exact b_ret E11 hF
theorem BX16_mark {σo : fS} {q : Unit × fS} {s : fS} (E : bE 0 σo s) (hF : FX16_mark s = some q) : bE 0 σo q.2 := by
  unfold FX16_mark at hF
  refine b_pI E (E.S.c0 (Nat.le_of_ble_eq_true rfl)) hF (fun _ D2 E2 hF => ?_)
  refine b_pI E2 (E2.S.c0 (Nat.le_of_ble_eq_true rfl)) hF (fun _ D4 E4 hF => ?_)
  refine b_pI E4 (E4.S.c0 (Nat.le_of_ble_eq_true rfl)) hF (fun _ D5 E5 hF => ?_)
  exact b_ret E5 hF
theorem BX14_next_b44 {σo : fS} {q : Int × fS} {s : fS} {s0 : Int} (E : bE 0 σo s) (hF : FX14_next_b44 s0 s = some q) : bE 0 σo q.2 := by
  unfold FX14_next_b44 at hF
  exact b_ret E hF
theorem BX14_next {σo : fS} {q : Int × fS} {s : fS} (E : bE 0 σo s) (hF : FX14_next s = some q) : bE 0 σo q.2 := by
  unfold FX14_next at hF
  refine b_if hF (fun hF => ?_) (fun hF => ?_)
  ·
    refine b_o E (E.S.c0 (Nat.le_of_ble_eq_true rfl)) hF (fun _ o3 hF => ?_)
    refine b_KA hF (fun hF => ?_)
    refine b_rv hF (fun _ hF => ?_)
    refine b_if hF (fun hF => ?_) (fun hF => ?_)
    ·
      refine b_o E (E.S.c0 (Nat.le_of_ble_eq_true rfl)) hF (fun _ o6 hF => ?_)
      refine b_KA hF (fun hF => ?_)
      refine b_rv hF (fun _ hF => ?_)
      exact BX14_next_b44 E hF
    ·
      exact BX14_next_b44 E hF
  ·
    exact b_ret E hF
theorem BX14_spaces_b0 {σo : fS} {q : Unit × fS} {N : Nat} : ∀ {n : Nat} {s : fS} , bE 0 σo s → FX14_spaces_b0 N n s = some q → bE 0 σo q.2 := by
  intro n
  induction n with
  | zero => intro s  E  hF; simp [FX14_spaces_b0] at hF
  | succ n ih =>
    intro s  E  hF
    rw [FX14_spaces_b0] at hF
    refine b_call E (fun _ hq => (BX14_next (bE.rf E.S) hq)) hF (fun _ hq2 D2 E2 hF => ?_)
    refine b_if hF (fun hF => ?_) (fun hF => ?_)
    ·
      exact b_ret E2 hF
    ·
      refine b_pI E2 (E2.S.c0 (Nat.le_of_ble_eq_true rfl)) hF (fun _ D4 E4 hF => ?_)
      exact ih E4 hF
theorem BX14_spaces {σo : fS} {q : Unit × fS} {N : Nat} {s : fS} (E : bE 0 σo s) (hF : FX14_spaces N s = some q) : bE 0 σo q.2 := by
  unfold FX14_spaces at hF
  exact BX14_spaces_b0 (N := N) E hF
theorem BX17_clear {σo : fS} {q : Unit × fS} {s : fS} {this : Nat} (E : bE 0 σo s) (othis : bO 0 s this) (hF : FX17_clear this s = some q) : bE 0 σo q.2 := by
  unfold FX17_clear at hF
  refine b_K hF (fun hF => ?_)
  refine b_pI E othis hF (fun _ D1 E1 hF => ?_)
  refine b_K hF (fun hF => ?_)
  refine b_o E1 (othis.up D1) hF (fun _ o2 hF => ?_)
  refine b_KA hF (fun hF => ?_)
  refine b_qI E1 o2 hF (fun _ D3 E3 hF => ?_)
  exact b_ret E3 hF
theorem BX14_letter_b39 {σo : fS} {q : Int × fS} {s : fS} {s0 : Int} (E : bE 0 σo s) (hF : FX14_letter_b39 s0 s = some q) : bE 0 σo q.2 := by
  unfold FX14_letter_b39 at hF
  exact b_ret E hF
theorem BX14_letter_b38 {σo : fS} {q : Int × fS} {s : fS} (E : bE 0 σo s) (hF : FX14_letter_b38 s = some q) : bE 0 σo q.2 := by
  unfold FX14_letter_b38 at hF
  exact BX14_letter_b39 E hF
theorem BX14_letter_b19 {σo : fS} {q : Int × fS} {s : fS} {l0 : Int} (E : bE 0 σo s) (hF : FX14_letter_b19 l0 s = some q) : bE 0 σo q.2 := by
  unfold FX14_letter_b19 at hF
  refine b_if hF (fun hF => ?_) (fun hF => ?_)
  ·
    exact BX14_letter_b38 E hF
  ·
    refine b_if hF (fun hF => ?_) (fun hF => ?_)
    ·
      exact BX14_letter_b38 E hF
    ·
      exact BX14_letter_b39 E hF
theorem BX14_letter {σo : fS} {q : Int × fS} {s : fS} {p0 : Int} (E : bE 0 σo s) (hF : FX14_letter p0 s = some q) : bE 0 σo q.2 := by
  unfold FX14_letter at hF
  refine b_if hF (fun hF => ?_) (fun hF => ?_)
  ·
    exact BX14_letter_b19 E hF
  ·
    refine b_if hF (fun hF => ?_) (fun hF => ?_)
    ·
      exact BX14_letter_b19 E hF
    ·
      exact BX14_letter_b39 E hF
theorem BX14_want {σo : fS} {q : (Unit ⊕ Nat) × fS} {s : fS} {p0 : Int} {p1 : Int} {p2 : Int} (E : bE 0 σo s) (hF : FX14_want p0 p1 p2 s = some q) : bE 0 σo q.2 := by
  unfold FX14_want at hF
  refine b_if hF (fun hF => ?_) (fun hF => ?_)
  ·
    refine b_pI E (E.S.c0 (Nat.le_of_ble_eq_true rfl)) hF (fun _ D1 E1 hF => ?_)
    exact b_exc E1 hF
  ·
    exact b_ret E hF
theorem BX17_add {σo : fS} {q : Unit × fS} {s : fS} {this : Nat} {p0 : Int} (E : bE 0 σo s) (othis : bO 0 s this) (hF : FX17_add this p0 s = some q) : bE 0 σo q.2 := by
  unfold FX17_add at hF
  refine b_K hF (fun hF => ?_)
  refine b_o E othis hF (fun _ o1 hF => ?_)
  refine b_K hF (fun hF => ?_)
  refine b_K hF (fun hF => ?_)
  refine b_pI E othis hF (fun _ D3 E3 hF => ?_)
  refine b_KA hF (fun hF => ?_)
  refine b_qI E3 (o1.up D3) hF (fun _ D4 E4 hF => ?_)
  refine b_K hF (fun hF => ?_)
  refine b_o E4 ((othis.up D3).up D4) hF (fun _ o5 hF => ?_)
  refine b_K hF (fun hF => ?_)
  refine b_KA hF (fun hF => ?_)
  refine b_qI E4 o5 hF (fun _ D7 E7 hF => ?_)
  exact b_ret E7 hF
theorem BX14_readLetter_b50 {σo : fS} {q : (Unit ⊕ Nat) × fS} {s : fS} (E : bE 0 σo s) (hF : FX14_readLetter_b50 s = some q) : bE 0 σo q.2 := by
  unfold FX14_readLetter_b50 at hF
  exact b_ret E hF
theorem BX14_readLetter_b18 {σo : fS} {q : (Unit ⊕ Nat) × fS} {s : fS} {l1 : Int} {l2 : Int} {s1 : Int} (E : bE 0 σo s) (hF : FX14_readLetter_b18 l1 l2 s1 s = some q) : bE 0 σo q.2 := by
  unfold FX14_readLetter_b18 at hF
  refine b_tB E (fun _ hq => BX14_want (bE.rf E.S) hq) hF (fun _ _ D3 E3 hF => ?_)
  refine b_pI E3 (E3.S.c0 (Nat.le_of_ble_eq_true rfl)) hF (fun _ D5 E5 hF => ?_)
  refine b_if hF (fun hF => ?_) (fun hF => ?_)
  ·
    exact BX14_readLetter_b50 E5 hF
  ·
    refine b_call E5 (fun _ hq => (BX17_add (bE.rf E5.S) (E5.S.c0 (Nat.le_of_ble_eq_true rfl)) hq)) hF (fun _ hq8 D8 E8 hF => ?_)
    exact BX14_readLetter_b50 E8 hF
theorem BX14_readLetter {σo : fS} {q : (Unit ⊕ Nat) × fS} {s : fS} {p0 : Int} (E : bE 0 σo s) (hF : FX14_readLetter p0 s = some q) : bE 0 σo q.2 := by
  unfold FX14_readLetter at hF
  refine b_call E (fun _ hq => (BX14_next (bE.rf E.S) hq)) hF (fun _ hq2 D2 E2 hF => ?_)
  refine b_call E2 (fun _ hq => (BX14_letter (bE.rf E2.S) hq)) hF (fun _ hq3 D3 E3 hF => ?_)
  refine b_if hF (fun hF => ?_) (fun hF => ?_)
  ·
    exact BX14_readLetter_b18 E3 hF
  ·
    exact BX14_readLetter_b18 E3 hF
theorem BX14_isOver_b21 {σo : fS} {q : Int × fS} {s : fS} {s0 : Int} (E : bE 0 σo s) (hF : FX14_isOver_b21 s0 s = some q) : bE 0 σo q.2 := by
  unfold FX14_isOver_b21 at hF
  exact b_z E hF
theorem BX14_isOver_b16 {σo : fS} {q : Int × fS} {s : fS} (E : bE 0 σo s) (hF : FX14_isOver_b16 s = some q) : bE 0 σo q.2 := by
  unfold FX14_isOver_b16 at hF
  exact BX14_isOver_b21 E hF
theorem BX14_isOver {σo : fS} {q : Int × fS} {s : fS} (E : bE 0 σo s) (hF : FX14_isOver s = some q) : bE 0 σo q.2 := by
  unfold FX14_isOver at hF
  refine b_call E (fun _ hq => (BX14_next (bE.rf E.S) hq)) hF (fun _ hq2 D2 E2 hF => ?_)
  refine b_if hF (fun hF => ?_) (fun hF => ?_)
  ·
    exact BX14_isOver_b16 E2 hF
  ·
    refine b_call E2 (fun _ hq => (BX14_next (bE.rf E2.S) hq)) hF (fun _ hq4 D4 E4 hF => ?_)
    refine b_if hF (fun hF => ?_) (fun hF => ?_)
    ·
      exact BX14_isOver_b21 E4 hF
    ·
      exact BX14_isOver_b16 E4 hF
theorem BX16_is_b64 {σo : fS} {q : Int × fS} {N : Nat} {K22 : Int → Int → Int → fS → Option (Int × fS)} (hk22 : ∀ {s : fS} {l1 : Int} {l3 : Int} {l4 : Int}, bE 0 σo s → K22 l1 l3 l4 s = some q → bE 0 σo q.2) {s : fS} {l1 : Int} {l4 : Int} {s0 : Int} (E : bE 0 σo s) (hF : FX16_is_b64 N K22 l1 l4 s0 s = some q) : bE 0 σo q.2 := by
  unfold FX16_is_b64 at hF
  exact hk22 E hF
theorem BX16_is_b71 {σo : fS} {q : Int × fS} {N : Nat} {s : fS} {l3 : Int} (E : bE 0 σo s) (hF : FX16_is_b71 N l3 s = some q) : bE 0 σo q.2 := by
  unfold FX16_is_b71 at hF
  exact b_z E hF
theorem BX16_is_b22 {σo : fS} {q : Int × fS} {N : Nat} : ∀ {n : Nat} {s : fS} {l1 : Int} {l3 : Int} {l4 : Int}, bE 0 σo s → FX16_is_b22 N n l1 l3 l4 s = some q → bE 0 σo q.2 := by
  intro n
  induction n with
  | zero => intro s l1 l3 l4 E  hF; simp [FX16_is_b22] at hF
  | succ n ih =>
    intro s l1 l3 l4 E  hF
    rw [FX16_is_b22] at hF
    refine b_if hF (fun hF => ?_) (fun hF => ?_)
    ·
      exact BX16_is_b71 (N := N) E hF
    ·
      refine b_if hF (fun hF => ?_) (fun hF => ?_)
      ·
        exact BX16_is_b71 (N := N) E hF
      ·
        refine b_rv hF (fun _ hF => ?_)
        refine b_rv hF (fun _ hF => ?_)
        refine b_rv hF (fun _ hF => ?_)
        refine b_if hF (fun hF => ?_) (fun hF => ?_)
        ·
          exact BX16_is_b64 (N := N) (K22 := FX16_is_b22 N n) @ih E hF
        ·
          exact BX16_is_b64 (N := N) (K22 := FX16_is_b22 N n) @ih E hF
theorem BX16_is_b18 {σo : fS} {q : Int × fS} {N : Nat} {s : fS} {l1 : Int} {s0 : Int} (E : bE 0 σo s) (hF : FX16_is_b18 N l1 s0 s = some q) : bE 0 σo q.2 := by
  unfold FX16_is_b18 at hF
  exact BX16_is_b22 (N := N) E hF
theorem BX16_is {σo : fS} {q : Int × fS} {N : Nat} {s : fS} {p0 : Int} (E : bE 0 σo s) (hF : FX16_is N p0 s = some q) : bE 0 σo q.2 := by
  unfold FX16_is at hF
  refine b_rv hF (fun _ hF => ?_)
  refine b_if hF (fun hF => ?_) (fun hF => ?_)
  ·
    exact BX16_is_b18 (N := N) E hF
  ·
    exact BX16_is_b18 (N := N) E hF
theorem BX16_seek_b80 {σo : fS} {q : Int × fS} {N : Nat} {s : fS} {l3 : Int} (E : bE 0 σo s) (hF : FX16_seek_b80 N l3 s = some q) : bE 0 σo q.2 := by
  unfold FX16_seek_b80 at hF
  exact b_ret E hF
theorem BX16_seek_b44 {σo : fS} {q : Int × fS} {N : Nat} : ∀ {n : Nat} {s : fS} {l3 : Int}, bE 0 σo s → FX16_seek_b44 N n l3 s = some q → bE 0 σo q.2 := by
  intro n
  induction n with
  | zero => intro s l3 E  hF; simp [FX16_seek_b44] at hF
  | succ n ih =>
    intro s l3 E  hF
    rw [FX16_seek_b44] at hF
    refine b_rv hF (fun _ hF => ?_)
    refine b_if hF (fun hF => ?_) (fun hF => ?_)
    ·
      exact BX16_seek_b80 (N := N) E hF
    ·
      refine b_rv hF (fun _ hF => ?_)
      refine b_call E (fun _ hq => (BX16_is (N := N) (bE.rf E.S) hq)) hF (fun _ hq6 D6 E6 hF => ?_)
      refine b_if hF (fun hF => ?_) (fun hF => ?_)
      ·
        exact BX16_seek_b80 (N := N) E6 hF
      ·
        exact ih E6 hF
theorem BX16_seek_b7 {σo : fS} {q : Int × fS} {N : Nat} : ∀ {n : Nat} {s : fS} {l2 : Int} {l3 : Int}, bE 0 σo s → FX16_seek_b7 N n l2 l3 s = some q → bE 0 σo q.2 := by
  intro n
  induction n with
  | zero => intro s l2 l3 E  hF; simp [FX16_seek_b7] at hF
  | succ n ih =>
    intro s l2 l3 E  hF
    rw [FX16_seek_b7] at hF
    refine b_if hF (fun hF => ?_) (fun hF => ?_)
    ·
      exact BX16_seek_b44 (N := N) E hF
    ·
      refine b_rv hF (fun _ hF => ?_)
      exact ih E hF
theorem BX16_seek {σo : fS} {q : Int × fS} {N : Nat} {s : fS} (E : bE 0 σo s) (hF : FX16_seek N s = some q) : bE 0 σo q.2 := by
  unfold FX16_seek at hF
  exact BX16_seek_b7 (N := N) E hF
theorem BX16_find {σo : fS} {q : Int × fS} {N : Nat} {s : fS} (E : bE 0 σo s) (hF : FX16_find N s = some q) : bE 0 σo q.2 := by
  unfold FX16_find at hF
  refine b_call E (fun _ hq => (BX16_seek (N := N) (bE.rf E.S) hq)) hF (fun _ hq3 D3 E3 hF => ?_)
  refine b_rv hF (fun _ hF => ?_)
  exact b_ret E3 hF
theorem BX16_add_b138 {σo : fS} {q : Unit × fS} {N : Nat} : ∀ {n : Nat} {s : fS} {l3 : Int} {l4 : Int} {l6 : Int}, bE 0 σo s → FX16_add_b138 N n l3 l4 l6 s = some q → bE 0 σo q.2 := by
  intro n
  induction n with
  | zero => intro s l3 l4 l6 E  hF; simp [FX16_add_b138] at hF
  | succ n ih =>
    intro s l3 l4 l6 E  hF
    rw [FX16_add_b138] at hF
    refine b_if hF (fun hF => ?_) (fun hF => ?_)
    ·
      refine b_qJ E (E.S.c0 (Nat.le_of_ble_eq_true rfl)) hF (fun _ D3 E3 hF => ?_)
      exact b_ret E3 hF
    ·
      refine b_rv hF (fun _ hF => ?_)
      exact ih E hF
theorem BX16_add_b91 {σo : fS} {q : Unit × fS} {N : Nat} {s : fS} {l2 : Int} (E : bE 0 σo s) (hF : FX16_add_b91 N l2 s = some q) : bE 0 σo q.2 := by
  unfold FX16_add_b91 at hF
  refine b_rv hF (fun _ hF => ?_)
  refine b_qI E (E.S.c0 (Nat.le_of_ble_eq_true rfl)) hF (fun _ D5 E5 hF => ?_)
  refine b_pI E5 (E5.S.c0 (Nat.le_of_ble_eq_true rfl)) hF (fun _ D8 E8 hF => ?_)
  refine b_rv hF (fun _ hF => ?_)
  refine b_qJ E8 (E8.S.c0 (Nat.le_of_ble_eq_true rfl)) hF (fun _ D11 E11 hF => ?_)
  exact BX16_add_b138 (N := N) E11 hF
theorem BX16_add {σo : fS} {q : Unit × fS} {N : Nat} {s : fS} (E : bE 0 σo s) (hF : FX16_add N s = some q) : bE 0 σo q.2 := by
  unfold FX16_add at hF
  refine b_call E (fun _ hq => (BX16_seek (N := N) (bE.rf E.S) hq)) hF (fun _ hq2 D2 E2 hF => ?_)
  refine b_rv hF (fun _ hF => ?_)
  refine b_if hF (fun hF => ?_) (fun hF => ?_)
  ·
    exact BX16_add_b91 (N := N) E2 hF
  ·
    refine b_qI E2 (E2.S.c0 (Nat.le_of_ble_eq_true rfl)) hF (fun _ D8 E8 hF => ?_)
    refine b_qI E8 (E8.S.c0 (Nat.le_of_ble_eq_true rfl)) hF (fun _ D12 E12 hF => ?_)
    refine b_cp E12 (E12.S.c0 (Nat.le_of_ble_eq_true rfl)) hF (fun _ D17 E17 hF => ?_)
    refine b_pI E17 (E17.S.c0 (Nat.le_of_ble_eq_true rfl)) hF (fun _ D20 E20 hF => ?_)
    refine b_pI E20 (E20.S.c0 (Nat.le_of_ble_eq_true rfl)) hF (fun _ D23 E23 hF => ?_)
    refine b_qI E23 (E23.S.c0 (Nat.le_of_ble_eq_true rfl)) hF (fun _ D24 E24 hF => ?_)
    exact BX16_add_b91 (N := N) E24 hF
theorem BX14_readWord_b101 {σo : fS} {q : (Unit ⊕ Nat) × fS} {N : Nat} {K16 : Int → Int → Int → fS → Option ((Unit ⊕ Nat) × fS)} (hk16 : ∀ {s : fS} {l1 : Int} {l2 : Int} {l3 : Int}, bE 0 σo s → K16 l1 l2 l3 s = some q → bE 0 σo q.2) {s : fS} {l1 : Int} {l2 : Int} {s0 : Int} (E : bE 0 σo s) (hF : FX14_readWord_b101 N K16 l1 l2 s0 s = some q) : bE 0 σo q.2 := by
  unfold FX14_readWord_b101 at hF
  exact hk16 E hF
theorem BX14_readWord_b96 {σo : fS} {q : (Unit ⊕ Nat) × fS} {N : Nat} {K16 : Int → Int → Int → fS → Option ((Unit ⊕ Nat) × fS)} (hk16 : ∀ {s : fS} {l1 : Int} {l2 : Int} {l3 : Int}, bE 0 σo s → K16 l1 l2 l3 s = some q → bE 0 σo q.2) {s : fS} {l1 : Int} {l2 : Int} (E : bE 0 σo s) (hF : FX14_readWord_b96 N K16 l1 l2 s = some q) : bE 0 σo q.2 := by
  unfold FX14_readWord_b96 at hF
  exact BX14_readWord_b101 (N := N) (K16 := K16) @hk16 E hF
theorem BX14_readWord_b80 {σo : fS} {q : (Unit ⊕ Nat) × fS} {N : Nat} {K16 : Int → Int → Int → fS → Option ((Unit ⊕ Nat) × fS)} (hk16 : ∀ {s : fS} {l1 : Int} {l2 : Int} {l3 : Int}, bE 0 σo s → K16 l1 l2 l3 s = some q → bE 0 σo q.2) {s : fS} {l1 : Int} {l2 : Int} {l4 : Int} {s1 : Int} {s2 : Int} (E : bE 0 σo s) (hF : FX14_readWord_b80 N K16 l1 l2 l4 s1 s2 s = some q) : bE 0 σo q.2 := by
  unfold FX14_readWord_b80 at hF
  refine b_pI E (E.S.c0 (Nat.le_of_ble_eq_true rfl)) hF (fun _ D1 E1 hF => ?_)
  refine b_if hF (fun hF => ?_) (fun hF => ?_)
  ·
    exact BX14_readWord_b96 (N := N) (K16 := K16) @hk16 E1 hF
  ·
    refine b_call E1 (fun _ hq => (BX14_isOver (bE.rf E1.S) hq)) hF (fun _ hq3 D3 E3 hF => ?_)
    refine b_if hF (fun hF => ?_) (fun hF => ?_)
    ·
      exact BX14_readWord_b101 (N := N) (K16 := K16) @hk16 E3 hF
    ·
      exact BX14_readWord_b96 (N := N) (K16 := K16) @hk16 E3 hF
theorem BX14_readWord_b65 {σo : fS} {q : (Unit ⊕ Nat) × fS} {N : Nat} {K16 : Int → Int → Int → fS → Option ((Unit ⊕ Nat) × fS)} (hk16 : ∀ {s : fS} {l1 : Int} {l2 : Int} {l3 : Int}, bE 0 σo s → K16 l1 l2 l3 s = some q → bE 0 σo q.2) {s : fS} {l1 : Int} {l2 : Int} {l4 : Int} (E : bE 0 σo s) (hF : FX14_readWord_b65 N K16 l1 l2 l4 s = some q) : bE 0 σo q.2 := by
  unfold FX14_readWord_b65 at hF
  refine b_if hF (fun hF => ?_) (fun hF => ?_)
  ·
    exact BX14_readWord_b80 (N := N) (K16 := K16) @hk16 E hF
  ·
    exact BX14_readWord_b80 (N := N) (K16 := K16) @hk16 E hF
theorem BX14_readWord_b42 {σo : fS} {q : (Unit ⊕ Nat) × fS} {N : Nat} {K16 : Int → Int → Int → fS → Option ((Unit ⊕ Nat) × fS)} (hk16 : ∀ {s : fS} {l1 : Int} {l2 : Int} {l3 : Int}, bE 0 σo s → K16 l1 l2 l3 s = some q → bE 0 σo q.2) {s : fS} {l1 : Int} {l2 : Int} {s0 : Int} (E : bE 0 σo s) (hF : FX14_readWord_b42 N K16 l1 l2 s0 s = some q) : bE 0 σo q.2 := by
  unfold FX14_readWord_b42 at hF
  refine b_if hF (fun hF => ?_) (fun hF => ?_)
  ·
    exact BX14_readWord_b65 (N := N) (K16 := K16) @hk16 E hF
  ·
    refine b_qI E (E.S.c0 (Nat.le_of_ble_eq_true rfl)) hF (fun _ D5 E5 hF => ?_)
    exact BX14_readWord_b65 (N := N) (K16 := K16) @hk16 E5 hF
theorem BX14_readWord_b183 {σo : fS} {q : (Unit ⊕ Nat) × fS} {N : Nat} {s : fS} {l1 : Int} {s1 : Int} (E : bE 0 σo s) (hF : FX14_readWord_b183 N l1 s1 s = some q) : bE 0 σo q.2 := by
  unfold FX14_readWord_b183 at hF
  refine b_tB E (fun _ hq => BX14_want (bE.rf E.S) hq) hF (fun _ _ D2 E2 hF => ?_)
  refine b_call E2 (fun _ hq => (BX16_add (N := N) (bE.rf E2.S) hq)) hF (fun _ hq6 D6 E6 hF => ?_)
  exact b_ret E6 hF
theorem BX14_readWord_b178 {σo : fS} {q : (Unit ⊕ Nat) × fS} {N : Nat} {s : fS} {l1 : Int} (E : bE 0 σo s) (hF : FX14_readWord_b178 N l1 s = some q) : bE 0 σo q.2 := by
  unfold FX14_readWord_b178 at hF
  exact BX14_readWord_b183 (N := N) E hF
theorem BX14_readWord_b182 {σo : fS} {q : (Unit ⊕ Nat) × fS} {N : Nat} {s : fS} {l1 : Int} (E : bE 0 σo s) (hF : FX14_readWord_b182 N l1 s = some q) : bE 0 σo q.2 := by
  unfold FX14_readWord_b182 at hF
  exact BX14_readWord_b183 (N := N) E hF
theorem BX14_readWord_b142 {σo : fS} {q : (Unit ⊕ Nat) × fS} {N : Nat} {s : fS} {l1 : Int} {l2 : Int} {s0 : Int} (E : bE 0 σo s) (hF : FX14_readWord_b142 N l1 l2 s0 s = some q) : bE 0 σo q.2 := by
  unfold FX14_readWord_b142 at hF
  refine b_if hF (fun hF => ?_) (fun hF => ?_)
  ·
    exact BX14_readWord_b178 (N := N) E hF
  ·
    refine b_if hF (fun hF => ?_) (fun hF => ?_)
    ·
      exact BX14_readWord_b182 (N := N) E hF
    ·
      refine b_if hF (fun hF => ?_) (fun hF => ?_)
      ·
        exact BX14_readWord_b182 (N := N) E hF
      ·
        exact BX14_readWord_b178 (N := N) E hF
theorem BX14_readWord_b117 {σo : fS} {q : (Unit ⊕ Nat) × fS} {N : Nat} {s : fS} {l1 : Int} {l2 : Int} {s1 : Int} (E : bE 0 σo s) (hF : FX14_readWord_b117 N l1 l2 s1 s = some q) : bE 0 σo q.2 := by
  unfold FX14_readWord_b117 at hF
  refine b_tB E (fun _ hq => BX14_want (bE.rf E.S) hq) hF (fun _ _ D2 E2 hF => ?_)
  refine b_call E2 (fun _ hq => (BX16_find (N := N) (bE.rf E2.S) hq)) hF (fun _ hq6 D6 E6 hF => ?_)
  refine b_if hF (fun hF => ?_) (fun hF => ?_)
  ·
    exact BX14_readWord_b142 (N := N) E6 hF
  ·
    exact BX14_readWord_b142 (N := N) E6 hF
theorem BX14_readWord_b16 {σo : fS} {q : (Unit ⊕ Nat) × fS} {N : Nat} : ∀ {n : Nat} {s : fS} {l1 : Int} {l2 : Int} {l3 : Int}, bE 0 σo s → FX14_readWord_b16 N n l1 l2 l3 s = some q → bE 0 σo q.2 := by
  intro n
  induction n with
  | zero => intro s l1 l2 l3 E  hF; simp [FX14_readWord_b16] at hF
  | succ n ih =>
    intro s l1 l2 l3 E  hF
    rw [FX14_readWord_b16] at hF
    refine b_if hF (fun hF => ?_) (fun hF => ?_)
    ·
      refine b_if hF (fun hF => ?_) (fun hF => ?_)
      ·
        exact BX14_readWord_b117 (N := N) E hF
      ·
        exact BX14_readWord_b117 (N := N) E hF
    ·
      refine b_tB E (fun _ hq => BX14_readLetter (bE.rf E.S) hq) hF (fun _ _ D2 E2 hF => ?_)
      refine b_call E2 (fun _ hq => (BX14_next (bE.rf E2.S) hq)) hF (fun _ hq4 D4 E4 hF => ?_)
      refine b_if hF (fun hF => ?_) (fun hF => ?_)
      ·
        exact BX14_readWord_b42 (N := N) (K16 := FX14_readWord_b16 N n) @ih E4 hF
      ·
        exact BX14_readWord_b42 (N := N) (K16 := FX14_readWord_b16 N n) @ih E4 hF
theorem BX14_readWord {σo : fS} {q : (Unit ⊕ Nat) × fS} {N : Nat} {s : fS} (E : bE 0 σo s) (hF : FX14_readWord N s = some q) : bE 0 σo q.2 := by
  unfold FX14_readWord at hF
  refine b_call E (fun _ hq => (BX17_clear (bE.rf E.S) (E.S.c0 (Nat.le_of_ble_eq_true rfl)) hq)) hF (fun _ hq4 D4 E4 hF => ?_)
  exact BX14_readWord_b16 (N := N) E4 hF
theorem BX14_isDigit_b17 {σo : fS} {q : Int × fS} {s : fS} {s0 : Int} (E : bE 0 σo s) (hF : FX14_isDigit_b17 s0 s = some q) : bE 0 σo q.2 := by
  unfold FX14_isDigit_b17 at hF
  exact b_z E hF
theorem BX14_isDigit_b16 {σo : fS} {q : Int × fS} {s : fS} (E : bE 0 σo s) (hF : FX14_isDigit_b16 s = some q) : bE 0 σo q.2 := by
  unfold FX14_isDigit_b16 at hF
  exact BX14_isDigit_b17 E hF
theorem BX14_isDigit {σo : fS} {q : Int × fS} {s : fS} {p0 : Int} (E : bE 0 σo s) (hF : FX14_isDigit p0 s = some q) : bE 0 σo q.2 := by
  unfold FX14_isDigit at hF
  refine b_if hF (fun hF => ?_) (fun hF => ?_)
  ·
    exact BX14_isDigit_b16 E hF
  ·
    refine b_if hF (fun hF => ?_) (fun hF => ?_)
    ·
      exact BX14_isDigit_b16 E hF
    ·
      exact BX14_isDigit_b17 E hF
theorem BX14_number {σo : fS} {q : Unit × fS} {s : fS} (E : bE 0 σo s) (hF : FX14_number s = some q) : bE 0 σo q.2 := by
  unfold FX14_number at hF
  refine b_call E (fun _ hq => (BX14_next (bE.rf E.S) hq)) hF (fun _ hq6 D6 E6 hF => ?_)
  refine b_qI E6 (E6.S.c0 (Nat.le_of_ble_eq_true rfl)) hF (fun _ D7 E7 hF => ?_)
  refine b_pI E7 (E7.S.c0 (Nat.le_of_ble_eq_true rfl)) hF (fun _ D9 E9 hF => ?_)
  exact b_ret E9 hF
theorem BX15_child_b32 {σo : fS} {q : Int × fS} {N : Nat} {s : fS} {l3 : Int} (E : bE 0 σo s) (hF : FX15_child_b32 N l3 s = some q) : bE 0 σo q.2 := by
  unfold FX15_child_b32 at hF
  exact b_ret E hF
theorem BX15_child_b7 {σo : fS} {q : Int × fS} {N : Nat} : ∀ {n : Nat} {s : fS} {l2 : Int} {l3 : Int}, bE 0 σo s → FX15_child_b7 N n l2 l3 s = some q → bE 0 σo q.2 := by
  intro n
  induction n with
  | zero => intro s l2 l3 E  hF; simp [FX15_child_b7] at hF
  | succ n ih =>
    intro s l2 l3 E  hF
    rw [FX15_child_b7] at hF
    refine b_if hF (fun hF => ?_) (fun hF => ?_)
    ·
      exact BX15_child_b32 (N := N) E hF
    ·
      refine b_rv hF (fun _ hF => ?_)
      refine b_if hF (fun hF => ?_) (fun hF => ?_)
      ·
        exact BX15_child_b32 (N := N) E hF
      ·
        refine b_rv hF (fun _ hF => ?_)
        exact ih E hF
theorem BX15_child {σo : fS} {q : Int × fS} {N : Nat} {s : fS} {p0 : Int} {p1 : Int} (E : bE 0 σo s) (hF : FX15_child N p0 p1 s = some q) : bE 0 σo q.2 := by
  unfold FX15_child at hF
  refine b_rv hF (fun _ hF => ?_)
  exact BX15_child_b7 (N := N) E hF
theorem BX15_has_b54 {σo : fS} {q : Int × fS} {N : Nat} {s : fS} {s0 : Int} (E : bE 0 σo s) (hF : FX15_has_b54 N s0 s = some q) : bE 0 σo q.2 := by
  unfold FX15_has_b54 at hF
  exact b_z E hF
theorem BX15_has_b53 {σo : fS} {q : Int × fS} {N : Nat} {s : fS} (E : bE 0 σo s) (hF : FX15_has_b53 N s = some q) : bE 0 σo q.2 := by
  unfold FX15_has_b53 at hF
  exact BX15_has_b54 (N := N) E hF
theorem BX15_has_b35 {σo : fS} {q : Int × fS} {N : Nat} {s : fS} {l2 : Int} (E : bE 0 σo s) (hF : FX15_has_b35 N l2 s = some q) : bE 0 σo q.2 := by
  unfold FX15_has_b35 at hF
  refine b_if hF (fun hF => ?_) (fun hF => ?_)
  ·
    exact BX15_has_b53 (N := N) E hF
  ·
    refine b_rv hF (fun _ hF => ?_)
    refine b_if hF (fun hF => ?_) (fun hF => ?_)
    ·
      exact BX15_has_b53 (N := N) E hF
    ·
      exact BX15_has_b54 (N := N) E hF
theorem BX15_has_b4 {σo : fS} {q : Int × fS} {N : Nat} : ∀ {n : Nat} {s : fS} {l2 : Int} {l3 : Int}, bE 0 σo s → FX15_has_b4 N n l2 l3 s = some q → bE 0 σo q.2 := by
  intro n
  induction n with
  | zero => intro s l2 l3 E  hF; simp [FX15_has_b4] at hF
  | succ n ih =>
    intro s l2 l3 E  hF
    rw [FX15_has_b4] at hF
    refine b_if hF (fun hF => ?_) (fun hF => ?_)
    ·
      exact BX15_has_b35 (N := N) E hF
    ·
      refine b_if hF (fun hF => ?_) (fun hF => ?_)
      ·
        exact BX15_has_b35 (N := N) E hF
      ·
        refine b_rv hF (fun _ hF => ?_)
        refine b_call E (fun _ hq => (BX15_child (N := N) (bE.rf E.S) hq)) hF (fun _ hq5 D5 E5 hF => ?_)
        exact ih E5 hF
theorem BX15_has {σo : fS} {q : Int × fS} {N : Nat} {s : fS} (E : bE 0 σo s) (hF : FX15_has N s = some q) : bE 0 σo q.2 := by
  unfold FX15_has at hF
  exact BX15_has_b4 (N := N) E hF
theorem BX15_link_b48 {σo : fS} {q : Int × fS} {N : Nat} {K3 : Int → Int → Int → Int → fS → Option (Int × fS)} (hk3 : ∀ {s : fS} {l1 : Int} {l2 : Int} {l3 : Int} {l4 : Int}, bE 0 σo s → K3 l1 l2 l3 l4 s = some q → bE 0 σo q.2) {s : fS} {l1 : Int} {l2 : Int} {l3 : Int} {l4 : Int} (E : bE 0 σo s) (hF : FX15_link_b48 N K3 l1 l2 l3 l4 s = some q) : bE 0 σo q.2 := by
  unfold FX15_link_b48 at hF
  exact hk3 E hF
theorem BX15_link_b3 {σo : fS} {q : Int × fS} {N : Nat} : ∀ {n : Nat} {s : fS} {l1 : Int} {l2 : Int} {l3 : Int} {l4 : Int}, bE 0 σo s → FX15_link_b3 N n l1 l2 l3 l4 s = some q → bE 0 σo q.2 := by
  intro n
  induction n with
  | zero => intro s l1 l2 l3 l4 E  hF; simp [FX15_link_b3] at hF
  | succ n ih =>
    intro s l1 l2 l3 l4 E  hF
    rw [FX15_link_b3] at hF
    refine b_if hF (fun hF => ?_) (fun hF => ?_)
    ·
      refine b_call E (fun _ hq => (BX1_grown (bE.rf E.S) (E.S.c0 (Nat.le_of_ble_eq_true rfl)) hq).1) hF (fun _ hq4 D4 E4 hF => ?_)
      refine b_mv E4 (E4.S.c0 (Nat.le_of_ble_eq_true rfl)) (BX1_grown (bE.rf E.S) (E.S.c0 (Nat.le_of_ble_eq_true rfl)) hq4).2 hF (fun _ D5 E5 hF => ?_)
      refine b_call E5 (fun _ hq => (BX1_grown (bE.rf E5.S) (E5.S.c0 (Nat.le_of_ble_eq_true rfl)) hq).1) hF (fun _ hq8 D8 E8 hF => ?_)
      refine b_mv E8 (E8.S.c0 (Nat.le_of_ble_eq_true rfl)) (BX1_grown (bE.rf E5.S) (E5.S.c0 (Nat.le_of_ble_eq_true rfl)) hq8).2 hF (fun _ D9 E9 hF => ?_)
      refine b_call E9 (fun _ hq => (BX1_grown (bE.rf E9.S) (E9.S.c0 (Nat.le_of_ble_eq_true rfl)) hq).1) hF (fun _ hq12 D12 E12 hF => ?_)
      refine b_mv E12 (E12.S.c0 (Nat.le_of_ble_eq_true rfl)) (BX1_grown (bE.rf E9.S) (E9.S.c0 (Nat.le_of_ble_eq_true rfl)) hq12).2 hF (fun _ D13 E13 hF => ?_)
      refine b_qI E13 (E13.S.c0 (Nat.le_of_ble_eq_true rfl)) hF (fun _ D16 E16 hF => ?_)
      refine b_qI E16 (E16.S.c0 (Nat.le_of_ble_eq_true rfl)) hF (fun _ D19 E19 hF => ?_)
      refine b_qI E19 (E19.S.c0 (Nat.le_of_ble_eq_true rfl)) hF (fun _ D22 E22 hF => ?_)
      refine b_pI E22 (E22.S.c0 (Nat.le_of_ble_eq_true rfl)) hF (fun _ D24 E24 hF => ?_)
      exact b_ret E24 hF
    ·
      refine b_rv hF (fun _ hF => ?_)
      refine b_if hF (fun hF => ?_) (fun hF => ?_)
      ·
        exact BX15_link_b48 (N := N) (K3 := FX15_link_b3 N n) @ih E hF
      ·
        refine b_rv hF (fun _ hF => ?_)
        refine b_if hF (fun hF => ?_) (fun hF => ?_)
        ·
          exact BX15_link_b48 (N := N) (K3 := FX15_link_b3 N n) @ih E hF
        ·
          refine b_rv hF (fun _ hF => ?_)
          refine b_if hF (fun hF => ?_) (fun hF => ?_)
          ·
            exact BX15_link_b48 (N := N) (K3 := FX15_link_b3 N n) @ih E hF
          ·
            exact b_ret E hF
theorem BX15_link {σo : fS} {q : Int × fS} {N : Nat} {s : fS} {p0 : Int} {p1 : Int} {p2 : Int} (E : bE 0 σo s) (hF : FX15_link N p0 p1 p2 s = some q) : bE 0 σo q.2 := by
  unfold FX15_link at hF
  exact BX15_link_b3 (N := N) E hF
theorem BX15_add_b72 {σo : fS} {q : Unit × fS} {N : Nat} {K4 : Int → Int → fS → Option (Unit × fS)} (hk4 : ∀ {s : fS} {l2 : Int} {l3 : Int}, bE 0 σo s → K4 l2 l3 s = some q → bE 0 σo q.2) {s : fS} {l3 : Int} {l4 : Int} (E : bE 0 σo s) (hF : FX15_add_b72 N K4 l3 l4 s = some q) : bE 0 σo q.2 := by
  unfold FX15_add_b72 at hF
  exact hk4 E hF
theorem BX15_add_b125 {σo : fS} {q : Unit × fS} {N : Nat} {K86 : Int → Int → Int → fS → Option (Unit × fS)} (hk86 : ∀ {s : fS} {l2 : Int} {l3 : Int} {l4 : Int}, bE 0 σo s → K86 l2 l3 l4 s = some q → bE 0 σo q.2) {s : fS} {l2 : Int} {l3 : Int} {l4 : Int} (E : bE 0 σo s) (hF : FX15_add_b125 N K86 l2 l3 l4 s = some q) : bE 0 σo q.2 := by
  unfold FX15_add_b125 at hF
  exact hk86 E hF
theorem BX15_add_b86 {σo : fS} {q : Unit × fS} {N : Nat} : ∀ {n : Nat} {s : fS} {l2 : Int} {l3 : Int} {l4 : Int}, bE 0 σo s → FX15_add_b86 N n l2 l3 l4 s = some q → bE 0 σo q.2 := by
  intro n
  induction n with
  | zero => intro s l2 l3 l4 E  hF; simp [FX15_add_b86] at hF
  | succ n ih =>
    intro s l2 l3 l4 E  hF
    rw [FX15_add_b86] at hF
    refine b_if hF (fun hF => ?_) (fun hF => ?_)
    ·
      refine b_qI E (E.S.c0 (Nat.le_of_ble_eq_true rfl)) hF (fun _ D3 E3 hF => ?_)
      refine b_pI E3 (E3.S.c0 (Nat.le_of_ble_eq_true rfl)) hF (fun _ D6 E6 hF => ?_)
      refine b_qI E6 (E6.S.c0 (Nat.le_of_ble_eq_true rfl)) hF (fun _ D7 E7 hF => ?_)
      refine b_pI E7 (E7.S.c0 (Nat.le_of_ble_eq_true rfl)) hF (fun _ D9 E9 hF => ?_)
      refine b_pZ E9 (E9.S.c0 (Nat.le_of_ble_eq_true rfl)) hF (fun _ D10 E10 hF => ?_)
      exact b_ret E10 hF
    ·
      refine b_rv hF (fun _ hF => ?_)
      refine b_if hF (fun hF => ?_) (fun hF => ?_)
      ·
        exact BX15_add_b125 (N := N) (K86 := FX15_add_b86 N n) @ih E hF
      ·
        refine b_rv hF (fun _ hF => ?_)
        refine b_call E (fun _ hq => (BX15_link (N := N) (bE.rf E.S) hq)) hF (fun _ hq17 D17 E17 hF => ?_)
        exact BX15_add_b125 (N := N) (K86 := FX15_add_b86 N n) @ih E17 hF
theorem BX15_add_b4 {σo : fS} {q : Unit × fS} {N : Nat} : ∀ {n : Nat} {s : fS} {l2 : Int} {l3 : Int}, bE 0 σo s → FX15_add_b4 N n l2 l3 s = some q → bE 0 σo q.2 := by
  intro n
  induction n with
  | zero => intro s l2 l3 E  hF; simp [FX15_add_b4] at hF
  | succ n ih =>
    intro s l2 l3 E  hF
    rw [FX15_add_b4] at hF
    refine b_if hF (fun hF => ?_) (fun hF => ?_)
    ·
      exact BX15_add_b86 (N := N) E hF
    ·
      refine b_rv hF (fun _ hF => ?_)
      refine b_call E (fun _ hq => (BX15_child (N := N) (bE.rf E.S) hq)) hF (fun _ hq5 D5 E5 hF => ?_)
      refine b_if hF (fun hF => ?_) (fun hF => ?_)
      ·
        exact BX15_add_b72 (N := N) (K4 := FX15_add_b4 N n) @ih E5 hF
      ·
        refine b_rv hF (fun _ hF => ?_)
        refine b_call E5 (fun _ hq => (BX15_fresh (bE.rf E5.S) hq)) hF (fun _ hq9 D9 E9 hF => ?_)
        refine b_qI E9 (E9.S.c0 (Nat.le_of_ble_eq_true rfl)) hF (fun _ D11 E11 hF => ?_)
        refine b_rv hF (fun _ hF => ?_)
        refine b_qI E11 (E11.S.c0 (Nat.le_of_ble_eq_true rfl)) hF (fun _ D15 E15 hF => ?_)
        refine b_qI E15 (E15.S.c0 (Nat.le_of_ble_eq_true rfl)) hF (fun _ D17 E17 hF => ?_)
        exact BX15_add_b72 (N := N) (K4 := FX15_add_b4 N n) @ih E17 hF
theorem BX15_add {σo : fS} {q : Unit × fS} {N : Nat} {s : fS} (E : bE 0 σo s) (hF : FX15_add N s = some q) : bE 0 σo q.2 := by
  unfold FX15_add at hF
  exact BX15_add_b4 (N := N) E hF
theorem BX14_readPattern_b259 {σo : fS} {q : (Unit ⊕ Nat) × fS} {N : Nat} {s : fS} {l1 : Int} {s1 : Int} (E : bE 0 σo s) (hF : FX14_readPattern_b259 N l1 s1 s = some q) : bE 0 σo q.2 := by
  unfold FX14_readPattern_b259 at hF
  refine b_tB E (fun _ hq => BX14_want (bE.rf E.S) hq) hF (fun _ _ D2 E2 hF => ?_)
  refine b_call E2 (fun _ hq => (BX15_add (N := N) (bE.rf E2.S) hq)) hF (fun _ hq6 D6 E6 hF => ?_)
  exact b_ret E6 hF
theorem BX14_readPattern_b258 {σo : fS} {q : (Unit ⊕ Nat) × fS} {N : Nat} {s : fS} {l1 : Int} (E : bE 0 σo s) (hF : FX14_readPattern_b258 N l1 s = some q) : bE 0 σo q.2 := by
  unfold FX14_readPattern_b258 at hF
  exact BX14_readPattern_b259 (N := N) E hF
theorem BX14_readPattern_b209 {σo : fS} {q : (Unit ⊕ Nat) × fS} {N : Nat} {s : fS} {l1 : Int} {l2 : Int} {s1 : Int} (E : bE 0 σo s) (hF : FX14_readPattern_b209 N l1 l2 s1 s = some q) : bE 0 σo q.2 := by
  unfold FX14_readPattern_b209 at hF
  refine b_tB E (fun _ hq => BX14_want (bE.rf E.S) hq) hF (fun _ _ D2 E2 hF => ?_)
  refine b_pI E2 (E2.S.c0 (Nat.le_of_ble_eq_true rfl)) hF (fun _ D5 E5 hF => ?_)
  refine b_if hF (fun hF => ?_) (fun hF => ?_)
  ·
    exact BX14_readPattern_b258 (N := N) E5 hF
  ·
    refine b_if hF (fun hF => ?_) (fun hF => ?_)
    ·
      exact BX14_readPattern_b258 (N := N) E5 hF
    ·
      exact BX14_readPattern_b259 (N := N) E5 hF
theorem BX14_readPattern_b189 {σo : fS} {q : (Unit ⊕ Nat) × fS} {N : Nat} {s : fS} {l1 : Int} {l2 : Int} (E : bE 0 σo s) (hF : FX14_readPattern_b189 N l1 l2 s = some q) : bE 0 σo q.2 := by
  unfold FX14_readPattern_b189 at hF
  refine b_call E (fun _ hq => (BX15_has (N := N) (bE.rf E.S) hq)) hF (fun _ hq4 D4 E4 hF => ?_)
  refine b_if hF (fun hF => ?_) (fun hF => ?_)
  ·
    exact BX14_readPattern_b209 (N := N) E4 hF
  ·
    exact BX14_readPattern_b209 (N := N) E4 hF
theorem BX14_readPattern_b172 {σo : fS} {q : (Unit ⊕ Nat) × fS} {N : Nat} {s : fS} {l1 : Int} {l2 : Int} {l3 : Int} {s1 : Int} (E : bE 0 σo s) (hF : FX14_readPattern_b172 N l1 l2 l3 s1 s = some q) : bE 0 σo q.2 := by
  unfold FX14_readPattern_b172 at hF
  refine b_tB E (fun _ hq => BX14_want (bE.rf E.S) hq) hF (fun _ _ D2 E2 hF => ?_)
  refine b_if hF (fun hF => ?_) (fun hF => ?_)
  ·
    exact BX14_readPattern_b189 (N := N) E2 hF
  ·
    refine b_call E2 (fun _ hq => (BX17_add (bE.rf E2.S) (E2.S.c0 (Nat.le_of_ble_eq_true rfl)) hq)) hF (fun _ hq5 D5 E5 hF => ?_)
    exact BX14_readPattern_b189 (N := N) E5 hF
theorem BX14_readPattern_b143 {σo : fS} {q : (Unit ⊕ Nat) × fS} {N : Nat} {s : fS} {l1 : Int} {l2 : Int} {l3 : Int} {s1 : Int} {s2 : Int} (E : bE 0 σo s) (hF : FX14_readPattern_b143 N l1 l2 l3 s1 s2 s = some q) : bE 0 σo q.2 := by
  unfold FX14_readPattern_b143 at hF
  refine b_pI E (E.S.c0 (Nat.le_of_ble_eq_true rfl)) hF (fun _ D1 E1 hF => ?_)
  refine b_call E1 (fun _ hq => (BX14_isOver (bE.rf E1.S) hq)) hF (fun _ hq3 D3 E3 hF => ?_)
  refine b_tB E3 (fun _ hq => BX14_want (bE.rf E3.S) hq) hF (fun _ _ D6 E6 hF => ?_)
  refine b_if hF (fun hF => ?_) (fun hF => ?_)
  ·
    exact BX14_readPattern_b172 (N := N) E6 hF
  ·
    exact BX14_readPattern_b172 (N := N) E6 hF
theorem BX14_readPattern_b128 {σo : fS} {q : (Unit ⊕ Nat) × fS} {N : Nat} {s : fS} {l1 : Int} {l2 : Int} {s0 : Int} (E : bE 0 σo s) (hF : FX14_readPattern_b128 N l1 l2 s0 s = some q) : bE 0 σo q.2 := by
  unfold FX14_readPattern_b128 at hF
  refine b_if hF (fun hF => ?_) (fun hF => ?_)
  ·
    exact BX14_readPattern_b143 (N := N) E hF
  ·
    exact BX14_readPattern_b143 (N := N) E hF
theorem BX14_readPattern_b106 {σo : fS} {q : (Unit ⊕ Nat) × fS} {N : Nat} {s : fS} {l1 : Int} {l2 : Int} {s1 : Int} (E : bE 0 σo s) (hF : FX14_readPattern_b106 N l1 l2 s1 s = some q) : bE 0 σo q.2 := by
  unfold FX14_readPattern_b106 at hF
  refine b_tB E (fun _ hq => BX14_want (bE.rf E.S) hq) hF (fun _ _ D3 E3 hF => ?_)
  refine b_call E3 (fun _ hq => (BX14_next (bE.rf E3.S) hq)) hF (fun _ hq5 D5 E5 hF => ?_)
  refine b_if hF (fun hF => ?_) (fun hF => ?_)
  ·
    exact BX14_readPattern_b128 (N := N) E5 hF
  ·
    exact BX14_readPattern_b128 (N := N) E5 hF
theorem BX14_readPattern_b96 {σo : fS} {q : (Unit ⊕ Nat) × fS} {N : Nat} {s : fS} {l1 : Int} {l2 : Int} (E : bE 0 σo s) (hF : FX14_readPattern_b96 N l1 l2 s = some q) : bE 0 σo q.2 := by
  unfold FX14_readPattern_b96 at hF
  refine b_if hF (fun hF => ?_) (fun hF => ?_)
  ·
    exact BX14_readPattern_b106 (N := N) E hF
  ·
    exact BX14_readPattern_b106 (N := N) E hF
theorem BX14_readPattern_b55 {σo : fS} {q : (Unit ⊕ Nat) × fS} {N : Nat} : ∀ {n : Nat} {s : fS} {l1 : Int} {l2 : Int}, bE 0 σo s → FX14_readPattern_b55 N n l1 l2 s = some q → bE 0 σo q.2 := by
  intro n
  induction n with
  | zero => intro s l1 l2 E  hF; simp [FX14_readPattern_b55] at hF
  | succ n ih =>
    intro s l1 l2 E  hF
    rw [FX14_readPattern_b55] at hF
    refine b_call E (fun _ hq => (BX14_isOver (bE.rf E.S) hq)) hF (fun _ hq2 D2 E2 hF => ?_)
    refine b_if hF (fun hF => ?_) (fun hF => ?_)
    ·
      exact BX14_readPattern_b96 (N := N) E2 hF
    ·
      refine b_call E2 (fun _ hq => (BX14_next (bE.rf E2.S) hq)) hF (fun _ hq4 D4 E4 hF => ?_)
      refine b_if hF (fun hF => ?_) (fun hF => ?_)
      ·
        exact BX14_readPattern_b96 (N := N) E4 hF
      ·
        refine b_tB E4 (fun _ hq => BX14_readLetter (bE.rf E4.S) hq) hF (fun _ _ D6 E6 hF => ?_)
        refine b_call E6 (fun _ hq => (BX14_next (bE.rf E6.S) hq)) hF (fun _ hq8 D8 E8 hF => ?_)
        refine b_call E8 (fun _ hq => (BX14_isDigit (bE.rf E8.S) hq)) hF (fun _ hq9 D9 E9 hF => ?_)
        refine b_if hF (fun hF => ?_) (fun hF => ?_)
        ·
          exact ih E9 hF
        ·
          refine b_call E9 (fun _ hq => (BX14_number (bE.rf E9.S) hq)) hF (fun _ hq11 D11 E11 hF => ?_)
          exact ih E11 hF
theorem BX14_readPattern_b39 {σo : fS} {q : (Unit ⊕ Nat) × fS} {N : Nat} {s : fS} {l1 : Int} (E : bE 0 σo s) (hF : FX14_readPattern_b39 N l1 s = some q) : bE 0 σo q.2 := by
  unfold FX14_readPattern_b39 at hF
  refine b_call E (fun _ hq => (BX14_next (bE.rf E.S) hq)) hF (fun _ hq2 D2 E2 hF => ?_)
  refine b_call E2 (fun _ hq => (BX14_isDigit (bE.rf E2.S) hq)) hF (fun _ hq3 D3 E3 hF => ?_)
  refine b_if hF (fun hF => ?_) (fun hF => ?_)
  ·
    exact BX14_readPattern_b55 (N := N) E3 hF
  ·
    refine b_call E3 (fun _ hq => (BX14_number (bE.rf E3.S) hq)) hF (fun _ hq5 D5 E5 hF => ?_)
    exact BX14_readPattern_b55 (N := N) E5 hF
theorem BX14_readPattern {σo : fS} {q : (Unit ⊕ Nat) × fS} {N : Nat} {s : fS} (E : bE 0 σo s) (hF : FX14_readPattern N s = some q) : bE 0 σo q.2 := by
  unfold FX14_readPattern at hF
  refine b_call E (fun _ hq => (BX17_clear (bE.rf E.S) (E.S.c0 (Nat.le_of_ble_eq_true rfl)) hq)) hF (fun _ hq4 D4 E4 hF => ?_)
  refine b_call E4 (fun _ hq => (BX14_next (bE.rf E4.S) hq)) hF (fun _ hq6 D6 E6 hF => ?_)
  refine b_if hF (fun hF => ?_) (fun hF => ?_)
  ·
    exact BX14_readPattern_b39 (N := N) E6 hF
  ·
    refine b_call E6 (fun _ hq => (BX17_add (bE.rf E6.S) (E6.S.c0 (Nat.le_of_ble_eq_true rfl)) hq)) hF (fun _ hq9 D9 E9 hF => ?_)
    refine b_pI E9 (E9.S.c0 (Nat.le_of_ble_eq_true rfl)) hF (fun _ D11 E11 hF => ?_)
    exact BX14_readPattern_b39 (N := N) E11 hF
theorem BX15_undo_b28 {σo : fS} {q : Unit × fS} {N : Nat} : ∀ {n : Nat} {s : fS} , bE 0 σo s → FX15_undo_b28 N n s = some q → bE 0 σo q.2 := by
  intro n
  induction n with
  | zero => intro s  E  hF; simp [FX15_undo_b28] at hF
  | succ n ih =>
    intro s  E  hF
    rw [FX15_undo_b28] at hF
    refine b_if hF (fun hF => ?_) (fun hF => ?_)
    ·
      refine b_pI E (E.S.c0 (Nat.le_of_ble_eq_true rfl)) hF (fun _ D4 E4 hF => ?_)
      refine b_pI E4 (E4.S.c0 (Nat.le_of_ble_eq_true rfl)) hF (fun _ D6 E6 hF => ?_)
      refine b_pI E6 (E6.S.c0 (Nat.le_of_ble_eq_true rfl)) hF (fun _ D8 E8 hF => ?_)
      refine b_pZ E8 (E8.S.c0 (Nat.le_of_ble_eq_true rfl)) hF (fun _ D10 E10 hF => ?_)
      exact b_ret E10 hF
    ·
      refine b_pI E (E.S.c0 (Nat.le_of_ble_eq_true rfl)) hF (fun _ D12 E12 hF => ?_)
      refine b_rv hF (fun _ hF => ?_)
      refine b_rv hF (fun _ hF => ?_)
      refine b_qI E12 (E12.S.c0 (Nat.le_of_ble_eq_true rfl)) hF (fun _ D20 E20 hF => ?_)
      exact ih E20 hF
theorem BX15_undo_b2 {σo : fS} {q : Unit × fS} {N : Nat} : ∀ {n : Nat} {s : fS} {l1 : Int}, bE 0 σo s → FX15_undo_b2 N n l1 s = some q → bE 0 σo q.2 := by
  intro n
  induction n with
  | zero => intro s l1 E  hF; simp [FX15_undo_b2] at hF
  | succ n ih =>
    intro s l1 E  hF
    rw [FX15_undo_b2] at hF
    refine b_if hF (fun hF => ?_) (fun hF => ?_)
    ·
      exact BX15_undo_b28 (N := N) E hF
    ·
      refine b_rv hF (fun _ hF => ?_)
      refine b_qI E (E.S.c0 (Nat.le_of_ble_eq_true rfl)) hF (fun _ D5 E5 hF => ?_)
      exact ih E5 hF
theorem BX15_undo {σo : fS} {q : Unit × fS} {N : Nat} {s : fS} (E : bE 0 σo s) (hF : FX15_undo N s = some q) : bE 0 σo q.2 := by
  unfold FX15_undo at hF
  exact BX15_undo_b2 (N := N) E hF
theorem BX16_undo_b60 {σo : fS} {q : Unit × fS} {N : Nat} {K43 : fS → Option (Unit × fS)} (hk43 : ∀ {s : fS} , bE 0 σo s → K43 s = some q → bE 0 σo q.2) : ∀ {n : Nat} {s : fS} {l2 : Int}, bE 0 σo s → FX16_undo_b60 N K43 n l2 s = some q → bE 0 σo q.2 := by
  intro n
  induction n with
  | zero => intro s l2 E  hF; simp [FX16_undo_b60] at hF
  | succ n ih =>
    intro s l2 E  hF
    rw [FX16_undo_b60] at hF
    refine b_rv hF (fun _ hF => ?_)
    refine b_if hF (fun hF => ?_) (fun hF => ?_)
    ·
      refine b_call E (fun _ hq => (BX16_seek (N := N) (bE.rf E.S) hq)) hF (fun _ hq6 D6 E6 hF => ?_)
      refine b_qI E6 (E6.S.c0 (Nat.le_of_ble_eq_true rfl)) hF (fun _ D7 E7 hF => ?_)
      refine b_pI E7 (E7.S.c0 (Nat.le_of_ble_eq_true rfl)) hF (fun _ D9 E9 hF => ?_)
      exact hk43 E9 hF
    ·
      refine b_rv hF (fun _ hF => ?_)
      refine b_rv hF (fun _ hF => ?_)
      refine b_call E (fun _ hq => (BX17_add (bE.rf E.S) (E.S.c0 (Nat.le_of_ble_eq_true rfl)) hq)) hF (fun _ hq16 D16 E16 hF => ?_)
      exact ih E16 hF
theorem BX16_undo_b43 {σo : fS} {q : Unit × fS} {N : Nat} : ∀ {n : Nat} {s : fS} , bE 0 σo s → FX16_undo_b43 N n s = some q → bE 0 σo q.2 := by
  intro n
  induction n with
  | zero => intro s  E  hF; simp [FX16_undo_b43] at hF
  | succ n ih =>
    intro s  E  hF
    rw [FX16_undo_b43] at hF
    refine b_if hF (fun hF => ?_) (fun hF => ?_)
    ·
      refine b_pI E (E.S.c0 (Nat.le_of_ble_eq_true rfl)) hF (fun _ D4 E4 hF => ?_)
      exact b_ret E4 hF
    ·
      refine b_call E (fun _ hq => (BX17_clear (bE.rf E.S) (E.S.c0 (Nat.le_of_ble_eq_true rfl)) hq)) hF (fun _ hq6 D6 E6 hF => ?_)
      exact BX16_undo_b60 (N := N) (K43 := FX16_undo_b43 N n) @ih E6 hF
theorem BX16_undo_b0 {σo : fS} {q : Unit × fS} {N : Nat} : ∀ {n : Nat} {s : fS} , bE 0 σo s → FX16_undo_b0 N n s = some q → bE 0 σo q.2 := by
  intro n
  induction n with
  | zero => intro s  E  hF; simp [FX16_undo_b0] at hF
  | succ n ih =>
    intro s  E  hF
    rw [FX16_undo_b0] at hF
    refine b_if hF (fun hF => ?_) (fun hF => ?_)
    ·
      exact BX16_undo_b43 (N := N) E hF
    ·
      refine b_pI E (E.S.c0 (Nat.le_of_ble_eq_true rfl)) hF (fun _ D3 E3 hF => ?_)
      refine b_rv hF (fun _ hF => ?_)
      refine b_rv hF (fun _ hF => ?_)
      refine b_qJ E3 (E3.S.c0 (Nat.le_of_ble_eq_true rfl)) hF (fun _ D11 E11 hF => ?_)
      exact ih E11 hF
theorem BX16_undo {σo : fS} {q : Unit × fS} {N : Nat} {s : fS} (E : bE 0 σo s) (hF : FX16_undo N s = some q) : bE 0 σo q.2 := by
  unfold FX16_undo at hF
  exact BX16_undo_b0 (N := N) E hF
theorem BX14_read_b62 {σo : fS} {q : Int × fS} {N : Nat} {K36 : Int → Int → fS → Option (Int × fS)} (hk36 : ∀ {s : fS} {l3 : Int} {l4 : Int}, bE 0 σo s → K36 l3 l4 s = some q → bE 0 σo q.2) {s : fS} {l3 : Int} {l4 : Int} (E : bE 0 σo s) (hF : FX14_read_b62 N K36 l3 l4 s = some q) : bE 0 σo q.2 := by
  unfold FX14_read_b62 at hF
  refine b_call E (fun _ hq => (BX14_spaces (N := N) (bE.rf E.S) hq)) hF (fun _ hq2 D2 E2 hF => ?_)
  exact hk36 E2 hF
theorem BX14_read_b101 {σo : fS} {q : Int × fS} {N : Nat} {s : fS} {l4 : Int} (E : bE 0 σo s) (hF : FX14_read_b101 N l4 s = some q) : bE 0 σo q.2 := by
  unfold FX14_read_b101 at hF
  exact b_ret E hF
theorem BX14_read_b75 {σo : fS} {q : Int × fS} {N : Nat} {s : fS} {s0 : Nat} (E : bE 0 σo s) (hF : FX14_read_b75 N s0 s = some q) : bE 0 σo q.2 := by
  unfold FX14_read_b75 at hF
  refine b_call E (fun _ hq => (BX15_undo (N := N) (bE.rf E.S) hq)) hF (fun _ hq4 D4 E4 hF => ?_)
  refine b_call E4 (fun _ hq => (BX16_undo (N := N) (bE.rf E4.S) hq)) hF (fun _ hq8 D8 E8 hF => ?_)
  exact BX14_read_b101 (N := N) E8 hF
theorem BX14_read_b36 {σo : fS} {q : Int × fS} {N : Nat} : ∀ {n : Nat} {s : fS} {l3 : Int} {l4 : Int}, bE 0 σo s → FX14_read_b36 N n l3 l4 s = some q → bE 0 σo q.2 := by
  intro n
  induction n with
  | zero => intro s l3 l4 E  hF; simp [FX14_read_b36] at hF
  | succ n ih =>
    intro s l3 l4 E  hF
    rw [FX14_read_b36] at hF
    refine b_if hF (fun hF => ?_) (fun hF => ?_)
    ·
      exact BX14_read_b101 (N := N) E hF
    ·
      refine b_if hF (fun hF => ?_) (fun hF => ?_)
      ·
        refine b_tC E (fun _ hq => BX14_readPattern (N := N) (bE.rf E.S) hq) hF (fun _ _ D4 E4 hF => ?_) (fun _ _ D4 E4 hF => ?_)
        ·
          exact BX14_read_b75 (N := N) E4 hF
        ·
          exact BX14_read_b62 (N := N) (K36 := FX14_read_b36 N n) @ih E4 hF
      ·
        refine b_tC E (fun _ hq => BX14_readWord (N := N) (bE.rf E.S) hq) hF (fun _ _ D6 E6 hF => ?_) (fun _ _ D6 E6 hF => ?_)
        ·
          exact BX14_read_b75 (N := N) E6 hF
        ·
          exact BX14_read_b62 (N := N) (K36 := FX14_read_b36 N n) @ih E6 hF
theorem BX14_read {σo : fS} {q : Int × fS} {N : Nat} {s : fS} {p1 : Int} {p2 : Int} (E : bE 0 σo s) (hF : FX14_read N p1 p2 s = some q) : bE 0 σo q.2 := by
  unfold FX14_read at hF
  refine b_pO E (E.S.c0 (Nat.le_of_ble_eq_true rfl)) (E.S.c0 (Nat.le_of_ble_eq_true rfl)) hF (fun _ D1 E1 hF => ?_)
  refine b_pI E1 (E1.S.c0 (Nat.le_of_ble_eq_true rfl)) hF (fun _ D2 E2 hF => ?_)
  refine b_pI E2 (E2.S.c0 (Nat.le_of_ble_eq_true rfl)) hF (fun _ D3 E3 hF => ?_)
  refine b_call E3 (fun _ hq => (BX15_mark (bE.rf E3.S) hq)) hF (fun _ hq6 D6 E6 hF => ?_)
  refine b_call E6 (fun _ hq => (BX16_mark (bE.rf E6.S) hq)) hF (fun _ hq9 D9 E9 hF => ?_)
  refine b_call E9 (fun _ hq => (BX14_spaces (N := N) (bE.rf E9.S) hq)) hF (fun _ hq11 D11 E11 hF => ?_)
  exact BX14_read_b36 (N := N) E11 hF
theorem BX11_nextLine_b117 {σo : fS} {q : Int × fS} {N : Nat} {s : fS} (E : bE 0 σo s) (hF : FX11_nextLine_b117 N s = some q) : bE 0 σo q.2 := by
  unfold FX11_nextLine_b117 at hF
  refine b_pI E (E.S.c0 (Nat.le_of_ble_eq_true rfl)) hF (fun _ D1 E1 hF => ?_)
  refine b_pI E1 (E1.S.c0 (Nat.le_of_ble_eq_true rfl)) hF (fun _ D3 E3 hF => ?_)
  exact b_ret E3 hF
theorem BX11_nextLine_b77 {σo : fS} {q : Int × fS} {N : Nat} : ∀ {n : Nat} {s : fS} , bE 0 σo s → FX11_nextLine_b77 N n s = some q → bE 0 σo q.2 := by
  intro n
  induction n with
  | zero => intro s  E  hF; simp [FX11_nextLine_b77] at hF
  | succ n ih =>
    intro s  E  hF
    rw [FX11_nextLine_b77] at hF
    refine b_if hF (fun hF => ?_) (fun hF => ?_)
    ·
      exact BX11_nextLine_b117 (N := N) E hF
    ·
      refine b_rv hF (fun _ hF => ?_)
      refine b_if hF (fun hF => ?_) (fun hF => ?_)
      ·
        exact BX11_nextLine_b117 (N := N) E hF
      ·
        refine b_pI E (E.S.c0 (Nat.le_of_ble_eq_true rfl)) hF (fun _ D7 E7 hF => ?_)
        exact ih E7 hF
theorem BX11_nextLine_b67 {σo : fS} {q : Int × fS} {N : Nat} {s : fS} (E : bE 0 σo s) (hF : FX11_nextLine_b67 N s = some q) : bE 0 σo q.2 := by
  unfold FX11_nextLine_b67 at hF
  refine b_pI E (E.S.c0 (Nat.le_of_ble_eq_true rfl)) hF (fun _ D2 E2 hF => ?_)
  exact BX11_nextLine_b77 (N := N) E2 hF
theorem BX11_nextLine_b29 {σo : fS} {q : Int × fS} {N : Nat} : ∀ {n : Nat} {s : fS} , bE 0 σo s → FX11_nextLine_b29 N n s = some q → bE 0 σo q.2 := by
  intro n
  induction n with
  | zero => intro s  E  hF; simp [FX11_nextLine_b29] at hF
  | succ n ih =>
    intro s  E  hF
    rw [FX11_nextLine_b29] at hF
    refine b_if hF (fun hF => ?_) (fun hF => ?_)
    ·
      exact BX11_nextLine_b67 (N := N) E hF
    ·
      refine b_rv hF (fun _ hF => ?_)
      refine b_if hF (fun hF => ?_) (fun hF => ?_)
      ·
        exact BX11_nextLine_b67 (N := N) E hF
      ·
        refine b_pI E (E.S.c0 (Nat.le_of_ble_eq_true rfl)) hF (fun _ D7 E7 hF => ?_)
        exact ih E7 hF
theorem BX11_nextLine {σo : fS} {q : Int × fS} {N : Nat} {s : fS} (E : bE 0 σo s) (hF : FX11_nextLine N s = some q) : bE 0 σo q.2 := by
  unfold FX11_nextLine at hF
  refine b_if hF (fun hF => ?_) (fun hF => ?_)
  ·
    refine b_pI E (E.S.c0 (Nat.le_of_ble_eq_true rfl)) hF (fun _ D4 E4 hF => ?_)
    refine b_pI E4 (E4.S.c0 (Nat.le_of_ble_eq_true rfl)) hF (fun _ D6 E6 hF => ?_)
    exact BX11_nextLine_b29 (N := N) E6 hF
  ·
    exact b_ret E hF
theorem BX11_character_b23 {σo : fS} {q : Int × fS} {s : fS} {s0 : Int} (E : bE 0 σo s) (hF : FX11_character_b23 s0 s = some q) : bE 0 σo q.2 := by
  unfold FX11_character_b23 at hF
  exact b_ret E hF
theorem BX11_character {σo : fS} {q : Int × fS} {s : fS} {p0 : Int} (E : bE 0 σo s) (hF : FX11_character p0 s = some q) : bE 0 σo q.2 := by
  unfold FX11_character at hF
  refine b_if hF (fun hF => ?_) (fun hF => ?_)
  ·
    refine b_rv hF (fun _ hF => ?_)
    exact BX11_character_b23 E hF
  ·
    exact BX11_character_b23 E hF
theorem BX9_category {σo : fS} {q : Int × fS} {s : fS} {p0 : Int} (E : bE 0 σo s) (hF : FX9_category p0 s = some q) : bE 0 σo q.2 := by
  unfold FX9_category at hF
  refine b_rv hF (fun _ hF => ?_)
  exact b_ret E hF
theorem BX11_isLetter_b36 {σo : fS} {q : Int × fS} {s : fS} {s0 : Int} (E : bE 0 σo s) (hF : FX11_isLetter_b36 s0 s = some q) : bE 0 σo q.2 := by
  unfold FX11_isLetter_b36 at hF
  exact b_z E hF
theorem BX11_isLetter_b35 {σo : fS} {q : Int × fS} {s : fS} (E : bE 0 σo s) (hF : FX11_isLetter_b35 s = some q) : bE 0 σo q.2 := by
  unfold FX11_isLetter_b35 at hF
  exact BX11_isLetter_b36 E hF
theorem BX11_isLetter {σo : fS} {q : Int × fS} {s : fS} (E : bE 0 σo s) (hF : FX11_isLetter s = some q) : bE 0 σo q.2 := by
  unfold FX11_isLetter at hF
  refine b_if hF (fun hF => ?_) (fun hF => ?_)
  ·
    exact BX11_isLetter_b35 E hF
  ·
    refine b_call E (fun _ hq => (BX11_character (bE.rf E.S) hq)) hF (fun _ hq6 D6 E6 hF => ?_)
    refine b_call E6 (fun _ hq => (BX9_category (bE.rf E6.S) hq)) hF (fun _ hq8 D8 E8 hF => ?_)
    refine b_if hF (fun hF => ?_) (fun hF => ?_)
    ·
      exact BX11_isLetter_b35 E8 hF
    ·
      exact BX11_isLetter_b36 E8 hF
theorem BX4_fail {σo : fS} {q : (Unit ⊕ Nat) × fS} {s : fS} {p0 : Int} (E : bE 0 σo s) (hF : FX4_fail p0 s = some q) : bE 0 σo q.2 := by
  unfold FX4_fail at hF
  refine b_pI E (E.S.c0 (Nat.le_of_ble_eq_true rfl)) hF (fun _ D1 E1 hF => ?_)
  exact b_exc E1 hF
theorem BX4_want_b9 {σo : fS} {q : (Unit ⊕ Nat) × fS} {s : fS} (E : bE 0 σo s) (hF : FX4_want_b9 s = some q) : bE 0 σo q.2 := by
  unfold FX4_want_b9 at hF
  exact b_ret E hF
theorem BX4_want {σo : fS} {q : (Unit ⊕ Nat) × fS} {s : fS} {p0 : Int} {p1 : Int} (E : bE 0 σo s) (hF : FX4_want p0 p1 s = some q) : bE 0 σo q.2 := by
  unfold FX4_want at hF
  refine b_if hF (fun hF => ?_) (fun hF => ?_)
  ·
    exact BX4_want_b9 E hF
  ·
    refine b_tB E (fun _ hq => BX4_fail (bE.rf E.S) hq) hF (fun _ _ D2 E2 hF => ?_)
    exact BX4_want_b9 E2 hF
theorem BX10_add_b18 {σo : fS} {q : (Unit ⊕ Nat) × fS} {s : fS} {l1 : Int} {s1 : Int} (E : bE 0 σo s) (hF : FX10_add_b18 l1 s1 s = some q) : bE 0 σo q.2 := by
  unfold FX10_add_b18 at hF
  refine b_tB E (fun _ hq => BX4_want (bE.rf E.S) hq) hF (fun _ _ D2 E2 hF => ?_)
  refine b_pI E2 (E2.S.c0 (Nat.le_of_ble_eq_true rfl)) hF (fun _ D5 E5 hF => ?_)
  refine b_qI E5 (E5.S.c0 (Nat.le_of_ble_eq_true rfl)) hF (fun _ D6 E6 hF => ?_)
  exact b_ret E6 hF
theorem BX10_add {σo : fS} {q : (Unit ⊕ Nat) × fS} {s : fS} {p0 : Int} (E : bE 0 σo s) (hF : FX10_add p0 s = some q) : bE 0 σo q.2 := by
  unfold FX10_add at hF
  refine b_if hF (fun hF => ?_) (fun hF => ?_)
  ·
    exact BX10_add_b18 E hF
  ·
    exact BX10_add_b18 E hF
theorem BX10_slot_b42 {σo : fS} {q : (Int ⊕ Nat) × fS} {N : Nat} {s : fS} {l1 : Int} (E : bE 0 σo s) (hF : FX10_slot_b42 N l1 s = some q) : bE 0 σo q.2 := by
  unfold FX10_slot_b42 at hF
  refine b_rv hF (fun _ hF => ?_)
  exact b_ret E hF
theorem BX10_slot_b33 {σo : fS} {q : (Int ⊕ Nat) × fS} {N : Nat} {s : fS} {l1 : Int} {s1 : Int} (E : bE 0 σo s) (hF : FX10_slot_b33 N l1 s1 s = some q) : bE 0 σo q.2 := by
  unfold FX10_slot_b33 at hF
  refine b_tB E (fun _ hq => BX4_want (bE.rf E.S) hq) hF (fun _ _ D2 E2 hF => ?_)
  refine b_call E2 (fun _ hq => (BX10_make (bE.rf E2.S) hq)) hF (fun _ hq4 D4 E4 hF => ?_)
  exact BX10_slot_b42 (N := N) E4 hF
theorem BX10_slot {σo : fS} {q : (Int ⊕ Nat) × fS} {N : Nat} {s : fS} (E : bE 0 σo s) (hF : FX10_slot N s = some q) : bE 0 σo q.2 := by
  unfold FX10_slot at hF
  refine b_call E (fun _ hq => (BX10_seek (N := N) (bE.rf E.S) hq)) hF (fun _ hq2 D2 E2 hF => ?_)
  refine b_rv hF (fun _ hF => ?_)
  refine b_if hF (fun hF => ?_) (fun hF => ?_)
  ·
    exact BX10_slot_b42 (N := N) E2 hF
  ·
    refine b_if hF (fun hF => ?_) (fun hF => ?_)
    ·
      exact BX10_slot_b33 (N := N) E2 hF
    ·
      exact BX10_slot_b33 (N := N) E2 hF
theorem BX11_name_b71 {σo : fS} {q : (Int ⊕ Nat) × fS} {N : Nat} {s : fS} {s1 : Int} (E : bE 0 σo s) (hF : FX11_name_b71 N s1 s = some q) : bE 0 σo q.2 := by
  unfold FX11_name_b71 at hF
  refine b_pI E (E.S.c0 (Nat.le_of_ble_eq_true rfl)) hF (fun _ D1 E1 hF => ?_)
  refine b_pI E1 (E1.S.c0 (Nat.le_of_ble_eq_true rfl)) hF (fun _ D3 E3 hF => ?_)
  refine b_tB E3 (fun _ hq => BX10_slot (N := N) (bE.rf E3.S) hq) hF (fun _ _ D6 E6 hF => ?_)
  exact b_ret E6 hF
theorem BX11_name_b96 {σo : fS} {q : (Int ⊕ Nat) × fS} {N : Nat} : ∀ {n : Nat} {s : fS} , bE 0 σo s → FX11_name_b96 N n s = some q → bE 0 σo q.2 := by
  intro n
  induction n with
  | zero => intro s  E  hF; simp [FX11_name_b96] at hF
  | succ n ih =>
    intro s  E  hF
    rw [FX11_name_b96] at hF
    refine b_call E (fun _ hq => (BX11_isLetter (bE.rf E.S) hq)) hF (fun _ hq2 D2 E2 hF => ?_)
    refine b_if hF (fun hF => ?_) (fun hF => ?_)
    ·
      refine b_tB E2 (fun _ hq => BX10_slot (N := N) (bE.rf E2.S) hq) hF (fun _ _ D5 E5 hF => ?_)
      exact b_ret E5 hF
    ·
      refine b_call E2 (fun _ hq => (BX11_character (bE.rf E2.S) hq)) hF (fun _ hq9 D9 E9 hF => ?_)
      refine b_tB E9 (fun _ hq => BX10_add (bE.rf E9.S) hq) hF (fun _ _ D11 E11 hF => ?_)
      refine b_pI E11 (E11.S.c0 (Nat.le_of_ble_eq_true rfl)) hF (fun _ D13 E13 hF => ?_)
      refine b_pI E13 (E13.S.c0 (Nat.le_of_ble_eq_true rfl)) hF (fun _ D14 E14 hF => ?_)
      exact ih E14 hF
theorem BX11_name {σo : fS} {q : (Int ⊕ Nat) × fS} {N : Nat} {s : fS} (E : bE 0 σo s) (hF : FX11_name N s = some q) : bE 0 σo q.2 := by
  unfold FX11_name at hF
  refine b_call E (fun _ hq => (BX10_open (bE.rf E.S) hq)) hF (fun _ hq3 D3 E3 hF => ?_)
  refine b_pI E3 (E3.S.c0 (Nat.le_of_ble_eq_true rfl)) hF (fun _ D4 E4 hF => ?_)
  refine b_call E4 (fun _ hq => (BX11_isLetter (bE.rf E4.S) hq)) hF (fun _ hq6 D6 E6 hF => ?_)
  refine b_if hF (fun hF => ?_) (fun hF => ?_)
  ·
    exact BX11_name_b96 (N := N) E6 hF
  ·
    refine b_if hF (fun hF => ?_) (fun hF => ?_)
    ·
      exact BX11_name_b96 (N := N) E6 hF
    ·
      refine b_call E6 (fun _ hq => (BX11_character (bE.rf E6.S) hq)) hF (fun _ hq12 D12 E12 hF => ?_)
      refine b_tB E12 (fun _ hq => BX10_add (bE.rf E12.S) hq) hF (fun _ _ D14 E14 hF => ?_)
      refine b_call E14 (fun _ hq => (BX11_character (bE.rf E14.S) hq)) hF (fun _ hq18 D18 E18 hF => ?_)
      refine b_call E18 (fun _ hq => (BX9_category (bE.rf E18.S) hq)) hF (fun _ hq20 D20 E20 hF => ?_)
      refine b_if hF (fun hF => ?_) (fun hF => ?_)
      ·
        exact BX11_name_b71 (N := N) E20 hF
      ·
        exact BX11_name_b71 (N := N) E20 hF
theorem BX11_read_b229 {σo : fS} {q : (Int ⊕ Nat) × fS} {N : Nat} {K0 : fS → Option ((Int ⊕ Nat) × fS)} (hk0 : ∀ {s : fS} , bE 0 σo s → K0 s = some q → bE 0 σo q.2) {s : fS} (E : bE 0 σo s) (hF : FX11_read_b229 N K0 s = some q) : bE 0 σo q.2 := by
  unfold FX11_read_b229 at hF
  exact hk0 E hF
theorem BX11_read_b20 {σo : fS} {q : (Int ⊕ Nat) × fS} {N : Nat} {K0 : fS → Option ((Int ⊕ Nat) × fS)} (hk0 : ∀ {s : fS} , bE 0 σo s → K0 s = some q → bE 0 σo q.2) {s : fS} (E : bE 0 σo s) (hF : FX11_read_b20 N K0 s = some q) : bE 0 σo q.2 := by
  unfold FX11_read_b20 at hF
  refine b_pI E (E.S.c0 (Nat.le_of_ble_eq_true rfl)) hF (fun _ D2 E2 hF => ?_)
  refine b_call E2 (fun _ hq => (BX11_character (bE.rf E2.S) hq)) hF (fun _ hq4 D4 E4 hF => ?_)
  refine b_call E4 (fun _ hq => (BX9_category (bE.rf E4.S) hq)) hF (fun _ hq7 D7 E7 hF => ?_)
  refine b_if hF (fun hF => ?_) (fun hF => ?_)
  ·
    refine b_tB E7 (fun _ hq => BX11_name (N := N) (bE.rf E7.S) hq) hF (fun _ _ D9 E9 hF => ?_)
    exact b_ret E9 hF
  ·
    refine b_if hF (fun hF => ?_) (fun hF => ?_)
    ·
      refine b_pI E7 (E7.S.c0 (Nat.le_of_ble_eq_true rfl)) hF (fun _ D10 E10 hF => ?_)
      exact b_ret E10 hF
    ·
      refine b_if hF (fun hF => ?_) (fun hF => ?_)
      ·
        refine b_pI E7 (E7.S.c0 (Nat.le_of_ble_eq_true rfl)) hF (fun _ D11 E11 hF => ?_)
        exact b_ret E11 hF
      ·
        refine b_if hF (fun hF => ?_) (fun hF => ?_)
        ·
          refine b_pI E7 (E7.S.c0 (Nat.le_of_ble_eq_true rfl)) hF (fun _ D12 E12 hF => ?_)
          exact b_ret E12 hF
        ·
          refine b_if hF (fun hF => ?_) (fun hF => ?_)
          ·
            refine b_pI E7 (E7.S.c0 (Nat.le_of_ble_eq_true rfl)) hF (fun _ D13 E13 hF => ?_)
            exact b_ret E13 hF
          ·
            refine b_if hF (fun hF => ?_) (fun hF => ?_)
            ·
              refine b_pI E7 (E7.S.c0 (Nat.le_of_ble_eq_true rfl)) hF (fun _ D15 E15 hF => ?_)
              refine b_if hF (fun hF => ?_) (fun hF => ?_)
              ·
                refine b_if hF (fun hF => ?_) (fun hF => ?_)
                ·
                  exact BX11_read_b229 (N := N) (K0 := K0) @hk0 E15 hF
                ·
                  exact b_ret E15 hF
              ·
                exact b_ret E15 hF
            ·
              refine b_if hF (fun hF => ?_) (fun hF => ?_)
              ·
                refine b_pI E7 (E7.S.c0 (Nat.le_of_ble_eq_true rfl)) hF (fun _ D18 E18 hF => ?_)
                exact b_ret E18 hF
              ·
                refine b_if hF (fun hF => ?_) (fun hF => ?_)
                ·
                  refine b_pI E7 (E7.S.c0 (Nat.le_of_ble_eq_true rfl)) hF (fun _ D19 E19 hF => ?_)
                  exact b_ret E19 hF
                ·
                  refine b_if hF (fun hF => ?_) (fun hF => ?_)
                  ·
                    refine b_pI E7 (E7.S.c0 (Nat.le_of_ble_eq_true rfl)) hF (fun _ D20 E20 hF => ?_)
                    exact b_ret E20 hF
                  ·
                    refine b_if hF (fun hF => ?_) (fun hF => ?_)
                    ·
                      exact BX11_read_b229 (N := N) (K0 := K0) @hk0 E7 hF
                    ·
                      refine b_if hF (fun hF => ?_) (fun hF => ?_)
                      ·
                        refine b_if hF (fun hF => ?_) (fun hF => ?_)
                        ·
                          exact BX11_read_b229 (N := N) (K0 := K0) @hk0 E7 hF
                        ·
                          refine b_pI E7 (E7.S.c0 (Nat.le_of_ble_eq_true rfl)) hF (fun _ D22 E22 hF => ?_)
                          exact b_ret E22 hF
                      ·
                        refine b_if hF (fun hF => ?_) (fun hF => ?_)
                        ·
                          refine b_pI E7 (E7.S.c0 (Nat.le_of_ble_eq_true rfl)) hF (fun _ D23 E23 hF => ?_)
                          exact b_ret E23 hF
                        ·
                          refine b_if hF (fun hF => ?_) (fun hF => ?_)
                          ·
                            refine b_pI E7 (E7.S.c0 (Nat.le_of_ble_eq_true rfl)) hF (fun _ D24 E24 hF => ?_)
                            exact b_ret E24 hF
                          ·
                            refine b_if hF (fun hF => ?_) (fun hF => ?_)
                            ·
                              refine b_pI E7 (E7.S.c0 (Nat.le_of_ble_eq_true rfl)) hF (fun _ D25 E25 hF => ?_)
                              exact b_ret E25 hF
                            ·
                              refine b_if hF (fun hF => ?_) (fun hF => ?_)
                              ·
                                refine b_pI E7 (E7.S.c0 (Nat.le_of_ble_eq_true rfl)) hF (fun _ D27 E27 hF => ?_)
                                exact BX11_read_b229 (N := N) (K0 := K0) @hk0 E27 hF
                              ·
                                refine b_if hF (fun hF => ?_) (fun hF => ?_)
                                ·
                                  refine b_tB E7 (fun _ hq => BX4_fail (bE.rf E7.S) hq) hF (fun _ _ D30 E30 hF => ?_)
                                  exact BX11_read_b229 (N := N) (K0 := K0) @hk0 E30 hF
                                ·
                                  refine b_pI E7 (E7.S.c0 (Nat.le_of_ble_eq_true rfl)) hF (fun _ D31 E31 hF => ?_)
                                  exact b_ret E31 hF
theorem BX11_read_b0 {σo : fS} {q : (Int ⊕ Nat) × fS} {N : Nat} : ∀ {n : Nat} {s : fS} , bE 0 σo s → FX11_read_b0 N n s = some q → bE 0 σo q.2 := by
  intro n
  induction n with
  | zero => intro s  E  hF; simp [FX11_read_b0] at hF
  | succ n ih =>
    intro s  E  hF
    rw [FX11_read_b0] at hF
    refine b_if hF (fun hF => ?_) (fun hF => ?_)
    ·
      exact BX11_read_b20 (N := N) (K0 := FX11_read_b0 N n) @ih E hF
    ·
      refine b_call E (fun _ hq => (BX11_nextLine (N := N) (bE.rf E.S) hq)) hF (fun _ hq4 D4 E4 hF => ?_)
      refine b_if hF (fun hF => ?_) (fun hF => ?_)
      ·
        exact BX11_read_b20 (N := N) (K0 := FX11_read_b0 N n) @ih E4 hF
      ·
        exact b_ret E4 hF
theorem BX11_read {σo : fS} {q : (Int ⊕ Nat) × fS} {N : Nat} {s : fS} (E : bE 0 σo s) (hF : FX11_read N s = some q) : bE 0 σo q.2 := by
  unfold FX11_read at hF
  exact BX11_read_b0 (N := N) E hF
theorem BX13_get_b33 {σo : fS} {q : (Int ⊕ Nat) × fS} {N : Nat} {s : fS} {s0 : Int} (E : bE 0 σo s) (hF : FX13_get_b33 N s0 s = some q) : bE 0 σo q.2 := by
  unfold FX13_get_b33 at hF
  exact b_ret E hF
theorem BX13_get {σo : fS} {q : (Int ⊕ Nat) × fS} {N : Nat} {s : fS} (E : bE 0 σo s) (hF : FX13_get N s = some q) : bE 0 σo q.2 := by
  unfold FX13_get at hF
  refine b_if hF (fun hF => ?_) (fun hF => ?_)
  ·
    refine b_tB E (fun _ hq => BX11_read (N := N) (bE.rf E.S) hq) hF (fun _ _ D4 E4 hF => ?_)
    exact BX13_get_b33 (N := N) E4 hF
  ·
    refine b_pI E (E.S.c0 (Nat.le_of_ble_eq_true rfl)) hF (fun _ D7 E7 hF => ?_)
    refine b_rv hF (fun _ hF => ?_)
    exact BX13_get_b33 (N := N) E7 hF
theorem BX9_reach {σo : fS} {q : Unit × fS} {s : fS} {p0 : Int} (E : bE 0 σo s) (hF : FX9_reach p0 s = some q) : bE 0 σo q.2 := by
  unfold FX9_reach at hF
  refine b_call E (fun _ hq => (BX1_grown (bE.rf E.S) (E.S.c0 (Nat.le_of_ble_eq_true rfl)) hq).1) hF (fun _ hq2 D2 E2 hF => ?_)
  refine b_mv E2 (E2.S.c0 (Nat.le_of_ble_eq_true rfl)) (BX1_grown (bE.rf E.S) (E.S.c0 (Nat.le_of_ble_eq_true rfl)) hq2).2 hF (fun _ D3 E3 hF => ?_)
  refine b_call E3 (fun _ hq => (BX1_grown (bE.rf E3.S) (E3.S.c0 (Nat.le_of_ble_eq_true rfl)) hq).1) hF (fun _ hq5 D5 E5 hF => ?_)
  refine b_mv E5 (E5.S.c0 (Nat.le_of_ble_eq_true rfl)) (BX1_grown (bE.rf E3.S) (E3.S.c0 (Nat.le_of_ble_eq_true rfl)) hq5).2 hF (fun _ D6 E6 hF => ?_)
  refine b_call E6 (fun _ hq => (BX1_grown (bE.rf E6.S) (E6.S.c0 (Nat.le_of_ble_eq_true rfl)) hq).1) hF (fun _ hq8 D8 E8 hF => ?_)
  refine b_mv E8 (E8.S.c0 (Nat.le_of_ble_eq_true rfl)) (BX1_grown (bE.rf E6.S) (E6.S.c0 (Nat.le_of_ble_eq_true rfl)) hq8).2 hF (fun _ D9 E9 hF => ?_)
  refine b_call E9 (fun _ hq => (BX1_grown (bE.rf E9.S) (E9.S.c0 (Nat.le_of_ble_eq_true rfl)) hq).1) hF (fun _ hq11 D11 E11 hF => ?_)
  refine b_mv E11 (E11.S.c0 (Nat.le_of_ble_eq_true rfl)) (BX1_grown (bE.rf E9.S) (E9.S.c0 (Nat.le_of_ble_eq_true rfl)) hq11).2 hF (fun _ D12 E12 hF => ?_)
  exact b_ret E12 hF
