set_option maxRecDepth 100000
set_option maxHeartbeats 4000000
def FX2_become (this : Nat) (s : fS) : Option (Unit × fS) :=
  (uK 1 s this).bind fun _ =>
  (s.o this 0).bind fun a3 =>
  (uKA 102 s a3).bind fun _ =>
  (uCP s 3 0 a3 0 (s.i 2 1)).bind fun σ7 =>
  (uK 1 σ7 this).bind fun _ =>
  (uPI σ7 this 1 (σ7.i 2 1)).bind fun σ11 =>
  some ((), σ11)
theorem SX2_become {m b : Nat} {φ0 : Nat → Nat} {σo : fS} {q : Unit × fS} {φ : Nat → Nat} {h : eH} {s : fS} {this : Nat} (R : fC m b φ0 σo φ h s) (hF : FX2_become this s = some q) : gG m b φ0 σo lU q (fX2_become this 2 h) := by
  unfold FX2_become at hF
  unfold fX2_become
  refine s_gAs R (t_2 R.S) (Nat.le_of_ble_eq_true rfl) rfl (o_2_0 R.S) (a_3 R) ?_
  refine s_K hF (fun t3 hF => ?_)
  refine s_oo hF (fun a3 e2 hF => ?_)
  refine s_gA R t3 (Nat.le_of_ble_eq_true rfl) rfl e2 (fun x2_ y2_ => ?_)
  refine s_gI R (t_2 R.S) (Nat.le_of_ble_eq_true rfl) rfl ?_
  refine s_KA hF (fun y6 z6 hF => ?_)
  refine s_cp R (u_3 R.S).1 y6 (by rw [z6]; decide) (a_3 R) rfl (c_lit 0 0 rfl) ⟨by decide, by decide⟩ (c_lit 0 0 rfl) ⟨by decide, by decide⟩ rfl (R.ri (t_2 R.S) (Nat.le_of_ble_eq_true rfl) rfl) hF (fun h5 σ7 R5 T5 hF => ?_)
  refine s_gI R5 (t_2 R5.S) (Nat.le_of_ble_eq_true rfl) rfl ?_
  refine s_K hF (fun t9 hF => ?_)
  refine s_pI R5 t9 (Nat.le_of_ble_eq_true rfl) rfl rfl (R5.ri (t_2 R5.S) (Nat.le_of_ble_eq_true rfl) rfl) hF (fun h8 σ11 R8 T8 hF => ?_)
  exact g_ret R8 hF trivial
def FX5_load_b37 (N : Nat) (l1 : Int) (s : fS) : Option (Int × fS) :=
  (uRO s 7 l1).bind fun a3 =>
  (uK 1 s a3).bind fun _ =>
  (FX2_become a3 s).bind fun q6 =>
  some (0, q6.2)
theorem SX5_load_b37 {m b : Nat} {φ0 : Nat → Nat} {σo : fS} {N : Nat} {q : Int × fS} {φ : Nat → Nat} {h : eH} {s : fS} {l1' : Int32} {l1 : Int} (R : fC m b φ0 σo φ h s) (el1 : l1' = iI l1) (rl1 : r32 l1) (hF : FX5_load_b37 N l1 s = some q) : gG m b φ0 σo lI q (fX5_load_b37 N 6 l1' 2 h) := by
  subst el1
  unfold FX5_load_b37 at hF
  unfold fX5_load_b37
  refine s_gAs R (t_6 R.S) (Nat.le_of_ble_eq_true rfl) rfl (o_6_0 R.S) (a_7 R) ?_
  refine s_rO R (u_7 R.S).1 (u_7 R.S).2 rfl (fun _ => rfl) (Nat.le_of_ble_eq_true rfl) (a_7 R) rfl rl1 hF (fun a3 y2 hF => ?_)
  refine s_K hF (fun t4 hF => ?_)
  refine s_kok R t4 (Nat.le_of_ble_eq_true rfl) ?_
  refine s_call R (Nat.zero_le _) (fun _ hq => SX2_become (b := 0) (R.rf) hq) hF (fun f5 rv5 h5 q6 R5 e5 E5 hF => ?_)
  exact g_ret R5 hF ⟨(c_lit 0 0 rfl), ⟨by decide, by decide⟩⟩
def FX5_load (N : Nat) (p0 : Int) (s : fS) : Option (Int × fS) :=
  (FX6_check N 12 2 s).bind fun q4 =>
  if q4.1 = 0 then
    (uRQ q4.2 7 p0).bind fun a8 =>
    match a8 with
    | none =>
      (uNO 1 0 2 q4.2).bind fun q13 =>
      (FX2_init q13.1 q13.2).bind fun q15 =>
      (uK 1 q15.2 q13.1).bind fun _ =>
      (uQO q15.2 7 p0 q13.1).bind fun σ16 =>
      FX5_load_b37 N p0 σ16
    | some a10 =>
      FX5_load_b37 N p0 q4.2
  else
    some (q4.1, q4.2)
theorem SX5_load {m b : Nat} {φ0 : Nat → Nat} {σo : fS} {N : Nat} {q : Int × fS} {φ : Nat → Nat} {h : eH} {s : fS} {p0' : Int32} {p0 : Int} (R : fC m b φ0 σo φ h s) (ep0 : p0' = iI p0) (rp0 : r32 p0) (hF : FX5_load N p0 s = some q) : gG m b φ0 σo lI q (fX5_load N 6 p0' 2 h) := by
  subst ep0
  unfold FX5_load at hF
  unfold fX5_load
  refine s_gO R (t_6 R.S) (Nat.le_of_ble_eq_true rfl) rfl (o_6_7 R.S) ?_
  refine s_kok R (t_12 R.S) (Nat.le_of_ble_eq_true rfl) ?_
  refine s_call R (Nat.zero_le _) (fun _ hq => SX6_check (b := 0) (N := N) (R.rf) hq) hF (fun f3 rv3 h3 q4 R3 e3 E3 hF => ?_)
  refine s_if (i_eq e3.1 (c_lit 0 0 rfl) e3.2 ⟨by decide, by decide⟩) hF (fun c4 hF => ?_) (fun c4 hF => ?_)
  ·
    refine s_gAs R3 (t_6 R3.S) (Nat.le_of_ble_eq_true rfl) rfl (o_6_0 R3.S) (a_7 R3) ?_
    refine s_rQ R3 (u_7 R3.S).1 (u_7 R3.S).2 rfl (fun _ => rfl) (Nat.le_of_ble_eq_true rfl) (a_7 R3) rfl rp0 hF (fun a8 y6 hF => ?_)
    cases a8 with
    | none =>
      dsimp only at hF ⊢
      refine s_gAs R3 (t_6 R3.S) (Nat.le_of_ble_eq_true rfl) rfl (o_6_0 R3.S) (a_7 R3) ?_
      refine s_nO R3 (Nat.le_of_ble_eq_true rfl) (by decide) (fun _ => rfl) hF (fun h9 s9_ R9 E9 z9 l9_ hF => ?_)
      refine s_call R9 (Nat.zero_le _) (fun _ hq => SX2_init (b := 0) l9_ (R9.rf) hq) hF (fun f10 rv10 h10 q15 R10 e10 E10 hF => ?_)
      refine s_K hF (fun t12 hF => ?_)
      refine s_qO R10 (by rw [(t_7 R10.S)]; decide) (t_7 R10.S) rfl (fun _ => rfl) (Nat.le_of_ble_eq_true rfl) (a_7 R10) rfl rp0 t12 (Nat.le_of_ble_eq_true rfl) hF (fun h11 σ16 R11 T11 hF => ?_)
      exact SX5_load_b37 (N := N) R11 rfl rp0 hF
    | some a10 =>
      dsimp only at hF ⊢
      exact SX5_load_b37 (N := N) R3 rfl rp0 hF
  ·
    exact g_ret R3 hF ⟨e3.1, e3.2⟩
def FX15_mark (s : fS) : Option (Unit × fS) :=
  (uPI s 61 19 0).bind fun σ1 =>
  (uPI σ1 61 20 (σ1.i 61 5)).bind fun σ5 =>
  (uPI σ5 61 21 (σ5.i 61 9)).bind fun σ9 =>
  (uPI σ9 61 22 (σ9.i 61 16)).bind fun σ13 =>
  (uPI σ13 61 23 (σ13.i 61 17)).bind fun σ17 =>
  (uPZ σ17 61 24 (σ17.i 61 15)).bind fun σ21 =>
  some ((), σ21)
theorem SX15_mark {m b : Nat} {φ0 : Nat → Nat} {σo : fS} {q : Unit × fS} {φ : Nat → Nat} {h : eH} {s : fS} (R : fC m b φ0 σo φ h s) (hF : FX15_mark s = some q) : gG m b φ0 σo lU q (fX15_mark 61 h) := by
  unfold FX15_mark at hF
  unfold fX15_mark
  refine s_pI R (t_61 R.S) (Nat.le_of_ble_eq_true rfl) rfl (c_lit 0 0 rfl) ⟨by decide, by decide⟩ hF (fun h1 σ1 R1 T1 hF => ?_)
  refine s_gI R1 (t_61 R1.S) (Nat.le_of_ble_eq_true rfl) rfl ?_
  refine s_pI R1 (t_61 R1.S) (Nat.le_of_ble_eq_true rfl) rfl rfl (R1.ri (t_61 R1.S) (Nat.le_of_ble_eq_true rfl) rfl) hF (fun h3 σ5 R3 T3 hF => ?_)
  refine s_gI R3 (t_61 R3.S) (Nat.le_of_ble_eq_true rfl) rfl ?_
  refine s_pI R3 (t_61 R3.S) (Nat.le_of_ble_eq_true rfl) rfl rfl (R3.ri (t_61 R3.S) (Nat.le_of_ble_eq_true rfl) rfl) hF (fun h5 σ9 R5 T5 hF => ?_)
  refine s_gI R5 (t_61 R5.S) (Nat.le_of_ble_eq_true rfl) rfl ?_
  refine s_pI R5 (t_61 R5.S) (Nat.le_of_ble_eq_true rfl) rfl rfl (R5.ri (t_61 R5.S) (Nat.le_of_ble_eq_true rfl) rfl) hF (fun h7 σ13 R7 T7 hF => ?_)
  refine s_gI R7 (t_61 R7.S) (Nat.le_of_ble_eq_true rfl) rfl ?_
  refine s_pI R7 (t_61 R7.S) (Nat.le_of_ble_eq_true rfl) rfl rfl (R7.ri (t_61 R7.S) (Nat.le_of_ble_eq_true rfl) rfl) hF (fun h9 σ17 R9 T9 hF => ?_)
  refine s_gI R9 (t_61 R9.S) (Nat.le_of_ble_eq_true rfl) rfl ?_
  refine s_pZ R9 (t_61 R9.S) (Nat.le_of_ble_eq_true rfl) rfl rfl (R9.ri (t_61 R9.S) (Nat.le_of_ble_eq_true rfl) rfl) hF (fun h11 σ21 R11 T11 hF => ?_)
  exact g_ret R11 hF trivial
def FX16_mark (s : fS) : Option (Unit × fS) :=
  (uPI s 75 7 (s.i 75 5)).bind fun σ3 =>
  (uPI σ3 75 8 (σ3.i 75 6)).bind fun σ7 =>
  (uPI σ7 75 11 0).bind fun σ9 =>
  some ((), σ9)
theorem SX16_mark {m b : Nat} {φ0 : Nat → Nat} {σo : fS} {q : Unit × fS} {φ : Nat → Nat} {h : eH} {s : fS} (R : fC m b φ0 σo φ h s) (hF : FX16_mark s = some q) : gG m b φ0 σo lU q (fX16_mark 75 h) := by
  unfold FX16_mark at hF
  unfold fX16_mark
  refine s_gI R (t_75 R.S) (Nat.le_of_ble_eq_true rfl) rfl ?_
  refine s_pI R (t_75 R.S) (Nat.le_of_ble_eq_true rfl) rfl rfl (R.ri (t_75 R.S) (Nat.le_of_ble_eq_true rfl) rfl) hF (fun h2 σ3 R2 T2 hF => ?_)
  refine s_gI R2 (t_75 R2.S) (Nat.le_of_ble_eq_true rfl) rfl ?_
  refine s_pI R2 (t_75 R2.S) (Nat.le_of_ble_eq_true rfl) rfl rfl (R2.ri (t_75 R2.S) (Nat.le_of_ble_eq_true rfl) rfl) hF (fun h4 σ7 R4 T4 hF => ?_)
  refine s_pI R4 (t_75 R4.S) (Nat.le_of_ble_eq_true rfl) rfl (c_lit 0 0 rfl) ⟨by decide, by decide⟩ hF (fun h5 σ9 R5 T5 hF => ?_)
  exact g_ret R5 hF trivial
def FX14_next_b44 (s0 : Int) (s : fS) : Option (Int × fS) :=
  some (s0, s)
theorem SX14_next_b44 {m b : Nat} {φ0 : Nat → Nat} {σo : fS} {q : Int × fS} {φ : Nat → Nat} {h : eH} {s : fS} {s0' : Int32} {s0 : Int} (R : fC m b φ0 σo φ h s) (es0 : s0' = iI s0) (rs0 : r32 s0) (hF : FX14_next_b44 s0 s = some q) : gG m b φ0 σo lI q (fX14_next_b44 s0' h) := by
  subst es0
  unfold FX14_next_b44 at hF
  unfold fX14_next_b44
  exact g_ret R hF ⟨rfl, rs0⟩
def FX14_next (s : fS) : Option (Int × fS) :=
  if (s.i 60 6) < (s.i 60 5) then
    (s.o 60 4).bind fun a6 =>
    (uKA 102 s a6).bind fun _ =>
    (uRI s a6 (s.i 60 6)).bind fun x10 =>
    if ¬ (x10 = 0) then
      (s.o 60 4).bind fun a13 =>
      (uKA 102 s a13).bind fun _ =>
      (uRI s a13 (s.i 60 6)).bind fun x17 =>
      FX14_next_b44 (iand x17 255) s
    else
      FX14_next_b44 256 s
  else
    some (0, s)
theorem SX14_next {m b : Nat} {φ0 : Nat → Nat} {σo : fS} {q : Int × fS} {φ : Nat → Nat} {h : eH} {s : fS} (R : fC m b φ0 σo φ h s) (hF : FX14_next s = some q) : gG m b φ0 σo lI q (fX14_next 60 h) := by
  unfold FX14_next at hF
  unfold fX14_next
  refine s_gI R (t_60 R.S) (Nat.le_of_ble_eq_true rfl) rfl ?_
  refine s_gI R (t_60 R.S) (Nat.le_of_ble_eq_true rfl) rfl ?_
  refine s_if (i_lt rfl rfl (R.ri (t_60 R.S) (Nat.le_of_ble_eq_true rfl) rfl) (R.ri (t_60 R.S) (Nat.le_of_ble_eq_true rfl) rfl)) hF (fun c3 hF => ?_) (fun c3 hF => ?_)
  ·
    refine s_oo hF (fun a6 e4 hF => ?_)
    refine s_gA R (t_60 R.S) (Nat.le_of_ble_eq_true rfl) rfl e4 (fun x4_ y4_ => ?_)
    refine s_gI R (t_60 R.S) (Nat.le_of_ble_eq_true rfl) rfl ?_
    refine s_KA hF (fun y7 z7 hF => ?_)
    refine s_rI R y7 z7 (by decide) rfl rfl (R.ri (t_60 R.S) (Nat.le_of_ble_eq_true rfl) rfl) hF (fun x10 ra6 hF => ?_)
    refine s_if (not_congr (i_eq rfl (c_lit 0 0 rfl) ra6 ⟨by decide, by decide⟩)) hF (fun c8 hF => ?_) (fun c8 hF => ?_)
    ·
      refine s_oo hF (fun a13 e9 hF => ?_)
      refine s_gA R (t_60 R.S) (Nat.le_of_ble_eq_true rfl) rfl e9 (fun x9_ y9_ => ?_)
      refine s_gI R (t_60 R.S) (Nat.le_of_ble_eq_true rfl) rfl ?_
      refine s_KA hF (fun y12 z12 hF => ?_)
      refine s_rI R y12 z12 (by decide) rfl rfl (R.ri (t_60 R.S) (Nat.le_of_ble_eq_true rfl) rfl) hF (fun x17 ra11 hF => ?_)
      exact SX14_next_b44 R (c_and rfl (c_lit 255 255 rfl)) (rr_I _) hF
    ·
      exact SX14_next_b44 R (c_lit 256 256 rfl) ⟨by decide, by decide⟩ hF
  ·
    exact g_ret R hF ⟨(c_lit 0 0 rfl), ⟨by decide, by decide⟩⟩
def FX14_spaces_b0 (N : Nat) : Nat → fS → Option (Unit × fS)
  | 0, _ => none
  | n + 1, s =>
    (FX14_next s).bind fun q2 =>
    if ¬ (q2.1 = 32) then
      some ((), q2.2)
    else
      (uPI q2.2 60 6 (iadd (q2.2.i 60 6) 1)).bind fun σ6 =>
      FX14_spaces_b0 N n σ6
theorem SX14_spaces_b0 {m b : Nat} {φ0 : Nat → Nat} {σo : fS} {N : Nat} {q : Unit × fS} : ∀ {n : Nat} {φ : Nat → Nat} {h : eH} {s : fS} , fC m b φ0 σo φ h s → FX14_spaces_b0 N n s = some q → gG m b φ0 σo lU q (fX14_spaces_b0 N n 60 h) := by
  intro n
  induction n with
 | zero => intro φ h s R hF; simp [FX14_spaces_b0] at hF
  | succ n ih =>
    intro φ h s  R  hF
    rw [FX14_spaces_b0] at hF
    rw [fX14_spaces_b0]
    refine s_kok R (t_60 R.S) (Nat.le_of_ble_eq_true rfl) ?_
    refine s_call R (Nat.zero_le _) (fun _ hq => SX14_next (b := 0) (R.rf) hq) hF (fun f2 rv2 h2 q2 R2 e2 E2 hF => ?_)
    refine s_if (not_congr (i_eq e2.1 (c_lit 32 32 rfl) e2.2 ⟨by decide, by decide⟩)) hF (fun c3 hF => ?_) (fun c3 hF => ?_)
    ·
      exact g_ret R2 hF trivial
    ·
      refine s_gI R2 (t_60 R2.S) (Nat.le_of_ble_eq_true rfl) rfl ?_
      refine s_pI R2 (t_60 R2.S) (Nat.le_of_ble_eq_true rfl) rfl (c_add rfl (c_lit 1 1 rfl)) (rr_I _) hF (fun h5 σ6 R5 T5 hF => ?_)
      exact ih R5 hF
def FX14_spaces (N : Nat) (s : fS) : Option (Unit × fS) :=
  FX14_spaces_b0 N N s
theorem SX14_spaces {m b : Nat} {φ0 : Nat → Nat} {σo : fS} {N : Nat} {q : Unit × fS} {φ : Nat → Nat} {h : eH} {s : fS} (R : fC m b φ0 σo φ h s) (hF : FX14_spaces N s = some q) : gG m b φ0 σo lU q (fX14_spaces N 60 h) := by
  unfold FX14_spaces at hF
  unfold fX14_spaces
  exact SX14_spaces_b0 (N := N) R hF
def FX17_clear (this : Nat) (s : fS) : Option (Unit × fS) :=
  (uK 16 s this).bind fun _ =>
  (uPI s this 2 0).bind fun σ1 =>
  (uK 16 σ1 this).bind fun _ =>
  (σ1.o this 1).bind fun a3 =>
  (uKA 102 σ1 a3).bind fun _ =>
  (uQI σ1 a3 0 (i2b 0)).bind fun σ5 =>
  some ((), σ5)
theorem SX17_clear {m b : Nat} {φ0 : Nat → Nat} {σo : fS} {q : Unit × fS} {φ : Nat → Nat} {h : eH} {s : fS} {this : Nat} (R : fC m b φ0 σo φ h s) (hF : FX17_clear this s = some q) : gG m b φ0 σo lU q (fX17_clear this h) := by
  unfold FX17_clear at hF
  unfold fX17_clear
  refine s_K hF (fun t2 hF => ?_)
  refine s_pI R t2 (Nat.le_of_ble_eq_true rfl) rfl (c_lit 0 0 rfl) ⟨by decide, by decide⟩ hF (fun h1 σ1 R1 T1 hF => ?_)
  refine s_K hF (fun t4 hF => ?_)
  refine s_oo hF (fun a3 e3 hF => ?_)
  refine s_gA R1 t4 (Nat.le_of_ble_eq_true rfl) rfl e3 (fun x3_ y3_ => ?_)
  refine s_KA hF (fun y6 z6 hF => ?_)
  refine s_qI R1 y6 z6 (by decide) rfl (c_lit 0 0 rfl) ⟨by decide, by decide⟩ (c_2b (c_lit 0 0 rfl)) (rr_I _) hF (fun h5 σ5 R5 T5 hF => ?_)
  exact g_ret R5 hF trivial
def FX14_letter_b39 (s0 : Int) (s : fS) : Option (Int × fS) :=
  some (s0, s)
theorem SX14_letter_b39 {m b : Nat} {φ0 : Nat → Nat} {σo : fS} {q : Int × fS} {φ : Nat → Nat} {h : eH} {s : fS} {s0' : Int32} {s0 : Int} (R : fC m b φ0 σo φ h s) (es0 : s0' = iI s0) (rs0 : r32 s0) (hF : FX14_letter_b39 s0 s = some q) : gG m b φ0 σo lI q (fX14_letter_b39 s0' h) := by
  subst es0
  unfold FX14_letter_b39 at hF
  unfold fX14_letter_b39
  exact g_ret R hF ⟨rfl, rs0⟩
def FX14_letter_b38 (s : fS) : Option (Int × fS) :=
  FX14_letter_b39 0 s
theorem SX14_letter_b38 {m b : Nat} {φ0 : Nat → Nat} {σo : fS} {q : Int × fS} {φ : Nat → Nat} {h : eH} {s : fS} (R : fC m b φ0 σo φ h s) (hF : FX14_letter_b38 s = some q) : gG m b φ0 σo lI q (fX14_letter_b38 h) := by
  unfold FX14_letter_b38 at hF
  unfold fX14_letter_b38
  exact SX14_letter_b39 R (c_lit 0 0 rfl) ⟨by decide, by decide⟩ hF
def FX14_letter_b19 (l0 : Int) (s : fS) : Option (Int × fS) :=
  if l0 < 65 then
    FX14_letter_b38 s
  else
    if 90 < l0 then
      FX14_letter_b38 s
    else
      FX14_letter_b39 (isub l0 64) s
theorem SX14_letter_b19 {m b : Nat} {φ0 : Nat → Nat} {σo : fS} {q : Int × fS} {φ : Nat → Nat} {h : eH} {s : fS} {l0' : Int32} {l0 : Int} (R : fC m b φ0 σo φ h s) (el0 : l0' = iI l0) (rl0 : r32 l0) (hF : FX14_letter_b19 l0 s = some q) : gG m b φ0 σo lI q (fX14_letter_b19 l0' h) := by
  subst el0
  unfold FX14_letter_b19 at hF
  unfold fX14_letter_b19
  refine s_if (i_lt rfl (c_lit 65 65 rfl) rl0 ⟨by decide, by decide⟩) hF (fun c1 hF => ?_) (fun c1 hF => ?_)
  ·
    exact SX14_letter_b38 R hF
  ·
    refine s_if (i_lt (c_lit 90 90 rfl) rfl ⟨by decide, by decide⟩ rl0) hF (fun c2 hF => ?_) (fun c2 hF => ?_)
    ·
      exact SX14_letter_b38 R hF
    ·
      exact SX14_letter_b39 R (c_sub rfl (c_lit 64 64 rfl)) (rr_I _) hF
def FX14_letter (p0 : Int) (s : fS) : Option (Int × fS) :=
  if p0 < 97 then
    FX14_letter_b19 p0 s
  else
    if 122 < p0 then
      FX14_letter_b19 p0 s
    else
      FX14_letter_b39 (isub p0 96) s
theorem SX14_letter {m b : Nat} {φ0 : Nat → Nat} {σo : fS} {q : Int × fS} {φ : Nat → Nat} {h : eH} {s : fS} {p0' : Int32} {p0 : Int} (R : fC m b φ0 σo φ h s) (ep0 : p0' = iI p0) (rp0 : r32 p0) (hF : FX14_letter p0 s = some q) : gG m b φ0 σo lI q (fX14_letter p0' h) := by
  subst ep0
  unfold FX14_letter at hF
  unfold fX14_letter
  refine s_if (i_lt rfl (c_lit 97 97 rfl) rp0 ⟨by decide, by decide⟩) hF (fun c1 hF => ?_) (fun c1 hF => ?_)
  ·
    exact SX14_letter_b19 R rfl rp0 hF
  ·
    refine s_if (i_lt (c_lit 122 122 rfl) rfl ⟨by decide, by decide⟩ rp0) hF (fun c2 hF => ?_) (fun c2 hF => ?_)
    ·
      exact SX14_letter_b19 R rfl rp0 hF
    ·
      exact SX14_letter_b39 R (c_sub rfl (c_lit 96 96 rfl)) (rr_I _) hF
def FX14_want (p0 : Int) (p1 : Int) (p2 : Int) (s : fS) : Option ((Unit ⊕ Nat) × fS) :=
  if p0 = 0 then
    (uPI s 60 7 (isub (imul (-100000) p1) p2)).bind fun σ2 =>
    (uNX 50 σ2).bind fun q1 => some (.inr q1.1, q1.2)
  else
    some (.inl (), s)
theorem SX14_want {m b : Nat} {φ0 : Nat → Nat} {σo : fS} {q : (Unit ⊕ Nat) × fS} {φ : Nat → Nat} {h : eH} {s : fS} {p0' : Int32} {p0 : Int} {p1' : Int32} {p1 : Int} {p2' : Int32} {p2 : Int} (R : fC m b φ0 σo φ h s) (ep0 : p0' = iI p0) (rp0 : r32 p0) (ep1 : p1' = iI p1) (rp1 : r32 p1) (ep2 : p2' = iI p2) (rp2 : r32 p2) (hF : FX14_want p0 p1 p2 s = some q) : gG m b φ0 σo (lT lU) q (fX14_want 60 p0' p1' p2' h) := by
  subst ep0; subst ep1; subst ep2
  unfold FX14_want at hF
  unfold fX14_want
  refine s_if (i_eq rfl (c_lit 0 0 rfl) rp0 ⟨by decide, by decide⟩) hF (fun c1 hF => ?_) (fun c1 hF => ?_)
  ·
    refine s_pI R (t_60 R.S) (Nat.le_of_ble_eq_true rfl) rfl (c_sub (c_mul (c_lit (-100000) (-100000) rfl) rfl) rfl) (rr_I _) hF (fun h2 σ2 R2 T2 hF => ?_)
    exact s_exc R2 (by decide) hF
  ·
    exact g_ret R hF trivial
def FX17_add (this : Nat) (p0 : Int) (s : fS) : Option (Unit × fS) :=
  (uK 16 s this).bind fun _ =>
  (s.o this 0).bind fun a1 =>
  (uK 16 s this).bind fun _ =>
  (uK 16 s this).bind fun _ =>
  (uPI s this 2 (iadd (s.i this 2) 1)).bind fun σ5 =>
  (uKA 102 σ5 a1).bind fun _ =>
  (uQI σ5 a1 (s.i this 2) (i2b (i2b p0))).bind fun σ7 =>
  (uK 16 σ7 this).bind fun _ =>
  (σ7.o this 1).bind fun a9 =>
  (uK 16 σ7 this).bind fun _ =>
  (uKA 102 σ7 a9).bind fun _ =>
  (uQI σ7 a9 (σ7.i this 2) (i2b 0)).bind fun σ13 =>
  some ((), σ13)
theorem SX17_add {m b : Nat} {φ0 : Nat → Nat} {σo : fS} {q : Unit × fS} {φ : Nat → Nat} {h : eH} {s : fS} {this : Nat} {p0' : Int32} {p0 : Int} (R : fC m b φ0 σo φ h s) (ep0 : p0' = iI p0) (rp0 : r32 p0) (hF : FX17_add this p0 s = some q) : gG m b φ0 σo lU q (fX17_add this p0' h) := by
  subst ep0
  unfold FX17_add at hF
  unfold fX17_add
  refine s_K hF (fun t2 hF => ?_)
  refine s_oo hF (fun a1 e1 hF => ?_)
  refine s_gA R t2 (Nat.le_of_ble_eq_true rfl) rfl e1 (fun x1_ y1_ => ?_)
  refine s_K hF (fun t4 hF => ?_)
  refine s_gI R t4 (Nat.le_of_ble_eq_true rfl) rfl ?_
  refine s_K hF (fun t6 hF => ?_)
  refine s_pI R t6 (Nat.le_of_ble_eq_true rfl) rfl (c_add rfl (c_lit 1 1 rfl)) (rr_I _) hF (fun h5 σ5 R5 T5 hF => ?_)
  refine s_KA hF (fun y8 z8 hF => ?_)
  refine s_qI R5 y8 z8 (by decide) rfl rfl (R.ri t4 (Nat.le_of_ble_eq_true rfl) rfl) (c_2b (c_2b rfl)) (rr_I _) hF (fun h7 σ7 R7 T7 hF => ?_)
  refine s_K hF (fun t10 hF => ?_)
  refine s_oo hF (fun a9 e9 hF => ?_)
  refine s_gA R7 t10 (Nat.le_of_ble_eq_true rfl) rfl e9 (fun x9_ y9_ => ?_)
  refine s_K hF (fun t12 hF => ?_)
  refine s_gI R7 t12 (Nat.le_of_ble_eq_true rfl) rfl ?_
  refine s_KA hF (fun y14 z14 hF => ?_)
  refine s_qI R7 y14 z14 (by decide) rfl rfl (R7.ri t12 (Nat.le_of_ble_eq_true rfl) rfl) (c_2b (c_lit 0 0 rfl)) (rr_I _) hF (fun h13 σ13 R13 T13 hF => ?_)
  exact g_ret R13 hF trivial
def FX14_readLetter_b50 (s : fS) : Option ((Unit ⊕ Nat) × fS) :=
  some (.inl (), s)
theorem SX14_readLetter_b50 {m b : Nat} {φ0 : Nat → Nat} {σo : fS} {q : (Unit ⊕ Nat) × fS} {φ : Nat → Nat} {h : eH} {s : fS} (R : fC m b φ0 σo φ h s) (hF : FX14_readLetter_b50 s = some q) : gG m b φ0 σo (lT lU) q (fX14_readLetter_b50 h) := by
  unfold FX14_readLetter_b50 at hF
  unfold fX14_readLetter_b50
  exact g_ret R hF trivial
def FX14_readLetter_b18 (l1 : Int) (l2 : Int) (s1 : Int) (s : fS) : Option ((Unit ⊕ Nat) × fS) :=
  tB (FX14_want s1 1 (s.i 60 6) s) fun x4 σ5 =>
  (uPI σ5 60 6 (iadd (σ5.i 60 6) 1)).bind fun σ8 =>
  if 63 < l1 then
    FX14_readLetter_b50 σ8
  else
    (FX17_add 83 l2 σ8).bind fun q14 =>
    FX14_readLetter_b50 q14.2
theorem SX14_readLetter_b18 {m b : Nat} {φ0 : Nat → Nat} {σo : fS} {q : (Unit ⊕ Nat) × fS} {φ : Nat → Nat} {h : eH} {s : fS} {l1' : Int32} {l1 : Int} {l2' : Int32} {l2 : Int} {s1' : Int32} {s1 : Int} (R : fC m b φ0 σo φ h s) (el1 : l1' = iI l1) (rl1 : r32 l1) (el2 : l2' = iI l2) (rl2 : r32 l2) (es1 : s1' = iI s1) (rs1 : r32 s1) (hF : FX14_readLetter_b18 l1 l2 s1 s = some q) : gG m b φ0 σo (lT lU) q (fX14_readLetter_b18 60 l1' l2' 60 s1' h) := by
  subst el1; subst el2; subst es1
  unfold FX14_readLetter_b18 at hF
  unfold fX14_readLetter_b18
  refine s_gI R (t_60 R.S) (Nat.le_of_ble_eq_true rfl) rfl ?_
  refine s_kok R (t_60 R.S) (Nat.le_of_ble_eq_true rfl) ?_
  refine s_tB R (Nat.zero_le _) (fun _ hq => SX14_want (b := 0) (R.rf) rfl rs1 (c_lit 1 1 rfl) ⟨by decide, by decide⟩ rfl (R.ri (t_60 R.S) (Nat.le_of_ble_eq_true rfl) rfl) hq) hF (fun f3 rv3 h3 x4 σ5 R3 e3 E3 hF => ?_)
  refine s_gI R3 (t_60 R3.S) (Nat.le_of_ble_eq_true rfl) rfl ?_
  refine s_pI R3 (t_60 R3.S) (Nat.le_of_ble_eq_true rfl) rfl (c_add rfl (c_lit 1 1 rfl)) (rr_I _) hF (fun h5 σ8 R5 T5 hF => ?_)
  refine s_if (i_lt (c_lit 63 63 rfl) rfl ⟨by decide, by decide⟩ rl1) hF (fun c6 hF => ?_) (fun c6 hF => ?_)
  ·
    exact SX14_readLetter_b50 R5 hF
  ·
    refine s_gO R5 (t_60 R5.S) (Nat.le_of_ble_eq_true rfl) rfl (o_60_2 R5.S) ?_
    refine s_kok R5 (t_83 R5.S) (Nat.le_of_ble_eq_true rfl) ?_
    refine s_call R5 (Nat.zero_le _) (fun _ hq => SX17_add (b := 0) (R5.rf) rfl rl2 hq) hF (fun f9 rv9 h9 q14 R9 e9 E9 hF => ?_)
    exact SX14_readLetter_b50 R9 hF
def FX14_readLetter (p0 : Int) (s : fS) : Option ((Unit ⊕ Nat) × fS) :=
  (FX14_next s).bind fun q2 =>
  (FX14_letter q2.1 q2.2).bind fun q3 =>
  if q3.1 ≤ 0 then
    FX14_readLetter_b18 p0 q3.1 0 q3.2
  else
    FX14_readLetter_b18 p0 q3.1 1 q3.2
theorem SX14_readLetter {m b : Nat} {φ0 : Nat → Nat} {σo : fS} {q : (Unit ⊕ Nat) × fS} {φ : Nat → Nat} {h : eH} {s : fS} {p0' : Int32} {p0 : Int} (R : fC m b φ0 σo φ h s) (ep0 : p0' = iI p0) (rp0 : r32 p0) (hF : FX14_readLetter p0 s = some q) : gG m b φ0 σo (lT lU) q (fX14_readLetter 60 p0' h) := by
  subst ep0
  unfold FX14_readLetter at hF
  unfold fX14_readLetter
  refine s_kok R (t_60 R.S) (Nat.le_of_ble_eq_true rfl) ?_
  refine s_call R (Nat.zero_le _) (fun _ hq => SX14_next (b := 0) (R.rf) hq) hF (fun f2 rv2 h2 q2 R2 e2 E2 hF => ?_)
  refine s_call R2 (Nat.zero_le _) (fun _ hq => SX14_letter (b := 0) (R2.rf) e2.1 e2.2 hq) hF (fun f3 rv3 h3 q3 R3 e3 E3 hF => ?_)
  refine s_if (i_le e3.1 (c_lit 0 0 rfl) e3.2 ⟨by decide, by decide⟩) hF (fun c4 hF => ?_) (fun c4 hF => ?_)
  ·
    exact SX14_readLetter_b18 R3 rfl rp0 e3.1 e3.2 (c_lit 0 0 rfl) ⟨by decide, by decide⟩ hF
  ·
    exact SX14_readLetter_b18 R3 rfl rp0 e3.1 e3.2 (c_lit 1 1 rfl) ⟨by decide, by decide⟩ hF
def FX14_isOver_b21 (s0 : Int) (s : fS) : Option (Int × fS) :=
  uZ s0 (s0, s)
theorem SX14_isOver_b21 {m b : Nat} {φ0 : Nat → Nat} {σo : fS} {q : Int × fS} {φ : Nat → Nat} {h : eH} {s : fS} {s0' : Int32} {s0 : Int} (R : fC m b φ0 σo φ h s) (es0 : s0' = iI s0) (rs0 : r32 s0) (hF : FX14_isOver_b21 s0 s = some q) : gG m b φ0 σo lI q (fX14_isOver_b21 s0' h) := by
  subst es0
  unfold FX14_isOver_b21 at hF
  unfold fX14_isOver_b21
  exact g_z R rfl hF ⟨rfl, rs0⟩
def FX14_isOver_b16 (s : fS) : Option (Int × fS) :=
  FX14_isOver_b21 1 s
theorem SX14_isOver_b16 {m b : Nat} {φ0 : Nat → Nat} {σo : fS} {q : Int × fS} {φ : Nat → Nat} {h : eH} {s : fS} (R : fC m b φ0 σo φ h s) (hF : FX14_isOver_b16 s = some q) : gG m b φ0 σo lI q (fX14_isOver_b16 h) := by
  unfold FX14_isOver_b16 at hF
  unfold fX14_isOver_b16
  exact SX14_isOver_b21 R (c_lit 1 1 rfl) ⟨by decide, by decide⟩ hF
def FX14_isOver (s : fS) : Option (Int × fS) :=
  (FX14_next s).bind fun q2 =>
  if q2.1 = 0 then
    FX14_isOver_b16 q2.2
  else
    (FX14_next q2.2).bind fun q5 =>
    if ¬ (q5.1 = 32) then
      FX14_isOver_b21 0 q5.2
    else
      FX14_isOver_b16 q5.2
theorem SX14_isOver {m b : Nat} {φ0 : Nat → Nat} {σo : fS} {q : Int × fS} {φ : Nat → Nat} {h : eH} {s : fS} (R : fC m b φ0 σo φ h s) (hF : FX14_isOver s = some q) : gG m b φ0 σo lI q (fX14_isOver 60 h) := by
  unfold FX14_isOver at hF
  unfold fX14_isOver
  refine s_kok R (t_60 R.S) (Nat.le_of_ble_eq_true rfl) ?_
  refine s_call R (Nat.zero_le _) (fun _ hq => SX14_next (b := 0) (R.rf) hq) hF (fun f2 rv2 h2 q2 R2 e2 E2 hF => ?_)
  refine s_if (i_eq e2.1 (c_lit 0 0 rfl) e2.2 ⟨by decide, by decide⟩) hF (fun c3 hF => ?_) (fun c3 hF => ?_)
  ·
    exact SX14_isOver_b16 R2 hF
  ·
    refine s_kok R2 (t_60 R2.S) (Nat.le_of_ble_eq_true rfl) ?_
    refine s_call R2 (Nat.zero_le _) (fun _ hq => SX14_next (b := 0) (R2.rf) hq) hF (fun f5 rv5 h5 q5 R5 e5 E5 hF => ?_)
    refine s_if (not_congr (i_eq e5.1 (c_lit 32 32 rfl) e5.2 ⟨by decide, by decide⟩)) hF (fun c6 hF => ?_) (fun c6 hF => ?_)
    ·
      exact SX14_isOver_b21 R5 (c_lit 0 0 rfl) ⟨by decide, by decide⟩ hF
    ·
      exact SX14_isOver_b16 R5 hF
def FX16_is_b64 (N : Nat) (K22 : Int → Int → Int → fS → Option (Int × fS)) (l1 : Int) (l4 : Int) (s0 : Int) (s : fS) : Option (Int × fS) :=
  K22 l1 s0 (iadd l4 1) s
theorem SX16_is_b64 {m b : Nat} {φ0 : Nat → Nat} {σo : fS} {N : Nat} {k22 : Nat → Int32 → Nat → Int32 → Int32 → eH → Option (Int32 × eH)} {K22 : Int → Int → Int → fS → Option (Int × fS)} {q : Int × fS} (hk22 : ∀ {φ : Nat → Nat} {h : eH} {s : fS} {l1' : Int32} {l1 : Int} {l3' : Int32} {l3 : Int} {l4' : Int32} {l4 : Int}, fC m b φ0 σo φ h s → l1' = iI l1 → r32 l1 → l3' = iI l3 → r32 l3 → l4' = iI l4 → r32 l4 → K22 l1 l3 l4 s = some q → gG m b φ0 σo lI q (k22 75 l1' 83 l3' l4' h)) {φ : Nat → Nat} {h : eH} {s : fS} {l1' : Int32} {l1 : Int} {l4' : Int32} {l4 : Int} {s0' : Int32} {s0 : Int} (R : fC m b φ0 σo φ h s) (el1 : l1' = iI l1) (rl1 : r32 l1) (el4 : l4' = iI l4) (rl4 : r32 l4) (es0 : s0' = iI s0) (rs0 : r32 s0) (hF : FX16_is_b64 N K22 l1 l4 s0 s = some q) : gG m b φ0 σo lI q (fX16_is_b64 N k22 75 l1' 83 l4' s0' h) := by
  subst el1; subst el4; subst es0
  unfold FX16_is_b64 at hF
  unfold fX16_is_b64
  exact hk22 R rfl rl1 rfl rs0 (c_add rfl (c_lit 1 1 rfl)) (rr_I _) hF
def FX16_is_b71 (N : Nat) (l3 : Int) (s : fS) : Option (Int × fS) :=
  uZ l3 (l3, s)
theorem SX16_is_b71 {m b : Nat} {φ0 : Nat → Nat} {σo : fS} {N : Nat} {q : Int × fS} {φ : Nat → Nat} {h : eH} {s : fS} {l3' : Int32} {l3 : Int} (R : fC m b φ0 σo φ h s) (el3 : l3' = iI l3) (rl3 : r32 l3) (hF : FX16_is_b71 N l3 s = some q) : gG m b φ0 σo lI q (fX16_is_b71 N l3' h) := by
  subst el3
  unfold FX16_is_b71 at hF
  unfold fX16_is_b71
  exact g_z R rfl hF ⟨rfl, rl3⟩
def FX16_is_b22 (N : Nat) : Nat → Int → Int → Int → fS → Option (Int × fS)
  | 0, _, _, _, _ => none
  | n + 1, l1, l3, l4, s =>
    if l3 = 0 then
      FX16_is_b71 N l3 s
    else
      if (s.i 83 2) ≤ l4 then
        FX16_is_b71 N l3 s
      else
        (uRI s 77 l1).bind fun x9 =>
        (uRI s 80 (iadd x9 l4)).bind fun x11 =>
        (uRI s 84 l4).bind fun x15 =>
        if ¬ (x11 = x15) then
          FX16_is_b64 N (FX16_is_b22 N n) l1 l4 0 s
        else
          FX16_is_b64 N (FX16_is_b22 N n) l1 l4 1 s
theorem SX16_is_b22 {m b : Nat} {φ0 : Nat → Nat} {σo : fS} {N : Nat} {q : Int × fS} : ∀ {n : Nat} {φ : Nat → Nat} {h : eH} {s : fS} {l1' : Int32} {l1 : Int} {l3' : Int32} {l3 : Int} {l4' : Int32} {l4 : Int}, fC m b φ0 σo φ h s → l1' = iI l1 → r32 l1 → l3' = iI l3 → r32 l3 → l4' = iI l4 → r32 l4 → FX16_is_b22 N n l1 l3 l4 s = some q → gG m b φ0 σo lI q (fX16_is_b22 N n 75 l1' 83 l3' l4' h) := by
  intro n
  induction n with
 | zero => intro φ h s l1' l1 l3' l3 l4' l4 R el1 rl1 el3 rl3 el4 rl4 hF; simp [FX16_is_b22] at hF
  | succ n ih =>
    intro φ h s l1' l1 l3' l3 l4' l4 R el1 rl1 el3 rl3 el4 rl4 hF
    subst el1; subst el3; subst el4
    rw [FX16_is_b22] at hF
    rw [fX16_is_b22]
    refine s_if (i_eq rfl (c_lit 0 0 rfl) rl3 ⟨by decide, by decide⟩) hF (fun c1 hF => ?_) (fun c1 hF => ?_)
    ·
      exact SX16_is_b71 (N := N) R rfl rl3 hF
    ·
      refine s_gI R (t_83 R.S) (Nat.le_of_ble_eq_true rfl) rfl ?_
      refine s_if (i_le rfl rfl (R.ri (t_83 R.S) (Nat.le_of_ble_eq_true rfl) rfl) rl4) hF (fun c3 hF => ?_) (fun c3 hF => ?_)
      ·
        exact SX16_is_b71 (N := N) R rfl rl3 hF
      ·
        refine s_gAs R (t_75 R.S) (Nat.le_of_ble_eq_true rfl) rfl (o_75_4 R.S) (a_80 R) ?_
        refine s_gAs R (t_75 R.S) (Nat.le_of_ble_eq_true rfl) rfl (o_75_1 R.S) (a_77 R) ?_
        refine s_rI R (u_77 R.S).1 (u_77 R.S).2 (by decide) (a_77 R) rfl rl1 hF (fun x9 ra6 hF => ?_)
        refine s_rI R (u_80 R.S).1 (u_80 R.S).2 (by decide) (a_80 R) (c_add rfl rfl) (rr_I _) hF (fun x11 ra7 hF => ?_)
        refine s_gAs R (t_83 R.S) (Nat.le_of_ble_eq_true rfl) rfl (o_83_0 R.S) (a_84 R) ?_
        refine s_rI R (u_84 R.S).1 (u_84 R.S).2 (by decide) (a_84 R) rfl rl4 hF (fun x15 ra9 hF => ?_)
        refine s_if (not_congr (i_eq rfl rfl ra7 ra9)) hF (fun c10 hF => ?_) (fun c10 hF => ?_)
        ·
          exact SX16_is_b64 (N := N) (k22 := fX16_is_b22 N n) (K22 := FX16_is_b22 N n) @ih R rfl rl1 rfl rl4 (c_lit 0 0 rfl) ⟨by decide, by decide⟩ hF
        ·
          exact SX16_is_b64 (N := N) (k22 := fX16_is_b22 N n) (K22 := FX16_is_b22 N n) @ih R rfl rl1 rfl rl4 (c_lit 1 1 rfl) ⟨by decide, by decide⟩ hF
def FX16_is_b18 (N : Nat) (l1 : Int) (s0 : Int) (s : fS) : Option (Int × fS) :=
  FX16_is_b22 N N l1 s0 0 s
theorem SX16_is_b18 {m b : Nat} {φ0 : Nat → Nat} {σo : fS} {N : Nat} {q : Int × fS} {φ : Nat → Nat} {h : eH} {s : fS} {l1' : Int32} {l1 : Int} {s0' : Int32} {s0 : Int} (R : fC m b φ0 σo φ h s) (el1 : l1' = iI l1) (rl1 : r32 l1) (es0 : s0' = iI s0) (rs0 : r32 s0) (hF : FX16_is_b18 N l1 s0 s = some q) : gG m b φ0 σo lI q (fX16_is_b18 N 75 l1' 83 s0' h) := by
  subst el1; subst es0
  unfold FX16_is_b18 at hF
  unfold fX16_is_b18
  exact SX16_is_b22 (N := N) R rfl rl1 rfl rs0 (c_lit 0 0 rfl) ⟨by decide, by decide⟩ hF
def FX16_is (N : Nat) (p0 : Int) (s : fS) : Option (Int × fS) :=
  (uRI s 78 p0).bind fun x3 =>
  if ¬ (x3 = (s.i 83 2)) then
    FX16_is_b18 N p0 0 s
  else
    FX16_is_b18 N p0 1 s
theorem SX16_is {m b : Nat} {φ0 : Nat → Nat} {σo : fS} {N : Nat} {q : Int × fS} {φ : Nat → Nat} {h : eH} {s : fS} {p0' : Int32} {p0 : Int} (R : fC m b φ0 σo φ h s) (ep0 : p0' = iI p0) (rp0 : r32 p0) (hF : FX16_is N p0 s = some q) : gG m b φ0 σo lI q (fX16_is N 75 p0' 83 h) := by
  subst ep0
  unfold FX16_is at hF
  unfold fX16_is
  refine s_gAs R (t_75 R.S) (Nat.le_of_ble_eq_true rfl) rfl (o_75_2 R.S) (a_78 R) ?_
  refine s_rI R (u_78 R.S).1 (u_78 R.S).2 (by decide) (a_78 R) rfl rp0 hF (fun x3 ra2 hF => ?_)
  refine s_gI R (t_83 R.S) (Nat.le_of_ble_eq_true rfl) rfl ?_
  refine s_if (not_congr (i_eq rfl rfl ra2 (R.ri (t_83 R.S) (Nat.le_of_ble_eq_true rfl) rfl))) hF (fun c4 hF => ?_) (fun c4 hF => ?_)
  ·
    exact SX16_is_b18 (N := N) R rfl rp0 (c_lit 0 0 rfl) ⟨by decide, by decide⟩ hF
  ·
    exact SX16_is_b18 (N := N) R rfl rp0 (c_lit 1 1 rfl) ⟨by decide, by decide⟩ hF
def FX16_seek_b80 (N : Nat) (l3 : Int) (s : fS) : Option (Int × fS) :=
  some (l3, s)
theorem SX16_seek_b80 {m b : Nat} {φ0 : Nat → Nat} {σo : fS} {N : Nat} {q : Int × fS} {φ : Nat → Nat} {h : eH} {s : fS} {l3' : Int32} {l3 : Int} (R : fC m b φ0 σo φ h s) (el3 : l3' = iI l3) (rl3 : r32 l3) (hF : FX16_seek_b80 N l3 s = some q) : gG m b φ0 σo lI q (fX16_seek_b80 N l3' h) := by
  subst el3
  unfold FX16_seek_b80 at hF
  unfold fX16_seek_b80
  exact g_ret R hF ⟨rfl, rl3⟩
def FX16_seek_b44 (N : Nat) : Nat → Int → fS → Option (Int × fS)
  | 0, _, _ => none
  | n + 1, l3, s =>
    (uRI s 76 l3).bind fun x3 =>
    if x3 = 0 then
      FX16_seek_b80 N l3 s
    else
      (uRI s 76 l3).bind fun x8 =>
      (FX16_is N (isub x8 1) s).bind fun q11 =>
      if ¬ (q11.1 = 0) then
        FX16_seek_b80 N l3 q11.2
      else
        FX16_seek_b44 N n (iand (iadd l3 1) 511) q11.2
theorem SX16_seek_b44 {m b : Nat} {φ0 : Nat → Nat} {σo : fS} {N : Nat} {q : Int × fS} : ∀ {n : Nat} {φ : Nat → Nat} {h : eH} {s : fS} {l3' : Int32} {l3 : Int}, fC m b φ0 σo φ h s → l3' = iI l3 → r32 l3 → FX16_seek_b44 N n l3 s = some q → gG m b φ0 σo lI q (fX16_seek_b44 N n 75 83 l3' h) := by
  intro n
  induction n with
 | zero => intro φ h s l3' l3 R el3 rl3 hF; simp [FX16_seek_b44] at hF
  | succ n ih =>
    intro φ h s l3' l3 R el3 rl3 hF
    subst el3
    rw [FX16_seek_b44] at hF
    rw [fX16_seek_b44]
    refine s_gAs R (t_75 R.S) (Nat.le_of_ble_eq_true rfl) rfl (o_75_0 R.S) (a_76 R) ?_
    refine s_rI R (u_76 R.S).1 (u_76 R.S).2 (by decide) (a_76 R) rfl rl3 hF (fun x3 ra2 hF => ?_)
    refine s_if (i_eq rfl (c_lit 0 0 rfl) ra2 ⟨by decide, by decide⟩) hF (fun c3 hF => ?_) (fun c3 hF => ?_)
    ·
      exact SX16_seek_b80 (N := N) R rfl rl3 hF
    ·
      refine s_gAs R (t_75 R.S) (Nat.le_of_ble_eq_true rfl) rfl (o_75_0 R.S) (a_76 R) ?_
      refine s_rI R (u_76 R.S).1 (u_76 R.S).2 (by decide) (a_76 R) rfl rl3 hF (fun x8 ra5 hF => ?_)
      refine s_kok R (t_75 R.S) (Nat.le_of_ble_eq_true rfl) ?_
      refine s_call R (Nat.zero_le _) (fun _ hq => SX16_is (b := 0) (N := N) (R.rf) (c_sub rfl (c_lit 1 1 rfl)) (rr_I _) hq) hF (fun f7 rv7 h7 q11 R7 e7 E7 hF => ?_)
      refine s_if (not_congr (i_eq e7.1 (c_lit 0 0 rfl) e7.2 ⟨by decide, by decide⟩)) hF (fun c8 hF => ?_) (fun c8 hF => ?_)
      ·
        exact SX16_seek_b80 (N := N) R7 rfl rl3 hF
      ·
        exact ih R7 (c_and (c_add rfl (c_lit 1 1 rfl)) (c_lit 511 511 rfl)) (rr_I _) hF
def FX16_seek_b7 (N : Nat) : Nat → Int → Int → fS → Option (Int × fS)
  | 0, _, _, _ => none
  | n + 1, l2, l3, s =>
    if (s.i 83 2) ≤ l3 then
      FX16_seek_b44 N N (iand (ixor l2 (iush l2 9)) 511) s
    else
      (uRI s 84 l3).bind fun x6 =>
      FX16_seek_b7 N n (iadd (imul 31 l2) x6) (iadd l3 1) s
theorem SX16_seek_b7 {m b : Nat} {φ0 : Nat → Nat} {σo : fS} {N : Nat} {q : Int × fS} : ∀ {n : Nat} {φ : Nat → Nat} {h : eH} {s : fS} {l2' : Int32} {l2 : Int} {l3' : Int32} {l3 : Int}, fC m b φ0 σo φ h s → l2' = iI l2 → r32 l2 → l3' = iI l3 → r32 l3 → FX16_seek_b7 N n l2 l3 s = some q → gG m b φ0 σo lI q (fX16_seek_b7 N n 75 83 l2' l3' h) := by
  intro n
  induction n with
 | zero => intro φ h s l2' l2 l3' l3 R el2 rl2 el3 rl3 hF; simp [FX16_seek_b7] at hF
  | succ n ih =>
    intro φ h s l2' l2 l3' l3 R el2 rl2 el3 rl3 hF
    subst el2; subst el3
    rw [FX16_seek_b7] at hF
    rw [fX16_seek_b7]
    refine s_gI R (t_83 R.S) (Nat.le_of_ble_eq_true rfl) rfl ?_
    refine s_if (i_le rfl rfl (R.ri (t_83 R.S) (Nat.le_of_ble_eq_true rfl) rfl) rl3) hF (fun c2 hF => ?_) (fun c2 hF => ?_)
    ·
      exact SX16_seek_b44 (N := N) R (c_and (c_xor rfl (c_ush rfl (c_lit 9 9 rfl))) (c_lit 511 511 rfl)) (rr_I _) hF
    ·
      refine s_gAs R (t_83 R.S) (Nat.le_of_ble_eq_true rfl) rfl (o_83_0 R.S) (a_84 R) ?_
      refine s_rI R (u_84 R.S).1 (u_84 R.S).2 (by decide) (a_84 R) rfl rl3 hF (fun x6 ra4 hF => ?_)
      exact ih R (c_add (c_mul (c_lit 31 31 rfl) rfl) rfl) (rr_I _) (c_add rfl (c_lit 1 1 rfl)) (rr_I _) hF
def FX16_seek (N : Nat) (s : fS) : Option (Int × fS) :=
  FX16_seek_b7 N N (s.i 83 2) 0 s
theorem SX16_seek {m b : Nat} {φ0 : Nat → Nat} {σo : fS} {N : Nat} {q : Int × fS} {φ : Nat → Nat} {h : eH} {s : fS} (R : fC m b φ0 σo φ h s) (hF : FX16_seek N s = some q) : gG m b φ0 σo lI q (fX16_seek N 75 83 h) := by
  unfold FX16_seek at hF
  unfold fX16_seek
  refine s_gI R (t_83 R.S) (Nat.le_of_ble_eq_true rfl) rfl ?_
  exact SX16_seek_b7 (N := N) R rfl (R.ri (t_83 R.S) (Nat.le_of_ble_eq_true rfl) rfl) (c_lit 0 0 rfl) ⟨by decide, by decide⟩ hF
def FX16_find (N : Nat) (s : fS) : Option (Int × fS) :=
  (FX16_seek N s).bind fun q4 =>
  (uRI q4.2 76 q4.1).bind fun x5 =>
  some ((isub x5 1), q4.2)
theorem SX16_find {m b : Nat} {φ0 : Nat → Nat} {σo : fS} {N : Nat} {q : Int × fS} {φ : Nat → Nat} {h : eH} {s : fS} (R : fC m b φ0 σo φ h s) (hF : FX16_find N s = some q) : gG m b φ0 σo lI q (fX16_find N 75 83 h) := by
  unfold FX16_find at hF
  unfold fX16_find
  refine s_gAs R (t_75 R.S) (Nat.le_of_ble_eq_true rfl) rfl (o_75_0 R.S) (a_76 R) ?_
  refine s_kok R (t_75 R.S) (Nat.le_of_ble_eq_true rfl) ?_
  refine s_call R (Nat.zero_le _) (fun _ hq => SX16_seek (b := 0) (N := N) (R.rf) hq) hF (fun f3 rv3 h3 q4 R3 e3 E3 hF => ?_)
  refine s_rI R3 (u_76 R3.S).1 (u_76 R3.S).2 (by decide) (a_76 R3) e3.1 e3.2 hF (fun x5 ra4 hF => ?_)
  exact g_ret R3 hF ⟨(c_sub rfl (c_lit 1 1 rfl)), (rr_I _)⟩
def FX16_add_b138 (N : Nat) : Nat → Int → Int → Int → fS → Option (Unit × fS)
  | 0, _, _, _, _ => none
  | n + 1, l3, l4, l6, s =>
    if (s.i 83 2) ≤ l6 then
      (uQJ s 79 l3 l4).bind fun σ6 =>
      some ((), σ6)
    else
      (uRI s 85 l6).bind fun x10 =>
      FX16_add_b138 N n l3 (lor l4 (lshl x10 l6)) (iadd l6 1) s
theorem SX16_add_b138 {m b : Nat} {φ0 : Nat → Nat} {σo : fS} {N : Nat} {q : Unit × fS} : ∀ {n : Nat} {φ : Nat → Nat} {h : eH} {s : fS} {l3' : Int32} {l3 : Int} {l4' : Int64} {l4 : Int} {l6' : Int32} {l6 : Int}, fC m b φ0 σo φ h s → l3' = iI l3 → r32 l3 → l4' = iJ l4 → r64 l4 → l6' = iI l6 → r32 l6 → FX16_add_b138 N n l3 l4 l6 s = some q → gG m b φ0 σo lU q (fX16_add_b138 N n 75 83 l3' l4' l6' h) := by
  intro n
  induction n with
 | zero => intro φ h s l3' l3 l4' l4 l6' l6 R el3 rl3 el4 rl4 el6 rl6 hF; simp [FX16_add_b138] at hF
  | succ n ih =>
    intro φ h s l3' l3 l4' l4 l6' l6 R el3 rl3 el4 rl4 el6 rl6 hF
    subst el3; subst el4; subst el6
    rw [FX16_add_b138] at hF
    rw [fX16_add_b138]
    refine s_gI R (t_83 R.S) (Nat.le_of_ble_eq_true rfl) rfl ?_
    refine s_if (i_le rfl rfl (R.ri (t_83 R.S) (Nat.le_of_ble_eq_true rfl) rfl) rl6) hF (fun c2 hF => ?_) (fun c2 hF => ?_)
    ·
      refine s_gAs R (t_75 R.S) (Nat.le_of_ble_eq_true rfl) rfl (o_75_3 R.S) (a_79 R) ?_
      refine s_qJ R (u_79 R.S).1 (u_79 R.S).2 (a_79 R) rfl rl3 rfl rl4 hF (fun h4 σ6 R4 T4 hF => ?_)
      exact g_ret R4 hF trivial
    ·
      refine s_gAs R (t_83 R.S) (Nat.le_of_ble_eq_true rfl) rfl (o_83_1 R.S) (a_85 R) ?_
      refine s_rI R (u_85 R.S).1 (u_85 R.S).2 (by decide) (a_85 R) rfl rl6 hF (fun x10 ra6 hF => ?_)
      exact ih R rfl rl3 (d_or rfl (d_shl (c_2l rfl ra6) (c_2l rfl rl6))) (rr_J _) (c_add rfl (c_lit 1 1 rfl)) (rr_I _) hF
def FX16_add_b91 (N : Nat) (l2 : Int) (s : fS) : Option (Unit × fS) :=
  (uRI s 76 l2).bind fun x3 =>
  (uQI s 81 (s.i 75 11) (isub x3 1)).bind fun σ9 =>
  (uPI σ9 75 11 (iadd (σ9.i 75 11) 1)).bind fun σ15 =>
  (uRJ σ15 79 (isub x3 1)).bind fun x19 =>
  (uQJ σ15 82 (σ9.i 75 11) x19).bind fun σ21 =>
  FX16_add_b138 N N (isub x3 1) 0 1 σ21
theorem SX16_add_b91 {m b : Nat} {φ0 : Nat → Nat} {σo : fS} {N : Nat} {q : Unit × fS} {φ : Nat → Nat} {h : eH} {s : fS} {l2' : Int32} {l2 : Int} (R : fC m b φ0 σo φ h s) (el2 : l2' = iI l2) (rl2 : r32 l2) (hF : FX16_add_b91 N l2 s = some q) : gG m b φ0 σo lU q (fX16_add_b91 N 75 83 l2' h) := by
  subst el2
  unfold FX16_add_b91 at hF
  unfold fX16_add_b91
  refine s_gAs R (t_75 R.S) (Nat.le_of_ble_eq_true rfl) rfl (o_75_0 R.S) (a_76 R) ?_
  refine s_rI R (u_76 R.S).1 (u_76 R.S).2 (by decide) (a_76 R) rfl rl2 hF (fun x3 ra2 hF => ?_)
  refine s_gAs R (t_75 R.S) (Nat.le_of_ble_eq_true rfl) rfl (o_75_9 R.S) (a_81 R) ?_
  refine s_gI R (t_75 R.S) (Nat.le_of_ble_eq_true rfl) rfl ?_
  refine s_qI R (u_81 R.S).1 (u_81 R.S).2 (by decide) (a_81 R) rfl (R.ri (t_75 R.S) (Nat.le_of_ble_eq_true rfl) rfl) (c_sub rfl (c_lit 1 1 rfl)) (rr_I _) hF (fun h5 σ9 R5 T5 hF => ?_)
  refine s_gAs R5 (t_75 R5.S) (Nat.le_of_ble_eq_true rfl) rfl (o_75_10 R5.S) (a_82 R5) ?_
  refine s_gI R5 (t_75 R5.S) (Nat.le_of_ble_eq_true rfl) rfl ?_
  refine s_pI R5 (t_75 R5.S) (Nat.le_of_ble_eq_true rfl) rfl (c_add rfl (c_lit 1 1 rfl)) (rr_I _) hF (fun h8 σ15 R8 T8 hF => ?_)
  refine s_gAs R8 (t_75 R8.S) (Nat.le_of_ble_eq_true rfl) rfl (o_75_3 R8.S) (a_79 R8) ?_
  refine s_rJ R8 (u_79 R8.S).1 (u_79 R8.S).2 (a_79 R8) (c_sub rfl (c_lit 1 1 rfl)) (rr_I _) hF (fun x19 ra10 hF => ?_)
  refine s_qJ R8 (u_82 R8.S).1 (u_82 R8.S).2 (a_82 R8) rfl (R5.ri (t_75 R5.S) (Nat.le_of_ble_eq_true rfl) rfl) rfl ra10 hF (fun h11 σ21 R11 T11 hF => ?_)
  exact SX16_add_b138 (N := N) R11 (c_sub rfl (c_lit 1 1 rfl)) (rr_I _) (d_lit 0 0 rfl) ⟨by decide, by decide⟩ (c_lit 1 1 rfl) ⟨by decide, by decide⟩ hF
def FX16_add (N : Nat) (s : fS) : Option (Unit × fS) :=
  (FX16_seek N s).bind fun q2 =>
  (uRI q2.2 76 q2.1).bind fun x5 =>
  if ¬ (x5 = 0) then
    FX16_add_b91 N q2.1 q2.2
  else
    (uQI q2.2 77 (q2.2.i 75 5) (q2.2.i 75 6)).bind fun σ14 =>
    (uQI σ14 78 (σ14.i 75 5) (σ14.i 83 2)).bind fun σ22 =>
    (uCP σ22 84 0 80 (σ22.i 75 6) (σ22.i 83 2)).bind fun σ32 =>
    (uPI σ32 75 6 (iadd (σ32.i 75 6) (σ32.i 83 2))).bind fun σ38 =>
    (uPI σ38 75 5 (iadd (σ38.i 75 5) 1)).bind fun σ44 =>
    (uQI σ44 76 q2.1 (iadd (σ38.i 75 5) 1)).bind fun σ46 =>
    FX16_add_b91 N q2.1 σ46
theorem SX16_add {m b : Nat} {φ0 : Nat → Nat} {σo : fS} {N : Nat} {q : Unit × fS} {φ : Nat → Nat} {h : eH} {s : fS} (R : fC m b φ0 σo φ h s) (hF : FX16_add N s = some q) : gG m b φ0 σo lU q (fX16_add N 75 83 h) := by
  unfold FX16_add at hF
  unfold fX16_add
  refine s_kok R (t_75 R.S) (Nat.le_of_ble_eq_true rfl) ?_
  refine s_call R (Nat.zero_le _) (fun _ hq => SX16_seek (b := 0) (N := N) (R.rf) hq) hF (fun f2 rv2 h2 q2 R2 e2 E2 hF => ?_)
  refine s_gAs R2 (t_75 R2.S) (Nat.le_of_ble_eq_true rfl) rfl (o_75_0 R2.S) (a_76 R2) ?_
  refine s_rI R2 (u_76 R2.S).1 (u_76 R2.S).2 (by decide) (a_76 R2) e2.1 e2.2 hF (fun x5 ra4 hF => ?_)
  refine s_if (not_congr (i_eq rfl (c_lit 0 0 rfl) ra4 ⟨by decide, by decide⟩)) hF (fun c5 hF => ?_) (fun c5 hF => ?_)
  ·
    exact SX16_add_b91 (N := N) R2 e2.1 e2.2 hF
  ·
    refine s_gAs R2 (t_75 R2.S) (Nat.le_of_ble_eq_true rfl) rfl (o_75_1 R2.S) (a_77 R2) ?_
    refine s_gI R2 (t_75 R2.S) (Nat.le_of_ble_eq_true rfl) rfl ?_
    refine s_gI R2 (t_75 R2.S) (Nat.le_of_ble_eq_true rfl) rfl ?_
    refine s_qI R2 (u_77 R2.S).1 (u_77 R2.S).2 (by decide) (a_77 R2) rfl (R2.ri (t_75 R2.S) (Nat.le_of_ble_eq_true rfl) rfl) rfl (R2.ri (t_75 R2.S) (Nat.le_of_ble_eq_true rfl) rfl) hF (fun h9 σ14 R9 T9 hF => ?_)
    refine s_gAs R9 (t_75 R9.S) (Nat.le_of_ble_eq_true rfl) rfl (o_75_2 R9.S) (a_78 R9) ?_
    refine s_gI R9 (t_75 R9.S) (Nat.le_of_ble_eq_true rfl) rfl ?_
    refine s_gI R9 (t_83 R9.S) (Nat.le_of_ble_eq_true rfl) rfl ?_
    refine s_qI R9 (u_78 R9.S).1 (u_78 R9.S).2 (by decide) (a_78 R9) rfl (R9.ri (t_75 R9.S) (Nat.le_of_ble_eq_true rfl) rfl) rfl (R9.ri (t_83 R9.S) (Nat.le_of_ble_eq_true rfl) rfl) hF (fun h13 σ22 R13 T13 hF => ?_)
    refine s_gAs R13 (t_83 R13.S) (Nat.le_of_ble_eq_true rfl) rfl (o_83_0 R13.S) (a_84 R13) ?_
    refine s_gAs R13 (t_75 R13.S) (Nat.le_of_ble_eq_true rfl) rfl (o_75_4 R13.S) (a_80 R13) ?_
    refine s_gI R13 (t_75 R13.S) (Nat.le_of_ble_eq_true rfl) rfl ?_
    refine s_gI R13 (t_83 R13.S) (Nat.le_of_ble_eq_true rfl) rfl ?_
    refine s_cp R13 (u_84 R13.S).1 (u_80 R13.S).1 (by rw [(u_80 R13.S).2]; decide) (a_84 R13) (a_80 R13) (c_lit 0 0 rfl) ⟨by decide, by decide⟩ rfl (R13.ri (t_75 R13.S) (Nat.le_of_ble_eq_true rfl) rfl) rfl (R13.ri (t_83 R13.S) (Nat.le_of_ble_eq_true rfl) rfl) hF (fun h18 σ32 R18 T18 hF => ?_)
    refine s_gI R18 (t_75 R18.S) (Nat.le_of_ble_eq_true rfl) rfl ?_
    refine s_gI R18 (t_83 R18.S) (Nat.le_of_ble_eq_true rfl) rfl ?_
    refine s_pI R18 (t_75 R18.S) (Nat.le_of_ble_eq_true rfl) rfl (c_add rfl rfl) (rr_I _) hF (fun h21 σ38 R21 T21 hF => ?_)
    refine s_gAs R21 (t_75 R21.S) (Nat.le_of_ble_eq_true rfl) rfl (o_75_0 R21.S) (a_76 R21) ?_
    refine s_gI R21 (t_75 R21.S) (Nat.le_of_ble_eq_true rfl) rfl ?_
    refine s_pI R21 (t_75 R21.S) (Nat.le_of_ble_eq_true rfl) rfl (c_add rfl (c_lit 1 1 rfl)) (rr_I _) hF (fun h24 σ44 R24 T24 hF => ?_)
    refine s_qI R24 (u_76 R24.S).1 (u_76 R24.S).2 (by decide) (a_76 R24) e2.1 e2.2 (c_add rfl (c_lit 1 1 rfl)) (rr_I _) hF (fun h25 σ46 R25 T25 hF => ?_)
    exact SX16_add_b91 (N := N) R25 e2.1 e2.2 hF
def FX14_readWord_b101 (N : Nat) (K16 : Int → Int → Int → fS → Option ((Unit ⊕ Nat) × fS)) (l1 : Int) (l2 : Int) (s0 : Int) (s : fS) : Option ((Unit ⊕ Nat) × fS) :=
  K16 l1 l2 s0 s
theorem SX14_readWord_b101 {m b : Nat} {φ0 : Nat → Nat} {σo : fS} {N : Nat} {k16 : Nat → Int32 → Int32 → Int32 → eH → Option ((Unit ⊕ Nat) × eH)} {K16 : Int → Int → Int → fS → Option ((Unit ⊕ Nat) × fS)} {q : (Unit ⊕ Nat) × fS} (hk16 : ∀ {φ : Nat → Nat} {h : eH} {s : fS} {l1' : Int32} {l1 : Int} {l2' : Int32} {l2 : Int} {l3' : Int32} {l3 : Int}, fC m b φ0 σo φ h s → l1' = iI l1 → r32 l1 → l2' = iI l2 → r32 l2 → l3' = iI l3 → r32 l3 → K16 l1 l2 l3 s = some q → gG m b φ0 σo (lT lU) q (k16 60 l1' l2' l3' h)) {φ : Nat → Nat} {h : eH} {s : fS} {l1' : Int32} {l1 : Int} {l2' : Int32} {l2 : Int} {s0' : Int32} {s0 : Int} (R : fC m b φ0 σo φ h s) (el1 : l1' = iI l1) (rl1 : r32 l1) (el2 : l2' = iI l2) (rl2 : r32 l2) (es0 : s0' = iI s0) (rs0 : r32 s0) (hF : FX14_readWord_b101 N K16 l1 l2 s0 s = some q) : gG m b φ0 σo (lT lU) q (fX14_readWord_b101 N k16 60 l1' l2' s0' h) := by
  subst el1; subst el2; subst es0
  unfold FX14_readWord_b101 at hF
  unfold fX14_readWord_b101
  exact hk16 R rfl rl1 rfl rl2 rfl rs0 hF
def FX14_readWord_b96 (N : Nat) (K16 : Int → Int → Int → fS → Option ((Unit ⊕ Nat) × fS)) (l1 : Int) (l2 : Int) (s : fS) : Option ((Unit ⊕ Nat) × fS) :=
  FX14_readWord_b101 N K16 l1 l2 1 s
theorem SX14_readWord_b96 {m b : Nat} {φ0 : Nat → Nat} {σo : fS} {N : Nat} {k16 : Nat → Int32 → Int32 → Int32 → eH → Option ((Unit ⊕ Nat) × eH)} {K16 : Int → Int → Int → fS → Option ((Unit ⊕ Nat) × fS)} {q : (Unit ⊕ Nat) × fS} (hk16 : ∀ {φ : Nat → Nat} {h : eH} {s : fS} {l1' : Int32} {l1 : Int} {l2' : Int32} {l2 : Int} {l3' : Int32} {l3 : Int}, fC m b φ0 σo φ h s → l1' = iI l1 → r32 l1 → l2' = iI l2 → r32 l2 → l3' = iI l3 → r32 l3 → K16 l1 l2 l3 s = some q → gG m b φ0 σo (lT lU) q (k16 60 l1' l2' l3' h)) {φ : Nat → Nat} {h : eH} {s : fS} {l1' : Int32} {l1 : Int} {l2' : Int32} {l2 : Int} (R : fC m b φ0 σo φ h s) (el1 : l1' = iI l1) (rl1 : r32 l1) (el2 : l2' = iI l2) (rl2 : r32 l2) (hF : FX14_readWord_b96 N K16 l1 l2 s = some q) : gG m b φ0 σo (lT lU) q (fX14_readWord_b96 N k16 60 l1' l2' h) := by
  subst el1; subst el2
  unfold FX14_readWord_b96 at hF
  unfold fX14_readWord_b96
  exact SX14_readWord_b101 (N := N) (k16 := k16) (K16 := K16) @hk16 R rfl rl1 rfl rl2 (c_lit 1 1 rfl) ⟨by decide, by decide⟩ hF
def FX14_readWord_b80 (N : Nat) (K16 : Int → Int → Int → fS → Option ((Unit ⊕ Nat) × fS)) (l1 : Int) (l2 : Int) (l4 : Int) (s1 : Int) (s2 : Int) (s : fS) : Option ((Unit ⊕ Nat) × fS) :=
  (uPI s 60 6 (iadd s1 s2)).bind fun σ1 =>
  if ¬ (l4 = 0) then
    FX14_readWord_b96 N K16 l1 l2 σ1
  else
    (FX14_isOver σ1).bind fun q5 =>
    if ¬ (q5.1 = 0) then
      FX14_readWord_b101 N K16 l1 l2 0 q5.2
    else
      FX14_readWord_b96 N K16 l1 l2 q5.2
theorem SX14_readWord_b80 {m b : Nat} {φ0 : Nat → Nat} {σo : fS} {N : Nat} {k16 : Nat → Int32 → Int32 → Int32 → eH → Option ((Unit ⊕ Nat) × eH)} {K16 : Int → Int → Int → fS → Option ((Unit ⊕ Nat) × fS)} {q : (Unit ⊕ Nat) × fS} (hk16 : ∀ {φ : Nat → Nat} {h : eH} {s : fS} {l1' : Int32} {l1 : Int} {l2' : Int32} {l2 : Int} {l3' : Int32} {l3 : Int}, fC m b φ0 σo φ h s → l1' = iI l1 → r32 l1 → l2' = iI l2 → r32 l2 → l3' = iI l3 → r32 l3 → K16 l1 l2 l3 s = some q → gG m b φ0 σo (lT lU) q (k16 60 l1' l2' l3' h)) {φ : Nat → Nat} {h : eH} {s : fS} {l1' : Int32} {l1 : Int} {l2' : Int32} {l2 : Int} {l4' : Int32} {l4 : Int} {s1' : Int32} {s1 : Int} {s2' : Int32} {s2 : Int} (R : fC m b φ0 σo φ h s) (el1 : l1' = iI l1) (rl1 : r32 l1) (el2 : l2' = iI l2) (rl2 : r32 l2) (el4 : l4' = iI l4) (rl4 : r32 l4) (es1 : s1' = iI s1) (rs1 : r32 s1) (es2 : s2' = iI s2) (rs2 : r32 s2) (hF : FX14_readWord_b80 N K16 l1 l2 l4 s1 s2 s = some q) : gG m b φ0 σo (lT lU) q (fX14_readWord_b80 N k16 60 l1' l2' l4' 60 s1' s2' h) := by
  subst el1; subst el2; subst el4; subst es1; subst es2
  unfold FX14_readWord_b80 at hF
  unfold fX14_readWord_b80
  refine s_pI R (t_60 R.S) (Nat.le_of_ble_eq_true rfl) rfl (c_add rfl rfl) (rr_I _) hF (fun h1 σ1 R1 T1 hF => ?_)
  refine s_if (not_congr (i_eq rfl (c_lit 0 0 rfl) rl4 ⟨by decide, by decide⟩)) hF (fun c2 hF => ?_) (fun c2 hF => ?_)
  ·
    exact SX14_readWord_b96 (N := N) (k16 := k16) (K16 := K16) @hk16 R1 rfl rl1 rfl rl2 hF
  ·
    refine s_kok R1 (t_60 R1.S) (Nat.le_of_ble_eq_true rfl) ?_
    refine s_call R1 (Nat.zero_le _) (fun _ hq => SX14_isOver (b := 0) (R1.rf) hq) hF (fun f4 rv4 h4 q5 R4 e4 E4 hF => ?_)
    refine s_if (not_congr (i_eq e4.1 (c_lit 0 0 rfl) e4.2 ⟨by decide, by decide⟩)) hF (fun c5 hF => ?_) (fun c5 hF => ?_)
    ·
      exact SX14_readWord_b101 (N := N) (k16 := k16) (K16 := K16) @hk16 R4 rfl rl1 rfl rl2 (c_lit 0 0 rfl) ⟨by decide, by decide⟩ hF
    ·
      exact SX14_readWord_b96 (N := N) (k16 := k16) (K16 := K16) @hk16 R4 rfl rl1 rfl rl2 hF
def FX14_readWord_b65 (N : Nat) (K16 : Int → Int → Int → fS → Option ((Unit ⊕ Nat) × fS)) (l1 : Int) (l2 : Int) (l4 : Int) (s : fS) : Option ((Unit ⊕ Nat) × fS) :=
  if l4 = 0 then
    FX14_readWord_b80 N K16 l1 l2 l4 (s.i 60 6) 0 s
  else
    FX14_readWord_b80 N K16 l1 l2 l4 (s.i 60 6) 1 s
theorem SX14_readWord_b65 {m b : Nat} {φ0 : Nat → Nat} {σo : fS} {N : Nat} {k16 : Nat → Int32 → Int32 → Int32 → eH → Option ((Unit ⊕ Nat) × eH)} {K16 : Int → Int → Int → fS → Option ((Unit ⊕ Nat) × fS)} {q : (Unit ⊕ Nat) × fS} (hk16 : ∀ {φ : Nat → Nat} {h : eH} {s : fS} {l1' : Int32} {l1 : Int} {l2' : Int32} {l2 : Int} {l3' : Int32} {l3 : Int}, fC m b φ0 σo φ h s → l1' = iI l1 → r32 l1 → l2' = iI l2 → r32 l2 → l3' = iI l3 → r32 l3 → K16 l1 l2 l3 s = some q → gG m b φ0 σo (lT lU) q (k16 60 l1' l2' l3' h)) {φ : Nat → Nat} {h : eH} {s : fS} {l1' : Int32} {l1 : Int} {l2' : Int32} {l2 : Int} {l4' : Int32} {l4 : Int} (R : fC m b φ0 σo φ h s) (el1 : l1' = iI l1) (rl1 : r32 l1) (el2 : l2' = iI l2) (rl2 : r32 l2) (el4 : l4' = iI l4) (rl4 : r32 l4) (hF : FX14_readWord_b65 N K16 l1 l2 l4 s = some q) : gG m b φ0 σo (lT lU) q (fX14_readWord_b65 N k16 60 l1' l2' l4' h) := by
  subst el1; subst el2; subst el4
  unfold FX14_readWord_b65 at hF
  unfold fX14_readWord_b65
  refine s_gI R (t_60 R.S) (Nat.le_of_ble_eq_true rfl) rfl ?_
  refine s_if (i_eq rfl (c_lit 0 0 rfl) rl4 ⟨by decide, by decide⟩) hF (fun c2 hF => ?_) (fun c2 hF => ?_)
  ·
    exact SX14_readWord_b80 (N := N) (k16 := k16) (K16 := K16) @hk16 R rfl rl1 rfl rl2 rfl rl4 rfl (R.ri (t_60 R.S) (Nat.le_of_ble_eq_true rfl) rfl) (c_lit 0 0 rfl) ⟨by decide, by decide⟩ hF
  ·
    exact SX14_readWord_b80 (N := N) (k16 := k16) (K16 := K16) @hk16 R rfl rl1 rfl rl2 rfl rl4 rfl (R.ri (t_60 R.S) (Nat.le_of_ble_eq_true rfl) rfl) (c_lit 1 1 rfl) ⟨by decide, by decide⟩ hF
def FX14_readWord_b42 (N : Nat) (K16 : Int → Int → Int → fS → Option ((Unit ⊕ Nat) × fS)) (l1 : Int) (l2 : Int) (s0 : Int) (s : fS) : Option ((Unit ⊕ Nat) × fS) :=
  if s0 = 0 then
    FX14_readWord_b65 N K16 l1 l2 s0 s
  else
    (uQI s 85 (s.i 83 2) (i2b 1)).bind fun σ10 =>
    FX14_readWord_b65 N K16 l1 l2 s0 σ10
theorem SX14_readWord_b42 {m b : Nat} {φ0 : Nat → Nat} {σo : fS} {N : Nat} {k16 : Nat → Int32 → Int32 → Int32 → eH → Option ((Unit ⊕ Nat) × eH)} {K16 : Int → Int → Int → fS → Option ((Unit ⊕ Nat) × fS)} {q : (Unit ⊕ Nat) × fS} (hk16 : ∀ {φ : Nat → Nat} {h : eH} {s : fS} {l1' : Int32} {l1 : Int} {l2' : Int32} {l2 : Int} {l3' : Int32} {l3 : Int}, fC m b φ0 σo φ h s → l1' = iI l1 → r32 l1 → l2' = iI l2 → r32 l2 → l3' = iI l3 → r32 l3 → K16 l1 l2 l3 s = some q → gG m b φ0 σo (lT lU) q (k16 60 l1' l2' l3' h)) {φ : Nat → Nat} {h : eH} {s : fS} {l1' : Int32} {l1 : Int} {l2' : Int32} {l2 : Int} {s0' : Int32} {s0 : Int} (R : fC m b φ0 σo φ h s) (el1 : l1' = iI l1) (rl1 : r32 l1) (el2 : l2' = iI l2) (rl2 : r32 l2) (es0 : s0' = iI s0) (rs0 : r32 s0) (hF : FX14_readWord_b42 N K16 l1 l2 s0 s = some q) : gG m b φ0 σo (lT lU) q (fX14_readWord_b42 N k16 60 l1' l2' s0' h) := by
  subst el1; subst el2; subst es0
  unfold FX14_readWord_b42 at hF
  unfold fX14_readWord_b42
  refine s_if (i_eq rfl (c_lit 0 0 rfl) rs0 ⟨by decide, by decide⟩) hF (fun c1 hF => ?_) (fun c1 hF => ?_)
  ·
    exact SX14_readWord_b65 (N := N) (k16 := k16) (K16 := K16) @hk16 R rfl rl1 rfl rl2 rfl rs0 hF
  ·
    refine s_gO R (t_60 R.S) (Nat.le_of_ble_eq_true rfl) rfl (o_60_2 R.S) ?_
    refine s_gAs R (t_83 R.S) (Nat.le_of_ble_eq_true rfl) rfl (o_83_1 R.S) (a_85 R) ?_
    refine s_gO R (t_60 R.S) (Nat.le_of_ble_eq_true rfl) rfl (o_60_2 R.S) ?_
    refine s_gI R (t_83 R.S) (Nat.le_of_ble_eq_true rfl) rfl ?_
    refine s_qI R (u_85 R.S).1 (u_85 R.S).2 (by decide) (a_85 R) rfl (R.ri (t_83 R.S) (Nat.le_of_ble_eq_true rfl) rfl) (c_2b (c_lit 1 1 rfl)) (rr_I _) hF (fun h6 σ10 R6 T6 hF => ?_)
    exact SX14_readWord_b65 (N := N) (k16 := k16) (K16 := K16) @hk16 R6 rfl rl1 rfl rl2 rfl rs0 hF
def FX14_readWord_b183 (N : Nat) (l1 : Int) (s1 : Int) (s : fS) : Option ((Unit ⊕ Nat) × fS) :=
  tB (FX14_want s1 4 l1 s) fun x2 σ3 =>
  (FX16_add N σ3).bind fun q9 =>
  some (.inl (), q9.2)
theorem SX14_readWord_b183 {m b : Nat} {φ0 : Nat → Nat} {σo : fS} {N : Nat} {q : (Unit ⊕ Nat) × fS} {φ : Nat → Nat} {h : eH} {s : fS} {l1' : Int32} {l1 : Int} {s1' : Int32} {s1 : Int} (R : fC m b φ0 σo φ h s) (el1 : l1' = iI l1) (rl1 : r32 l1) (es1 : s1' = iI s1) (rs1 : r32 s1) (hF : FX14_readWord_b183 N l1 s1 s = some q) : gG m b φ0 σo (lT lU) q (fX14_readWord_b183 N 60 l1' 60 s1' h) := by
  subst el1; subst es1
  unfold FX14_readWord_b183 at hF
  unfold fX14_readWord_b183
  refine s_kok R (t_60 R.S) (Nat.le_of_ble_eq_true rfl) ?_
  refine s_tB R (Nat.zero_le _) (fun _ hq => SX14_want (b := 0) (R.rf) rfl rs1 (c_lit 4 4 rfl) ⟨by decide, by decide⟩ rfl rl1 hq) hF (fun f2 rv2 h2 x2 σ3 R2 e2 E2 hF => ?_)
  refine s_gO R2 (t_60 R2.S) (Nat.le_of_ble_eq_true rfl) rfl (o_60_1 R2.S) ?_
  refine s_gO R2 (t_60 R2.S) (Nat.le_of_ble_eq_true rfl) rfl (o_60_2 R2.S) ?_
  refine s_kok R2 (t_75 R2.S) (Nat.le_of_ble_eq_true rfl) ?_
  refine s_call R2 (Nat.zero_le _) (fun _ hq => SX16_add (b := 0) (N := N) (R2.rf) hq) hF (fun f6 rv6 h6 q9 R6 e6 E6 hF => ?_)
  exact g_ret R6 hF trivial
def FX14_readWord_b178 (N : Nat) (l1 : Int) (s : fS) : Option ((Unit ⊕ Nat) × fS) :=
  FX14_readWord_b183 N l1 1 s
theorem SX14_readWord_b178 {m b : Nat} {φ0 : Nat → Nat} {σo : fS} {N : Nat} {q : (Unit ⊕ Nat) × fS} {φ : Nat → Nat} {h : eH} {s : fS} {l1' : Int32} {l1 : Int} (R : fC m b φ0 σo φ h s) (el1 : l1' = iI l1) (rl1 : r32 l1) (hF : FX14_readWord_b178 N l1 s = some q) : gG m b φ0 σo (lT lU) q (fX14_readWord_b178 N 60 l1' 60 h) := by
  subst el1
  unfold FX14_readWord_b178 at hF
  unfold fX14_readWord_b178
  exact SX14_readWord_b183 (N := N) R rfl rl1 (c_lit 1 1 rfl) ⟨by decide, by decide⟩ hF
def FX14_readWord_b182 (N : Nat) (l1 : Int) (s : fS) : Option ((Unit ⊕ Nat) × fS) :=
  FX14_readWord_b183 N l1 0 s
theorem SX14_readWord_b182 {m b : Nat} {φ0 : Nat → Nat} {σo : fS} {N : Nat} {q : (Unit ⊕ Nat) × fS} {φ : Nat → Nat} {h : eH} {s : fS} {l1' : Int32} {l1 : Int} (R : fC m b φ0 σo φ h s) (el1 : l1' = iI l1) (rl1 : r32 l1) (hF : FX14_readWord_b182 N l1 s = some q) : gG m b φ0 σo (lT lU) q (fX14_readWord_b182 N 60 l1' 60 h) := by
  subst el1
  unfold FX14_readWord_b182 at hF
  unfold fX14_readWord_b182
  exact SX14_readWord_b183 (N := N) R rfl rl1 (c_lit 0 0 rfl) ⟨by decide, by decide⟩ hF
def FX14_readWord_b142 (N : Nat) (l1 : Int) (l2 : Int) (s0 : Int) (s : fS) : Option ((Unit ⊕ Nat) × fS) :=
  if s0 = 0 then
    FX14_readWord_b178 N l1 s
  else
    if 300 ≤ (s.i 75 5) then
      FX14_readWord_b182 N l1 s
    else
      if 8000 < (iadd (s.i 75 6) l2) then
        FX14_readWord_b182 N l1 s
      else
        FX14_readWord_b178 N l1 s
theorem SX14_readWord_b142 {m b : Nat} {φ0 : Nat → Nat} {σo : fS} {N : Nat} {q : (Unit ⊕ Nat) × fS} {φ : Nat → Nat} {h : eH} {s : fS} {l1' : Int32} {l1 : Int} {l2' : Int32} {l2 : Int} {s0' : Int32} {s0 : Int} (R : fC m b φ0 σo φ h s) (el1 : l1' = iI l1) (rl1 : r32 l1) (el2 : l2' = iI l2) (rl2 : r32 l2) (es0 : s0' = iI s0) (rs0 : r32 s0) (hF : FX14_readWord_b142 N l1 l2 s0 s = some q) : gG m b φ0 σo (lT lU) q (fX14_readWord_b142 N 60 l1' l2' s0' h) := by
  subst el1; subst el2; subst es0
  unfold FX14_readWord_b142 at hF
  unfold fX14_readWord_b142
  refine s_if (i_eq rfl (c_lit 0 0 rfl) rs0 ⟨by decide, by decide⟩) hF (fun c1 hF => ?_) (fun c1 hF => ?_)
  ·
    exact SX14_readWord_b178 (N := N) R rfl rl1 hF
  ·
    refine s_gO R (t_60 R.S) (Nat.le_of_ble_eq_true rfl) rfl (o_60_1 R.S) ?_
    refine s_gI R (t_75 R.S) (Nat.le_of_ble_eq_true rfl) rfl ?_
    refine s_if (i_le (c_lit 300 300 rfl) rfl ⟨by decide, by decide⟩ (R.ri (t_75 R.S) (Nat.le_of_ble_eq_true rfl) rfl)) hF (fun c4 hF => ?_) (fun c4 hF => ?_)
    ·
      exact SX14_readWord_b182 (N := N) R rfl rl1 hF
    ·
      refine s_gO R (t_60 R.S) (Nat.le_of_ble_eq_true rfl) rfl (o_60_1 R.S) ?_
      refine s_gI R (t_75 R.S) (Nat.le_of_ble_eq_true rfl) rfl ?_
      refine s_if (i_lt (c_lit 8000 8000 rfl) (c_add rfl rfl) ⟨by decide, by decide⟩ (rr_I _)) hF (fun c7 hF => ?_) (fun c7 hF => ?_)
      ·
        exact SX14_readWord_b182 (N := N) R rfl rl1 hF
      ·
        exact SX14_readWord_b178 (N := N) R rfl rl1 hF
def FX14_readWord_b117 (N : Nat) (l1 : Int) (l2 : Int) (s1 : Int) (s : fS) : Option ((Unit ⊕ Nat) × fS) :=
  tB (FX14_want s1 2 l1 s) fun x2 σ3 =>
  (FX16_find N σ3).bind fun q9 =>
  if ¬ (q9.1 = (-1)) then
    FX14_readWord_b142 N l1 l2 0 q9.2
  else
    FX14_readWord_b142 N l1 l2 1 q9.2
theorem SX14_readWord_b117 {m b : Nat} {φ0 : Nat → Nat} {σo : fS} {N : Nat} {q : (Unit ⊕ Nat) × fS} {φ : Nat → Nat} {h : eH} {s : fS} {l1' : Int32} {l1 : Int} {l2' : Int32} {l2 : Int} {s1' : Int32} {s1 : Int} (R : fC m b φ0 σo φ h s) (el1 : l1' = iI l1) (rl1 : r32 l1) (el2 : l2' = iI l2) (rl2 : r32 l2) (es1 : s1' = iI s1) (rs1 : r32 s1) (hF : FX14_readWord_b117 N l1 l2 s1 s = some q) : gG m b φ0 σo (lT lU) q (fX14_readWord_b117 N 60 l1' l2' 60 s1' h) := by
  subst el1; subst el2; subst es1
  unfold FX14_readWord_b117 at hF
  unfold fX14_readWord_b117
  refine s_kok R (t_60 R.S) (Nat.le_of_ble_eq_true rfl) ?_
  refine s_tB R (Nat.zero_le _) (fun _ hq => SX14_want (b := 0) (R.rf) rfl rs1 (c_lit 2 2 rfl) ⟨by decide, by decide⟩ rfl rl1 hq) hF (fun f2 rv2 h2 x2 σ3 R2 e2 E2 hF => ?_)
  refine s_gO R2 (t_60 R2.S) (Nat.le_of_ble_eq_true rfl) rfl (o_60_1 R2.S) ?_
  refine s_gO R2 (t_60 R2.S) (Nat.le_of_ble_eq_true rfl) rfl (o_60_2 R2.S) ?_
  refine s_kok R2 (t_75 R2.S) (Nat.le_of_ble_eq_true rfl) ?_
  refine s_call R2 (Nat.zero_le _) (fun _ hq => SX16_find (b := 0) (N := N) (R2.rf) hq) hF (fun f6 rv6 h6 q9 R6 e6 E6 hF => ?_)
  refine s_if (not_congr (i_eq e6.1 (c_lit (-1) (-1) rfl) e6.2 ⟨by decide, by decide⟩)) hF (fun c7 hF => ?_) (fun c7 hF => ?_)
  ·
    exact SX14_readWord_b142 (N := N) R6 rfl rl1 rfl rl2 (c_lit 0 0 rfl) ⟨by decide, by decide⟩ hF
  ·
    exact SX14_readWord_b142 (N := N) R6 rfl rl1 rfl rl2 (c_lit 1 1 rfl) ⟨by decide, by decide⟩ hF
def FX14_readWord_b16 (N : Nat) : Nat → Int → Int → Int → fS → Option ((Unit ⊕ Nat) × fS)
  | 0, _, _, _, _ => none
  | n + 1, l1, l2, l3, s =>
    if l3 = 0 then
      if 63 < l2 then
        FX14_readWord_b117 N l1 l2 0 s
      else
        FX14_readWord_b117 N l1 l2 1 s
    else
      tB (FX14_readLetter (iadd l2 1) s) fun x4 σ5 =>
      (FX14_next σ5).bind fun q7 =>
      if ¬ (q7.1 = 45) then
        FX14_readWord_b42 N (FX14_readWord_b16 N n) l1 (iadd l2 1) 0 q7.2
      else
        FX14_readWord_b42 N (FX14_readWord_b16 N n) l1 (iadd l2 1) 1 q7.2
theorem SX14_readWord_b16 {m b : Nat} {φ0 : Nat → Nat} {σo : fS} {N : Nat} {q : (Unit ⊕ Nat) × fS} : ∀ {n : Nat} {φ : Nat → Nat} {h : eH} {s : fS} {l1' : Int32} {l1 : Int} {l2' : Int32} {l2 : Int} {l3' : Int32} {l3 : Int}, fC m b φ0 σo φ h s → l1' = iI l1 → r32 l1 → l2' = iI l2 → r32 l2 → l3' = iI l3 → r32 l3 → FX14_readWord_b16 N n l1 l2 l3 s = some q → gG m b φ0 σo (lT lU) q (fX14_readWord_b16 N n 60 l1' l2' l3' h) := by
  intro n
  induction n with
 | zero => intro φ h s l1' l1 l2' l2 l3' l3 R el1 rl1 el2 rl2 el3 rl3 hF; simp [FX14_readWord_b16] at hF
  | succ n ih =>
    intro φ h s l1' l1 l2' l2 l3' l3 R el1 rl1 el2 rl2 el3 rl3 hF
    subst el1; subst el2; subst el3
    rw [FX14_readWord_b16] at hF
    rw [fX14_readWord_b16]
    refine s_if (i_eq rfl (c_lit 0 0 rfl) rl3 ⟨by decide, by decide⟩) hF (fun c1 hF => ?_) (fun c1 hF => ?_)
    ·
      refine s_if (i_lt (c_lit 63 63 rfl) rfl ⟨by decide, by decide⟩ rl2) hF (fun c2 hF => ?_) (fun c2 hF => ?_)
      ·
        exact SX14_readWord_b117 (N := N) R rfl rl1 rfl rl2 (c_lit 0 0 rfl) ⟨by decide, by decide⟩ hF
      ·
        exact SX14_readWord_b117 (N := N) R rfl rl1 rfl rl2 (c_lit 1 1 rfl) ⟨by decide, by decide⟩ hF
    ·
      refine s_kok R (t_60 R.S) (Nat.le_of_ble_eq_true rfl) ?_
      refine s_tB R (Nat.zero_le _) (fun _ hq => SX14_readLetter (b := 0) (R.rf) (c_add rfl (c_lit 1 1 rfl)) (rr_I _) hq) hF (fun f4 rv4 h4 x4 σ5 R4 e4 E4 hF => ?_)
      refine s_kok R4 (t_60 R4.S) (Nat.le_of_ble_eq_true rfl) ?_
      refine s_call R4 (Nat.zero_le _) (fun _ hq => SX14_next (b := 0) (R4.rf) hq) hF (fun f6 rv6 h6 q7 R6 e6 E6 hF => ?_)
      refine s_if (not_congr (i_eq e6.1 (c_lit 45 45 rfl) e6.2 ⟨by decide, by decide⟩)) hF (fun c7 hF => ?_) (fun c7 hF => ?_)
      ·
        exact SX14_readWord_b42 (N := N) (k16 := fX14_readWord_b16 N n) (K16 := FX14_readWord_b16 N n) @ih R6 rfl rl1 (c_add rfl (c_lit 1 1 rfl)) (rr_I _) (c_lit 0 0 rfl) ⟨by decide, by decide⟩ hF
      ·
        exact SX14_readWord_b42 (N := N) (k16 := fX14_readWord_b16 N n) (K16 := FX14_readWord_b16 N n) @ih R6 rfl rl1 (c_add rfl (c_lit 1 1 rfl)) (rr_I _) (c_lit 1 1 rfl) ⟨by decide, by decide⟩ hF
def FX14_readWord (N : Nat) (s : fS) : Option ((Unit ⊕ Nat) × fS) :=
  (FX17_clear 83 s).bind fun q6 =>
  FX14_readWord_b16 N N (s.i 60 6) 0 1 q6.2
theorem SX14_readWord {m b : Nat} {φ0 : Nat → Nat} {σo : fS} {N : Nat} {q : (Unit ⊕ Nat) × fS} {φ : Nat → Nat} {h : eH} {s : fS} (R : fC m b φ0 σo φ h s) (hF : FX14_readWord N s = some q) : gG m b φ0 σo (lT lU) q (fX14_readWord N 60 h) := by
  unfold FX14_readWord at hF
  unfold fX14_readWord
  refine s_gI R (t_60 R.S) (Nat.le_of_ble_eq_true rfl) rfl ?_
  refine s_gO R (t_60 R.S) (Nat.le_of_ble_eq_true rfl) rfl (o_60_2 R.S) ?_
  refine s_kok R (t_83 R.S) (Nat.le_of_ble_eq_true rfl) ?_
  refine s_call R (Nat.zero_le _) (fun _ hq => SX17_clear (b := 0) (R.rf) hq) hF (fun f4 rv4 h4 q6 R4 e4 E4 hF => ?_)
  exact SX14_readWord_b16 (N := N) R4 rfl (R.ri (t_60 R.S) (Nat.le_of_ble_eq_true rfl) rfl) (c_lit 0 0 rfl) ⟨by decide, by decide⟩ (c_lit 1 1 rfl) ⟨by decide, by decide⟩ hF
def FX14_isDigit_b17 (s0 : Int) (s : fS) : Option (Int × fS) :=
  uZ s0 (s0, s)
theorem SX14_isDigit_b17 {m b : Nat} {φ0 : Nat → Nat} {σo : fS} {q : Int × fS} {φ : Nat → Nat} {h : eH} {s : fS} {s0' : Int32} {s0 : Int} (R : fC m b φ0 σo φ h s) (es0 : s0' = iI s0) (rs0 : r32 s0) (hF : FX14_isDigit_b17 s0 s = some q) : gG m b φ0 σo lI q (fX14_isDigit_b17 s0' h) := by
  subst es0
  unfold FX14_isDigit_b17 at hF
  unfold fX14_isDigit_b17
  exact g_z R rfl hF ⟨rfl, rs0⟩
def FX14_isDigit_b16 (s : fS) : Option (Int × fS) :=
  FX14_isDigit_b17 0 s
theorem SX14_isDigit_b16 {m b : Nat} {φ0 : Nat → Nat} {σo : fS} {q : Int × fS} {φ : Nat → Nat} {h : eH} {s : fS} (R : fC m b φ0 σo φ h s) (hF : FX14_isDigit_b16 s = some q) : gG m b φ0 σo lI q (fX14_isDigit_b16 h) := by
  unfold FX14_isDigit_b16 at hF
  unfold fX14_isDigit_b16
  exact SX14_isDigit_b17 R (c_lit 0 0 rfl) ⟨by decide, by decide⟩ hF
def FX14_isDigit (p0 : Int) (s : fS) : Option (Int × fS) :=
  if p0 < 48 then
    FX14_isDigit_b16 s
  else
    if 57 < p0 then
      FX14_isDigit_b16 s
    else
      FX14_isDigit_b17 1 s
theorem SX14_isDigit {m b : Nat} {φ0 : Nat → Nat} {σo : fS} {q : Int × fS} {φ : Nat → Nat} {h : eH} {s : fS} {p0' : Int32} {p0 : Int} (R : fC m b φ0 σo φ h s) (ep0 : p0' = iI p0) (rp0 : r32 p0) (hF : FX14_isDigit p0 s = some q) : gG m b φ0 σo lI q (fX14_isDigit p0' h) := by
  subst ep0
  unfold FX14_isDigit at hF
  unfold fX14_isDigit
  refine s_if (i_lt rfl (c_lit 48 48 rfl) rp0 ⟨by decide, by decide⟩) hF (fun c1 hF => ?_) (fun c1 hF => ?_)
  ·
    exact SX14_isDigit_b16 R hF
  ·
    refine s_if (i_lt (c_lit 57 57 rfl) rfl ⟨by decide, by decide⟩ rp0) hF (fun c2 hF => ?_) (fun c2 hF => ?_)
    ·
      exact SX14_isDigit_b16 R hF
    ·
      exact SX14_isDigit_b17 R (c_lit 1 1 rfl) ⟨by decide, by decide⟩ hF
def FX14_number (s : fS) : Option (Unit × fS) :=
  (FX14_next s).bind fun q10 =>
  (uQI q10.2 85 (s.i 83 2) (i2b (i2b (isub q10.1 48)))).bind fun σ11 =>
  (uPI σ11 60 6 (iadd (σ11.i 60 6) 1)).bind fun σ15 =>
  some ((), σ15)
theorem SX14_number {m b : Nat} {φ0 : Nat → Nat} {σo : fS} {q : Unit × fS} {φ : Nat → Nat} {h : eH} {s : fS} (R : fC m b φ0 σo φ h s) (hF : FX14_number s = some q) : gG m b φ0 σo lU q (fX14_number 60 h) := by
  unfold FX14_number at hF
  unfold fX14_number
  refine s_gO R (t_60 R.S) (Nat.le_of_ble_eq_true rfl) rfl (o_60_2 R.S) ?_
  refine s_gAs R (t_83 R.S) (Nat.le_of_ble_eq_true rfl) rfl (o_83_1 R.S) (a_85 R) ?_
  refine s_gO R (t_60 R.S) (Nat.le_of_ble_eq_true rfl) rfl (o_60_2 R.S) ?_
  refine s_gI R (t_83 R.S) (Nat.le_of_ble_eq_true rfl) rfl ?_
  refine s_kok R (t_60 R.S) (Nat.le_of_ble_eq_true rfl) ?_
  refine s_call R (Nat.zero_le _) (fun _ hq => SX14_next (b := 0) (R.rf) hq) hF (fun f6 rv6 h6 q10 R6 e6 E6 hF => ?_)
  refine s_qI R6 (u_85 R6.S).1 (u_85 R6.S).2 (by decide) (a_85 R6) rfl (R.ri (t_83 R.S) (Nat.le_of_ble_eq_true rfl) rfl) (c_2b (c_2b (c_sub e6.1 (c_lit 48 48 rfl)))) (rr_I _) hF (fun h7 σ11 R7 T7 hF => ?_)
  refine s_gI R7 (t_60 R7.S) (Nat.le_of_ble_eq_true rfl) rfl ?_
  refine s_pI R7 (t_60 R7.S) (Nat.le_of_ble_eq_true rfl) rfl (c_add rfl (c_lit 1 1 rfl)) (rr_I _) hF (fun h9 σ15 R9 T9 hF => ?_)
  exact g_ret R9 hF trivial
def FX15_child_b32 (N : Nat) (l3 : Int) (s : fS) : Option (Int × fS) :=
  some (l3, s)
theorem SX15_child_b32 {m b : Nat} {φ0 : Nat → Nat} {σo : fS} {N : Nat} {q : Int × fS} {φ : Nat → Nat} {h : eH} {s : fS} {l3' : Int32} {l3 : Int} (R : fC m b φ0 σo φ h s) (el3 : l3' = iI l3) (rl3 : r32 l3) (hF : FX15_child_b32 N l3 s = some q) : gG m b φ0 σo lI q (fX15_child_b32 N l3' h) := by
  subst el3
  unfold FX15_child_b32 at hF
  unfold fX15_child_b32
  exact g_ret R hF ⟨rfl, rl3⟩
def FX15_child_b7 (N : Nat) : Nat → Int → Int → fS → Option (Int × fS)
  | 0, _, _, _ => none
  | n + 1, l2, l3, s =>
    if l3 = (-1) then
      FX15_child_b32 N l3 s
    else
      (uRI s 64 l3).bind fun x4 =>
      if x4 = l2 then
        FX15_child_b32 N l3 s
      else
        (uRI s 63 l3).bind fun x9 =>
        FX15_child_b7 N n l2 x9 s
theorem SX15_child_b7 {m b : Nat} {φ0 : Nat → Nat} {σo : fS} {N : Nat} {q : Int × fS} : ∀ {n : Nat} {φ : Nat → Nat} {h : eH} {s : fS} {l2' : Int32} {l2 : Int} {l3' : Int32} {l3 : Int}, fC m b φ0 σo φ h s → l2' = iI l2 → r32 l2 → l3' = iI l3 → r32 l3 → FX15_child_b7 N n l2 l3 s = some q → gG m b φ0 σo lI q (fX15_child_b7 N n 61 l2' l3' h) := by
  intro n
  induction n with
 | zero => intro φ h s l2' l2 l3' l3 R el2 rl2 el3 rl3 hF; simp [FX15_child_b7] at hF
  | succ n ih =>
    intro φ h s l2' l2 l3' l3 R el2 rl2 el3 rl3 hF
    subst el2; subst el3
    rw [FX15_child_b7] at hF
    rw [fX15_child_b7]
    refine s_if (i_eq rfl (c_lit (-1) (-1) rfl) rl3 ⟨by decide, by decide⟩) hF (fun c1 hF => ?_) (fun c1 hF => ?_)
    ·
      exact SX15_child_b32 (N := N) R rfl rl3 hF
    ·
      refine s_gA R (t_61 R.S) (Nat.le_of_ble_eq_true rfl) rfl (o_61_2 R.S) (fun _ _ => ?_)
      refine s_rI R (u_64 R.S).1 (u_64 R.S).2 (by decide) rfl rfl rl3 hF (fun x4 ra3 hF => ?_)
      refine s_if (i_eq rfl rfl ra3 rl2) hF (fun c4 hF => ?_) (fun c4 hF => ?_)
      ·
        exact SX15_child_b32 (N := N) R rfl rl3 hF
      ·
        refine s_gA R (t_61 R.S) (Nat.le_of_ble_eq_true rfl) rfl (o_61_1 R.S) (fun _ _ => ?_)
        refine s_rI R (u_63 R.S).1 (u_63 R.S).2 (by decide) rfl rfl rl3 hF (fun x9 ra6 hF => ?_)
        exact ih R rfl rl2 rfl ra6 hF
def FX15_child (N : Nat) (p0 : Int) (p1 : Int) (s : fS) : Option (Int × fS) :=
  (uRI s 62 p0).bind fun x3 =>
  FX15_child_b7 N N p1 x3 s
theorem SX15_child {m b : Nat} {φ0 : Nat → Nat} {σo : fS} {N : Nat} {q : Int × fS} {φ : Nat → Nat} {h : eH} {s : fS} {p0' : Int32} {p0 : Int} {p1' : Int32} {p1 : Int} (R : fC m b φ0 σo φ h s) (ep0 : p0' = iI p0) (rp0 : r32 p0) (ep1 : p1' = iI p1) (rp1 : r32 p1) (hF : FX15_child N p0 p1 s = some q) : gG m b φ0 σo lI q (fX15_child N 61 p0' p1' h) := by
  subst ep0; subst ep1
  unfold FX15_child at hF
  unfold fX15_child
  refine s_gA R (t_61 R.S) (Nat.le_of_ble_eq_true rfl) rfl (o_61_0 R.S) (fun _ _ => ?_)
  refine s_rI R (u_62 R.S).1 (u_62 R.S).2 (by decide) rfl rfl rp0 hF (fun x3 ra2 hF => ?_)
  exact SX15_child_b7 (N := N) R rfl rp1 rfl ra2 hF
def FX15_has_b54 (N : Nat) (s0 : Int) (s : fS) : Option (Int × fS) :=
  uZ s0 (s0, s)
theorem SX15_has_b54 {m b : Nat} {φ0 : Nat → Nat} {σo : fS} {N : Nat} {q : Int × fS} {φ : Nat → Nat} {h : eH} {s : fS} {s0' : Int32} {s0 : Int} (R : fC m b φ0 σo φ h s) (es0 : s0' = iI s0) (rs0 : r32 s0) (hF : FX15_has_b54 N s0 s = some q) : gG m b φ0 σo lI q (fX15_has_b54 N s0' h) := by
  subst es0
  unfold FX15_has_b54 at hF
  unfold fX15_has_b54
  exact g_z R rfl hF ⟨rfl, rs0⟩
def FX15_has_b53 (N : Nat) (s : fS) : Option (Int × fS) :=
  FX15_has_b54 N 0 s
theorem SX15_has_b53 {m b : Nat} {φ0 : Nat → Nat} {σo : fS} {N : Nat} {q : Int × fS} {φ : Nat → Nat} {h : eH} {s : fS} (R : fC m b φ0 σo φ h s) (hF : FX15_has_b53 N s = some q) : gG m b φ0 σo lI q (fX15_has_b53 N h) := by
  unfold FX15_has_b53 at hF
  unfold fX15_has_b53
  exact SX15_has_b54 (N := N) R (c_lit 0 0 rfl) ⟨by decide, by decide⟩ hF
def FX15_has_b35 (N : Nat) (l2 : Int) (s : fS) : Option (Int × fS) :=
  if l2 = (-1) then
    FX15_has_b53 N s
  else
    (uRI s 65 l2).bind fun x4 =>
    if x4 = 0 then
      FX15_has_b53 N s
    else
      FX15_has_b54 N 1 s
theorem SX15_has_b35 {m b : Nat} {φ0 : Nat → Nat} {σo : fS} {N : Nat} {q : Int × fS} {φ : Nat → Nat} {h : eH} {s : fS} {l2' : Int32} {l2 : Int} (R : fC m b φ0 σo φ h s) (el2 : l2' = iI l2) (rl2 : r32 l2) (hF : FX15_has_b35 N l2 s = some q) : gG m b φ0 σo lI q (fX15_has_b35 N 61 l2' h) := by
  subst el2
  unfold FX15_has_b35 at hF
  unfold fX15_has_b35
  refine s_if (i_eq rfl (c_lit (-1) (-1) rfl) rl2 ⟨by decide, by decide⟩) hF (fun c1 hF => ?_) (fun c1 hF => ?_)
  ·
    exact SX15_has_b53 (N := N) R hF
  ·
    refine s_gA R (t_61 R.S) (Nat.le_of_ble_eq_true rfl) rfl (o_61_3 R.S) (fun _ _ => ?_)
    refine s_rI R (u_65 R.S).1 (u_65 R.S).2 (by decide) rfl rfl rl2 hF (fun x4 ra3 hF => ?_)
    refine s_if (i_eq rfl (c_lit 0 0 rfl) ra3 ⟨by decide, by decide⟩) hF (fun c4 hF => ?_) (fun c4 hF => ?_)
    ·
      exact SX15_has_b53 (N := N) R hF
    ·
      exact SX15_has_b54 (N := N) R (c_lit 1 1 rfl) ⟨by decide, by decide⟩ hF
def FX15_has_b4 (N : Nat) : Nat → Int → Int → fS → Option (Int × fS)
  | 0, _, _, _ => none
  | n + 1, l2, l3, s =>
    if (s.i 83 2) ≤ l3 then
      FX15_has_b35 N l2 s
    else
      if l2 = (-1) then
        FX15_has_b35 N l2 s
      else
        (uRI s 84 l3).bind fun x7 =>
        (FX15_child N l2 x7 s).bind fun q10 =>
        FX15_has_b4 N n q10.1 (iadd l3 1) q10.2
theorem SX15_has_b4 {m b : Nat} {φ0 : Nat → Nat} {σo : fS} {N : Nat} {q : Int × fS} : ∀ {n : Nat} {φ : Nat → Nat} {h : eH} {s : fS} {l2' : Int32} {l2 : Int} {l3' : Int32} {l3 : Int}, fC m b φ0 σo φ h s → l2' = iI l2 → r32 l2 → l3' = iI l3 → r32 l3 → FX15_has_b4 N n l2 l3 s = some q → gG m b φ0 σo lI q (fX15_has_b4 N n 61 83 l2' l3' h) := by
  intro n
  induction n with
 | zero => intro φ h s l2' l2 l3' l3 R el2 rl2 el3 rl3 hF; simp [FX15_has_b4] at hF
  | succ n ih =>
    intro φ h s l2' l2 l3' l3 R el2 rl2 el3 rl3 hF
    subst el2; subst el3
    rw [FX15_has_b4] at hF
    rw [fX15_has_b4]
    refine s_gI R (t_83 R.S) (Nat.le_of_ble_eq_true rfl) rfl ?_
    refine s_if (i_le rfl rfl (R.ri (t_83 R.S) (Nat.le_of_ble_eq_true rfl) rfl) rl3) hF (fun c2 hF => ?_) (fun c2 hF => ?_)
    ·
      exact SX15_has_b35 (N := N) R rfl rl2 hF
    ·
      refine s_if (i_eq rfl (c_lit (-1) (-1) rfl) rl2 ⟨by decide, by decide⟩) hF (fun c3 hF => ?_) (fun c3 hF => ?_)
      ·
        exact SX15_has_b35 (N := N) R rfl rl2 hF
      ·
        refine s_gAs R (t_83 R.S) (Nat.le_of_ble_eq_true rfl) rfl (o_83_0 R.S) (a_84 R) ?_
        refine s_rI R (u_84 R.S).1 (u_84 R.S).2 (by decide) (a_84 R) rfl rl3 hF (fun x7 ra5 hF => ?_)
        refine s_kok R (t_61 R.S) (Nat.le_of_ble_eq_true rfl) ?_
        refine s_call R (Nat.zero_le _) (fun _ hq => SX15_child (b := 0) (N := N) (R.rf) rfl rl2 rfl ra5 hq) hF (fun f7 rv7 h7 q10 R7 e7 E7 hF => ?_)
        exact ih R7 e7.1 e7.2 (c_add rfl (c_lit 1 1 rfl)) (rr_I _) hF
def FX15_has (N : Nat) (s : fS) : Option (Int × fS) :=
  FX15_has_b4 N N 0 0 s
theorem SX15_has {m b : Nat} {φ0 : Nat → Nat} {σo : fS} {N : Nat} {q : Int × fS} {φ : Nat → Nat} {h : eH} {s : fS} (R : fC m b φ0 σo φ h s) (hF : FX15_has N s = some q) : gG m b φ0 σo lI q (fX15_has N 61 83 h) := by
  unfold FX15_has at hF
  unfold fX15_has
  exact SX15_has_b4 (N := N) R (c_lit 0 0 rfl) ⟨by decide, by decide⟩ (c_lit 0 0 rfl) ⟨by decide, by decide⟩ hF
def FX15_link_b48 (N : Nat) (K3 : Int → Int → Int → Int → fS → Option (Int × fS)) (l1 : Int) (l2 : Int) (l3 : Int) (l4 : Int) (s : fS) : Option (Int × fS) :=
  K3 l1 l2 l3 (iadd l4 1) s
theorem SX15_link_b48 {m b : Nat} {φ0 : Nat → Nat} {σo : fS} (hb : 1 ≤ b) {N : Nat} {k3 : Nat → Int32 → Int32 → Int32 → Int32 → eH → Option (Int32 × eH)} {K3 : Int → Int → Int → Int → fS → Option (Int × fS)} {q : Int × fS} (hk3 : ∀ {φ : Nat → Nat} {h : eH} {s : fS} {l1' : Int32} {l1 : Int} {l2' : Int32} {l2 : Int} {l3' : Int32} {l3 : Int} {l4' : Int32} {l4 : Int}, fC m b φ0 σo φ h s → l1' = iI l1 → r32 l1 → l2' = iI l2 → r32 l2 → l3' = iI l3 → r32 l3 → l4' = iI l4 → r32 l4 → K3 l1 l2 l3 l4 s = some q → gG m b φ0 σo lI q (k3 61 l1' l2' l3' l4' h)) {φ : Nat → Nat} {h : eH} {s : fS} {l1' : Int32} {l1 : Int} {l2' : Int32} {l2 : Int} {l3' : Int32} {l3 : Int} {l4' : Int32} {l4 : Int} (R : fC m b φ0 σo φ h s) (el1 : l1' = iI l1) (rl1 : r32 l1) (el2 : l2' = iI l2) (rl2 : r32 l2) (el3 : l3' = iI l3) (rl3 : r32 l3) (el4 : l4' = iI l4) (rl4 : r32 l4) (hF : FX15_link_b48 N K3 l1 l2 l3 l4 s = some q) : gG m b φ0 σo lI q (fX15_link_b48 N k3 61 l1' l2' l3' l4' h) := by
  subst el1; subst el2; subst el3; subst el4
  unfold FX15_link_b48 at hF
  unfold fX15_link_b48
  exact hk3 R rfl rl1 rfl rl2 rfl rl3 (c_add rfl (c_lit 1 1 rfl)) (rr_I _) hF
def FX15_link_b3 (N : Nat) : Nat → Int → Int → Int → Int → fS → Option (Int × fS)
  | 0, _, _, _, _, _ => none
  | n + 1, l1, l2, l3, l4, s =>
    if (s.i 61 9) ≤ l4 then
      (FX1_grown 67 (iadd (s.i 61 9) 1) s).bind fun q8 =>
      (uMV q8.2 67 q8.1).bind fun σ9 =>
      (FX1_grown 68 (iadd (σ9.i 61 9) 1) σ9).bind fun q15 =>
      (uMV q15.2 68 q15.1).bind fun σ16 =>
      (FX1_grown 69 (iadd (σ16.i 61 9) 1) σ16).bind fun q22 =>
      (uMV q22.2 69 q22.1).bind fun σ23 =>
      (uQI σ23 67 (σ23.i 61 9) l1).bind fun σ29 =>
      (uQI σ29 68 (σ29.i 61 9) l2).bind fun σ35 =>
      (uQI σ35 69 (σ35.i 61 9) l3).bind fun σ41 =>
      (uPI σ41 61 9 (iadd (σ41.i 61 9) 1)).bind fun σ45 =>
      some ((σ41.i 61 9), σ45)
    else
      (uRI s 67 l4).bind fun x49 =>
      if ¬ (x49 = l1) then
        FX15_link_b48 N (FX15_link_b3 N n) l1 l2 l3 l4 s
      else
        (uRI s 68 l4).bind fun x54 =>
        if ¬ (x54 = l2) then
          FX15_link_b48 N (FX15_link_b3 N n) l1 l2 l3 l4 s
        else
          (uRI s 69 l4).bind fun x59 =>
          if ¬ (x59 = l3) then
            FX15_link_b48 N (FX15_link_b3 N n) l1 l2 l3 l4 s
          else
            some (l4, s)
theorem SX15_link_b3 {m b : Nat} {φ0 : Nat → Nat} {σo : fS} (hb : 1 ≤ b) {N : Nat} {q : Int × fS} : ∀ {n : Nat} {φ : Nat → Nat} {h : eH} {s : fS} {l1' : Int32} {l1 : Int} {l2' : Int32} {l2 : Int} {l3' : Int32} {l3 : Int} {l4' : Int32} {l4 : Int}, fC m b φ0 σo φ h s → l1' = iI l1 → r32 l1 → l2' = iI l2 → r32 l2 → l3' = iI l3 → r32 l3 → l4' = iI l4 → r32 l4 → FX15_link_b3 N n l1 l2 l3 l4 s = some q → gG m b φ0 σo lI q (fX15_link_b3 N n 61 l1' l2' l3' l4' h) := by
  intro n
  induction n with
 | zero => intro φ h s l1' l1 l2' l2 l3' l3 l4' l4 R el1 rl1 el2 rl2 el3 rl3 el4 rl4 hF; simp [FX15_link_b3] at hF
  | succ n ih =>
    intro φ h s l1' l1 l2' l2 l3' l3 l4' l4 R el1 rl1 el2 rl2 el3 rl3 el4 rl4 hF
    subst el1; subst el2; subst el3; subst el4
    rw [FX15_link_b3] at hF
    rw [fX15_link_b3]
    refine s_gI R (t_61 R.S) (Nat.le_of_ble_eq_true rfl) rfl ?_
    refine s_if (i_le rfl rfl (R.ri (t_61 R.S) (Nat.le_of_ble_eq_true rfl) rfl) rl4) hF (fun c2 hF => ?_) (fun c2 hF => ?_)
    ·
      refine s_gA R (t_61 R.S) (Nat.le_of_ble_eq_true rfl) rfl (o_61_6 R.S) (fun _ _ => ?_)
      refine s_gI R (t_61 R.S) (Nat.le_of_ble_eq_true rfl) rfl ?_
      refine s_call R (Nat.zero_le _) (fun _ hq => SX1_grown (b := 0) (R.rf) rfl (u_67 R.S).1 (c_add rfl (c_lit 1 1 rfl)) (rr_I _) hq) hF (fun f5 rv5 h5 q8 R5 e5 E5 hF => ?_)
      refine s_mv R5 (t_61 R5.S) (Nat.le_of_ble_eq_true rfl) rfl (o_61_6 R5.S) (by decide) (f_mv_1 hb (by decide) (by decide)) e5 hF (fun f6 h6 σ9 R6 E6 K6 hF => ?_)
      refine s_gA R6 (t_61 R6.S) (Nat.le_of_ble_eq_true rfl) rfl (o_61_7 R6.S) (fun _ _ => ?_)
      refine s_gI R6 (t_61 R6.S) (Nat.le_of_ble_eq_true rfl) rfl ?_
      refine s_call R6 (Nat.zero_le _) (fun _ hq => SX1_grown (b := 0) (R6.rf) rfl (u_68 R6.S).1 (c_add rfl (c_lit 1 1 rfl)) (rr_I _) hq) hF (fun f9 rv9 h9 q15 R9 e9 E9 hF => ?_)
      refine s_mv R9 (t_61 R9.S) (Nat.le_of_ble_eq_true rfl) rfl (o_61_7 R9.S) (by decide) (f_mv_1 hb (by decide) (by decide)) e9 hF (fun f10 h10 σ16 R10 E10 K10 hF => ?_)
      refine s_gA R10 (t_61 R10.S) (Nat.le_of_ble_eq_true rfl) rfl (o_61_8 R10.S) (fun _ _ => ?_)
      refine s_gI R10 (t_61 R10.S) (Nat.le_of_ble_eq_true rfl) rfl ?_
      refine s_call R10 (Nat.zero_le _) (fun _ hq => SX1_grown (b := 0) (R10.rf) rfl (u_69 R10.S).1 (c_add rfl (c_lit 1 1 rfl)) (rr_I _) hq) hF (fun f13 rv13 h13 q22 R13 e13 E13 hF => ?_)
      refine s_mv R13 (t_61 R13.S) (Nat.le_of_ble_eq_true rfl) rfl (o_61_8 R13.S) (by decide) (f_mv_1 hb (by decide) (by decide)) e13 hF (fun f14 h14 σ23 R14 E14 K14 hF => ?_)
      refine s_gA R14 (t_61 R14.S) (Nat.le_of_ble_eq_true rfl) rfl (o_61_6 R14.S) (fun _ _ => ?_)
      refine s_gI R14 (t_61 R14.S) (Nat.le_of_ble_eq_true rfl) rfl ?_
      refine s_qI R14 (u_67 R14.S).1 (u_67 R14.S).2 (by decide) rfl rfl (R14.ri (t_61 R14.S) (Nat.le_of_ble_eq_true rfl) rfl) rfl rl1 hF (fun h17 σ29 R17 T17 hF => ?_)
      refine s_gA R17 (t_61 R17.S) (Nat.le_of_ble_eq_true rfl) rfl (o_61_7 R17.S) (fun _ _ => ?_)
      refine s_gI R17 (t_61 R17.S) (Nat.le_of_ble_eq_true rfl) rfl ?_
      refine s_qI R17 (u_68 R17.S).1 (u_68 R17.S).2 (by decide) rfl rfl (R17.ri (t_61 R17.S) (Nat.le_of_ble_eq_true rfl) rfl) rfl rl2 hF (fun h20 σ35 R20 T20 hF => ?_)
      refine s_gA R20 (t_61 R20.S) (Nat.le_of_ble_eq_true rfl) rfl (o_61_8 R20.S) (fun _ _ => ?_)
      refine s_gI R20 (t_61 R20.S) (Nat.le_of_ble_eq_true rfl) rfl ?_
      refine s_qI R20 (u_69 R20.S).1 (u_69 R20.S).2 (by decide) rfl rfl (R20.ri (t_61 R20.S) (Nat.le_of_ble_eq_true rfl) rfl) rfl rl3 hF (fun h23 σ41 R23 T23 hF => ?_)
      refine s_gI R23 (t_61 R23.S) (Nat.le_of_ble_eq_true rfl) rfl ?_
      refine s_pI R23 (t_61 R23.S) (Nat.le_of_ble_eq_true rfl) rfl (c_add rfl (c_lit 1 1 rfl)) (rr_I _) hF (fun h25 σ45 R25 T25 hF => ?_)
      exact g_ret R25 hF ⟨rfl, (R23.ri (t_61 R23.S) (Nat.le_of_ble_eq_true rfl) rfl)⟩
    ·
      refine s_gA R (t_61 R.S) (Nat.le_of_ble_eq_true rfl) rfl (o_61_6 R.S) (fun _ _ => ?_)
      refine s_rI R (u_67 R.S).1 (u_67 R.S).2 (by decide) rfl rfl rl4 hF (fun x49 ra27 hF => ?_)
      refine s_if (not_congr (i_eq rfl rfl ra27 rl1)) hF (fun c28 hF => ?_) (fun c28 hF => ?_)
      ·
        exact SX15_link_b48 (N := N) (k3 := fX15_link_b3 N n) (K3 := FX15_link_b3 N n) hb @ih R rfl rl1 rfl rl2 rfl rl3 rfl rl4 hF
      ·
        refine s_gA R (t_61 R.S) (Nat.le_of_ble_eq_true rfl) rfl (o_61_7 R.S) (fun _ _ => ?_)
        refine s_rI R (u_68 R.S).1 (u_68 R.S).2 (by decide) rfl rfl rl4 hF (fun x54 ra30 hF => ?_)
        refine s_if (not_congr (i_eq rfl rfl ra30 rl2)) hF (fun c31 hF => ?_) (fun c31 hF => ?_)
        ·
          exact SX15_link_b48 (N := N) (k3 := fX15_link_b3 N n) (K3 := FX15_link_b3 N n) hb @ih R rfl rl1 rfl rl2 rfl rl3 rfl rl4 hF
        ·
          refine s_gA R (t_61 R.S) (Nat.le_of_ble_eq_true rfl) rfl (o_61_8 R.S) (fun _ _ => ?_)
          refine s_rI R (u_69 R.S).1 (u_69 R.S).2 (by decide) rfl rfl rl4 hF (fun x59 ra33 hF => ?_)
          refine s_if (not_congr (i_eq rfl rfl ra33 rl3)) hF (fun c34 hF => ?_) (fun c34 hF => ?_)
          ·
            exact SX15_link_b48 (N := N) (k3 := fX15_link_b3 N n) (K3 := FX15_link_b3 N n) hb @ih R rfl rl1 rfl rl2 rfl rl3 rfl rl4 hF
          ·
            exact g_ret R hF ⟨rfl, rl4⟩
def FX15_link (N : Nat) (p0 : Int) (p1 : Int) (p2 : Int) (s : fS) : Option (Int × fS) :=
  FX15_link_b3 N N p0 p1 p2 1 s
theorem SX15_link {m b : Nat} {φ0 : Nat → Nat} {σo : fS} (hb : 1 ≤ b) {N : Nat} {q : Int × fS} {φ : Nat → Nat} {h : eH} {s : fS} {p0' : Int32} {p0 : Int} {p1' : Int32} {p1 : Int} {p2' : Int32} {p2 : Int} (R : fC m b φ0 σo φ h s) (ep0 : p0' = iI p0) (rp0 : r32 p0) (ep1 : p1' = iI p1) (rp1 : r32 p1) (ep2 : p2' = iI p2) (rp2 : r32 p2) (hF : FX15_link N p0 p1 p2 s = some q) : gG m b φ0 σo lI q (fX15_link N 61 p0' p1' p2' h) := by
  subst ep0; subst ep1; subst ep2
  unfold FX15_link at hF
  unfold fX15_link
  exact SX15_link_b3 (N := N) hb R rfl rp0 rfl rp1 rfl rp2 (c_lit 1 1 rfl) ⟨by decide, by decide⟩ hF
def FX15_add_b72 (N : Nat) (K4 : Int → Int → fS → Option (Unit × fS)) (l3 : Int) (l4 : Int) (s : fS) : Option (Unit × fS) :=
  K4 l4 (iadd l3 1) s
theorem SX15_add_b72 {m b : Nat} {φ0 : Nat → Nat} {σo : fS} (hb : 1 ≤ b) {N : Nat} {k4 : Nat → Nat → Int32 → Int32 → eH → Option (Unit × eH)} {K4 : Int → Int → fS → Option (Unit × fS)} {q : Unit × fS} (hk4 : ∀ {φ : Nat → Nat} {h : eH} {s : fS} {l2' : Int32} {l2 : Int} {l3' : Int32} {l3 : Int}, fC m b φ0 σo φ h s → l2' = iI l2 → r32 l2 → l3' = iI l3 → r32 l3 → K4 l2 l3 s = some q → gG m b φ0 σo lU q (k4 61 83 l2' l3' h)) {φ : Nat → Nat} {h : eH} {s : fS} {l3' : Int32} {l3 : Int} {l4' : Int32} {l4 : Int} (R : fC m b φ0 σo φ h s) (el3 : l3' = iI l3) (rl3 : r32 l3) (el4 : l4' = iI l4) (rl4 : r32 l4) (hF : FX15_add_b72 N K4 l3 l4 s = some q) : gG m b φ0 σo lU q (fX15_add_b72 N k4 61 83 l3' l4' h) := by
  subst el3; subst el4
  unfold FX15_add_b72 at hF
  unfold fX15_add_b72
  exact hk4 R rfl rl4 (c_add rfl (c_lit 1 1 rfl)) (rr_I _) hF
def FX15_add_b125 (N : Nat) (K86 : Int → Int → Int → fS → Option (Unit × fS)) (l2 : Int) (l3 : Int) (l4 : Int) (s : fS) : Option (Unit × fS) :=
  K86 l2 l3 (iadd l4 1) s
theorem SX15_add_b125 {m b : Nat} {φ0 : Nat → Nat} {σo : fS} (hb : 1 ≤ b) {N : Nat} {k86 : Nat → Nat → Int32 → Int32 → Int32 → eH → Option (Unit × eH)} {K86 : Int → Int → Int → fS → Option (Unit × fS)} {q : Unit × fS} (hk86 : ∀ {φ : Nat → Nat} {h : eH} {s : fS} {l2' : Int32} {l2 : Int} {l3' : Int32} {l3 : Int} {l4' : Int32} {l4 : Int}, fC m b φ0 σo φ h s → l2' = iI l2 → r32 l2 → l3' = iI l3 → r32 l3 → l4' = iI l4 → r32 l4 → K86 l2 l3 l4 s = some q → gG m b φ0 σo lU q (k86 61 83 l2' l3' l4' h)) {φ : Nat → Nat} {h : eH} {s : fS} {l2' : Int32} {l2 : Int} {l3' : Int32} {l3 : Int} {l4' : Int32} {l4 : Int} (R : fC m b φ0 σo φ h s) (el2 : l2' = iI l2) (rl2 : r32 l2) (el3 : l3' = iI l3) (rl3 : r32 l3) (el4 : l4' = iI l4) (rl4 : r32 l4) (hF : FX15_add_b125 N K86 l2 l3 l4 s = some q) : gG m b φ0 σo lU q (fX15_add_b125 N k86 61 83 l2' l3' l4' h) := by
  subst el2; subst el3; subst el4
  unfold FX15_add_b125 at hF
  unfold fX15_add_b125
  exact hk86 R rfl rl2 rfl rl3 (c_add rfl (c_lit 1 1 rfl)) (rr_I _) hF
def FX15_add_b86 (N : Nat) : Nat → Int → Int → Int → fS → Option (Unit × fS)
  | 0, _, _, _, _ => none
  | n + 1, l2, l3, l4, s =>
    if (s.i 83 2) < l4 then
      (uQI s 65 l2 l3).bind fun σ6 =>
      (uPI σ6 61 19 (iadd (σ6.i 61 19) 1)).bind fun σ12 =>
      (uQI σ12 74 (σ6.i 61 19) l2).bind fun σ14 =>
      (uPI σ14 61 16 (iadd (σ14.i 61 16) 1)).bind fun σ18 =>
      (uPZ σ18 61 15 0).bind fun σ20 =>
      some ((), σ20)
    else
      (uRI s 85 l4).bind fun x24 =>
      if x24 ≤ 0 then
        FX15_add_b125 N (FX15_add_b86 N n) l2 l3 l4 s
      else
        (uRI s 85 l4).bind fun x31 =>
        (FX15_link N (isub (s.i 83 2) l4) x31 l3 s).bind fun q34 =>
        FX15_add_b125 N (FX15_add_b86 N n) l2 q34.1 l4 q34.2
theorem SX15_add_b86 {m b : Nat} {φ0 : Nat → Nat} {σo : fS} (hb : 1 ≤ b) {N : Nat} {q : Unit × fS} : ∀ {n : Nat} {φ : Nat → Nat} {h : eH} {s : fS} {l2' : Int32} {l2 : Int} {l3' : Int32} {l3 : Int} {l4' : Int32} {l4 : Int}, fC m b φ0 σo φ h s → l2' = iI l2 → r32 l2 → l3' = iI l3 → r32 l3 → l4' = iI l4 → r32 l4 → FX15_add_b86 N n l2 l3 l4 s = some q → gG m b φ0 σo lU q (fX15_add_b86 N n 61 83 l2' l3' l4' h) := by
  intro n
  induction n with
 | zero => intro φ h s l2' l2 l3' l3 l4' l4 R el2 rl2 el3 rl3 el4 rl4 hF; simp [FX15_add_b86] at hF
  | succ n ih =>
    intro φ h s l2' l2 l3' l3 l4' l4 R el2 rl2 el3 rl3 el4 rl4 hF
    subst el2; subst el3; subst el4
    rw [FX15_add_b86] at hF
    rw [fX15_add_b86]
    refine s_gI R (t_83 R.S) (Nat.le_of_ble_eq_true rfl) rfl ?_
    refine s_if (i_lt rfl rfl (R.ri (t_83 R.S) (Nat.le_of_ble_eq_true rfl) rfl) rl4) hF (fun c2 hF => ?_) (fun c2 hF => ?_)
    ·
      refine s_gA R (t_61 R.S) (Nat.le_of_ble_eq_true rfl) rfl (o_61_3 R.S) (fun _ _ => ?_)
      refine s_qI R (u_65 R.S).1 (u_65 R.S).2 (by decide) rfl rfl rl2 rfl rl3 hF (fun h4 σ6 R4 T4 hF => ?_)
      refine s_gAs R4 (t_61 R4.S) (Nat.le_of_ble_eq_true rfl) rfl (o_61_18 R4.S) (a_74 R4) ?_
      refine s_gI R4 (t_61 R4.S) (Nat.le_of_ble_eq_true rfl) rfl ?_
      refine s_pI R4 (t_61 R4.S) (Nat.le_of_ble_eq_true rfl) rfl (c_add rfl (c_lit 1 1 rfl)) (rr_I _) hF (fun h7 σ12 R7 T7 hF => ?_)
      refine s_qI R7 (u_74 R7.S).1 (u_74 R7.S).2 (by decide) (a_74 R7) rfl (R4.ri (t_61 R4.S) (Nat.le_of_ble_eq_true rfl) rfl) rfl rl2 hF (fun h8 σ14 R8 T8 hF => ?_)
      refine s_gI R8 (t_61 R8.S) (Nat.le_of_ble_eq_true rfl) rfl ?_
      refine s_pI R8 (t_61 R8.S) (Nat.le_of_ble_eq_true rfl) rfl (c_add rfl (c_lit 1 1 rfl)) (rr_I _) hF (fun h10 σ18 R10 T10 hF => ?_)
      refine s_pZ R10 (t_61 R10.S) (Nat.le_of_ble_eq_true rfl) rfl (c_lit 0 0 rfl) ⟨by decide, by decide⟩ hF (fun h11 σ20 R11 T11 hF => ?_)
      exact g_ret R11 hF trivial
    ·
      refine s_gAs R (t_83 R.S) (Nat.le_of_ble_eq_true rfl) rfl (o_83_1 R.S) (a_85 R) ?_
      refine s_rI R (u_85 R.S).1 (u_85 R.S).2 (by decide) (a_85 R) rfl rl4 hF (fun x24 ra13 hF => ?_)
      refine s_if (i_le rfl (c_lit 0 0 rfl) ra13 ⟨by decide, by decide⟩) hF (fun c14 hF => ?_) (fun c14 hF => ?_)
      ·
        exact SX15_add_b125 (N := N) (k86 := fX15_add_b86 N n) (K86 := FX15_add_b86 N n) hb @ih R rfl rl2 rfl rl3 rfl rl4 hF
      ·
        refine s_gI R (t_83 R.S) (Nat.le_of_ble_eq_true rfl) rfl ?_
        refine s_gAs R (t_83 R.S) (Nat.le_of_ble_eq_true rfl) rfl (o_83_1 R.S) (a_85 R) ?_
        refine s_rI R (u_85 R.S).1 (u_85 R.S).2 (by decide) (a_85 R) rfl rl4 hF (fun x31 ra17 hF => ?_)
        refine s_kok R (t_61 R.S) (Nat.le_of_ble_eq_true rfl) ?_
        refine s_call R hb (fun _ hq => SX15_link (b := 1) (N := N) (Nat.le_of_ble_eq_true rfl) (R.rf) (c_sub rfl rfl) (rr_I _) rfl ra17 rfl rl3 hq) hF (fun f19 rv19 h19 q34 R19 e19 E19 hF => ?_)
        exact SX15_add_b125 (N := N) (k86 := fX15_add_b86 N n) (K86 := FX15_add_b86 N n) hb @ih R19 rfl rl2 e19.1 e19.2 rfl rl4 hF
def FX15_add_b4 (N : Nat) : Nat → Int → Int → fS → Option (Unit × fS)
  | 0, _, _, _ => none
  | n + 1, l2, l3, s =>
    if (s.i 83 2) ≤ l3 then
      FX15_add_b86 N N l2 (-1) 0 s
    else
      (uRI s 84 l3).bind fun x6 =>
      (FX15_child N l2 x6 s).bind fun q9 =>
      if ¬ (q9.1 = (-1)) then
        FX15_add_b72 N (FX15_add_b4 N n) l3 q9.1 q9.2
      else
        (uRI q9.2 84 l3).bind fun x13 =>
        (FX15_fresh x13 q9.2).bind fun q16 =>
        (uQI q16.2 66 q16.1 l2).bind fun σ19 =>
        (uRI σ19 62 l2).bind fun x25 =>
        (uQI σ19 63 q16.1 x25).bind fun σ27 =>
        (uQI σ27 62 l2 q16.1).bind fun σ31 =>
        FX15_add_b72 N (FX15_add_b4 N n) l3 q16.1 σ31
theorem SX15_add_b4 {m b : Nat} {φ0 : Nat → Nat} {σo : fS} (hb : 1 ≤ b) {N : Nat} {q : Unit × fS} : ∀ {n : Nat} {φ : Nat → Nat} {h : eH} {s : fS} {l2' : Int32} {l2 : Int} {l3' : Int32} {l3 : Int}, fC m b φ0 σo φ h s → l2' = iI l2 → r32 l2 → l3' = iI l3 → r32 l3 → FX15_add_b4 N n l2 l3 s = some q → gG m b φ0 σo lU q (fX15_add_b4 N n 61 83 l2' l3' h) := by
  intro n
  induction n with
 | zero => intro φ h s l2' l2 l3' l3 R el2 rl2 el3 rl3 hF; simp [FX15_add_b4] at hF
  | succ n ih =>
    intro φ h s l2' l2 l3' l3 R el2 rl2 el3 rl3 hF
    subst el2; subst el3
    rw [FX15_add_b4] at hF
    rw [fX15_add_b4]
    refine s_gI R (t_83 R.S) (Nat.le_of_ble_eq_true rfl) rfl ?_
    refine s_if (i_le rfl rfl (R.ri (t_83 R.S) (Nat.le_of_ble_eq_true rfl) rfl) rl3) hF (fun c2 hF => ?_) (fun c2 hF => ?_)
    ·
      exact SX15_add_b86 (N := N) hb R rfl rl2 (c_lit (-1) (-1) rfl) ⟨by decide, by decide⟩ (c_lit 0 0 rfl) ⟨by decide, by decide⟩ hF
    ·
      refine s_gAs R (t_83 R.S) (Nat.le_of_ble_eq_true rfl) rfl (o_83_0 R.S) (a_84 R) ?_
      refine s_rI R (u_84 R.S).1 (u_84 R.S).2 (by decide) (a_84 R) rfl rl3 hF (fun x6 ra4 hF => ?_)
      refine s_kok R (t_61 R.S) (Nat.le_of_ble_eq_true rfl) ?_
      refine s_call R (Nat.zero_le _) (fun _ hq => SX15_child (b := 0) (N := N) (R.rf) rfl rl2 rfl ra4 hq) hF (fun f6 rv6 h6 q9 R6 e6 E6 hF => ?_)
      refine s_if (not_congr (i_eq e6.1 (c_lit (-1) (-1) rfl) e6.2 ⟨by decide, by decide⟩)) hF (fun c7 hF => ?_) (fun c7 hF => ?_)
      ·
        exact SX15_add_b72 (N := N) (k4 := fX15_add_b4 N n) (K4 := FX15_add_b4 N n) hb @ih R6 rfl rl3 e6.1 e6.2 hF
      ·
        refine s_gAs R6 (t_83 R6.S) (Nat.le_of_ble_eq_true rfl) rfl (o_83_0 R6.S) (a_84 R6) ?_
        refine s_rI R6 (u_84 R6.S).1 (u_84 R6.S).2 (by decide) (a_84 R6) rfl rl3 hF (fun x13 ra9 hF => ?_)
        refine s_kok R6 (t_61 R6.S) (Nat.le_of_ble_eq_true rfl) ?_
        refine s_call R6 hb (fun _ hq => SX15_fresh (b := 1) (Nat.le_of_ble_eq_true rfl) (R6.rf) rfl ra9 hq) hF (fun f11 rv11 h11 q16 R11 e11 E11 hF => ?_)
        refine s_gA R11 (t_61 R11.S) (Nat.le_of_ble_eq_true rfl) rfl (o_61_4 R11.S) (fun _ _ => ?_)
        refine s_qI R11 (u_66 R11.S).1 (u_66 R11.S).2 (by decide) rfl e11.1 e11.2 rfl rl2 hF (fun h13 σ19 R13 T13 hF => ?_)
        refine s_gA R13 (t_61 R13.S) (Nat.le_of_ble_eq_true rfl) rfl (o_61_1 R13.S) (fun _ _ => ?_)
        refine s_gA R13 (t_61 R13.S) (Nat.le_of_ble_eq_true rfl) rfl (o_61_0 R13.S) (fun _ _ => ?_)
        refine s_rI R13 (u_62 R13.S).1 (u_62 R13.S).2 (by decide) rfl rfl rl2 hF (fun x25 ra16 hF => ?_)
        refine s_qI R13 (u_63 R13.S).1 (u_63 R13.S).2 (by decide) rfl e11.1 e11.2 rfl ra16 hF (fun h17 σ27 R17 T17 hF => ?_)
        refine s_gA R17 (t_61 R17.S) (Nat.le_of_ble_eq_true rfl) rfl (o_61_0 R17.S) (fun _ _ => ?_)
        refine s_qI R17 (u_62 R17.S).1 (u_62 R17.S).2 (by decide) rfl rfl rl2 e11.1 e11.2 hF (fun h19 σ31 R19 T19 hF => ?_)
        exact SX15_add_b72 (N := N) (k4 := fX15_add_b4 N n) (K4 := FX15_add_b4 N n) hb @ih R19 rfl rl3 e11.1 e11.2 hF
def FX15_add (N : Nat) (s : fS) : Option (Unit × fS) :=
  FX15_add_b4 N N 0 0 s
theorem SX15_add {m b : Nat} {φ0 : Nat → Nat} {σo : fS} (hb : 1 ≤ b) {N : Nat} {q : Unit × fS} {φ : Nat → Nat} {h : eH} {s : fS} (R : fC m b φ0 σo φ h s) (hF : FX15_add N s = some q) : gG m b φ0 σo lU q (fX15_add N 61 83 h) := by
  unfold FX15_add at hF
  unfold fX15_add
  exact SX15_add_b4 (N := N) hb R (c_lit 0 0 rfl) ⟨by decide, by decide⟩ (c_lit 0 0 rfl) ⟨by decide, by decide⟩ hF
def FX14_readPattern_b259 (N : Nat) (l1 : Int) (s1 : Int) (s : fS) : Option ((Unit ⊕ Nat) × fS) :=
  tB (FX14_want s1 4 l1 s) fun x2 σ3 =>
  (FX15_add N σ3).bind fun q9 =>
  some (.inl (), q9.2)
theorem SX14_readPattern_b259 {m b : Nat} {φ0 : Nat → Nat} {σo : fS} (hb : 1 ≤ b) {N : Nat} {q : (Unit ⊕ Nat) × fS} {φ : Nat → Nat} {h : eH} {s : fS} {l1' : Int32} {l1 : Int} {s1' : Int32} {s1 : Int} (R : fC m b φ0 σo φ h s) (el1 : l1' = iI l1) (rl1 : r32 l1) (es1 : s1' = iI s1) (rs1 : r32 s1) (hF : FX14_readPattern_b259 N l1 s1 s = some q) : gG m b φ0 σo (lT lU) q (fX14_readPattern_b259 N 60 l1' 60 s1' h) := by
  subst el1; subst es1
  unfold FX14_readPattern_b259 at hF
  unfold fX14_readPattern_b259
  refine s_kok R (t_60 R.S) (Nat.le_of_ble_eq_true rfl) ?_
  refine s_tB R (Nat.zero_le _) (fun _ hq => SX14_want (b := 0) (R.rf) rfl rs1 (c_lit 4 4 rfl) ⟨by decide, by decide⟩ rfl rl1 hq) hF (fun f2 rv2 h2 x2 σ3 R2 e2 E2 hF => ?_)
  refine s_gO R2 (t_60 R2.S) (Nat.le_of_ble_eq_true rfl) rfl (o_60_0 R2.S) ?_
  refine s_gO R2 (t_60 R2.S) (Nat.le_of_ble_eq_true rfl) rfl (o_60_2 R2.S) ?_
  refine s_kok R2 (t_61 R2.S) (Nat.le_of_ble_eq_true rfl) ?_
  refine s_call R2 hb (fun _ hq => SX15_add (b := 1) (N := N) (Nat.le_of_ble_eq_true rfl) (R2.rf) hq) hF (fun f6 rv6 h6 q9 R6 e6 E6 hF => ?_)
  exact g_ret R6 hF trivial
def FX14_readPattern_b258 (N : Nat) (l1 : Int) (s : fS) : Option ((Unit ⊕ Nat) × fS) :=
  FX14_readPattern_b259 N l1 0 s
theorem SX14_readPattern_b258 {m b : Nat} {φ0 : Nat → Nat} {σo : fS} (hb : 1 ≤ b) {N : Nat} {q : (Unit ⊕ Nat) × fS} {φ : Nat → Nat} {h : eH} {s : fS} {l1' : Int32} {l1 : Int} (R : fC m b φ0 σo φ h s) (el1 : l1' = iI l1) (rl1 : r32 l1) (hF : FX14_readPattern_b258 N l1 s = some q) : gG m b φ0 σo (lT lU) q (fX14_readPattern_b258 N 60 l1' 60 h) := by
  subst el1
  unfold FX14_readPattern_b258 at hF
  unfold fX14_readPattern_b258
  exact SX14_readPattern_b259 (N := N) hb R rfl rl1 (c_lit 0 0 rfl) ⟨by decide, by decide⟩ hF
def FX14_readPattern_b209 (N : Nat) (l1 : Int) (l2 : Int) (s1 : Int) (s : fS) : Option ((Unit ⊕ Nat) × fS) :=
  tB (FX14_want s1 3 l1 s) fun x2 σ3 =>
  (uPI σ3 61 17 (iadd (σ3.i 61 17) l2)).bind fun σ8 =>
  if 1000 ≤ (σ8.i 61 16) then
    FX14_readPattern_b258 N l1 σ8
  else
    if 8000 < (σ8.i 61 17) then
      FX14_readPattern_b258 N l1 σ8
    else
      FX14_readPattern_b259 N l1 1 σ8
theorem SX14_readPattern_b209 {m b : Nat} {φ0 : Nat → Nat} {σo : fS} (hb : 1 ≤ b) {N : Nat} {q : (Unit ⊕ Nat) × fS} {φ : Nat → Nat} {h : eH} {s : fS} {l1' : Int32} {l1 : Int} {l2' : Int32} {l2 : Int} {s1' : Int32} {s1 : Int} (R : fC m b φ0 σo φ h s) (el1 : l1' = iI l1) (rl1 : r32 l1) (el2 : l2' = iI l2) (rl2 : r32 l2) (es1 : s1' = iI s1) (rs1 : r32 s1) (hF : FX14_readPattern_b209 N l1 l2 s1 s = some q) : gG m b φ0 σo (lT lU) q (fX14_readPattern_b209 N 60 l1' l2' 60 s1' h) := by
  subst el1; subst el2; subst es1
  unfold FX14_readPattern_b209 at hF
  unfold fX14_readPattern_b209
  refine s_kok R (t_60 R.S) (Nat.le_of_ble_eq_true rfl) ?_
  refine s_tB R (Nat.zero_le _) (fun _ hq => SX14_want (b := 0) (R.rf) rfl rs1 (c_lit 3 3 rfl) ⟨by decide, by decide⟩ rfl rl1 hq) hF (fun f2 rv2 h2 x2 σ3 R2 e2 E2 hF => ?_)
  refine s_gO R2 (t_60 R2.S) (Nat.le_of_ble_eq_true rfl) rfl (o_60_0 R2.S) ?_
  refine s_gI R2 (t_61 R2.S) (Nat.le_of_ble_eq_true rfl) rfl ?_
  refine s_pI R2 (t_61 R2.S) (Nat.le_of_ble_eq_true rfl) rfl (c_add rfl rfl) (rr_I _) hF (fun h5 σ8 R5 T5 hF => ?_)
  refine s_gO R5 (t_60 R5.S) (Nat.le_of_ble_eq_true rfl) rfl (o_60_0 R5.S) ?_
  refine s_gI R5 (t_61 R5.S) (Nat.le_of_ble_eq_true rfl) rfl ?_
  refine s_if (i_le (c_lit 1000 1000 rfl) rfl ⟨by decide, by decide⟩ (R5.ri (t_61 R5.S) (Nat.le_of_ble_eq_true rfl) rfl)) hF (fun c8 hF => ?_) (fun c8 hF => ?_)
  ·
    exact SX14_readPattern_b258 (N := N) hb R5 rfl rl1 hF
  ·
    refine s_gO R5 (t_60 R5.S) (Nat.le_of_ble_eq_true rfl) rfl (o_60_0 R5.S) ?_
    refine s_gI R5 (t_61 R5.S) (Nat.le_of_ble_eq_true rfl) rfl ?_
    refine s_if (i_lt (c_lit 8000 8000 rfl) rfl ⟨by decide, by decide⟩ (R5.ri (t_61 R5.S) (Nat.le_of_ble_eq_true rfl) rfl)) hF (fun c11 hF => ?_) (fun c11 hF => ?_)
    ·
      exact SX14_readPattern_b258 (N := N) hb R5 rfl rl1 hF
    ·
      exact SX14_readPattern_b259 (N := N) hb R5 rfl rl1 (c_lit 1 1 rfl) ⟨by decide, by decide⟩ hF
def FX14_readPattern_b189 (N : Nat) (l1 : Int) (l2 : Int) (s : fS) : Option ((Unit ⊕ Nat) × fS) :=
  (FX15_has N s).bind fun q6 =>
  if ¬ (q6.1 = 0) then
    FX14_readPattern_b209 N l1 l2 0 q6.2
  else
    FX14_readPattern_b209 N l1 l2 1 q6.2
theorem SX14_readPattern_b189 {m b : Nat} {φ0 : Nat → Nat} {σo : fS} (hb : 1 ≤ b) {N : Nat} {q : (Unit ⊕ Nat) × fS} {φ : Nat → Nat} {h : eH} {s : fS} {l1' : Int32} {l1 : Int} {l2' : Int32} {l2 : Int} (R : fC m b φ0 σo φ h s) (el1 : l1' = iI l1) (rl1 : r32 l1) (el2 : l2' = iI l2) (rl2 : r32 l2) (hF : FX14_readPattern_b189 N l1 l2 s = some q) : gG m b φ0 σo (lT lU) q (fX14_readPattern_b189 N 60 l1' l2' h) := by
  subst el1; subst el2
  unfold FX14_readPattern_b189 at hF
  unfold fX14_readPattern_b189
  refine s_gO R (t_60 R.S) (Nat.le_of_ble_eq_true rfl) rfl (o_60_0 R.S) ?_
  refine s_gO R (t_60 R.S) (Nat.le_of_ble_eq_true rfl) rfl (o_60_2 R.S) ?_
  refine s_kok R (t_61 R.S) (Nat.le_of_ble_eq_true rfl) ?_
  refine s_call R (Nat.zero_le _) (fun _ hq => SX15_has (b := 0) (N := N) (R.rf) hq) hF (fun f4 rv4 h4 q6 R4 e4 E4 hF => ?_)
  refine s_if (not_congr (i_eq e4.1 (c_lit 0 0 rfl) e4.2 ⟨by decide, by decide⟩)) hF (fun c5 hF => ?_) (fun c5 hF => ?_)
  ·
    exact SX14_readPattern_b209 (N := N) hb R4 rfl rl1 rfl rl2 (c_lit 0 0 rfl) ⟨by decide, by decide⟩ hF
  ·
    exact SX14_readPattern_b209 (N := N) hb R4 rfl rl1 rfl rl2 (c_lit 1 1 rfl) ⟨by decide, by decide⟩ hF
def FX14_readPattern_b172 (N : Nat) (l1 : Int) (l2 : Int) (l3 : Int) (s1 : Int) (s : fS) : Option ((Unit ⊕ Nat) × fS) :=
  tB (FX14_want s1 2 l1 s) fun x2 σ3 =>
  if l3 = 0 then
    FX14_readPattern_b189 N l1 l2 σ3
  else
    (FX17_add 83 0 σ3).bind fun q8 =>
    FX14_readPattern_b189 N l1 l2 q8.2
theorem SX14_readPattern_b172 {m b : Nat} {φ0 : Nat → Nat} {σo : fS} (hb : 1 ≤ b) {N : Nat} {q : (Unit ⊕ Nat) × fS} {φ : Nat → Nat} {h : eH} {s : fS} {l1' : Int32} {l1 : Int} {l2' : Int32} {l2 : Int} {l3' : Int32} {l3 : Int} {s1' : Int32} {s1 : Int} (R : fC m b φ0 σo φ h s) (el1 : l1' = iI l1) (rl1 : r32 l1) (el2 : l2' = iI l2) (rl2 : r32 l2) (el3 : l3' = iI l3) (rl3 : r32 l3) (es1 : s1' = iI s1) (rs1 : r32 s1) (hF : FX14_readPattern_b172 N l1 l2 l3 s1 s = some q) : gG m b φ0 σo (lT lU) q (fX14_readPattern_b172 N 60 l1' l2' l3' 60 s1' h) := by
  subst el1; subst el2; subst el3; subst es1
  unfold FX14_readPattern_b172 at hF
  unfold fX14_readPattern_b172
  refine s_kok R (t_60 R.S) (Nat.le_of_ble_eq_true rfl) ?_
  refine s_tB R (Nat.zero_le _) (fun _ hq => SX14_want (b := 0) (R.rf) rfl rs1 (c_lit 2 2 rfl) ⟨by decide, by decide⟩ rfl rl1 hq) hF (fun f2 rv2 h2 x2 σ3 R2 e2 E2 hF => ?_)
  refine s_if (i_eq rfl (c_lit 0 0 rfl) rl3 ⟨by decide, by decide⟩) hF (fun c3 hF => ?_) (fun c3 hF => ?_)
  ·
    exact SX14_readPattern_b189 (N := N) hb R2 rfl rl1 rfl rl2 hF
  ·
    refine s_gO R2 (t_60 R2.S) (Nat.le_of_ble_eq_true rfl) rfl (o_60_2 R2.S) ?_
    refine s_kok R2 (t_83 R2.S) (Nat.le_of_ble_eq_true rfl) ?_
    refine s_call R2 (Nat.zero_le _) (fun _ hq => SX17_add (b := 0) (R2.rf) (c_lit 0 0 rfl) ⟨by decide, by decide⟩ hq) hF (fun f6 rv6 h6 q8 R6 e6 E6 hF => ?_)
    exact SX14_readPattern_b189 (N := N) hb R6 rfl rl1 rfl rl2 hF
def FX14_readPattern_b143 (N : Nat) (l1 : Int) (l2 : Int) (l3 : Int) (s1 : Int) (s2 : Int) (s : fS) : Option ((Unit ⊕ Nat) × fS) :=
  (uPI s 60 6 (iadd s1 s2)).bind fun σ1 =>
  (FX14_isOver σ1).bind fun q4 =>
  tB (FX14_want q4.1 1 (q4.2.i 60 6) q4.2) fun x8 σ9 =>
  if 63 < l2 then
    FX14_readPattern_b172 N l1 l2 l3 0 σ9
  else
    FX14_readPattern_b172 N l1 l2 l3 1 σ9
theorem SX14_readPattern_b143 {m b : Nat} {φ0 : Nat → Nat} {σo : fS} (hb : 1 ≤ b) {N : Nat} {q : (Unit ⊕ Nat) × fS} {φ : Nat → Nat} {h : eH} {s : fS} {l1' : Int32} {l1 : Int} {l2' : Int32} {l2 : Int} {l3' : Int32} {l3 : Int} {s1' : Int32} {s1 : Int} {s2' : Int32} {s2 : Int} (R : fC m b φ0 σo φ h s) (el1 : l1' = iI l1) (rl1 : r32 l1) (el2 : l2' = iI l2) (rl2 : r32 l2) (el3 : l3' = iI l3) (rl3 : r32 l3) (es1 : s1' = iI s1) (rs1 : r32 s1) (es2 : s2' = iI s2) (rs2 : r32 s2) (hF : FX14_readPattern_b143 N l1 l2 l3 s1 s2 s = some q) : gG m b φ0 σo (lT lU) q (fX14_readPattern_b143 N 60 l1' l2' l3' 60 s1' s2' h) := by
  subst el1; subst el2; subst el3; subst es1; subst es2
  unfold FX14_readPattern_b143 at hF
  unfold fX14_readPattern_b143
  refine s_pI R (t_60 R.S) (Nat.le_of_ble_eq_true rfl) rfl (c_add rfl rfl) (rr_I _) hF (fun h1 σ1 R1 T1 hF => ?_)
  refine s_kok R1 (t_60 R1.S) (Nat.le_of_ble_eq_true rfl) ?_
  refine s_call R1 (Nat.zero_le _) (fun _ hq => SX14_isOver (b := 0) (R1.rf) hq) hF (fun f3 rv3 h3 q4 R3 e3 E3 hF => ?_)
  refine s_gI R3 (t_60 R3.S) (Nat.le_of_ble_eq_true rfl) rfl ?_
  refine s_kok R3 (t_60 R3.S) (Nat.le_of_ble_eq_true rfl) ?_
  refine s_tB R3 (Nat.zero_le _) (fun _ hq => SX14_want (b := 0) (R3.rf) e3.1 e3.2 (c_lit 1 1 rfl) ⟨by decide, by decide⟩ rfl (R3.ri (t_60 R3.S) (Nat.le_of_ble_eq_true rfl) rfl) hq) hF (fun f6 rv6 h6 x8 σ9 R6 e6 E6 hF => ?_)
  refine s_if (i_lt (c_lit 63 63 rfl) rfl ⟨by decide, by decide⟩ rl2) hF (fun c7 hF => ?_) (fun c7 hF => ?_)
  ·
    exact SX14_readPattern_b172 (N := N) hb R6 rfl rl1 rfl rl2 rfl rl3 (c_lit 0 0 rfl) ⟨by decide, by decide⟩ hF
  ·
    exact SX14_readPattern_b172 (N := N) hb R6 rfl rl1 rfl rl2 rfl rl3 (c_lit 1 1 rfl) ⟨by decide, by decide⟩ hF
def FX14_readPattern_b128 (N : Nat) (l1 : Int) (l2 : Int) (s0 : Int) (s : fS) : Option ((Unit ⊕ Nat) × fS) :=
  if s0 = 0 then
    FX14_readPattern_b143 N l1 l2 s0 (s.i 60 6) 0 s
  else
    FX14_readPattern_b143 N l1 l2 s0 (s.i 60 6) 1 s
theorem SX14_readPattern_b128 {m b : Nat} {φ0 : Nat → Nat} {σo : fS} (hb : 1 ≤ b) {N : Nat} {q : (Unit ⊕ Nat) × fS} {φ : Nat → Nat} {h : eH} {s : fS} {l1' : Int32} {l1 : Int} {l2' : Int32} {l2 : Int} {s0' : Int32} {s0 : Int} (R : fC m b φ0 σo φ h s) (el1 : l1' = iI l1) (rl1 : r32 l1) (el2 : l2' = iI l2) (rl2 : r32 l2) (es0 : s0' = iI s0) (rs0 : r32 s0) (hF : FX14_readPattern_b128 N l1 l2 s0 s = some q) : gG m b φ0 σo (lT lU) q (fX14_readPattern_b128 N 60 l1' l2' s0' h) := by
  subst el1; subst el2; subst es0
  unfold FX14_readPattern_b128 at hF
  unfold fX14_readPattern_b128
  refine s_gI R (t_60 R.S) (Nat.le_of_ble_eq_true rfl) rfl ?_
  refine s_if (i_eq rfl (c_lit 0 0 rfl) rs0 ⟨by decide, by decide⟩) hF (fun c2 hF => ?_) (fun c2 hF => ?_)
  ·
    exact SX14_readPattern_b143 (N := N) hb R rfl rl1 rfl rl2 rfl rs0 rfl (R.ri (t_60 R.S) (Nat.le_of_ble_eq_true rfl) rfl) (c_lit 0 0 rfl) ⟨by decide, by decide⟩ hF
  ·
    exact SX14_readPattern_b143 (N := N) hb R rfl rl1 rfl rl2 rfl rs0 rfl (R.ri (t_60 R.S) (Nat.le_of_ble_eq_true rfl) rfl) (c_lit 1 1 rfl) ⟨by decide, by decide⟩ hF
def FX14_readPattern_b106 (N : Nat) (l1 : Int) (l2 : Int) (s1 : Int) (s : fS) : Option ((Unit ⊕ Nat) × fS) :=
  tB (FX14_want s1 1 (s.i 60 6) s) fun x4 σ5 =>
  (FX14_next σ5).bind fun q7 =>
  if ¬ (q7.1 = 46) then
    FX14_readPattern_b128 N l1 l2 0 q7.2
  else
    FX14_readPattern_b128 N l1 l2 1 q7.2
theorem SX14_readPattern_b106 {m b : Nat} {φ0 : Nat → Nat} {σo : fS} (hb : 1 ≤ b) {N : Nat} {q : (Unit ⊕ Nat) × fS} {φ : Nat → Nat} {h : eH} {s : fS} {l1' : Int32} {l1 : Int} {l2' : Int32} {l2 : Int} {s1' : Int32} {s1 : Int} (R : fC m b φ0 σo φ h s) (el1 : l1' = iI l1) (rl1 : r32 l1) (el2 : l2' = iI l2) (rl2 : r32 l2) (es1 : s1' = iI s1) (rs1 : r32 s1) (hF : FX14_readPattern_b106 N l1 l2 s1 s = some q) : gG m b φ0 σo (lT lU) q (fX14_readPattern_b106 N 60 l1' l2' 60 s1' h) := by
  subst el1; subst el2; subst es1
  unfold FX14_readPattern_b106 at hF
  unfold fX14_readPattern_b106
  refine s_gI R (t_60 R.S) (Nat.le_of_ble_eq_true rfl) rfl ?_
  refine s_kok R (t_60 R.S) (Nat.le_of_ble_eq_true rfl) ?_
  refine s_tB R (Nat.zero_le _) (fun _ hq => SX14_want (b := 0) (R.rf) rfl rs1 (c_lit 1 1 rfl) ⟨by decide, by decide⟩ rfl (R.ri (t_60 R.S) (Nat.le_of_ble_eq_true rfl) rfl) hq) hF (fun f3 rv3 h3 x4 σ5 R3 e3 E3 hF => ?_)
  refine s_kok R3 (t_60 R3.S) (Nat.le_of_ble_eq_true rfl) ?_
  refine s_call R3 (Nat.zero_le _) (fun _ hq => SX14_next (b := 0) (R3.rf) hq) hF (fun f5 rv5 h5 q7 R5 e5 E5 hF => ?_)
  refine s_if (not_congr (i_eq e5.1 (c_lit 46 46 rfl) e5.2 ⟨by decide, by decide⟩)) hF (fun c6 hF => ?_) (fun c6 hF => ?_)
  ·
    exact SX14_readPattern_b128 (N := N) hb R5 rfl rl1 rfl rl2 (c_lit 0 0 rfl) ⟨by decide, by decide⟩ hF
  ·
    exact SX14_readPattern_b128 (N := N) hb R5 rfl rl1 rfl rl2 (c_lit 1 1 rfl) ⟨by decide, by decide⟩ hF
def FX14_readPattern_b96 (N : Nat) (l1 : Int) (l2 : Int) (s : fS) : Option ((Unit ⊕ Nat) × fS) :=
  if l2 ≤ 0 then
    FX14_readPattern_b106 N l1 l2 0 s
  else
    FX14_readPattern_b106 N l1 l2 1 s
theorem SX14_readPattern_b96 {m b : Nat} {φ0 : Nat → Nat} {σo : fS} (hb : 1 ≤ b) {N : Nat} {q : (Unit ⊕ Nat) × fS} {φ : Nat → Nat} {h : eH} {s : fS} {l1' : Int32} {l1 : Int} {l2' : Int32} {l2 : Int} (R : fC m b φ0 σo φ h s) (el1 : l1' = iI l1) (rl1 : r32 l1) (el2 : l2' = iI l2) (rl2 : r32 l2) (hF : FX14_readPattern_b96 N l1 l2 s = some q) : gG m b φ0 σo (lT lU) q (fX14_readPattern_b96 N 60 l1' l2' h) := by
  subst el1; subst el2
  unfold FX14_readPattern_b96 at hF
  unfold fX14_readPattern_b96
  refine s_if (i_le rfl (c_lit 0 0 rfl) rl2 ⟨by decide, by decide⟩) hF (fun c1 hF => ?_) (fun c1 hF => ?_)
  ·
    exact SX14_readPattern_b106 (N := N) hb R rfl rl1 rfl rl2 (c_lit 0 0 rfl) ⟨by decide, by decide⟩ hF
  ·
    exact SX14_readPattern_b106 (N := N) hb R rfl rl1 rfl rl2 (c_lit 1 1 rfl) ⟨by decide, by decide⟩ hF
def FX14_readPattern_b55 (N : Nat) : Nat → Int → Int → fS → Option ((Unit ⊕ Nat) × fS)
  | 0, _, _, _ => none
  | n + 1, l1, l2, s =>
    (FX14_isOver s).bind fun q2 =>
    if ¬ (q2.1 = 0) then
      FX14_readPattern_b96 N l1 l2 q2.2
    else
      (FX14_next q2.2).bind fun q5 =>
      if q5.1 = 46 then
        FX14_readPattern_b96 N l1 l2 q5.2
      else
        tB (FX14_readLetter (iadd l2 1) q5.2) fun x8 σ9 =>
        (FX14_next σ9).bind fun q11 =>
        (FX14_isDigit q11.1 q11.2).bind fun q12 =>
        if q12.1 = 0 then
          FX14_readPattern_b55 N n l1 (iadd l2 1) q12.2
        else
          (FX14_number q12.2).bind fun q15 =>
          FX14_readPattern_b55 N n l1 (iadd l2 1) q15.2
theorem SX14_readPattern_b55 {m b : Nat} {φ0 : Nat → Nat} {σo : fS} (hb : 1 ≤ b) {N : Nat} {q : (Unit ⊕ Nat) × fS} : ∀ {n : Nat} {φ : Nat → Nat} {h : eH} {s : fS} {l1' : Int32} {l1 : Int} {l2' : Int32} {l2 : Int}, fC m b φ0 σo φ h s → l1' = iI l1 → r32 l1 → l2' = iI l2 → r32 l2 → FX14_readPattern_b55 N n l1 l2 s = some q → gG m b φ0 σo (lT lU) q (fX14_readPattern_b55 N n 60 l1' l2' h) := by
  intro n
  induction n with
 | zero => intro φ h s l1' l1 l2' l2 R el1 rl1 el2 rl2 hF; simp [FX14_readPattern_b55] at hF
  | succ n ih =>
    intro φ h s l1' l1 l2' l2 R el1 rl1 el2 rl2 hF
    subst el1; subst el2
    rw [FX14_readPattern_b55] at hF
    rw [fX14_readPattern_b55]
    refine s_kok R (t_60 R.S) (Nat.le_of_ble_eq_true rfl) ?_
    refine s_call R (Nat.zero_le _) (fun _ hq => SX14_isOver (b := 0) (R.rf) hq) hF (fun f2 rv2 h2 q2 R2 e2 E2 hF => ?_)
    refine s_if (not_congr (i_eq e2.1 (c_lit 0 0 rfl) e2.2 ⟨by decide, by decide⟩)) hF (fun c3 hF => ?_) (fun c3 hF => ?_)
    ·
      exact SX14_readPattern_b96 (N := N) hb R2 rfl rl1 rfl rl2 hF
    ·
      refine s_kok R2 (t_60 R2.S) (Nat.le_of_ble_eq_true rfl) ?_
      refine s_call R2 (Nat.zero_le _) (fun _ hq => SX14_next (b := 0) (R2.rf) hq) hF (fun f5 rv5 h5 q5 R5 e5 E5 hF => ?_)
      refine s_if (i_eq e5.1 (c_lit 46 46 rfl) e5.2 ⟨by decide, by decide⟩) hF (fun c6 hF => ?_) (fun c6 hF => ?_)
      ·
        exact SX14_readPattern_b96 (N := N) hb R5 rfl rl1 rfl rl2 hF
      ·
        refine s_kok R5 (t_60 R5.S) (Nat.le_of_ble_eq_true rfl) ?_
        refine s_tB R5 (Nat.zero_le _) (fun _ hq => SX14_readLetter (b := 0) (R5.rf) (c_add rfl (c_lit 1 1 rfl)) (rr_I _) hq) hF (fun f8 rv8 h8 x8 σ9 R8 e8 E8 hF => ?_)
        refine s_kok R8 (t_60 R8.S) (Nat.le_of_ble_eq_true rfl) ?_
        refine s_call R8 (Nat.zero_le _) (fun _ hq => SX14_next (b := 0) (R8.rf) hq) hF (fun f10 rv10 h10 q11 R10 e10 E10 hF => ?_)
        refine s_call R10 (Nat.zero_le _) (fun _ hq => SX14_isDigit (b := 0) (R10.rf) e10.1 e10.2 hq) hF (fun f11 rv11 h11 q12 R11 e11 E11 hF => ?_)
        refine s_if (i_eq e11.1 (c_lit 0 0 rfl) e11.2 ⟨by decide, by decide⟩) hF (fun c12 hF => ?_) (fun c12 hF => ?_)
        ·
          exact ih R11 rfl rl1 (c_add rfl (c_lit 1 1 rfl)) (rr_I _) hF
        ·
          refine s_kok R11 (t_60 R11.S) (Nat.le_of_ble_eq_true rfl) ?_
          refine s_call R11 (Nat.zero_le _) (fun _ hq => SX14_number (b := 0) (R11.rf) hq) hF (fun f14 rv14 h14 q15 R14 e14 E14 hF => ?_)
          exact ih R14 rfl rl1 (c_add rfl (c_lit 1 1 rfl)) (rr_I _) hF
def FX14_readPattern_b39 (N : Nat) (l1 : Int) (s : fS) : Option ((Unit ⊕ Nat) × fS) :=
  (FX14_next s).bind fun q2 =>
  (FX14_isDigit q2.1 q2.2).bind fun q3 =>
  if q3.1 = 0 then
    FX14_readPattern_b55 N N l1 0 q3.2
  else
    (FX14_number q3.2).bind fun q6 =>
    FX14_readPattern_b55 N N l1 0 q6.2
theorem SX14_readPattern_b39 {m b : Nat} {φ0 : Nat → Nat} {σo : fS} (hb : 1 ≤ b) {N : Nat} {q : (Unit ⊕ Nat) × fS} {φ : Nat → Nat} {h : eH} {s : fS} {l1' : Int32} {l1 : Int} (R : fC m b φ0 σo φ h s) (el1 : l1' = iI l1) (rl1 : r32 l1) (hF : FX14_readPattern_b39 N l1 s = some q) : gG m b φ0 σo (lT lU) q (fX14_readPattern_b39 N 60 l1' h) := by
  subst el1
  unfold FX14_readPattern_b39 at hF
  unfold fX14_readPattern_b39
  refine s_kok R (t_60 R.S) (Nat.le_of_ble_eq_true rfl) ?_
  refine s_call R (Nat.zero_le _) (fun _ hq => SX14_next (b := 0) (R.rf) hq) hF (fun f2 rv2 h2 q2 R2 e2 E2 hF => ?_)
  refine s_call R2 (Nat.zero_le _) (fun _ hq => SX14_isDigit (b := 0) (R2.rf) e2.1 e2.2 hq) hF (fun f3 rv3 h3 q3 R3 e3 E3 hF => ?_)
  refine s_if (i_eq e3.1 (c_lit 0 0 rfl) e3.2 ⟨by decide, by decide⟩) hF (fun c4 hF => ?_) (fun c4 hF => ?_)
  ·
    exact SX14_readPattern_b55 (N := N) hb R3 rfl rl1 (c_lit 0 0 rfl) ⟨by decide, by decide⟩ hF
  ·
    refine s_kok R3 (t_60 R3.S) (Nat.le_of_ble_eq_true rfl) ?_
    refine s_call R3 (Nat.zero_le _) (fun _ hq => SX14_number (b := 0) (R3.rf) hq) hF (fun f6 rv6 h6 q6 R6 e6 E6 hF => ?_)
    exact SX14_readPattern_b55 (N := N) hb R6 rfl rl1 (c_lit 0 0 rfl) ⟨by decide, by decide⟩ hF
def FX14_readPattern (N : Nat) (s : fS) : Option ((Unit ⊕ Nat) × fS) :=
  (FX17_clear 83 s).bind fun q6 =>
  (FX14_next q6.2).bind fun q8 =>
  if ¬ (q8.1 = 46) then
    FX14_readPattern_b39 N (s.i 60 6) q8.2
  else
    (FX17_add 83 0 q8.2).bind fun q13 =>
    (uPI q13.2 60 6 (iadd (q13.2.i 60 6) 1)).bind fun σ16 =>
    FX14_readPattern_b39 N (s.i 60 6) σ16
theorem SX14_readPattern {m b : Nat} {φ0 : Nat → Nat} {σo : fS} (hb : 1 ≤ b) {N : Nat} {q : (Unit ⊕ Nat) × fS} {φ : Nat → Nat} {h : eH} {s : fS} (R : fC m b φ0 σo φ h s) (hF : FX14_readPattern N s = some q) : gG m b φ0 σo (lT lU) q (fX14_readPattern N 60 h) := by
  unfold FX14_readPattern at hF
  unfold fX14_readPattern
  refine s_gI R (t_60 R.S) (Nat.le_of_ble_eq_true rfl) rfl ?_
  refine s_gO R (t_60 R.S) (Nat.le_of_ble_eq_true rfl) rfl (o_60_2 R.S) ?_
  refine s_kok R (t_83 R.S) (Nat.le_of_ble_eq_true rfl) ?_
  refine s_call R (Nat.zero_le _) (fun _ hq => SX17_clear (b := 0) (R.rf) hq) hF (fun f4 rv4 h4 q6 R4 e4 E4 hF => ?_)
  refine s_kok R4 (t_60 R4.S) (Nat.le_of_ble_eq_true rfl) ?_
  refine s_call R4 (Nat.zero_le _) (fun _ hq => SX14_next (b := 0) (R4.rf) hq) hF (fun f6 rv6 h6 q8 R6 e6 E6 hF => ?_)
  refine s_if (not_congr (i_eq e6.1 (c_lit 46 46 rfl) e6.2 ⟨by decide, by decide⟩)) hF (fun c7 hF => ?_) (fun c7 hF => ?_)
  ·
    exact SX14_readPattern_b39 (N := N) hb R6 rfl (R.ri (t_60 R.S) (Nat.le_of_ble_eq_true rfl) rfl) hF
  ·
    refine s_gO R6 (t_60 R6.S) (Nat.le_of_ble_eq_true rfl) rfl (o_60_2 R6.S) ?_
    refine s_kok R6 (t_83 R6.S) (Nat.le_of_ble_eq_true rfl) ?_
    refine s_call R6 (Nat.zero_le _) (fun _ hq => SX17_add (b := 0) (R6.rf) (c_lit 0 0 rfl) ⟨by decide, by decide⟩ hq) hF (fun f10 rv10 h10 q13 R10 e10 E10 hF => ?_)
    refine s_gI R10 (t_60 R10.S) (Nat.le_of_ble_eq_true rfl) rfl ?_
    refine s_pI R10 (t_60 R10.S) (Nat.le_of_ble_eq_true rfl) rfl (c_add rfl (c_lit 1 1 rfl)) (rr_I _) hF (fun h12 σ16 R12 T12 hF => ?_)
    exact SX14_readPattern_b39 (N := N) hb R12 rfl (R.ri (t_60 R.S) (Nat.le_of_ble_eq_true rfl) rfl) hF
def FX15_undo_b28 (N : Nat) : Nat → fS → Option (Unit × fS)
  | 0, _ => none
  | n + 1, s =>
    if (s.i 61 5) ≤ (s.i 61 20) then
      (uPI s 61 9 (s.i 61 21)).bind fun σ8 =>
      (uPI σ8 61 16 (σ8.i 61 22)).bind fun σ12 =>
      (uPI σ12 61 17 (σ12.i 61 23)).bind fun σ16 =>
      (uPZ σ16 61 15 (σ16.i 61 24)).bind fun σ20 =>
      some ((), σ20)
    else
      (uPI s 61 5 (isub (s.i 61 5) 1)).bind fun σ24 =>
      (uRI σ24 66 (σ24.i 61 5)).bind fun x32 =>
      (uRI σ24 63 (σ24.i 61 5)).bind fun x38 =>
      (uQI σ24 62 x32 x38).bind fun σ40 =>
      FX15_undo_b28 N n σ40
theorem SX15_undo_b28 {m b : Nat} {φ0 : Nat → Nat} {σo : fS} {N : Nat} {q : Unit × fS} : ∀ {n : Nat} {φ : Nat → Nat} {h : eH} {s : fS} , fC m b φ0 σo φ h s → FX15_undo_b28 N n s = some q → gG m b φ0 σo lU q (fX15_undo_b28 N n 61 h) := by
  intro n
  induction n with
 | zero => intro φ h s R hF; simp [FX15_undo_b28] at hF
  | succ n ih =>
    intro φ h s  R  hF
    rw [FX15_undo_b28] at hF
    rw [fX15_undo_b28]
    refine s_gI R (t_61 R.S) (Nat.le_of_ble_eq_true rfl) rfl ?_
    refine s_gI R (t_61 R.S) (Nat.le_of_ble_eq_true rfl) rfl ?_
    refine s_if (i_le rfl rfl (R.ri (t_61 R.S) (Nat.le_of_ble_eq_true rfl) rfl) (R.ri (t_61 R.S) (Nat.le_of_ble_eq_true rfl) rfl)) hF (fun c3 hF => ?_) (fun c3 hF => ?_)
    ·
      refine s_gI R (t_61 R.S) (Nat.le_of_ble_eq_true rfl) rfl ?_
      refine s_pI R (t_61 R.S) (Nat.le_of_ble_eq_true rfl) rfl rfl (R.ri (t_61 R.S) (Nat.le_of_ble_eq_true rfl) rfl) hF (fun h5 σ8 R5 T5 hF => ?_)
      refine s_gI R5 (t_61 R5.S) (Nat.le_of_ble_eq_true rfl) rfl ?_
      refine s_pI R5 (t_61 R5.S) (Nat.le_of_ble_eq_true rfl) rfl rfl (R5.ri (t_61 R5.S) (Nat.le_of_ble_eq_true rfl) rfl) hF (fun h7 σ12 R7 T7 hF => ?_)
      refine s_gI R7 (t_61 R7.S) (Nat.le_of_ble_eq_true rfl) rfl ?_
      refine s_pI R7 (t_61 R7.S) (Nat.le_of_ble_eq_true rfl) rfl rfl (R7.ri (t_61 R7.S) (Nat.le_of_ble_eq_true rfl) rfl) hF (fun h9 σ16 R9 T9 hF => ?_)
      refine s_gI R9 (t_61 R9.S) (Nat.le_of_ble_eq_true rfl) rfl ?_
      refine s_pZ R9 (t_61 R9.S) (Nat.le_of_ble_eq_true rfl) rfl rfl (R9.ri (t_61 R9.S) (Nat.le_of_ble_eq_true rfl) rfl) hF (fun h11 σ20 R11 T11 hF => ?_)
      exact g_ret R11 hF trivial
    ·
      refine s_gI R (t_61 R.S) (Nat.le_of_ble_eq_true rfl) rfl ?_
      refine s_pI R (t_61 R.S) (Nat.le_of_ble_eq_true rfl) rfl (c_sub rfl (c_lit 1 1 rfl)) (rr_I _) hF (fun h13 σ24 R13 T13 hF => ?_)
      refine s_gA R13 (t_61 R13.S) (Nat.le_of_ble_eq_true rfl) rfl (o_61_0 R13.S) (fun _ _ => ?_)
      refine s_gA R13 (t_61 R13.S) (Nat.le_of_ble_eq_true rfl) rfl (o_61_4 R13.S) (fun _ _ => ?_)
      refine s_gI R13 (t_61 R13.S) (Nat.le_of_ble_eq_true rfl) rfl ?_
      refine s_rI R13 (u_66 R13.S).1 (u_66 R13.S).2 (by decide) rfl rfl (R13.ri (t_61 R13.S) (Nat.le_of_ble_eq_true rfl) rfl) hF (fun x32 ra17 hF => ?_)
      refine s_gA R13 (t_61 R13.S) (Nat.le_of_ble_eq_true rfl) rfl (o_61_1 R13.S) (fun _ _ => ?_)
      refine s_gI R13 (t_61 R13.S) (Nat.le_of_ble_eq_true rfl) rfl ?_
      refine s_rI R13 (u_63 R13.S).1 (u_63 R13.S).2 (by decide) rfl rfl (R13.ri (t_61 R13.S) (Nat.le_of_ble_eq_true rfl) rfl) hF (fun x38 ra20 hF => ?_)
      refine s_qI R13 (u_62 R13.S).1 (u_62 R13.S).2 (by decide) rfl rfl ra17 rfl ra20 hF (fun h21 σ40 R21 T21 hF => ?_)
      exact ih R21 hF
def FX15_undo_b2 (N : Nat) : Nat → Int → fS → Option (Unit × fS)
  | 0, _, _ => none
  | n + 1, l1, s =>
    if (s.i 61 19) ≤ l1 then
      FX15_undo_b28 N N s
    else
      (uRI s 74 l1).bind fun x8 =>
      (uQI s 65 x8 0).bind fun σ10 =>
      FX15_undo_b2 N n (iadd l1 1) σ10
theorem SX15_undo_b2 {m b : Nat} {φ0 : Nat → Nat} {σo : fS} {N : Nat} {q : Unit × fS} : ∀ {n : Nat} {φ : Nat → Nat} {h : eH} {s : fS} {l1' : Int32} {l1 : Int}, fC m b φ0 σo φ h s → l1' = iI l1 → r32 l1 → FX15_undo_b2 N n l1 s = some q → gG m b φ0 σo lU q (fX15_undo_b2 N n 61 l1' h) := by
  intro n
  induction n with
 | zero => intro φ h s l1' l1 R el1 rl1 hF; simp [FX15_undo_b2] at hF
  | succ n ih =>
    intro φ h s l1' l1 R el1 rl1 hF
    subst el1
    rw [FX15_undo_b2] at hF
    rw [fX15_undo_b2]
    refine s_gI R (t_61 R.S) (Nat.le_of_ble_eq_true rfl) rfl ?_
    refine s_if (i_le rfl rfl (R.ri (t_61 R.S) (Nat.le_of_ble_eq_true rfl) rfl) rl1) hF (fun c2 hF => ?_) (fun c2 hF => ?_)
    ·
      exact SX15_undo_b28 (N := N) R hF
    ·
      refine s_gA R (t_61 R.S) (Nat.le_of_ble_eq_true rfl) rfl (o_61_3 R.S) (fun _ _ => ?_)
      refine s_gAs R (t_61 R.S) (Nat.le_of_ble_eq_true rfl) rfl (o_61_18 R.S) (a_74 R) ?_
      refine s_rI R (u_74 R.S).1 (u_74 R.S).2 (by decide) (a_74 R) rfl rl1 hF (fun x8 ra5 hF => ?_)
      refine s_qI R (u_65 R.S).1 (u_65 R.S).2 (by decide) rfl rfl ra5 (c_lit 0 0 rfl) ⟨by decide, by decide⟩ hF (fun h6 σ10 R6 T6 hF => ?_)
      exact ih R6 (c_add rfl (c_lit 1 1 rfl)) (rr_I _) hF
def FX15_undo (N : Nat) (s : fS) : Option (Unit × fS) :=
  FX15_undo_b2 N N 0 s
theorem SX15_undo {m b : Nat} {φ0 : Nat → Nat} {σo : fS} {N : Nat} {q : Unit × fS} {φ : Nat → Nat} {h : eH} {s : fS} (R : fC m b φ0 σo φ h s) (hF : FX15_undo N s = some q) : gG m b φ0 σo lU q (fX15_undo N 61 h) := by
  unfold FX15_undo at hF
  unfold fX15_undo
  exact SX15_undo_b2 (N := N) R (c_lit 0 0 rfl) ⟨by decide, by decide⟩ hF
def FX16_undo_b60 (N : Nat) (K43 : fS → Option (Unit × fS)) : Nat → Int → fS → Option (Unit × fS)
  | 0, _, _ => none
  | n + 1, l2, s =>
    (uRI s 78 (isub (s.i 75 5) 1)).bind fun x5 =>
    if x5 ≤ l2 then
      (FX16_seek N s).bind fun q11 =>
      (uQI q11.2 76 q11.1 0).bind fun σ12 =>
      (uPI σ12 75 5 (isub (σ12.i 75 5) 1)).bind fun σ16 =>
      K43 σ16
    else
      (uRI s 77 (isub (s.i 75 5) 1)).bind fun x24 =>
      (uRI s 80 (iadd x24 l2)).bind fun x26 =>
      (FX17_add 83 x26 s).bind fun q29 =>
      FX16_undo_b60 N K43 n (iadd l2 1) q29.2
theorem SX16_undo_b60 {m b : Nat} {φ0 : Nat → Nat} {σo : fS} {N : Nat} {k43 : Nat → Nat → eH → Option (Unit × eH)} {K43 : fS → Option (Unit × fS)} {q : Unit × fS} (hk43 : ∀ {φ : Nat → Nat} {h : eH} {s : fS} , fC m b φ0 σo φ h s → K43 s = some q → gG m b φ0 σo lU q (k43 75 83 h)) : ∀ {n : Nat} {φ : Nat → Nat} {h : eH} {s : fS} {l2' : Int32} {l2 : Int}, fC m b φ0 σo φ h s → l2' = iI l2 → r32 l2 → FX16_undo_b60 N K43 n l2 s = some q → gG m b φ0 σo lU q (fX16_undo_b60 N k43 n 75 83 l2' h) := by
  intro n
  induction n with
 | zero => intro φ h s l2' l2 R el2 rl2 hF; simp [FX16_undo_b60] at hF
  | succ n ih =>
    intro φ h s l2' l2 R el2 rl2 hF
    subst el2
    rw [FX16_undo_b60] at hF
    rw [fX16_undo_b60]
    refine s_gAs R (t_75 R.S) (Nat.le_of_ble_eq_true rfl) rfl (o_75_2 R.S) (a_78 R) ?_
    refine s_gI R (t_75 R.S) (Nat.le_of_ble_eq_true rfl) rfl ?_
    refine s_rI R (u_78 R.S).1 (u_78 R.S).2 (by decide) (a_78 R) (c_sub rfl (c_lit 1 1 rfl)) (rr_I _) hF (fun x5 ra3 hF => ?_)
    refine s_if (i_le rfl rfl ra3 rl2) hF (fun c4 hF => ?_) (fun c4 hF => ?_)
    ·
      refine s_gAs R (t_75 R.S) (Nat.le_of_ble_eq_true rfl) rfl (o_75_0 R.S) (a_76 R) ?_
      refine s_kok R (t_75 R.S) (Nat.le_of_ble_eq_true rfl) ?_
      refine s_call R (Nat.zero_le _) (fun _ hq => SX16_seek (b := 0) (N := N) (R.rf) hq) hF (fun f7 rv7 h7 q11 R7 e7 E7 hF => ?_)
      refine s_qI R7 (u_76 R7.S).1 (u_76 R7.S).2 (by decide) (a_76 R7) e7.1 e7.2 (c_lit 0 0 rfl) ⟨by decide, by decide⟩ hF (fun h8 σ12 R8 T8 hF => ?_)
      refine s_gI R8 (t_75 R8.S) (Nat.le_of_ble_eq_true rfl) rfl ?_
      refine s_pI R8 (t_75 R8.S) (Nat.le_of_ble_eq_true rfl) rfl (c_sub rfl (c_lit 1 1 rfl)) (rr_I _) hF (fun h10 σ16 R10 T10 hF => ?_)
      exact hk43 R10 hF
    ·
      refine s_gAs R (t_75 R.S) (Nat.le_of_ble_eq_true rfl) rfl (o_75_4 R.S) (a_80 R) ?_
      refine s_gAs R (t_75 R.S) (Nat.le_of_ble_eq_true rfl) rfl (o_75_1 R.S) (a_77 R) ?_
      refine s_gI R (t_75 R.S) (Nat.le_of_ble_eq_true rfl) rfl ?_
      refine s_rI R (u_77 R.S).1 (u_77 R.S).2 (by decide) (a_77 R) (c_sub rfl (c_lit 1 1 rfl)) (rr_I _) hF (fun x24 ra14 hF => ?_)
      refine s_rI R (u_80 R.S).1 (u_80 R.S).2 (by decide) (a_80 R) (c_add rfl rfl) (rr_I _) hF (fun x26 ra15 hF => ?_)
      refine s_kok R (t_83 R.S) (Nat.le_of_ble_eq_true rfl) ?_
      refine s_call R (Nat.zero_le _) (fun _ hq => SX17_add (b := 0) (R.rf) rfl ra15 hq) hF (fun f17 rv17 h17 q29 R17 e17 E17 hF => ?_)
      exact ih R17 (c_add rfl (c_lit 1 1 rfl)) (rr_I _) hF
def FX16_undo_b43 (N : Nat) : Nat → fS → Option (Unit × fS)
  | 0, _ => none
  | n + 1, s =>
    if (s.i 75 5) ≤ (s.i 75 7) then
      (uPI s 75 6 (s.i 75 8)).bind fun σ8 =>
      some ((), σ8)
    else
      (FX17_clear 83 s).bind fun q11 =>
      FX16_undo_b60 N (FX16_undo_b43 N n) N 0 q11.2
theorem SX16_undo_b43 {m b : Nat} {φ0 : Nat → Nat} {σo : fS} {N : Nat} {q : Unit × fS} : ∀ {n : Nat} {φ : Nat → Nat} {h : eH} {s : fS} , fC m b φ0 σo φ h s → FX16_undo_b43 N n s = some q → gG m b φ0 σo lU q (fX16_undo_b43 N n 75 83 h) := by
  intro n
  induction n with
 | zero => intro φ h s R hF; simp [FX16_undo_b43] at hF
  | succ n ih =>
    intro φ h s  R  hF
    rw [FX16_undo_b43] at hF
    rw [fX16_undo_b43]
    refine s_gI R (t_75 R.S) (Nat.le_of_ble_eq_true rfl) rfl ?_
    refine s_gI R (t_75 R.S) (Nat.le_of_ble_eq_true rfl) rfl ?_
    refine s_if (i_le rfl rfl (R.ri (t_75 R.S) (Nat.le_of_ble_eq_true rfl) rfl) (R.ri (t_75 R.S) (Nat.le_of_ble_eq_true rfl) rfl)) hF (fun c3 hF => ?_) (fun c3 hF => ?_)
    ·
      refine s_gI R (t_75 R.S) (Nat.le_of_ble_eq_true rfl) rfl ?_
      refine s_pI R (t_75 R.S) (Nat.le_of_ble_eq_true rfl) rfl rfl (R.ri (t_75 R.S) (Nat.le_of_ble_eq_true rfl) rfl) hF (fun h5 σ8 R5 T5 hF => ?_)
      exact g_ret R5 hF trivial
    ·
      refine s_kok R (t_83 R.S) (Nat.le_of_ble_eq_true rfl) ?_
      refine s_call R (Nat.zero_le _) (fun _ hq => SX17_clear (b := 0) (R.rf) hq) hF (fun f7 rv7 h7 q11 R7 e7 E7 hF => ?_)
      exact SX16_undo_b60 (N := N) (k43 := fX16_undo_b43 N n) (K43 := FX16_undo_b43 N n) @ih R7 (c_lit 0 0 rfl) ⟨by decide, by decide⟩ hF
def FX16_undo_b0 (N : Nat) : Nat → fS → Option (Unit × fS)
  | 0, _ => none
  | n + 1, s =>
    if (s.i 75 11) ≤ 0 then
      FX16_undo_b43 N N s
    else
      (uPI s 75 11 (isub (s.i 75 11) 1)).bind fun σ6 =>
      (uRI σ6 81 (σ6.i 75 11)).bind fun x14 =>
      (uRJ σ6 82 (σ6.i 75 11)).bind fun x20 =>
      (uQJ σ6 79 x14 x20).bind fun σ22 =>
      FX16_undo_b0 N n σ22
theorem SX16_undo_b0 {m b : Nat} {φ0 : Nat → Nat} {σo : fS} {N : Nat} {q : Unit × fS} : ∀ {n : Nat} {φ : Nat → Nat} {h : eH} {s : fS} , fC m b φ0 σo φ h s → FX16_undo_b0 N n s = some q → gG m b φ0 σo lU q (fX16_undo_b0 N n 75 83 h) := by
  intro n
  induction n with
 | zero => intro φ h s R hF; simp [FX16_undo_b0] at hF
  | succ n ih =>
    intro φ h s  R  hF
    rw [FX16_undo_b0] at hF
    rw [fX16_undo_b0]
    refine s_gI R (t_75 R.S) (Nat.le_of_ble_eq_true rfl) rfl ?_
    refine s_if (i_le rfl (c_lit 0 0 rfl) (R.ri (t_75 R.S) (Nat.le_of_ble_eq_true rfl) rfl) ⟨by decide, by decide⟩) hF (fun c2 hF => ?_) (fun c2 hF => ?_)
    ·
      exact SX16_undo_b43 (N := N) R hF
    ·
      refine s_gI R (t_75 R.S) (Nat.le_of_ble_eq_true rfl) rfl ?_
      refine s_pI R (t_75 R.S) (Nat.le_of_ble_eq_true rfl) rfl (c_sub rfl (c_lit 1 1 rfl)) (rr_I _) hF (fun h4 σ6 R4 T4 hF => ?_)
      refine s_gAs R4 (t_75 R4.S) (Nat.le_of_ble_eq_true rfl) rfl (o_75_3 R4.S) (a_79 R4) ?_
      refine s_gAs R4 (t_75 R4.S) (Nat.le_of_ble_eq_true rfl) rfl (o_75_9 R4.S) (a_81 R4) ?_
      refine s_gI R4 (t_75 R4.S) (Nat.le_of_ble_eq_true rfl) rfl ?_
      refine s_rI R4 (u_81 R4.S).1 (u_81 R4.S).2 (by decide) (a_81 R4) rfl (R4.ri (t_75 R4.S) (Nat.le_of_ble_eq_true rfl) rfl) hF (fun x14 ra8 hF => ?_)
      refine s_gAs R4 (t_75 R4.S) (Nat.le_of_ble_eq_true rfl) rfl (o_75_10 R4.S) (a_82 R4) ?_
      refine s_gI R4 (t_75 R4.S) (Nat.le_of_ble_eq_true rfl) rfl ?_
      refine s_rJ R4 (u_82 R4.S).1 (u_82 R4.S).2 (a_82 R4) rfl (R4.ri (t_75 R4.S) (Nat.le_of_ble_eq_true rfl) rfl) hF (fun x20 ra11 hF => ?_)
      refine s_qJ R4 (u_79 R4.S).1 (u_79 R4.S).2 (a_79 R4) rfl ra8 rfl ra11 hF (fun h12 σ22 R12 T12 hF => ?_)
      exact ih R12 hF
def FX16_undo (N : Nat) (s : fS) : Option (Unit × fS) :=
  FX16_undo_b0 N N s
theorem SX16_undo {m b : Nat} {φ0 : Nat → Nat} {σo : fS} {N : Nat} {q : Unit × fS} {φ : Nat → Nat} {h : eH} {s : fS} (R : fC m b φ0 σo φ h s) (hF : FX16_undo N s = some q) : gG m b φ0 σo lU q (fX16_undo N 75 83 h) := by
  unfold FX16_undo at hF
  unfold fX16_undo
  exact SX16_undo_b0 (N := N) R hF
def FX14_read_b62 (N : Nat) (K36 : Int → Int → fS → Option (Int × fS)) (l3 : Int) (l4 : Int) (s : fS) : Option (Int × fS) :=
  (FX14_spaces N s).bind fun q2 =>
  K36 l3 (iadd l4 1) q2.2
theorem SX14_read_b62 {m b : Nat} {φ0 : Nat → Nat} {σo : fS} (hb : 1 ≤ b) {N : Nat} {k36 : Nat → Int32 → Int32 → eH → Option (Int32 × eH)} {K36 : Int → Int → fS → Option (Int × fS)} {q : Int × fS} (hk36 : ∀ {φ : Nat → Nat} {h : eH} {s : fS} {l3' : Int32} {l3 : Int} {l4' : Int32} {l4 : Int}, fC m b φ0 σo φ h s → l3' = iI l3 → r32 l3 → l4' = iI l4 → r32 l4 → K36 l3 l4 s = some q → gG m b φ0 σo lI q (k36 60 l3' l4' h)) {φ : Nat → Nat} {h : eH} {s : fS} {l3' : Int32} {l3 : Int} {l4' : Int32} {l4 : Int} (R : fC m b φ0 σo φ h s) (el3 : l3' = iI l3) (rl3 : r32 l3) (el4 : l4' = iI l4) (rl4 : r32 l4) (hF : FX14_read_b62 N K36 l3 l4 s = some q) : gG m b φ0 σo lI q (fX14_read_b62 N k36 60 l3' l4' h) := by
  subst el3; subst el4
  unfold FX14_read_b62 at hF
  unfold fX14_read_b62
  refine s_kok R (t_60 R.S) (Nat.le_of_ble_eq_true rfl) ?_
  refine s_call R (Nat.zero_le _) (fun _ hq => SX14_spaces (b := 0) (N := N) (R.rf) hq) hF (fun f2 rv2 h2 q2 R2 e2 E2 hF => ?_)
  exact hk36 R2 rfl rl3 (c_add rfl (c_lit 1 1 rfl)) (rr_I _) hF
def FX14_read_b101 (N : Nat) (l4 : Int) (s : fS) : Option (Int × fS) :=
  some (l4, s)
theorem SX14_read_b101 {m b : Nat} {φ0 : Nat → Nat} {σo : fS} {N : Nat} {q : Int × fS} {φ : Nat → Nat} {h : eH} {s : fS} {l4' : Int32} {l4 : Int} (R : fC m b φ0 σo φ h s) (el4 : l4' = iI l4) (rl4 : r32 l4) (hF : FX14_read_b101 N l4 s = some q) : gG m b φ0 σo lI q (fX14_read_b101 N l4' h) := by
  subst el4
  unfold FX14_read_b101 at hF
  unfold fX14_read_b101
  exact g_ret R hF ⟨rfl, rl4⟩
def FX14_read_b75 (N : Nat) (s0 : Nat) (s : fS) : Option (Int × fS) :=
  (FX15_undo N s).bind fun q6 =>
  (FX16_undo N q6.2).bind fun q12 =>
  FX14_read_b101 N (s.i 60 7) q12.2
theorem SX14_read_b75 {m b : Nat} {φ0 : Nat → Nat} {σo : fS} {N : Nat} {q : Int × fS} {φ : Nat → Nat} {h : eH} {s : fS} {s0 : Nat} (R : fC m b φ0 σo φ h s) (hF : FX14_read_b75 N s0 s = some q) : gG m b φ0 σo lI q (fX14_read_b75 N 60 s0 h) := by
  unfold FX14_read_b75 at hF
  unfold fX14_read_b75
  refine s_gI R (t_60 R.S) (Nat.le_of_ble_eq_true rfl) rfl ?_
  refine s_gO R (t_60 R.S) (Nat.le_of_ble_eq_true rfl) rfl (o_60_0 R.S) ?_
  refine s_kok R (t_61 R.S) (Nat.le_of_ble_eq_true rfl) ?_
  refine s_call R (Nat.zero_le _) (fun _ hq => SX15_undo (b := 0) (N := N) (R.rf) hq) hF (fun f4 rv4 h4 q6 R4 e4 E4 hF => ?_)
  refine s_gO R4 (t_60 R4.S) (Nat.le_of_ble_eq_true rfl) rfl (o_60_1 R4.S) ?_
  refine s_gO R4 (t_60 R4.S) (Nat.le_of_ble_eq_true rfl) rfl (o_60_2 R4.S) ?_
  refine s_kok R4 (t_75 R4.S) (Nat.le_of_ble_eq_true rfl) ?_
  refine s_call R4 (Nat.zero_le _) (fun _ hq => SX16_undo (b := 0) (N := N) (R4.rf) hq) hF (fun f8 rv8 h8 q12 R8 e8 E8 hF => ?_)
  exact SX14_read_b101 (N := N) R8 rfl (R.ri (t_60 R.S) (Nat.le_of_ble_eq_true rfl) rfl) hF
def FX14_read_b36 (N : Nat) : Nat → Int → Int → fS → Option (Int × fS)
  | 0, _, _, _ => none
  | n + 1, l3, l4, s =>
    if (s.i 60 5) ≤ (s.i 60 6) then
      FX14_read_b101 N l4 s
    else
      if l3 = 0 then
        tC 50 (FX14_readPattern N s) (kt := fun a10 σ11 =>
          FX14_read_b75 N a10 σ11
          ) (k := fun x8 σ9 =>
        FX14_read_b62 N (FX14_read_b36 N n) l3 l4 σ9
        )
      else
        tC 50 (FX14_readWord N s) (kt := fun a15 σ16 =>
          FX14_read_b75 N a15 σ16
          ) (k := fun x13 σ14 =>
        FX14_read_b62 N (FX14_read_b36 N n) l3 l4 σ14
        )
theorem SX14_read_b36 {m b : Nat} {φ0 : Nat → Nat} {σo : fS} (hb : 1 ≤ b) {N : Nat} {q : Int × fS} : ∀ {n : Nat} {φ : Nat → Nat} {h : eH} {s : fS} {l3' : Int32} {l3 : Int} {l4' : Int32} {l4 : Int}, fC m b φ0 σo φ h s → l3' = iI l3 → r32 l3 → l4' = iI l4 → r32 l4 → FX14_read_b36 N n l3 l4 s = some q → gG m b φ0 σo lI q (fX14_read_b36 N n 60 l3' l4' h) := by
  intro n
  induction n with
 | zero => intro φ h s l3' l3 l4' l4 R el3 rl3 el4 rl4 hF; simp [FX14_read_b36] at hF
  | succ n ih =>
    intro φ h s l3' l3 l4' l4 R el3 rl3 el4 rl4 hF
    subst el3; subst el4
    rw [FX14_read_b36] at hF
    rw [fX14_read_b36]
    refine s_gI R (t_60 R.S) (Nat.le_of_ble_eq_true rfl) rfl ?_
    refine s_gI R (t_60 R.S) (Nat.le_of_ble_eq_true rfl) rfl ?_
    refine s_if (i_le rfl rfl (R.ri (t_60 R.S) (Nat.le_of_ble_eq_true rfl) rfl) (R.ri (t_60 R.S) (Nat.le_of_ble_eq_true rfl) rfl)) hF (fun c3 hF => ?_) (fun c3 hF => ?_)
    ·
      exact SX14_read_b101 (N := N) R rfl rl4 hF
    ·
      refine s_if (i_eq rfl (c_lit 0 0 rfl) rl3 ⟨by decide, by decide⟩) hF (fun c4 hF => ?_) (fun c4 hF => ?_)
      ·
        refine s_kok R (t_60 R.S) (Nat.le_of_ble_eq_true rfl) ?_
        refine s_tC R hb (Nat.le_of_ble_eq_true rfl) (fun _ hq => SX14_readPattern (b := 1) (N := N) (Nat.le_of_ble_eq_true rfl) (R.rf) hq) hF (fun f6 a10 h6 σ11 R6 E6 hF => ?_) (fun f6 rv6 h6 x8 σ9 R6 e6 E6 hF => ?_)
        ·
          exact SX14_read_b75 (N := N) R6 hF
        ·
          exact SX14_read_b62 (N := N) (k36 := fX14_read_b36 N n) (K36 := FX14_read_b36 N n) hb @ih R6 rfl rl3 rfl rl4 hF
      ·
        refine s_kok R (t_60 R.S) (Nat.le_of_ble_eq_true rfl) ?_
        refine s_tC R (Nat.zero_le _) (Nat.le_of_ble_eq_true rfl) (fun _ hq => SX14_readWord (b := 0) (N := N) (R.rf) hq) hF (fun f8 a15 h8 σ16 R8 E8 hF => ?_) (fun f8 rv8 h8 x13 σ14 R8 e8 E8 hF => ?_)
        ·
          exact SX14_read_b75 (N := N) R8 hF
        ·
          exact SX14_read_b62 (N := N) (k36 := fX14_read_b36 N n) (K36 := FX14_read_b36 N n) hb @ih R8 rfl rl3 rfl rl4 hF
def FX14_read (N : Nat) (p1 : Int) (p2 : Int) (s : fS) : Option (Int × fS) :=
  (uPO s 60 4 1).bind fun σ1 =>
  (uPI σ1 60 5 p1).bind fun σ3 =>
  (uPI σ3 60 6 0).bind fun σ5 =>
  (FX15_mark σ5).bind fun q10 =>
  (FX16_mark q10.2).bind fun q14 =>
  (FX14_spaces N q14.2).bind fun q16 =>
  FX14_read_b36 N N p2 0 q16.2
theorem SX14_read {m b : Nat} {φ0 : Nat → Nat} {σo : fS} (hb : 1 ≤ b) {N : Nat} {q : Int × fS} {φ : Nat → Nat} {h : eH} {s : fS} {p1' : Int32} {p1 : Int} {p2' : Int32} {p2 : Int} (R : fC m b φ0 σo φ h s) (ep1 : p1' = iI p1) (rp1 : r32 p1) (ep2 : p2' = iI p2) (rp2 : r32 p2) (hF : FX14_read N p1 p2 s = some q) : gG m b φ0 σo lI q (fX14_read N 60 1 p1' p2' h) := by
  subst ep1; subst ep2
  unfold FX14_read at hF
  unfold fX14_read
  refine s_pA R (t_60 R.S) (Nat.le_of_ble_eq_true rfl) rfl (a_1 R) (by rw [(t_1 R.S)]; decide) (by rw [(t_1 R.S)]; decide) (fun _ => rfl) (by decide) hF (fun h1 σ1 R1 T1 hF => ?_)
  refine s_pI R1 (t_60 R1.S) (Nat.le_of_ble_eq_true rfl) rfl rfl rp1 hF (fun h2 σ3 R2 T2 hF => ?_)
  refine s_pI R2 (t_60 R2.S) (Nat.le_of_ble_eq_true rfl) rfl (c_lit 0 0 rfl) ⟨by decide, by decide⟩ hF (fun h3 σ5 R3 T3 hF => ?_)
  refine s_gO R3 (t_60 R3.S) (Nat.le_of_ble_eq_true rfl) rfl (o_60_0 R3.S) ?_
  refine s_kok R3 (t_61 R3.S) (Nat.le_of_ble_eq_true rfl) ?_
  refine s_call R3 (Nat.zero_le _) (fun _ hq => SX15_mark (b := 0) (R3.rf) hq) hF (fun f6 rv6 h6 q10 R6 e6 E6 hF => ?_)
  refine s_gO R6 (t_60 R6.S) (Nat.le_of_ble_eq_true rfl) rfl (o_60_1 R6.S) ?_
  refine s_kok R6 (t_75 R6.S) (Nat.le_of_ble_eq_true rfl) ?_
  refine s_call R6 (Nat.zero_le _) (fun _ hq => SX16_mark (b := 0) (R6.rf) hq) hF (fun f9 rv9 h9 q14 R9 e9 E9 hF => ?_)
  refine s_kok R9 (t_60 R9.S) (Nat.le_of_ble_eq_true rfl) ?_
  refine s_call R9 (Nat.zero_le _) (fun _ hq => SX14_spaces (b := 0) (N := N) (R9.rf) hq) hF (fun f11 rv11 h11 q16 R11 e11 E11 hF => ?_)
  exact SX14_read_b36 (N := N) hb R11 rfl rp2 (c_lit 0 0 rfl) ⟨by decide, by decide⟩ hF
def FX11_nextLine_b117 (N : Nat) (s : fS) : Option (Int × fS) :=
  (uPI s 50 8 0).bind fun σ1 =>
  (uPI σ1 50 9 (iadd (σ1.i 50 9) 1)).bind fun σ5 =>
  some (1, σ5)
theorem SX11_nextLine_b117 {m b : Nat} {φ0 : Nat → Nat} {σo : fS} {N : Nat} {q : Int × fS} {φ : Nat → Nat} {h : eH} {s : fS} (R : fC m b φ0 σo φ h s) (hF : FX11_nextLine_b117 N s = some q) : gG m b φ0 σo lI q (fX11_nextLine_b117 N 50 h) := by
  unfold FX11_nextLine_b117 at hF
  unfold fX11_nextLine_b117
  refine s_pI R (t_50 R.S) (Nat.le_of_ble_eq_true rfl) rfl (c_lit 0 0 rfl) ⟨by decide, by decide⟩ hF (fun h1 σ1 R1 T1 hF => ?_)
  refine s_gI R1 (t_50 R1.S) (Nat.le_of_ble_eq_true rfl) rfl ?_
  refine s_pI R1 (t_50 R1.S) (Nat.le_of_ble_eq_true rfl) rfl (c_add rfl (c_lit 1 1 rfl)) (rr_I _) hF (fun h3 σ5 R3 T3 hF => ?_)
  exact g_ret R3 hF ⟨(c_lit 1 1 rfl), ⟨by decide, by decide⟩⟩
def FX11_nextLine_b77 (N : Nat) : Nat → fS → Option (Int × fS)
  | 0, _ => none
  | n + 1, s =>
    if (s.i 50 7) ≤ (s.i 50 6) then
      FX11_nextLine_b117 N s
    else
      (uRI s 51 (isub (s.i 50 7) 1)).bind fun x10 =>
      if ¬ (x10 = 32) then
        FX11_nextLine_b117 N s
      else
        (uPI s 50 7 (isub (s.i 50 7) 1)).bind fun σ15 =>
        FX11_nextLine_b77 N n σ15
theorem SX11_nextLine_b77 {m b : Nat} {φ0 : Nat → Nat} {σo : fS} {N : Nat} {q : Int × fS} : ∀ {n : Nat} {φ : Nat → Nat} {h : eH} {s : fS} , fC m b φ0 σo φ h s → FX11_nextLine_b77 N n s = some q → gG m b φ0 σo lI q (fX11_nextLine_b77 N n 50 h) := by
  intro n
  induction n with
 | zero => intro φ h s R hF; simp [FX11_nextLine_b77] at hF
  | succ n ih =>
    intro φ h s  R  hF
    rw [FX11_nextLine_b77] at hF
    rw [fX11_nextLine_b77]
    refine s_gI R (t_50 R.S) (Nat.le_of_ble_eq_true rfl) rfl ?_
    refine s_gI R (t_50 R.S) (Nat.le_of_ble_eq_true rfl) rfl ?_
    refine s_if (i_le rfl rfl (R.ri (t_50 R.S) (Nat.le_of_ble_eq_true rfl) rfl) (R.ri (t_50 R.S) (Nat.le_of_ble_eq_true rfl) rfl)) hF (fun c3 hF => ?_) (fun c3 hF => ?_)
    ·
      exact SX11_nextLine_b117 (N := N) R hF
    ·
      refine s_gAs R (t_50 R.S) (Nat.le_of_ble_eq_true rfl) rfl (o_50_3 R.S) (a_51 R) ?_
      refine s_gI R (t_50 R.S) (Nat.le_of_ble_eq_true rfl) rfl ?_
      refine s_rI R (u_51 R.S).1 (u_51 R.S).2 (by decide) (a_51 R) (c_sub rfl (c_lit 1 1 rfl)) (rr_I _) hF (fun x10 ra6 hF => ?_)
      refine s_if (not_congr (i_eq rfl (c_lit 32 32 rfl) ra6 ⟨by decide, by decide⟩)) hF (fun c7 hF => ?_) (fun c7 hF => ?_)
      ·
        exact SX11_nextLine_b117 (N := N) R hF
      ·
        refine s_gI R (t_50 R.S) (Nat.le_of_ble_eq_true rfl) rfl ?_
        refine s_pI R (t_50 R.S) (Nat.le_of_ble_eq_true rfl) rfl (c_sub rfl (c_lit 1 1 rfl)) (rr_I _) hF (fun h9 σ15 R9 T9 hF => ?_)
        exact ih R9 hF
def FX11_nextLine_b67 (N : Nat) (s : fS) : Option (Int × fS) :=
  (uPI s 50 5 (iadd (s.i 50 7) 1)).bind fun σ3 =>
  FX11_nextLine_b77 N N σ3
theorem SX11_nextLine_b67 {m b : Nat} {φ0 : Nat → Nat} {σo : fS} {N : Nat} {q : Int × fS} {φ : Nat → Nat} {h : eH} {s : fS} (R : fC m b φ0 σo φ h s) (hF : FX11_nextLine_b67 N s = some q) : gG m b φ0 σo lI q (fX11_nextLine_b67 N 50 h) := by
  unfold FX11_nextLine_b67 at hF
  unfold fX11_nextLine_b67
  refine s_gI R (t_50 R.S) (Nat.le_of_ble_eq_true rfl) rfl ?_
  refine s_pI R (t_50 R.S) (Nat.le_of_ble_eq_true rfl) rfl (c_add rfl (c_lit 1 1 rfl)) (rr_I _) hF (fun h2 σ3 R2 T2 hF => ?_)
  exact SX11_nextLine_b77 (N := N) R2 hF
def FX11_nextLine_b29 (N : Nat) : Nat → fS → Option (Int × fS)
  | 0, _ => none
  | n + 1, s =>
    if (s.i 50 4) ≤ (s.i 50 7) then
      FX11_nextLine_b67 N s
    else
      (uRI s 51 (s.i 50 7)).bind fun x10 =>
      if x10 = 10 then
        FX11_nextLine_b67 N s
      else
        (uPI s 50 7 (iadd (s.i 50 7) 1)).bind fun σ15 =>
        FX11_nextLine_b29 N n σ15
theorem SX11_nextLine_b29 {m b : Nat} {φ0 : Nat → Nat} {σo : fS} {N : Nat} {q : Int × fS} : ∀ {n : Nat} {φ : Nat → Nat} {h : eH} {s : fS} , fC m b φ0 σo φ h s → FX11_nextLine_b29 N n s = some q → gG m b φ0 σo lI q (fX11_nextLine_b29 N n 50 h) := by
  intro n
  induction n with
 | zero => intro φ h s R hF; simp [FX11_nextLine_b29] at hF
  | succ n ih =>
    intro φ h s  R  hF
    rw [FX11_nextLine_b29] at hF
    rw [fX11_nextLine_b29]
    refine s_gI R (t_50 R.S) (Nat.le_of_ble_eq_true rfl) rfl ?_
    refine s_gI R (t_50 R.S) (Nat.le_of_ble_eq_true rfl) rfl ?_
    refine s_if (i_le rfl rfl (R.ri (t_50 R.S) (Nat.le_of_ble_eq_true rfl) rfl) (R.ri (t_50 R.S) (Nat.le_of_ble_eq_true rfl) rfl)) hF (fun c3 hF => ?_) (fun c3 hF => ?_)
    ·
      exact SX11_nextLine_b67 (N := N) R hF
    ·
      refine s_gAs R (t_50 R.S) (Nat.le_of_ble_eq_true rfl) rfl (o_50_3 R.S) (a_51 R) ?_
      refine s_gI R (t_50 R.S) (Nat.le_of_ble_eq_true rfl) rfl ?_
      refine s_rI R (u_51 R.S).1 (u_51 R.S).2 (by decide) (a_51 R) rfl (R.ri (t_50 R.S) (Nat.le_of_ble_eq_true rfl) rfl) hF (fun x10 ra6 hF => ?_)
      refine s_if (i_eq rfl (c_lit 10 10 rfl) ra6 ⟨by decide, by decide⟩) hF (fun c7 hF => ?_) (fun c7 hF => ?_)
      ·
        exact SX11_nextLine_b67 (N := N) R hF
      ·
        refine s_gI R (t_50 R.S) (Nat.le_of_ble_eq_true rfl) rfl ?_
        refine s_pI R (t_50 R.S) (Nat.le_of_ble_eq_true rfl) rfl (c_add rfl (c_lit 1 1 rfl)) (rr_I _) hF (fun h9 σ15 R9 T9 hF => ?_)
        exact ih R9 hF
def FX11_nextLine (N : Nat) (s : fS) : Option (Int × fS) :=
  if (s.i 50 5) < (s.i 50 4) then
    (uPI s 50 6 (s.i 50 5)).bind fun σ8 =>
    (uPI σ8 50 7 (σ8.i 50 6)).bind fun σ12 =>
    FX11_nextLine_b29 N N σ12
  else
    some (0, s)
theorem SX11_nextLine {m b : Nat} {φ0 : Nat → Nat} {σo : fS} {N : Nat} {q : Int × fS} {φ : Nat → Nat} {h : eH} {s : fS} (R : fC m b φ0 σo φ h s) (hF : FX11_nextLine N s = some q) : gG m b φ0 σo lI q (fX11_nextLine N 50 h) := by
  unfold FX11_nextLine at hF
  unfold fX11_nextLine
  refine s_gI R (t_50 R.S) (Nat.le_of_ble_eq_true rfl) rfl ?_
  refine s_gI R (t_50 R.S) (Nat.le_of_ble_eq_true rfl) rfl ?_
  refine s_if (i_lt rfl rfl (R.ri (t_50 R.S) (Nat.le_of_ble_eq_true rfl) rfl) (R.ri (t_50 R.S) (Nat.le_of_ble_eq_true rfl) rfl)) hF (fun c3 hF => ?_) (fun c3 hF => ?_)
  ·
    refine s_gI R (t_50 R.S) (Nat.le_of_ble_eq_true rfl) rfl ?_
    refine s_pI R (t_50 R.S) (Nat.le_of_ble_eq_true rfl) rfl rfl (R.ri (t_50 R.S) (Nat.le_of_ble_eq_true rfl) rfl) hF (fun h5 σ8 R5 T5 hF => ?_)
    refine s_gI R5 (t_50 R5.S) (Nat.le_of_ble_eq_true rfl) rfl ?_
    refine s_pI R5 (t_50 R5.S) (Nat.le_of_ble_eq_true rfl) rfl rfl (R5.ri (t_50 R5.S) (Nat.le_of_ble_eq_true rfl) rfl) hF (fun h7 σ12 R7 T7 hF => ?_)
    exact SX11_nextLine_b29 (N := N) R7 hF
  ·
    exact g_ret R hF ⟨(c_lit 0 0 rfl), ⟨by decide, by decide⟩⟩
def FX11_character_b23 (s0 : Int) (s : fS) : Option (Int × fS) :=
  some (s0, s)
theorem SX11_character_b23 {m b : Nat} {φ0 : Nat → Nat} {σo : fS} {q : Int × fS} {φ : Nat → Nat} {h : eH} {s : fS} {s0' : Int32} {s0 : Int} (R : fC m b φ0 σo φ h s) (es0 : s0' = iI s0) (rs0 : r32 s0) (hF : FX11_character_b23 s0 s = some q) : gG m b φ0 σo lI q (fX11_character_b23 s0' h) := by
  subst es0
  unfold FX11_character_b23 at hF
  unfold fX11_character_b23
  exact g_ret R hF ⟨rfl, rs0⟩
def FX11_character (p0 : Int) (s : fS) : Option (Int × fS) :=
  if ¬ (p0 = (s.i 50 7)) then
    (uRI s 51 p0).bind fun x6 =>
    FX11_character_b23 (iand x6 255) s
  else
    FX11_character_b23 13 s
theorem SX11_character {m b : Nat} {φ0 : Nat → Nat} {σo : fS} {q : Int × fS} {φ : Nat → Nat} {h : eH} {s : fS} {p0' : Int32} {p0 : Int} (R : fC m b φ0 σo φ h s) (ep0 : p0' = iI p0) (rp0 : r32 p0) (hF : FX11_character p0 s = some q) : gG m b φ0 σo lI q (fX11_character 50 p0' h) := by
  subst ep0
  unfold FX11_character at hF
  unfold fX11_character
  refine s_gI R (t_50 R.S) (Nat.le_of_ble_eq_true rfl) rfl ?_
  refine s_if (not_congr (i_eq rfl rfl rp0 (R.ri (t_50 R.S) (Nat.le_of_ble_eq_true rfl) rfl))) hF (fun c2 hF => ?_) (fun c2 hF => ?_)
  ·
    refine s_gAs R (t_50 R.S) (Nat.le_of_ble_eq_true rfl) rfl (o_50_3 R.S) (a_51 R) ?_
    refine s_rI R (u_51 R.S).1 (u_51 R.S).2 (by decide) (a_51 R) rfl rp0 hF (fun x6 ra4 hF => ?_)
    exact SX11_character_b23 R (c_and rfl (c_lit 255 255 rfl)) (rr_I _) hF
  ·
    exact SX11_character_b23 R (c_lit 13 13 rfl) ⟨by decide, by decide⟩ hF
def FX9_category (p0 : Int) (s : fS) : Option (Int × fS) :=
  (uRI s 27 (iadd 1839 p0)).bind fun x3 =>
  some (x3, s)
theorem SX9_category {m b : Nat} {φ0 : Nat → Nat} {σo : fS} {q : Int × fS} {φ : Nat → Nat} {h : eH} {s : fS} {p0' : Int32} {p0 : Int} (R : fC m b φ0 σo φ h s) (ep0 : p0' = iI p0) (rp0 : r32 p0) (hF : FX9_category p0 s = some q) : gG m b φ0 σo lI q (fX9_category 23 p0' h) := by
  subst ep0
  unfold FX9_category at hF
  unfold fX9_category
  refine s_gAs R (t_23 R.S) (Nat.le_of_ble_eq_true rfl) rfl (o_23_3 R.S) (a_27 R) ?_
  refine s_rI R (u_27 R.S).1 (u_27 R.S).2 (by decide) (a_27 R) (c_add (c_lit 1839 1839 rfl) rfl) (rr_I _) hF (fun x3 ra2 hF => ?_)
  exact g_ret R hF ⟨rfl, ra2⟩
def FX11_isLetter_b36 (s0 : Int) (s : fS) : Option (Int × fS) :=
  uZ s0 (s0, s)
theorem SX11_isLetter_b36 {m b : Nat} {φ0 : Nat → Nat} {σo : fS} {q : Int × fS} {φ : Nat → Nat} {h : eH} {s : fS} {s0' : Int32} {s0 : Int} (R : fC m b φ0 σo φ h s) (es0 : s0' = iI s0) (rs0 : r32 s0) (hF : FX11_isLetter_b36 s0 s = some q) : gG m b φ0 σo lI q (fX11_isLetter_b36 s0' h) := by
  subst es0
  unfold FX11_isLetter_b36 at hF
  unfold fX11_isLetter_b36
  exact g_z R rfl hF ⟨rfl, rs0⟩
def FX11_isLetter_b35 (s : fS) : Option (Int × fS) :=
  FX11_isLetter_b36 0 s
theorem SX11_isLetter_b35 {m b : Nat} {φ0 : Nat → Nat} {σo : fS} {q : Int × fS} {φ : Nat → Nat} {h : eH} {s : fS} (R : fC m b φ0 σo φ h s) (hF : FX11_isLetter_b35 s = some q) : gG m b φ0 σo lI q (fX11_isLetter_b35 h) := by
  unfold FX11_isLetter_b35 at hF
  unfold fX11_isLetter_b35
  exact SX11_isLetter_b36 R (c_lit 0 0 rfl) ⟨by decide, by decide⟩ hF
def FX11_isLetter (s : fS) : Option (Int × fS) :=
  if (s.i 50 7) < (s.i 50 6) then
    FX11_isLetter_b35 s
  else
    (FX11_character (s.i 50 6) s).bind fun q11 =>
    (FX9_category q11.1 q11.2).bind fun q13 =>
    if ¬ (q13.1 = 11) then
      FX11_isLetter_b35 q13.2
    else
      FX11_isLetter_b36 1 q13.2
theorem SX11_isLetter {m b : Nat} {φ0 : Nat → Nat} {σo : fS} {q : Int × fS} {φ : Nat → Nat} {h : eH} {s : fS} (R : fC m b φ0 σo φ h s) (hF : FX11_isLetter s = some q) : gG m b φ0 σo lI q (fX11_isLetter 50 h) := by
  unfold FX11_isLetter at hF
  unfold fX11_isLetter
  refine s_gI R (t_50 R.S) (Nat.le_of_ble_eq_true rfl) rfl ?_
  refine s_gI R (t_50 R.S) (Nat.le_of_ble_eq_true rfl) rfl ?_
  refine s_if (i_lt rfl rfl (R.ri (t_50 R.S) (Nat.le_of_ble_eq_true rfl) rfl) (R.ri (t_50 R.S) (Nat.le_of_ble_eq_true rfl) rfl)) hF (fun c3 hF => ?_) (fun c3 hF => ?_)
  ·
    exact SX11_isLetter_b35 R hF
  ·
    refine s_gO R (t_50 R.S) (Nat.le_of_ble_eq_true rfl) rfl (o_50_2 R.S) ?_
    refine s_gI R (t_50 R.S) (Nat.le_of_ble_eq_true rfl) rfl ?_
    refine s_kok R (t_50 R.S) (Nat.le_of_ble_eq_true rfl) ?_
    refine s_call R (Nat.zero_le _) (fun _ hq => SX11_character (b := 0) (R.rf) rfl (R.ri (t_50 R.S) (Nat.le_of_ble_eq_true rfl) rfl) hq) hF (fun f7 rv7 h7 q11 R7 e7 E7 hF => ?_)
    refine s_kok R7 (t_23 R7.S) (Nat.le_of_ble_eq_true rfl) ?_
    refine s_call R7 (Nat.zero_le _) (fun _ hq => SX9_category (b := 0) (R7.rf) e7.1 e7.2 hq) hF (fun f9 rv9 h9 q13 R9 e9 E9 hF => ?_)
    refine s_if (not_congr (i_eq e9.1 (c_lit 11 11 rfl) e9.2 ⟨by decide, by decide⟩)) hF (fun c10 hF => ?_) (fun c10 hF => ?_)
    ·
      exact SX11_isLetter_b35 R9 hF
    ·
      exact SX11_isLetter_b36 R9 (c_lit 1 1 rfl) ⟨by decide, by decide⟩ hF
def FX4_fail (p0 : Int) (s : fS) : Option ((Unit ⊕ Nat) × fS) :=
  (uPI s 5 0 p0).bind fun σ1 =>
  (uNX 50 σ1).bind fun q1 => some (.inr q1.1, q1.2)
theorem SX4_fail {m b : Nat} {φ0 : Nat → Nat} {σo : fS} {q : (Unit ⊕ Nat) × fS} {φ : Nat → Nat} {h : eH} {s : fS} {p0' : Int32} {p0 : Int} (R : fC m b φ0 σo φ h s) (ep0 : p0' = iI p0) (rp0 : r32 p0) (hF : FX4_fail p0 s = some q) : gG m b φ0 σo (lT lU) q (fX4_fail 5 p0' h) := by
  subst ep0
  unfold FX4_fail at hF
  unfold fX4_fail
  refine s_pI R (t_5 R.S) (Nat.le_of_ble_eq_true rfl) rfl rfl rp0 hF (fun h1 σ1 R1 T1 hF => ?_)
  exact s_exc R1 (by decide) hF
def FX4_want_b9 (s : fS) : Option ((Unit ⊕ Nat) × fS) :=
  some (.inl (), s)
theorem SX4_want_b9 {m b : Nat} {φ0 : Nat → Nat} {σo : fS} {q : (Unit ⊕ Nat) × fS} {φ : Nat → Nat} {h : eH} {s : fS} (R : fC m b φ0 σo φ h s) (hF : FX4_want_b9 s = some q) : gG m b φ0 σo (lT lU) q (fX4_want_b9 h) := by
  unfold FX4_want_b9 at hF
  unfold fX4_want_b9
  exact g_ret R hF trivial
def FX4_want (p0 : Int) (p1 : Int) (s : fS) : Option ((Unit ⊕ Nat) × fS) :=
  if ¬ (p0 = 0) then
    FX4_want_b9 s
  else
    tB (FX4_fail p1 s) fun x3 σ4 =>
    FX4_want_b9 σ4
theorem SX4_want {m b : Nat} {φ0 : Nat → Nat} {σo : fS} {q : (Unit ⊕ Nat) × fS} {φ : Nat → Nat} {h : eH} {s : fS} {p0' : Int32} {p0 : Int} {p1' : Int32} {p1 : Int} (R : fC m b φ0 σo φ h s) (ep0 : p0' = iI p0) (rp0 : r32 p0) (ep1 : p1' = iI p1) (rp1 : r32 p1) (hF : FX4_want p0 p1 s = some q) : gG m b φ0 σo (lT lU) q (fX4_want 5 p0' p1' h) := by
  subst ep0; subst ep1
  unfold FX4_want at hF
  unfold fX4_want
  refine s_if (not_congr (i_eq rfl (c_lit 0 0 rfl) rp0 ⟨by decide, by decide⟩)) hF (fun c1 hF => ?_) (fun c1 hF => ?_)
  ·
    exact SX4_want_b9 R hF
  ·
    refine s_kok R (t_5 R.S) (Nat.le_of_ble_eq_true rfl) ?_
    refine s_tB R (Nat.zero_le _) (fun _ hq => SX4_fail (b := 0) (R.rf) rfl rp1 hq) hF (fun f3 rv3 h3 x3 σ4 R3 e3 E3 hF => ?_)
    exact SX4_want_b9 R3 hF
def FX10_add_b18 (l1 : Int) (s1 : Int) (s : fS) : Option ((Unit ⊕ Nat) × fS) :=
  tB (FX4_want s1 2 s) fun x2 σ3 =>
  (uPI σ3 44 8 (iadd (σ3.i 44 8) 1)).bind fun σ8 =>
  (uQI σ8 49 (σ3.i 44 8) (i2b (i2b l1))).bind fun σ10 =>
  some (.inl (), σ10)
theorem SX10_add_b18 {m b : Nat} {φ0 : Nat → Nat} {σo : fS} {q : (Unit ⊕ Nat) × fS} {φ : Nat → Nat} {h : eH} {s : fS} {l1' : Int32} {l1 : Int} {s1' : Int32} {s1 : Int} (R : fC m b φ0 σo φ h s) (el1 : l1' = iI l1) (rl1 : r32 l1) (es1 : s1' = iI s1) (rs1 : r32 s1) (hF : FX10_add_b18 l1 s1 s = some q) : gG m b φ0 σo (lT lU) q (fX10_add_b18 44 l1' 5 s1' h) := by
  subst el1; subst es1
  unfold FX10_add_b18 at hF
  unfold fX10_add_b18
  refine s_kok R (t_5 R.S) (Nat.le_of_ble_eq_true rfl) ?_
  refine s_tB R (Nat.zero_le _) (fun _ hq => SX4_want (b := 0) (R.rf) rfl rs1 (c_lit 2 2 rfl) ⟨by decide, by decide⟩ hq) hF (fun f2 rv2 h2 x2 σ3 R2 e2 E2 hF => ?_)
  refine s_gAs R2 (t_44 R2.S) (Nat.le_of_ble_eq_true rfl) rfl (o_44_7 R2.S) (a_49 R2) ?_
  refine s_gI R2 (t_44 R2.S) (Nat.le_of_ble_eq_true rfl) rfl ?_
  refine s_pI R2 (t_44 R2.S) (Nat.le_of_ble_eq_true rfl) rfl (c_add rfl (c_lit 1 1 rfl)) (rr_I _) hF (fun h5 σ8 R5 T5 hF => ?_)
  refine s_qI R5 (u_49 R5.S).1 (u_49 R5.S).2 (by decide) (a_49 R5) rfl (R2.ri (t_44 R2.S) (Nat.le_of_ble_eq_true rfl) rfl) (c_2b (c_2b rfl)) (rr_I _) hF (fun h6 σ10 R6 T6 hF => ?_)
  exact g_ret R6 hF trivial
def FX10_add (p0 : Int) (s : fS) : Option ((Unit ⊕ Nat) × fS) :=
  if 40 ≤ (s.i 44 8) then
    FX10_add_b18 p0 0 s
  else
    FX10_add_b18 p0 1 s
theorem SX10_add {m b : Nat} {φ0 : Nat → Nat} {σo : fS} {q : (Unit ⊕ Nat) × fS} {φ : Nat → Nat} {h : eH} {s : fS} {p0' : Int32} {p0 : Int} (R : fC m b φ0 σo φ h s) (ep0 : p0' = iI p0) (rp0 : r32 p0) (hF : FX10_add p0 s = some q) : gG m b φ0 σo (lT lU) q (fX10_add 44 p0' h) := by
  subst ep0
  unfold FX10_add at hF
  unfold fX10_add
  refine s_gO R (t_44 R.S) (Nat.le_of_ble_eq_true rfl) rfl (o_44_0 R.S) ?_
  refine s_gI R (t_44 R.S) (Nat.le_of_ble_eq_true rfl) rfl ?_
  refine s_if (i_le (c_lit 40 40 rfl) rfl ⟨by decide, by decide⟩ (R.ri (t_44 R.S) (Nat.le_of_ble_eq_true rfl) rfl)) hF (fun c3 hF => ?_) (fun c3 hF => ?_)
  ·
    exact SX10_add_b18 R rfl rp0 (c_lit 0 0 rfl) ⟨by decide, by decide⟩ hF
  ·
    exact SX10_add_b18 R rfl rp0 (c_lit 1 1 rfl) ⟨by decide, by decide⟩ hF
def FX10_slot_b42 (N : Nat) (l1 : Int) (s : fS) : Option ((Int ⊕ Nat) × fS) :=
  (uRI s 45 l1).bind fun x3 =>
  some (.inl x3, s)
theorem SX10_slot_b42 {m b : Nat} {φ0 : Nat → Nat} {σo : fS} {N : Nat} {q : (Int ⊕ Nat) × fS} {φ : Nat → Nat} {h : eH} {s : fS} {l1' : Int32} {l1 : Int} (R : fC m b φ0 σo φ h s) (el1 : l1' = iI l1) (rl1 : r32 l1) (hF : FX10_slot_b42 N l1 s = some q) : gG m b φ0 σo (lT lI) q (fX10_slot_b42 N 44 l1' h) := by
  subst el1
  unfold FX10_slot_b42 at hF
  unfold fX10_slot_b42
  refine s_gAs R (t_44 R.S) (Nat.le_of_ble_eq_true rfl) rfl (o_44_1 R.S) (a_45 R) ?_
  refine s_rI R (u_45 R.S).1 (u_45 R.S).2 (by decide) (a_45 R) rfl rl1 hF (fun x3 ra2 hF => ?_)
  exact g_ret R hF ⟨rfl, ra2⟩
def FX10_slot_b33 (N : Nat) (l1 : Int) (s1 : Int) (s : fS) : Option ((Int ⊕ Nat) × fS) :=
  tB (FX4_want s1 2 s) fun x2 σ3 =>
  (FX10_make l1 σ3).bind fun q5 =>
  FX10_slot_b42 N l1 q5.2
theorem SX10_slot_b33 {m b : Nat} {φ0 : Nat → Nat} {σo : fS} (hb : 1 ≤ b) {N : Nat} {q : (Int ⊕ Nat) × fS} {φ : Nat → Nat} {h : eH} {s : fS} {l1' : Int32} {l1 : Int} {s1' : Int32} {s1 : Int} (R : fC m b φ0 σo φ h s) (el1 : l1' = iI l1) (rl1 : r32 l1) (es1 : s1' = iI s1) (rs1 : r32 s1) (hF : FX10_slot_b33 N l1 s1 s = some q) : gG m b φ0 σo (lT lI) q (fX10_slot_b33 N 44 l1' 5 s1' h) := by
  subst el1; subst es1
  unfold FX10_slot_b33 at hF
  unfold fX10_slot_b33
  refine s_kok R (t_5 R.S) (Nat.le_of_ble_eq_true rfl) ?_
  refine s_tB R (Nat.zero_le _) (fun _ hq => SX4_want (b := 0) (R.rf) rfl rs1 (c_lit 2 2 rfl) ⟨by decide, by decide⟩ hq) hF (fun f2 rv2 h2 x2 σ3 R2 e2 E2 hF => ?_)
  refine s_kok R2 (t_44 R2.S) (Nat.le_of_ble_eq_true rfl) ?_
  refine s_call R2 hb (fun _ hq => SX10_make (b := 1) (Nat.le_of_ble_eq_true rfl) (R2.rf) rfl rl1 hq) hF (fun f4 rv4 h4 q5 R4 e4 E4 hF => ?_)
  exact SX10_slot_b42 (N := N) R4 rfl rl1 hF
def FX10_slot (N : Nat) (s : fS) : Option ((Int ⊕ Nat) × fS) :=
  (FX10_seek N s).bind fun q2 =>
  (uRI q2.2 45 q2.1).bind fun x5 =>
  if ¬ (x5 = 0) then
    FX10_slot_b42 N q2.1 q2.2
  else
    if 1352 ≤ (q2.2.i 44 6) then
      FX10_slot_b33 N q2.1 0 q2.2
    else
      FX10_slot_b33 N q2.1 1 q2.2
theorem SX10_slot {m b : Nat} {φ0 : Nat → Nat} {σo : fS} (hb : 1 ≤ b) {N : Nat} {q : (Int ⊕ Nat) × fS} {φ : Nat → Nat} {h : eH} {s : fS} (R : fC m b φ0 σo φ h s) (hF : FX10_slot N s = some q) : gG m b φ0 σo (lT lI) q (fX10_slot N 44 h) := by
  unfold FX10_slot at hF
  unfold fX10_slot
  refine s_kok R (t_44 R.S) (Nat.le_of_ble_eq_true rfl) ?_
  refine s_call R (Nat.zero_le _) (fun _ hq => SX10_seek (b := 0) (N := N) (R.rf) hq) hF (fun f2 rv2 h2 q2 R2 e2 E2 hF => ?_)
  refine s_gAs R2 (t_44 R2.S) (Nat.le_of_ble_eq_true rfl) rfl (o_44_1 R2.S) (a_45 R2) ?_
  refine s_rI R2 (u_45 R2.S).1 (u_45 R2.S).2 (by decide) (a_45 R2) e2.1 e2.2 hF (fun x5 ra4 hF => ?_)
  refine s_if (not_congr (i_eq rfl (c_lit 0 0 rfl) ra4 ⟨by decide, by decide⟩)) hF (fun c5 hF => ?_) (fun c5 hF => ?_)
  ·
    exact SX10_slot_b42 (N := N) R2 e2.1 e2.2 hF
  ·
    refine s_gO R2 (t_44 R2.S) (Nat.le_of_ble_eq_true rfl) rfl (o_44_0 R2.S) ?_
    refine s_gI R2 (t_44 R2.S) (Nat.le_of_ble_eq_true rfl) rfl ?_
    refine s_if (i_le (c_lit 1352 1352 rfl) rfl ⟨by decide, by decide⟩ (R2.ri (t_44 R2.S) (Nat.le_of_ble_eq_true rfl) rfl)) hF (fun c8 hF => ?_) (fun c8 hF => ?_)
    ·
      exact SX10_slot_b33 (N := N) hb R2 e2.1 e2.2 (c_lit 0 0 rfl) ⟨by decide, by decide⟩ hF
    ·
      exact SX10_slot_b33 (N := N) hb R2 e2.1 e2.2 (c_lit 1 1 rfl) ⟨by decide, by decide⟩ hF
def FX11_name_b71 (N : Nat) (s1 : Int) (s : fS) : Option ((Int ⊕ Nat) × fS) :=
  (uPI s 50 8 s1).bind fun σ1 =>
  (uPI σ1 50 6 (iadd (σ1.i 50 6) 1)).bind fun σ5 =>
  tB (FX10_slot N σ5) fun x10 σ11 =>
  some (.inl (iadd 4096 x10), σ11)
theorem SX11_name_b71 {m b : Nat} {φ0 : Nat → Nat} {σo : fS} (hb : 1 ≤ b) {N : Nat} {q : (Int ⊕ Nat) × fS} {φ : Nat → Nat} {h : eH} {s : fS} {s1' : Int32} {s1 : Int} (R : fC m b φ0 σo φ h s) (es1 : s1' = iI s1) (rs1 : r32 s1) (hF : FX11_name_b71 N s1 s = some q) : gG m b φ0 σo (lT lI) q (fX11_name_b71 N 50 50 s1' h) := by
  subst es1
  unfold FX11_name_b71 at hF
  unfold fX11_name_b71
  refine s_pI R (t_50 R.S) (Nat.le_of_ble_eq_true rfl) rfl rfl rs1 hF (fun h1 σ1 R1 T1 hF => ?_)
  refine s_gI R1 (t_50 R1.S) (Nat.le_of_ble_eq_true rfl) rfl ?_
  refine s_pI R1 (t_50 R1.S) (Nat.le_of_ble_eq_true rfl) rfl (c_add rfl (c_lit 1 1 rfl)) (rr_I _) hF (fun h3 σ5 R3 T3 hF => ?_)
  refine s_gO R3 (t_50 R3.S) (Nat.le_of_ble_eq_true rfl) rfl (o_50_1 R3.S) ?_
  refine s_kok R3 (t_44 R3.S) (Nat.le_of_ble_eq_true rfl) ?_
  refine s_tB R3 hb (fun _ hq => SX10_slot (b := 1) (N := N) (Nat.le_of_ble_eq_true rfl) (R3.rf) hq) hF (fun f6 rv6 h6 x10 σ11 R6 e6 E6 hF => ?_)
  exact g_ret R6 hF ⟨(c_add (c_lit 4096 4096 rfl) e6.1), (rr_I _)⟩
def FX11_name_b96 (N : Nat) : Nat → fS → Option ((Int ⊕ Nat) × fS)
  | 0, _ => none
  | n + 1, s =>
    (FX11_isLetter s).bind fun q2 =>
    if q2.1 = 0 then
      tB (FX10_slot N q2.2) fun x7 σ8 =>
      some (.inl (iadd 4096 x7), σ8)
    else
      (FX11_character (q2.2.i 50 6) q2.2).bind fun q14 =>
      tB (FX10_add q14.1 q14.2) fun x16 σ17 =>
      (uPI σ17 50 6 (iadd (σ17.i 50 6) 1)).bind fun σ20 =>
      (uPI σ20 50 8 2).bind fun σ22 =>
      FX11_name_b96 N n σ22
theorem SX11_name_b96 {m b : Nat} {φ0 : Nat → Nat} {σo : fS} (hb : 1 ≤ b) {N : Nat} {q : (Int ⊕ Nat) × fS} : ∀ {n : Nat} {φ : Nat → Nat} {h : eH} {s : fS} , fC m b φ0 σo φ h s → FX11_name_b96 N n s = some q → gG m b φ0 σo (lT lI) q (fX11_name_b96 N n 50 h) := by
  intro n
  induction n with
 | zero => intro φ h s R hF; simp [FX11_name_b96] at hF
  | succ n ih =>
    intro φ h s  R  hF
    rw [FX11_name_b96] at hF
    rw [fX11_name_b96]
    refine s_kok R (t_50 R.S) (Nat.le_of_ble_eq_true rfl) ?_
    refine s_call R (Nat.zero_le _) (fun _ hq => SX11_isLetter (b := 0) (R.rf) hq) hF (fun f2 rv2 h2 q2 R2 e2 E2 hF => ?_)
    refine s_if (i_eq e2.1 (c_lit 0 0 rfl) e2.2 ⟨by decide, by decide⟩) hF (fun c3 hF => ?_) (fun c3 hF => ?_)
    ·
      refine s_gO R2 (t_50 R2.S) (Nat.le_of_ble_eq_true rfl) rfl (o_50_1 R2.S) ?_
      refine s_kok R2 (t_44 R2.S) (Nat.le_of_ble_eq_true rfl) ?_
      refine s_tB R2 hb (fun _ hq => SX10_slot (b := 1) (N := N) (Nat.le_of_ble_eq_true rfl) (R2.rf) hq) hF (fun f6 rv6 h6 x7 σ8 R6 e6 E6 hF => ?_)
      exact g_ret R6 hF ⟨(c_add (c_lit 4096 4096 rfl) e6.1), (rr_I _)⟩
    ·
      refine s_gO R2 (t_50 R2.S) (Nat.le_of_ble_eq_true rfl) rfl (o_50_1 R2.S) ?_
      refine s_gI R2 (t_50 R2.S) (Nat.le_of_ble_eq_true rfl) rfl ?_
      refine s_kok R2 (t_50 R2.S) (Nat.le_of_ble_eq_true rfl) ?_
      refine s_call R2 (Nat.zero_le _) (fun _ hq => SX11_character (b := 0) (R2.rf) rfl (R2.ri (t_50 R2.S) (Nat.le_of_ble_eq_true rfl) rfl) hq) hF (fun f10 rv10 h10 q14 R10 e10 E10 hF => ?_)
      refine s_kok R10 (t_44 R10.S) (Nat.le_of_ble_eq_true rfl) ?_
      refine s_tB R10 (Nat.zero_le _) (fun _ hq => SX10_add (b := 0) (R10.rf) e10.1 e10.2 hq) hF (fun f12 rv12 h12 x16 σ17 R12 e12 E12 hF => ?_)
      refine s_gI R12 (t_50 R12.S) (Nat.le_of_ble_eq_true rfl) rfl ?_
      refine s_pI R12 (t_50 R12.S) (Nat.le_of_ble_eq_true rfl) rfl (c_add rfl (c_lit 1 1 rfl)) (rr_I _) hF (fun h14 σ20 R14 T14 hF => ?_)
      refine s_pI R14 (t_50 R14.S) (Nat.le_of_ble_eq_true rfl) rfl (c_lit 2 2 rfl) ⟨by decide, by decide⟩ hF (fun h15 σ22 R15 T15 hF => ?_)
      exact ih R15 hF
def FX11_name (N : Nat) (s : fS) : Option ((Int ⊕ Nat) × fS) :=
  (FX10_open s).bind fun q4 =>
  (uPI q4.2 50 8 1).bind fun σ5 =>
  (FX11_isLetter σ5).bind fun q8 =>
  if ¬ (q8.1 = 0) then
    FX11_name_b96 N N q8.2
  else
    if (q8.2.i 50 7) < (q8.2.i 50 6) then
      FX11_name_b96 N N q8.2
    else
      (FX11_character (q8.2.i 50 6) q8.2).bind fun q20 =>
      tB (FX10_add q20.1 q20.2) fun x22 σ23 =>
      (FX11_character (σ23.i 50 6) σ23).bind fun q29 =>
      (FX9_category q29.1 q29.2).bind fun q31 =>
      if ¬ (q31.1 = 10) then
        FX11_name_b71 N 1 q31.2
      else
        FX11_name_b71 N 2 q31.2
theorem SX11_name {m b : Nat} {φ0 : Nat → Nat} {σo : fS} (hb : 1 ≤ b) {N : Nat} {q : (Int ⊕ Nat) × fS} {φ : Nat → Nat} {h : eH} {s : fS} (R : fC m b φ0 σo φ h s) (hF : FX11_name N s = some q) : gG m b φ0 σo (lT lI) q (fX11_name N 50 h) := by
  unfold FX11_name at hF
  unfold fX11_name
  refine s_gO R (t_50 R.S) (Nat.le_of_ble_eq_true rfl) rfl (o_50_1 R.S) ?_
  refine s_kok R (t_44 R.S) (Nat.le_of_ble_eq_true rfl) ?_
  refine s_call R (Nat.zero_le _) (fun _ hq => SX10_open (b := 0) (R.rf) hq) hF (fun f3 rv3 h3 q4 R3 e3 E3 hF => ?_)
  refine s_pI R3 (t_50 R3.S) (Nat.le_of_ble_eq_true rfl) rfl (c_lit 1 1 rfl) ⟨by decide, by decide⟩ hF (fun h4 σ5 R4 T4 hF => ?_)
  refine s_kok R4 (t_50 R4.S) (Nat.le_of_ble_eq_true rfl) ?_
  refine s_call R4 (Nat.zero_le _) (fun _ hq => SX11_isLetter (b := 0) (R4.rf) hq) hF (fun f6 rv6 h6 q8 R6 e6 E6 hF => ?_)
  refine s_if (not_congr (i_eq e6.1 (c_lit 0 0 rfl) e6.2 ⟨by decide, by decide⟩)) hF (fun c7 hF => ?_) (fun c7 hF => ?_)
  ·
    exact SX11_name_b96 (N := N) hb R6 hF
  ·
    refine s_gI R6 (t_50 R6.S) (Nat.le_of_ble_eq_true rfl) rfl ?_
    refine s_gI R6 (t_50 R6.S) (Nat.le_of_ble_eq_true rfl) rfl ?_
    refine s_if (i_lt rfl rfl (R6.ri (t_50 R6.S) (Nat.le_of_ble_eq_true rfl) rfl) (R6.ri (t_50 R6.S) (Nat.le_of_ble_eq_true rfl) rfl)) hF (fun c10 hF => ?_) (fun c10 hF => ?_)
    ·
      exact SX11_name_b96 (N := N) hb R6 hF
    ·
      refine s_gO R6 (t_50 R6.S) (Nat.le_of_ble_eq_true rfl) rfl (o_50_1 R6.S) ?_
      refine s_gI R6 (t_50 R6.S) (Nat.le_of_ble_eq_true rfl) rfl ?_
      refine s_kok R6 (t_50 R6.S) (Nat.le_of_ble_eq_true rfl) ?_
      refine s_call R6 (Nat.zero_le _) (fun _ hq => SX11_character (b := 0) (R6.rf) rfl (R6.ri (t_50 R6.S) (Nat.le_of_ble_eq_true rfl) rfl) hq) hF (fun f14 rv14 h14 q20 R14 e14 E14 hF => ?_)
      refine s_kok R14 (t_44 R14.S) (Nat.le_of_ble_eq_true rfl) ?_
      refine s_tB R14 (Nat.zero_le _) (fun _ hq => SX10_add (b := 0) (R14.rf) e14.1 e14.2 hq) hF (fun f16 rv16 h16 x22 σ23 R16 e16 E16 hF => ?_)
      refine s_gO R16 (t_50 R16.S) (Nat.le_of_ble_eq_true rfl) rfl (o_50_2 R16.S) ?_
      refine s_gI R16 (t_50 R16.S) (Nat.le_of_ble_eq_true rfl) rfl ?_
      refine s_kok R16 (t_50 R16.S) (Nat.le_of_ble_eq_true rfl) ?_
      refine s_call R16 (Nat.zero_le _) (fun _ hq => SX11_character (b := 0) (R16.rf) rfl (R16.ri (t_50 R16.S) (Nat.le_of_ble_eq_true rfl) rfl) hq) hF (fun f20 rv20 h20 q29 R20 e20 E20 hF => ?_)
      refine s_kok R20 (t_23 R20.S) (Nat.le_of_ble_eq_true rfl) ?_
      refine s_call R20 (Nat.zero_le _) (fun _ hq => SX9_category (b := 0) (R20.rf) e20.1 e20.2 hq) hF (fun f22 rv22 h22 q31 R22 e22 E22 hF => ?_)
      refine s_if (not_congr (i_eq e22.1 (c_lit 10 10 rfl) e22.2 ⟨by decide, by decide⟩)) hF (fun c23 hF => ?_) (fun c23 hF => ?_)
      ·
        exact SX11_name_b71 (N := N) hb R22 (c_lit 1 1 rfl) ⟨by decide, by decide⟩ hF
      ·
        exact SX11_name_b71 (N := N) hb R22 (c_lit 2 2 rfl) ⟨by decide, by decide⟩ hF
def FX11_read_b229 (N : Nat) (K0 : fS → Option ((Int ⊕ Nat) × fS)) (s : fS) : Option ((Int ⊕ Nat) × fS) :=
  K0 s
theorem SX11_read_b229 {m b : Nat} {φ0 : Nat → Nat} {σo : fS} (hb : 1 ≤ b) {N : Nat} {k0 : Nat → eH → Option ((Int32 ⊕ Nat) × eH)} {K0 : fS → Option ((Int ⊕ Nat) × fS)} {q : (Int ⊕ Nat) × fS} (hk0 : ∀ {φ : Nat → Nat} {h : eH} {s : fS} , fC m b φ0 σo φ h s → K0 s = some q → gG m b φ0 σo (lT lI) q (k0 50 h)) {φ : Nat → Nat} {h : eH} {s : fS} (R : fC m b φ0 σo φ h s) (hF : FX11_read_b229 N K0 s = some q) : gG m b φ0 σo (lT lI) q (fX11_read_b229 N k0 50 h) := by
  unfold FX11_read_b229 at hF
  unfold fX11_read_b229
  exact hk0 R hF
def FX11_read_b20 (N : Nat) (K0 : fS → Option ((Int ⊕ Nat) × fS)) (s : fS) : Option ((Int ⊕ Nat) × fS) :=
  (uPI s 50 6 (iadd (s.i 50 6) 1)).bind fun σ3 =>
  (FX11_character (s.i 50 6) σ3).bind fun q6 =>
  (FX9_category q6.1 q6.2).bind fun q10 =>
  if q10.1 = 0 then
    tB (FX11_name N q10.2) fun x13 σ14 =>
    some (.inl x13, σ14)
  else
    if q10.1 = 1 then
      (uPI q10.2 50 8 1).bind fun σ16 =>
      some (.inl (ior (ishl q10.1 8) q6.1), σ16)
    else
      if q10.1 = 2 then
        (uPI q10.2 50 8 1).bind fun σ19 =>
        some (.inl (ior (ishl q10.1 8) q6.1), σ19)
      else
        if q10.1 = 3 then
          (uPI q10.2 50 8 1).bind fun σ22 =>
          some (.inl (ior (ishl q10.1 8) q6.1), σ22)
        else
          if q10.1 = 4 then
            (uPI q10.2 50 8 1).bind fun σ25 =>
            some (.inl (ior (ishl q10.1 8) q6.1), σ25)
          else
            if q10.1 = 5 then
              (uPI q10.2 50 6 (iadd (q10.2.i 50 7) 1)).bind fun σ30 =>
              if ¬ ((σ30.i 50 8) = 0) then
                if ¬ ((σ30.i 50 8) = 1) then
                  FX11_read_b229 N K0 σ30
                else
                  some (.inl 2592, σ30)
              else
                some (.inl 4375, σ30)
            else
              if q10.1 = 6 then
                (uPI q10.2 50 8 1).bind fun σ39 =>
                some (.inl (ior (ishl q10.1 8) q6.1), σ39)
              else
                if q10.1 = 7 then
                  (uPI q10.2 50 8 1).bind fun σ42 =>
                  some (.inl (ior (ishl q10.1 8) q6.1), σ42)
                else
                  if q10.1 = 8 then
                    (uPI q10.2 50 8 1).bind fun σ45 =>
                    some (.inl (ior (ishl q10.1 8) q6.1), σ45)
                  else
                    if q10.1 = 9 then
                      FX11_read_b229 N K0 q10.2
                    else
                      if q10.1 = 10 then
                        if ¬ ((q10.2.i 50 8) = 1) then
                          FX11_read_b229 N K0 q10.2
                        else
                          (uPI q10.2 50 8 2).bind fun σ52 =>
                          some (.inl 2592, σ52)
                      else
                        if q10.1 = 11 then
                          (uPI q10.2 50 8 1).bind fun σ55 =>
                          some (.inl (ior (ishl q10.1 8) q6.1), σ55)
                        else
                          if q10.1 = 12 then
                            (uPI q10.2 50 8 1).bind fun σ58 =>
                            some (.inl (ior (ishl q10.1 8) q6.1), σ58)
                          else
                            if q10.1 = 13 then
                              (uPI q10.2 50 8 1).bind fun σ61 =>
                              some (.inl (iadd 4096 q6.1), σ61)
                            else
                              if q10.1 = 14 then
                                (uPI q10.2 50 6 (iadd (q10.2.i 50 7) 1)).bind fun σ66 =>
                                FX11_read_b229 N K0 σ66
                              else
                                if q10.1 = 15 then
                                  tB (FX4_fail 1 q10.2) fun x72 σ73 =>
                                  FX11_read_b229 N K0 σ73
                                else
                                  (uPI q10.2 50 8 1).bind fun σ74 =>
                                  some (.inl (ior (ishl q10.1 8) q6.1), σ74)
theorem SX11_read_b20 {m b : Nat} {φ0 : Nat → Nat} {σo : fS} (hb : 1 ≤ b) {N : Nat} {k0 : Nat → eH → Option ((Int32 ⊕ Nat) × eH)} {K0 : fS → Option ((Int ⊕ Nat) × fS)} {q : (Int ⊕ Nat) × fS} (hk0 : ∀ {φ : Nat → Nat} {h : eH} {s : fS} , fC m b φ0 σo φ h s → K0 s = some q → gG m b φ0 σo (lT lI) q (k0 50 h)) {φ : Nat → Nat} {h : eH} {s : fS} (R : fC m b φ0 σo φ h s) (hF : FX11_read_b20 N K0 s = some q) : gG m b φ0 σo (lT lI) q (fX11_read_b20 N k0 50 h) := by
  unfold FX11_read_b20 at hF
  unfold fX11_read_b20
  refine s_gI R (t_50 R.S) (Nat.le_of_ble_eq_true rfl) rfl ?_
  refine s_pI R (t_50 R.S) (Nat.le_of_ble_eq_true rfl) rfl (c_add rfl (c_lit 1 1 rfl)) (rr_I _) hF (fun h2 σ3 R2 T2 hF => ?_)
  refine s_kok R2 (t_50 R2.S) (Nat.le_of_ble_eq_true rfl) ?_
  refine s_call R2 (Nat.zero_le _) (fun _ hq => SX11_character (b := 0) (R2.rf) rfl (R.ri (t_50 R.S) (Nat.le_of_ble_eq_true rfl) rfl) hq) hF (fun f4 rv4 h4 q6 R4 e4 E4 hF => ?_)
  refine s_gO R4 (t_50 R4.S) (Nat.le_of_ble_eq_true rfl) rfl (o_50_2 R4.S) ?_
  refine s_kok R4 (t_23 R4.S) (Nat.le_of_ble_eq_true rfl) ?_
  refine s_call R4 (Nat.zero_le _) (fun _ hq => SX9_category (b := 0) (R4.rf) e4.1 e4.2 hq) hF (fun f7 rv7 h7 q10 R7 e7 E7 hF => ?_)
  refine s_if (i_eq e7.1 (c_lit 0 0 rfl) e7.2 ⟨by decide, by decide⟩) hF (fun c8 hF => ?_) (fun c8 hF => ?_)
  ·
    refine s_kok R7 (t_50 R7.S) (Nat.le_of_ble_eq_true rfl) ?_
    refine s_tB R7 hb (fun _ hq => SX11_name (b := 1) (N := N) (Nat.le_of_ble_eq_true rfl) (R7.rf) hq) hF (fun f10 rv10 h10 x13 σ14 R10 e10 E10 hF => ?_)
    exact g_ret R10 hF ⟨e10.1, e10.2⟩
  ·
    refine s_if (i_eq e7.1 (c_lit 1 1 rfl) e7.2 ⟨by decide, by decide⟩) hF (fun c11 hF => ?_) (fun c11 hF => ?_)
    ·
      refine s_pI R7 (t_50 R7.S) (Nat.le_of_ble_eq_true rfl) rfl (c_lit 1 1 rfl) ⟨by decide, by decide⟩ hF (fun h12 σ16 R12 T12 hF => ?_)
      exact g_ret R12 hF ⟨(c_or (c_shl e7.1 (c_lit 8 8 rfl)) e4.1), (rr_I _)⟩
    ·
      refine s_if (i_eq e7.1 (c_lit 2 2 rfl) e7.2 ⟨by decide, by decide⟩) hF (fun c13 hF => ?_) (fun c13 hF => ?_)
      ·
        refine s_pI R7 (t_50 R7.S) (Nat.le_of_ble_eq_true rfl) rfl (c_lit 1 1 rfl) ⟨by decide, by decide⟩ hF (fun h14 σ19 R14 T14 hF => ?_)
        exact g_ret R14 hF ⟨(c_or (c_shl e7.1 (c_lit 8 8 rfl)) e4.1), (rr_I _)⟩
      ·
        refine s_if (i_eq e7.1 (c_lit 3 3 rfl) e7.2 ⟨by decide, by decide⟩) hF (fun c15 hF => ?_) (fun c15 hF => ?_)
        ·
          refine s_pI R7 (t_50 R7.S) (Nat.le_of_ble_eq_true rfl) rfl (c_lit 1 1 rfl) ⟨by decide, by decide⟩ hF (fun h16 σ22 R16 T16 hF => ?_)
          exact g_ret R16 hF ⟨(c_or (c_shl e7.1 (c_lit 8 8 rfl)) e4.1), (rr_I _)⟩
        ·
          refine s_if (i_eq e7.1 (c_lit 4 4 rfl) e7.2 ⟨by decide, by decide⟩) hF (fun c17 hF => ?_) (fun c17 hF => ?_)
          ·
            refine s_pI R7 (t_50 R7.S) (Nat.le_of_ble_eq_true rfl) rfl (c_lit 1 1 rfl) ⟨by decide, by decide⟩ hF (fun h18 σ25 R18 T18 hF => ?_)
            exact g_ret R18 hF ⟨(c_or (c_shl e7.1 (c_lit 8 8 rfl)) e4.1), (rr_I _)⟩
          ·
            refine s_if (i_eq e7.1 (c_lit 5 5 rfl) e7.2 ⟨by decide, by decide⟩) hF (fun c19 hF => ?_) (fun c19 hF => ?_)
            ·
              refine s_gI R7 (t_50 R7.S) (Nat.le_of_ble_eq_true rfl) rfl ?_
              refine s_pI R7 (t_50 R7.S) (Nat.le_of_ble_eq_true rfl) rfl (c_add rfl (c_lit 1 1 rfl)) (rr_I _) hF (fun h21 σ30 R21 T21 hF => ?_)
              refine s_gI R21 (t_50 R21.S) (Nat.le_of_ble_eq_true rfl) rfl ?_
              refine s_if (not_congr (i_eq rfl (c_lit 0 0 rfl) (R21.ri (t_50 R21.S) (Nat.le_of_ble_eq_true rfl) rfl) ⟨by decide, by decide⟩)) hF (fun c23 hF => ?_) (fun c23 hF => ?_)
              ·
                refine s_gI R21 (t_50 R21.S) (Nat.le_of_ble_eq_true rfl) rfl ?_
                refine s_if (not_congr (i_eq rfl (c_lit 1 1 rfl) (R21.ri (t_50 R21.S) (Nat.le_of_ble_eq_true rfl) rfl) ⟨by decide, by decide⟩)) hF (fun c25 hF => ?_) (fun c25 hF => ?_)
                ·
                  exact SX11_read_b229 (N := N) (k0 := k0) (K0 := K0) hb @hk0 R21 hF
                ·
                  exact g_ret R21 hF ⟨(c_lit 2592 2592 rfl), ⟨by decide, by decide⟩⟩
              ·
                exact g_ret R21 hF ⟨(c_lit 4375 4375 rfl), ⟨by decide, by decide⟩⟩
            ·
              refine s_if (i_eq e7.1 (c_lit 6 6 rfl) e7.2 ⟨by decide, by decide⟩) hF (fun c26 hF => ?_) (fun c26 hF => ?_)
              ·
                refine s_pI R7 (t_50 R7.S) (Nat.le_of_ble_eq_true rfl) rfl (c_lit 1 1 rfl) ⟨by decide, by decide⟩ hF (fun h27 σ39 R27 T27 hF => ?_)
                exact g_ret R27 hF ⟨(c_or (c_shl e7.1 (c_lit 8 8 rfl)) e4.1), (rr_I _)⟩
              ·
                refine s_if (i_eq e7.1 (c_lit 7 7 rfl) e7.2 ⟨by decide, by decide⟩) hF (fun c28 hF => ?_) (fun c28 hF => ?_)
                ·
                  refine s_pI R7 (t_50 R7.S) (Nat.le_of_ble_eq_true rfl) rfl (c_lit 1 1 rfl) ⟨by decide, by decide⟩ hF (fun h29 σ42 R29 T29 hF => ?_)
                  exact g_ret R29 hF ⟨(c_or (c_shl e7.1 (c_lit 8 8 rfl)) e4.1), (rr_I _)⟩
                ·
                  refine s_if (i_eq e7.1 (c_lit 8 8 rfl) e7.2 ⟨by decide, by decide⟩) hF (fun c30 hF => ?_) (fun c30 hF => ?_)
                  ·
                    refine s_pI R7 (t_50 R7.S) (Nat.le_of_ble_eq_true rfl) rfl (c_lit 1 1 rfl) ⟨by decide, by decide⟩ hF (fun h31 σ45 R31 T31 hF => ?_)
                    exact g_ret R31 hF ⟨(c_or (c_shl e7.1 (c_lit 8 8 rfl)) e4.1), (rr_I _)⟩
                  ·
                    refine s_if (i_eq e7.1 (c_lit 9 9 rfl) e7.2 ⟨by decide, by decide⟩) hF (fun c32 hF => ?_) (fun c32 hF => ?_)
                    ·
                      exact SX11_read_b229 (N := N) (k0 := k0) (K0 := K0) hb @hk0 R7 hF
                    ·
                      refine s_if (i_eq e7.1 (c_lit 10 10 rfl) e7.2 ⟨by decide, by decide⟩) hF (fun c33 hF => ?_) (fun c33 hF => ?_)
                      ·
                        refine s_gI R7 (t_50 R7.S) (Nat.le_of_ble_eq_true rfl) rfl ?_
                        refine s_if (not_congr (i_eq rfl (c_lit 1 1 rfl) (R7.ri (t_50 R7.S) (Nat.le_of_ble_eq_true rfl) rfl) ⟨by decide, by decide⟩)) hF (fun c35 hF => ?_) (fun c35 hF => ?_)
                        ·
                          exact SX11_read_b229 (N := N) (k0 := k0) (K0 := K0) hb @hk0 R7 hF
                        ·
                          refine s_pI R7 (t_50 R7.S) (Nat.le_of_ble_eq_true rfl) rfl (c_lit 2 2 rfl) ⟨by decide, by decide⟩ hF (fun h36 σ52 R36 T36 hF => ?_)
                          exact g_ret R36 hF ⟨(c_lit 2592 2592 rfl), ⟨by decide, by decide⟩⟩
                      ·
                        refine s_if (i_eq e7.1 (c_lit 11 11 rfl) e7.2 ⟨by decide, by decide⟩) hF (fun c37 hF => ?_) (fun c37 hF => ?_)
                        ·
                          refine s_pI R7 (t_50 R7.S) (Nat.le_of_ble_eq_true rfl) rfl (c_lit 1 1 rfl) ⟨by decide, by decide⟩ hF (fun h38 σ55 R38 T38 hF => ?_)
                          exact g_ret R38 hF ⟨(c_or (c_shl e7.1 (c_lit 8 8 rfl)) e4.1), (rr_I _)⟩
                        ·
                          refine s_if (i_eq e7.1 (c_lit 12 12 rfl) e7.2 ⟨by decide, by decide⟩) hF (fun c39 hF => ?_) (fun c39 hF => ?_)
                          ·
                            refine s_pI R7 (t_50 R7.S) (Nat.le_of_ble_eq_true rfl) rfl (c_lit 1 1 rfl) ⟨by decide, by decide⟩ hF (fun h40 σ58 R40 T40 hF => ?_)
                            exact g_ret R40 hF ⟨(c_or (c_shl e7.1 (c_lit 8 8 rfl)) e4.1), (rr_I _)⟩
                          ·
                            refine s_if (i_eq e7.1 (c_lit 13 13 rfl) e7.2 ⟨by decide, by decide⟩) hF (fun c41 hF => ?_) (fun c41 hF => ?_)
                            ·
                              refine s_pI R7 (t_50 R7.S) (Nat.le_of_ble_eq_true rfl) rfl (c_lit 1 1 rfl) ⟨by decide, by decide⟩ hF (fun h42 σ61 R42 T42 hF => ?_)
                              exact g_ret R42 hF ⟨(c_add (c_lit 4096 4096 rfl) e4.1), (rr_I _)⟩
                            ·
                              refine s_if (i_eq e7.1 (c_lit 14 14 rfl) e7.2 ⟨by decide, by decide⟩) hF (fun c43 hF => ?_) (fun c43 hF => ?_)
                              ·
                                refine s_gI R7 (t_50 R7.S) (Nat.le_of_ble_eq_true rfl) rfl ?_
                                refine s_pI R7 (t_50 R7.S) (Nat.le_of_ble_eq_true rfl) rfl (c_add rfl (c_lit 1 1 rfl)) (rr_I _) hF (fun h45 σ66 R45 T45 hF => ?_)
                                exact SX11_read_b229 (N := N) (k0 := k0) (K0 := K0) hb @hk0 R45 hF
                              ·
                                refine s_if (i_eq e7.1 (c_lit 15 15 rfl) e7.2 ⟨by decide, by decide⟩) hF (fun c46 hF => ?_) (fun c46 hF => ?_)
                                ·
                                  refine s_gO R7 (t_50 R7.S) (Nat.le_of_ble_eq_true rfl) rfl (o_50_0 R7.S) ?_
                                  refine s_kok R7 (t_5 R7.S) (Nat.le_of_ble_eq_true rfl) ?_
                                  refine s_tB R7 (Nat.zero_le _) (fun _ hq => SX4_fail (b := 0) (R7.rf) (c_lit 1 1 rfl) ⟨by decide, by decide⟩ hq) hF (fun f49 rv49 h49 x72 σ73 R49 e49 E49 hF => ?_)
                                  exact SX11_read_b229 (N := N) (k0 := k0) (K0 := K0) hb @hk0 R49 hF
                                ·
                                  refine s_pI R7 (t_50 R7.S) (Nat.le_of_ble_eq_true rfl) rfl (c_lit 1 1 rfl) ⟨by decide, by decide⟩ hF (fun h50 σ74 R50 T50 hF => ?_)
                                  exact g_ret R50 hF ⟨(c_or (c_shl e7.1 (c_lit 8 8 rfl)) e4.1), (rr_I _)⟩
def FX11_read_b0 (N : Nat) : Nat → fS → Option ((Int ⊕ Nat) × fS)
  | 0, _ => none
  | n + 1, s =>
    if (s.i 50 6) ≤ (s.i 50 7) then
      FX11_read_b20 N (FX11_read_b0 N n) s
    else
      (FX11_nextLine N s).bind fun q7 =>
      if ¬ (q7.1 = 0) then
        FX11_read_b20 N (FX11_read_b0 N n) q7.2
      else
        some (.inl (-1), q7.2)
theorem SX11_read_b0 {m b : Nat} {φ0 : Nat → Nat} {σo : fS} (hb : 1 ≤ b) {N : Nat} {q : (Int ⊕ Nat) × fS} : ∀ {n : Nat} {φ : Nat → Nat} {h : eH} {s : fS} , fC m b φ0 σo φ h s → FX11_read_b0 N n s = some q → gG m b φ0 σo (lT lI) q (fX11_read_b0 N n 50 h) := by
  intro n
  induction n with
 | zero => intro φ h s R hF; simp [FX11_read_b0] at hF
  | succ n ih =>
    intro φ h s  R  hF
    rw [FX11_read_b0] at hF
    rw [fX11_read_b0]
    refine s_gI R (t_50 R.S) (Nat.le_of_ble_eq_true rfl) rfl ?_
    refine s_gI R (t_50 R.S) (Nat.le_of_ble_eq_true rfl) rfl ?_
    refine s_if (i_le rfl rfl (R.ri (t_50 R.S) (Nat.le_of_ble_eq_true rfl) rfl) (R.ri (t_50 R.S) (Nat.le_of_ble_eq_true rfl) rfl)) hF (fun c3 hF => ?_) (fun c3 hF => ?_)
    ·
      exact SX11_read_b20 (N := N) (k0 := fX11_read_b0 N n) (K0 := FX11_read_b0 N n) hb @ih R hF
    ·
      refine s_kok R (t_50 R.S) (Nat.le_of_ble_eq_true rfl) ?_
      refine s_call R (Nat.zero_le _) (fun _ hq => SX11_nextLine (b := 0) (N := N) (R.rf) hq) hF (fun f5 rv5 h5 q7 R5 e5 E5 hF => ?_)
      refine s_if (not_congr (i_eq e5.1 (c_lit 0 0 rfl) e5.2 ⟨by decide, by decide⟩)) hF (fun c6 hF => ?_) (fun c6 hF => ?_)
      ·
        exact SX11_read_b20 (N := N) (k0 := fX11_read_b0 N n) (K0 := FX11_read_b0 N n) hb @ih R5 hF
      ·
        exact g_ret R5 hF ⟨(c_lit (-1) (-1) rfl), ⟨by decide, by decide⟩⟩
def FX11_read (N : Nat) (s : fS) : Option ((Int ⊕ Nat) × fS) :=
  FX11_read_b0 N N s
theorem SX11_read {m b : Nat} {φ0 : Nat → Nat} {σo : fS} (hb : 1 ≤ b) {N : Nat} {q : (Int ⊕ Nat) × fS} {φ : Nat → Nat} {h : eH} {s : fS} (R : fC m b φ0 σo φ h s) (hF : FX11_read N s = some q) : gG m b φ0 σo (lT lI) q (fX11_read N 50 h) := by
  unfold FX11_read at hF
  unfold fX11_read
  exact SX11_read_b0 (N := N) hb R hF
def FX13_get_b33 (N : Nat) (s0 : Int) (s : fS) : Option ((Int ⊕ Nat) × fS) :=
  some (.inl s0, s)
theorem SX13_get_b33 {m b : Nat} {φ0 : Nat → Nat} {σo : fS} {N : Nat} {q : (Int ⊕ Nat) × fS} {φ : Nat → Nat} {h : eH} {s : fS} {s0' : Int32} {s0 : Int} (R : fC m b φ0 σo φ h s) (es0 : s0' = iI s0) (rs0 : r32 s0) (hF : FX13_get_b33 N s0 s = some q) : gG m b φ0 σo (lT lI) q (fX13_get_b33 N s0' h) := by
  subst es0
  unfold FX13_get_b33 at hF
  unfold fX13_get_b33
  exact g_ret R hF ⟨rfl, rs0⟩
def FX13_get (N : Nat) (s : fS) : Option ((Int ⊕ Nat) × fS) :=
  if (s.i 58 3) ≤ 0 then
    tB (FX11_read N s) fun x7 σ8 =>
    FX13_get_b33 N x7 σ8
  else
    (uPI s 58 3 (isub (s.i 58 3) 1)).bind fun σ13 =>
    (uRI σ13 59 (isub (s.i 58 3) 1)).bind fun x15 =>
    FX13_get_b33 N x15 σ13
theorem SX13_get {m b : Nat} {φ0 : Nat → Nat} {σo : fS} (hb : 1 ≤ b) {N : Nat} {q : (Int ⊕ Nat) × fS} {φ : Nat → Nat} {h : eH} {s : fS} (R : fC m b φ0 σo φ h s) (hF : FX13_get N s = some q) : gG m b φ0 σo (lT lI) q (fX13_get N 58 h) := by
  unfold FX13_get at hF
  unfold fX13_get
  refine s_gI R (t_58 R.S) (Nat.le_of_ble_eq_true rfl) rfl ?_
  refine s_if (i_le rfl (c_lit 0 0 rfl) (R.ri (t_58 R.S) (Nat.le_of_ble_eq_true rfl) rfl) ⟨by decide, by decide⟩) hF (fun c2 hF => ?_) (fun c2 hF => ?_)
  ·
    refine s_gO R (t_58 R.S) (Nat.le_of_ble_eq_true rfl) rfl (o_58_1 R.S) ?_
    refine s_kok R (t_50 R.S) (Nat.le_of_ble_eq_true rfl) ?_
    refine s_tB R hb (fun _ hq => SX11_read (b := 1) (N := N) (Nat.le_of_ble_eq_true rfl) (R.rf) hq) hF (fun f5 rv5 h5 x7 σ8 R5 e5 E5 hF => ?_)
    exact SX13_get_b33 (N := N) R5 e5.1 e5.2 hF
  ·
    refine s_gA R (t_58 R.S) (Nat.le_of_ble_eq_true rfl) rfl (o_58_2 R.S) (fun _ _ => ?_)
    refine s_gI R (t_58 R.S) (Nat.le_of_ble_eq_true rfl) rfl ?_
    refine s_pI R (t_58 R.S) (Nat.le_of_ble_eq_true rfl) rfl (c_sub rfl (c_lit 1 1 rfl)) (rr_I _) hF (fun h8 σ13 R8 T8 hF => ?_)
    refine s_rI R8 (u_59 R8.S).1 (u_59 R8.S).2 (by decide) rfl (c_sub rfl (c_lit 1 1 rfl)) (rr_I _) hF (fun x15 ra9 hF => ?_)
    exact SX13_get_b33 (N := N) R8 rfl ra9 hF
def FX9_reach (p0 : Int) (s : fS) : Option (Unit × fS) :=
  (FX1_grown 24 p0 s).bind fun q3 =>
  (uMV q3.2 24 q3.1).bind fun σ4 =>
  (FX1_grown 25 p0 σ4).bind fun q8 =>
  (uMV q8.2 25 q8.1).bind fun σ9 =>
  (FX1_grown 26 p0 σ9).bind fun q13 =>
  (uMV q13.2 26 q13.1).bind fun σ14 =>
  (FX1_grown 31 p0 σ14).bind fun q18 =>
  (uMV q18.2 31 q18.1).bind fun σ19 =>
  some ((), σ19)
theorem SX9_reach {m b : Nat} {φ0 : Nat → Nat} {σo : fS} (hb : 2 ≤ b) {q : Unit × fS} {φ : Nat → Nat} {h : eH} {s : fS} {p0' : Int32} {p0 : Int} (R : fC m b φ0 σo φ h s) (ep0 : p0' = iI p0) (rp0 : r32 p0) (hF : FX9_reach p0 s = some q) : gG m b φ0 σo lU q (fX9_reach 23 p0' h) := by
  subst ep0
  unfold FX9_reach at hF
  unfold fX9_reach
  refine s_gA R (t_23 R.S) (Nat.le_of_ble_eq_true rfl) rfl (o_23_0 R.S) (fun _ _ => ?_)
  refine s_call R (Nat.zero_le _) (fun _ hq => SX1_grown (b := 0) (R.rf) rfl (u_24 R.S).1 rfl rp0 hq) hF (fun f2 rv2 h2 q3 R2 e2 E2 hF => ?_)
  refine s_mv R2 (t_23 R2.S) (Nat.le_of_ble_eq_true rfl) rfl (o_23_0 R2.S) (by decide) (f_mv_1 (Nat.le_trans (Nat.le_of_ble_eq_true rfl) hb) (by decide) (by decide)) e2 hF (fun f3 h3 σ4 R3 E3 K3 hF => ?_)
  refine s_gA R3 (t_23 R3.S) (Nat.le_of_ble_eq_true rfl) rfl (o_23_1 R3.S) (fun _ _ => ?_)
  refine s_call R3 (Nat.zero_le _) (fun _ hq => SX1_grown (b := 0) (R3.rf) rfl (u_25 R3.S).1 rfl rp0 hq) hF (fun f5 rv5 h5 q8 R5 e5 E5 hF => ?_)
  refine s_mv R5 (t_23 R5.S) (Nat.le_of_ble_eq_true rfl) rfl (o_23_1 R5.S) (by decide) (f_mv_1 (Nat.le_trans (Nat.le_of_ble_eq_true rfl) hb) (by decide) (by decide)) e5 hF (fun f6 h6 σ9 R6 E6 K6 hF => ?_)
  refine s_gA R6 (t_23 R6.S) (Nat.le_of_ble_eq_true rfl) rfl (o_23_2 R6.S) (fun _ _ => ?_)
  refine s_call R6 (Nat.zero_le _) (fun _ hq => SX1_grown (b := 0) (R6.rf) rfl (u_26 R6.S).1 rfl rp0 hq) hF (fun f8 rv8 h8 q13 R8 e8 E8 hF => ?_)
  refine s_mv R8 (t_23 R8.S) (Nat.le_of_ble_eq_true rfl) rfl (o_23_2 R8.S) (by decide) (f_mv_1 (Nat.le_trans (Nat.le_of_ble_eq_true rfl) hb) (by decide) (by decide)) e8 hF (fun f9 h9 σ14 R9 E9 K9 hF => ?_)
  refine s_gA R9 (t_23 R9.S) (Nat.le_of_ble_eq_true rfl) rfl (o_23_8 R9.S) (fun _ _ => ?_)
  refine s_call R9 (Nat.zero_le _) (fun _ hq => SX1_grown (b := 0) (R9.rf) rfl (u_31 R9.S).1 rfl rp0 hq) hF (fun f11 rv11 h11 q18 R11 e11 E11 hF => ?_)
  refine s_mv R11 (t_23 R11.S) (Nat.le_of_ble_eq_true rfl) rfl (o_23_8 R11.S) (by decide) (f_mv_2 hb (by decide) (by decide)) e11 hF (fun f12 h12 σ19 R12 E12 K12 hF => ?_)
  exact g_ret R12 hF trivial
