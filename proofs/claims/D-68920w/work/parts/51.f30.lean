set_option maxRecDepth 100000
set_option maxHeartbeats 4000000
def FX8_target_b38 (N : Nat) (l1 : Int) (s1 : Int) (s : fS) : Option ((Int ⊕ Nat) × fS) :=
  tB (FX4_want s1 6 s) fun x2 σ3 =>
  (FX8_bare l1 σ3).bind fun q4 =>
  some (.inl (isub q4.1 4096), q4.2)
theorem SX8_target_b38 {m b : Nat} {φ0 : Nat → Nat} {σo : fS} {N : Nat} {q : (Int ⊕ Nat) × fS} {φ : Nat → Nat} {h : eH} {s : fS} {l1' : Int32} {l1 : Int} {s1' : Int32} {s1 : Int} (R : fC m b φ0 σo φ h s) (el1 : l1' = iI l1) (rl1 : r32 l1) (es1 : s1' = iI s1) (rs1 : r32 s1) (hF : FX8_target_b38 N l1 s1 s = some q) : gG m b φ0 σo (lT lI) q (fX8_target_b38 N l1' 5 s1' h) := by
  subst el1; subst es1
  unfold FX8_target_b38 at hF
  unfold fX8_target_b38
  refine s_kok R (t_5 R.S) (Nat.le_of_ble_eq_true rfl) ?_
  refine s_tB R (Nat.zero_le _) (fun _ hq => SX4_want (b := 0) (R.rf) rfl rs1 (c_lit 6 6 rfl) ⟨by decide, by decide⟩ hq) hF (fun f2 rv2 h2 x2 σ3 R2 e2 E2 hF => ?_)
  refine s_call R2 (Nat.zero_le _) (fun _ hq => SX8_bare (b := 0) (R2.rf) rfl rl1 hq) hF (fun f3 rv3 h3 q4 R3 e3 E3 hF => ?_)
  exact g_ret R3 hF ⟨(c_sub e3.1 (c_lit 4096 4096 rfl)), (rr_I _)⟩
def FX8_target_b5 (N : Nat) : Nat → Int → fS → Option ((Int ⊕ Nat) × fS)
  | 0, _, _ => none
  | n + 1, l1, s =>
    (FX1_is l1 10 s).bind fun q1 =>
    if q1.1 = 0 then
      (FX1_isCharacter l1 q1.2).bind fun q5 =>
      if ¬ (q5.1 = 0) then
        FX8_target_b38 N l1 0 q5.2
      else
        FX8_target_b38 N l1 1 q5.2
    else
      tB (FX8_need N q1.2) fun x8 σ9 =>
      FX8_target_b5 N n x8 σ9
theorem SX8_target_b5 {m b : Nat} {φ0 : Nat → Nat} {σo : fS} (hb : 2 ≤ b) {N : Nat} {q : (Int ⊕ Nat) × fS} : ∀ {n : Nat} {φ : Nat → Nat} {h : eH} {s : fS} {l1' : Int32} {l1 : Int}, fC m b φ0 σo φ h s → l1' = iI l1 → r32 l1 → FX8_target_b5 N n l1 s = some q → gG m b φ0 σo (lT lI) q (fX8_target_b5 N n 22 l1' h) := by
  intro n
  induction n with
 | zero => intro φ h s l1' l1 R el1 rl1 hF; simp [FX8_target_b5] at hF
  | succ n ih =>
    intro φ h s l1' l1 R el1 rl1 hF
    subst el1
    rw [FX8_target_b5] at hF
    rw [fX8_target_b5]
    refine s_call R (Nat.zero_le _) (fun _ hq => SX1_is (b := 0) (R.rf) rfl rl1 (c_lit 10 10 rfl) ⟨by decide, by decide⟩ hq) hF (fun f1 rv1 h1 q1 R1 e1 E1 hF => ?_)
    refine s_if (i_eq e1.1 (c_lit 0 0 rfl) e1.2 ⟨by decide, by decide⟩) hF (fun c2 hF => ?_) (fun c2 hF => ?_)
    ·
      refine s_gO R1 (t_22 R1.S) (Nat.le_of_ble_eq_true rfl) rfl (o_22_0 R1.S) ?_
      refine s_call R1 (Nat.zero_le _) (fun _ hq => SX1_isCharacter (b := 0) (R1.rf) rfl rl1 hq) hF (fun f4 rv4 h4 q5 R4 e4 E4 hF => ?_)
      refine s_if (not_congr (i_eq e4.1 (c_lit 0 0 rfl) e4.2 ⟨by decide, by decide⟩)) hF (fun c5 hF => ?_) (fun c5 hF => ?_)
      ·
        exact SX8_target_b38 (N := N) R4 rfl rl1 (c_lit 0 0 rfl) ⟨by decide, by decide⟩ hF
      ·
        exact SX8_target_b38 (N := N) R4 rfl rl1 (c_lit 1 1 rfl) ⟨by decide, by decide⟩ hF
    ·
      refine s_kok R1 (t_22 R1.S) (Nat.le_of_ble_eq_true rfl) ?_
      refine s_tB R1 hb (fun _ hq => SX8_need (b := 2) (N := N) (Nat.le_of_ble_eq_true rfl) (R1.rf) hq) hF (fun f7 rv7 h7 x8 σ9 R7 e7 E7 hF => ?_)
      exact ih R7 e7.1 e7.2 hF
def FX8_target (N : Nat) (s : fS) : Option ((Int ⊕ Nat) × fS) :=
  tB (FX8_need N s) fun x2 σ3 =>
  FX8_target_b5 N N x2 σ3
theorem SX8_target {m b : Nat} {φ0 : Nat → Nat} {σo : fS} (hb : 2 ≤ b) {N : Nat} {q : (Int ⊕ Nat) × fS} {φ : Nat → Nat} {h : eH} {s : fS} (R : fC m b φ0 σo φ h s) (hF : FX8_target N s = some q) : gG m b φ0 σo (lT lI) q (fX8_target N 22 h) := by
  unfold FX8_target at hF
  unfold fX8_target
  refine s_kok R (t_22 R.S) (Nat.le_of_ble_eq_true rfl) ?_
  refine s_tB R hb (fun _ hq => SX8_need (b := 2) (N := N) (Nat.le_of_ble_eq_true rfl) (R.rf) hq) hF (fun f2 rv2 h2 x2 σ3 R2 e2 E2 hF => ?_)
  exact SX8_target_b5 (N := N) hb R2 e2.1 e2.2 hF
def FX1_other_b13 (l0 : Int) (s0 : Int) (s : fS) : Option (Int × fS) :=
  some ((ior (ishl s0 8) l0), s)
theorem SX1_other_b13 {m b : Nat} {φ0 : Nat → Nat} {σo : fS} {q : Int × fS} {φ : Nat → Nat} {h : eH} {s : fS} {l0' : Int32} {l0 : Int} {s0' : Int32} {s0 : Int} (R : fC m b φ0 σo φ h s) (el0 : l0' = iI l0) (rl0 : r32 l0) (es0 : s0' = iI s0) (rs0 : r32 s0) (hF : FX1_other_b13 l0 s0 s = some q) : gG m b φ0 σo lI q (fX1_other_b13 l0' s0' h) := by
  subst el0; subst es0
  unfold FX1_other_b13 at hF
  unfold fX1_other_b13
  exact g_ret R hF ⟨(c_or (c_shl rfl (c_lit 8 8 rfl)) rfl), (rr_I _)⟩
def FX1_other (p0 : Int) (s : fS) : Option (Int × fS) :=
  if ¬ (p0 = 32) then
    FX1_other_b13 p0 12 s
  else
    FX1_other_b13 p0 10 s
theorem SX1_other {m b : Nat} {φ0 : Nat → Nat} {σo : fS} {q : Int × fS} {φ : Nat → Nat} {h : eH} {s : fS} {p0' : Int32} {p0 : Int} (R : fC m b φ0 σo φ h s) (ep0 : p0' = iI p0) (rp0 : r32 p0) (hF : FX1_other p0 s = some q) : gG m b φ0 σo lI q (fX1_other p0' h) := by
  subst ep0
  unfold FX1_other at hF
  unfold fX1_other
  refine s_if (not_congr (i_eq rfl (c_lit 32 32 rfl) rp0 ⟨by decide, by decide⟩)) hF (fun c1 hF => ?_) (fun c1 hF => ?_)
  ·
    exact SX1_other_b13 R rfl rp0 (c_lit 12 12 rfl) ⟨by decide, by decide⟩ hF
  ·
    exact SX1_other_b13 R rfl rp0 (c_lit 10 10 rfl) ⟨by decide, by decide⟩ hF
def FX8_let_b55 (N : Nat) (l1 : Int) (l2 : Int) (l3 : Int) (s : fS) : Option ((Unit ⊕ Nat) × fS) :=
  (FX8_kind l3 s).bind fun q4 =>
  (FX8_value l3 q4.2).bind fun q6 =>
  (FX9_mean N l2 q4.1 q6.1 l1 q6.2).bind fun q8 =>
  some (.inl (), q8.2)
theorem SX8_let_b55 {m b : Nat} {φ0 : Nat → Nat} {σo : fS} (hb : 1 ≤ b) {N : Nat} {q : (Unit ⊕ Nat) × fS} {φ : Nat → Nat} {h : eH} {s : fS} {l1' : Int32} {l1 : Int} {l2' : Int32} {l2 : Int} {l3' : Int32} {l3 : Int} (R : fC m b φ0 σo φ h s) (el1 : l1' = iI l1) (rl1 : r32 l1) (el2 : l2' = iI l2) (rl2 : r32 l2) (el3 : l3' = iI l3) (rl3 : r32 l3) (hF : FX8_let_b55 N l1 l2 l3 s = some q) : gG m b φ0 σo (lT lU) q (fX8_let_b55 N 22 l1' l2' l3' h) := by
  subst el1; subst el2; subst el3
  unfold FX8_let_b55 at hF
  unfold fX8_let_b55
  refine s_gO R (t_22 R.S) (Nat.le_of_ble_eq_true rfl) rfl (o_22_4 R.S) ?_
  refine s_kok R (t_22 R.S) (Nat.le_of_ble_eq_true rfl) ?_
  refine s_call R (Nat.zero_le _) (fun _ hq => SX8_kind (b := 0) (R.rf) rfl rl3 hq) hF (fun f3 rv3 h3 q4 R3 e3 E3 hF => ?_)
  refine s_kok R3 (t_22 R3.S) (Nat.le_of_ble_eq_true rfl) ?_
  refine s_call R3 (Nat.zero_le _) (fun _ hq => SX8_value (b := 0) (R3.rf) rfl rl3 hq) hF (fun f5 rv5 h5 q6 R5 e5 E5 hF => ?_)
  refine s_kok R5 (t_23 R5.S) (Nat.le_of_ble_eq_true rfl) ?_
  refine s_call R5 hb (fun _ hq => SX9_mean (b := 1) (N := N) (Nat.le_of_ble_eq_true rfl) (R5.rf) rfl rl2 e3.1 e3.2 e5.1 e5.2 rfl rl1 hq) hF (fun f7 rv7 h7 q8 R7 e7 E7 hF => ?_)
  exact g_ret R7 hF trivial
def FX8_let_b10 (N : Nat) : Nat → Int → Int → Int → fS → Option ((Unit ⊕ Nat) × fS)
  | 0, _, _, _, _ => none
  | n + 1, l1, l2, l3, s =>
    (FX1_is l3 10 s).bind fun q1 =>
    if q1.1 = 0 then
      (FX1_other 61 q1.2).bind fun q3 =>
      if ¬ (l3 = q3.1) then
        FX8_let_b55 N l1 l2 l3 q3.2
      else
        tB (FX8_need N q3.2) fun x6 σ7 =>
        (FX1_is x6 10 σ7).bind fun q8 =>
        if q8.1 = 0 then
          FX8_let_b55 N l1 l2 x6 q8.2
        else
          tB (FX8_need N q8.2) fun x11 σ12 =>
          FX8_let_b55 N l1 l2 x11 σ12
    else
      tB (FX8_need N q1.2) fun x14 σ15 =>
      FX8_let_b10 N n l1 l2 x14 σ15
theorem SX8_let_b10 {m b : Nat} {φ0 : Nat → Nat} {σo : fS} (hb : 2 ≤ b) {N : Nat} {q : (Unit ⊕ Nat) × fS} : ∀ {n : Nat} {φ : Nat → Nat} {h : eH} {s : fS} {l1' : Int32} {l1 : Int} {l2' : Int32} {l2 : Int} {l3' : Int32} {l3 : Int}, fC m b φ0 σo φ h s → l1' = iI l1 → r32 l1 → l2' = iI l2 → r32 l2 → l3' = iI l3 → r32 l3 → FX8_let_b10 N n l1 l2 l3 s = some q → gG m b φ0 σo (lT lU) q (fX8_let_b10 N n 22 l1' l2' l3' h) := by
  intro n
  induction n with
 | zero => intro φ h s l1' l1 l2' l2 l3' l3 R el1 rl1 el2 rl2 el3 rl3 hF; simp [FX8_let_b10] at hF
  | succ n ih =>
    intro φ h s l1' l1 l2' l2 l3' l3 R el1 rl1 el2 rl2 el3 rl3 hF
    subst el1; subst el2; subst el3
    rw [FX8_let_b10] at hF
    rw [fX8_let_b10]
    refine s_call R (Nat.zero_le _) (fun _ hq => SX1_is (b := 0) (R.rf) rfl rl3 (c_lit 10 10 rfl) ⟨by decide, by decide⟩ hq) hF (fun f1 rv1 h1 q1 R1 e1 E1 hF => ?_)
    refine s_if (i_eq e1.1 (c_lit 0 0 rfl) e1.2 ⟨by decide, by decide⟩) hF (fun c2 hF => ?_) (fun c2 hF => ?_)
    ·
      refine s_call R1 (Nat.zero_le _) (fun _ hq => SX1_other (b := 0) (R1.rf) (c_lit 61 61 rfl) ⟨by decide, by decide⟩ hq) hF (fun f3 rv3 h3 q3 R3 e3 E3 hF => ?_)
      refine s_if (not_congr (i_eq rfl e3.1 rl3 e3.2)) hF (fun c4 hF => ?_) (fun c4 hF => ?_)
      ·
        exact SX8_let_b55 (N := N) (Nat.le_trans (Nat.le_of_ble_eq_true rfl) hb) R3 rfl rl1 rfl rl2 rfl rl3 hF
      ·
        refine s_kok R3 (t_22 R3.S) (Nat.le_of_ble_eq_true rfl) ?_
        refine s_tB R3 hb (fun _ hq => SX8_need (b := 2) (N := N) (Nat.le_of_ble_eq_true rfl) (R3.rf) hq) hF (fun f6 rv6 h6 x6 σ7 R6 e6 E6 hF => ?_)
        refine s_call R6 (Nat.zero_le _) (fun _ hq => SX1_is (b := 0) (R6.rf) e6.1 e6.2 (c_lit 10 10 rfl) ⟨by decide, by decide⟩ hq) hF (fun f7 rv7 h7 q8 R7 e7 E7 hF => ?_)
        refine s_if (i_eq e7.1 (c_lit 0 0 rfl) e7.2 ⟨by decide, by decide⟩) hF (fun c8 hF => ?_) (fun c8 hF => ?_)
        ·
          exact SX8_let_b55 (N := N) (Nat.le_trans (Nat.le_of_ble_eq_true rfl) hb) R7 rfl rl1 rfl rl2 e6.1 e6.2 hF
        ·
          refine s_kok R7 (t_22 R7.S) (Nat.le_of_ble_eq_true rfl) ?_
          refine s_tB R7 hb (fun _ hq => SX8_need (b := 2) (N := N) (Nat.le_of_ble_eq_true rfl) (R7.rf) hq) hF (fun f10 rv10 h10 x11 σ12 R10 e10 E10 hF => ?_)
          exact SX8_let_b55 (N := N) (Nat.le_trans (Nat.le_of_ble_eq_true rfl) hb) R10 rfl rl1 rfl rl2 e10.1 e10.2 hF
    ·
      refine s_kok R1 (t_22 R1.S) (Nat.le_of_ble_eq_true rfl) ?_
      refine s_tB R1 hb (fun _ hq => SX8_need (b := 2) (N := N) (Nat.le_of_ble_eq_true rfl) (R1.rf) hq) hF (fun f12 rv12 h12 x14 σ15 R12 e12 E12 hF => ?_)
      exact ih R12 rfl rl1 rfl rl2 e12.1 e12.2 hF
def FX8_let (N : Nat) (p0 : Int) (s : fS) : Option ((Unit ⊕ Nat) × fS) :=
  tB (FX8_target N s) fun x2 σ3 =>
  tB (FX8_need N σ3) fun x5 σ6 =>
  FX8_let_b10 N N p0 x2 x5 σ6
theorem SX8_let {m b : Nat} {φ0 : Nat → Nat} {σo : fS} (hb : 2 ≤ b) {N : Nat} {q : (Unit ⊕ Nat) × fS} {φ : Nat → Nat} {h : eH} {s : fS} {p0' : Int32} {p0 : Int} (R : fC m b φ0 σo φ h s) (ep0 : p0' = iI p0) (rp0 : r32 p0) (hF : FX8_let N p0 s = some q) : gG m b φ0 σo (lT lU) q (fX8_let N 22 p0' h) := by
  subst ep0
  unfold FX8_let at hF
  unfold fX8_let
  refine s_kok R (t_22 R.S) (Nat.le_of_ble_eq_true rfl) ?_
  refine s_tB R hb (fun _ hq => SX8_target (b := 2) (N := N) (Nat.le_of_ble_eq_true rfl) (R.rf) hq) hF (fun f2 rv2 h2 x2 σ3 R2 e2 E2 hF => ?_)
  refine s_kok R2 (t_22 R2.S) (Nat.le_of_ble_eq_true rfl) ?_
  refine s_tB R2 hb (fun _ hq => SX8_need (b := 2) (N := N) (Nat.le_of_ble_eq_true rfl) (R2.rf) hq) hF (fun f4 rv4 h4 x5 σ6 R4 e4 E4 hF => ?_)
  exact SX8_let_b10 (N := N) hb R4 rfl rp0 e2.1 e2.2 e4.1 e4.2 hF
def FX13_put (p0 : Int) (s : fS) : Option (Unit × fS) :=
  (FX1_grown 59 (iadd (s.i 58 3) 1) s).bind fun q5 =>
  (uMV q5.2 59 q5.1).bind fun σ6 =>
  (uPI σ6 58 3 (iadd (σ6.i 58 3) 1)).bind fun σ12 =>
  (uQI σ12 59 (σ6.i 58 3) p0).bind fun σ14 =>
  some ((), σ14)
theorem SX13_put {m b : Nat} {φ0 : Nat → Nat} {σo : fS} (hb : 1 ≤ b) {q : Unit × fS} {φ : Nat → Nat} {h : eH} {s : fS} {p0' : Int32} {p0 : Int} (R : fC m b φ0 σo φ h s) (ep0 : p0' = iI p0) (rp0 : r32 p0) (hF : FX13_put p0 s = some q) : gG m b φ0 σo lU q (fX13_put 58 p0' h) := by
  subst ep0
  unfold FX13_put at hF
  unfold fX13_put
  refine s_gA R (t_58 R.S) (Nat.le_of_ble_eq_true rfl) rfl (o_58_2 R.S) (fun _ _ => ?_)
  refine s_gI R (t_58 R.S) (Nat.le_of_ble_eq_true rfl) rfl ?_
  refine s_call R (Nat.zero_le _) (fun _ hq => SX1_grown (b := 0) (R.rf) rfl (u_59 R.S).1 (c_add rfl (c_lit 1 1 rfl)) (rr_I _) hq) hF (fun f3 rv3 h3 q5 R3 e3 E3 hF => ?_)
  refine s_mv R3 (t_58 R3.S) (Nat.le_of_ble_eq_true rfl) rfl (o_58_2 R3.S) (by decide) (f_mv_1 hb (by decide) (by decide)) e3 hF (fun f4 h4 σ6 R4 E4 K4 hF => ?_)
  refine s_gA R4 (t_58 R4.S) (Nat.le_of_ble_eq_true rfl) rfl (o_58_2 R4.S) (fun _ _ => ?_)
  refine s_gI R4 (t_58 R4.S) (Nat.le_of_ble_eq_true rfl) rfl ?_
  refine s_pI R4 (t_58 R4.S) (Nat.le_of_ble_eq_true rfl) rfl (c_add rfl (c_lit 1 1 rfl)) (rr_I _) hF (fun h7 σ12 R7 T7 hF => ?_)
  refine s_qI R7 (u_59 R7.S).1 (u_59 R7.S).2 (by decide) rfl rfl (R4.ri (t_58 R4.S) (Nat.le_of_ble_eq_true rfl) rfl) rfl rp0 hF (fun h8 σ14 R8 T8 hF => ?_)
  exact g_ret R8 hF trivial
def FX8_putBack_b13 (s : fS) : Option (Unit × fS) :=
  some ((), s)
theorem SX8_putBack_b13 {m b : Nat} {φ0 : Nat → Nat} {σo : fS} {q : Unit × fS} {φ : Nat → Nat} {h : eH} {s : fS} (R : fC m b φ0 σo φ h s) (hF : FX8_putBack_b13 s = some q) : gG m b φ0 σo lU q (fX8_putBack_b13 h) := by
  unfold FX8_putBack_b13 at hF
  unfold fX8_putBack_b13
  exact g_ret R hF trivial
def FX8_putBack (p0 : Int) (s : fS) : Option (Unit × fS) :=
  if p0 = (-1) then
    FX8_putBack_b13 s
  else
    (FX13_put p0 s).bind fun q5 =>
    FX8_putBack_b13 q5.2
theorem SX8_putBack {m b : Nat} {φ0 : Nat → Nat} {σo : fS} (hb : 1 ≤ b) {q : Unit × fS} {φ : Nat → Nat} {h : eH} {s : fS} {p0' : Int32} {p0 : Int} (R : fC m b φ0 σo φ h s) (ep0 : p0' = iI p0) (rp0 : r32 p0) (hF : FX8_putBack p0 s = some q) : gG m b φ0 σo lU q (fX8_putBack 22 p0' h) := by
  subst ep0
  unfold FX8_putBack at hF
  unfold fX8_putBack
  refine s_if (i_eq rfl (c_lit (-1) (-1) rfl) rp0 ⟨by decide, by decide⟩) hF (fun c1 hF => ?_) (fun c1 hF => ?_)
  ·
    exact SX8_putBack_b13 R hF
  ·
    refine s_gO R (t_22 R.S) (Nat.le_of_ble_eq_true rfl) rfl (o_22_7 R.S) ?_
    refine s_kok R (t_58 R.S) (Nat.le_of_ble_eq_true rfl) ?_
    refine s_call R hb (fun _ hq => SX13_put (b := 1) (Nat.le_of_ble_eq_true rfl) (R.rf) rfl rp0 hq) hF (fun f4 rv4 h4 q5 R4 e4 E4 hF => ?_)
    exact SX8_putBack_b13 R4 hF
def FX8_equals_b36 (N : Nat) (RE : Int → fS → Option ((Unit ⊕ Nat) × fS)) (s : fS) : Option ((Unit ⊕ Nat) × fS) :=
  some (.inl (), s)
theorem SX8_equals_b36 {m b : Nat} {φ0 : Nat → Nat} {σo : fS} {N : Nat} {rE : Nat → Int32 → eH → Option ((Unit ⊕ Nat) × eH)} {RE : Int → fS → Option ((Unit ⊕ Nat) × fS)} {q : (Unit ⊕ Nat) × fS} (hrE : ∀ {φ : Nat → Nat} {h : eH} {s : fS} {x1' : Int32} {x1 : Int} {q}, fC m 3 φ s φ h s → x1' = iI x1 → r32 x1 → RE x1 s = some q → gG m 3 φ s (lT lU) q (rE 22 x1' h)) {φ : Nat → Nat} {h : eH} {s : fS} (R : fC m b φ0 σo φ h s) (hF : FX8_equals_b36 N RE s = some q) : gG m b φ0 σo (lT lU) q (fX8_equals_b36 N rE h) := by
  unfold FX8_equals_b36 at hF
  unfold fX8_equals_b36
  exact g_ret R hF trivial
def FX8_equals_b5 (N : Nat) (RE : Int → fS → Option ((Unit ⊕ Nat) × fS)) : Nat → Int → fS → Option ((Unit ⊕ Nat) × fS)
  | 0, _, _ => none
  | n + 1, l1, s =>
    (FX1_is l1 10 s).bind fun q1 =>
    if q1.1 = 0 then
      (FX1_other 61 q1.2).bind fun q3 =>
      if l1 = q3.1 then
        FX8_equals_b36 N RE q3.2
      else
        (FX8_putBack l1 q3.2).bind fun q6 =>
        FX8_equals_b36 N RE q6.2
    else
      tB (FX8_getExpanded N RE q1.2) fun x8 σ9 =>
      FX8_equals_b5 N RE n x8 σ9
theorem SX8_equals_b5 {m b : Nat} {φ0 : Nat → Nat} {σo : fS} (hb : 3 ≤ b) {N : Nat} {rE : Nat → Int32 → eH → Option ((Unit ⊕ Nat) × eH)} {RE : Int → fS → Option ((Unit ⊕ Nat) × fS)} {q : (Unit ⊕ Nat) × fS} (hrE : ∀ {φ : Nat → Nat} {h : eH} {s : fS} {x1' : Int32} {x1 : Int} {q}, fC m 3 φ s φ h s → x1' = iI x1 → r32 x1 → RE x1 s = some q → gG m 3 φ s (lT lU) q (rE 22 x1' h)) : ∀ {n : Nat} {φ : Nat → Nat} {h : eH} {s : fS} {l1' : Int32} {l1 : Int}, fC m b φ0 σo φ h s → l1' = iI l1 → r32 l1 → FX8_equals_b5 N RE n l1 s = some q → gG m b φ0 σo (lT lU) q (fX8_equals_b5 N rE n 22 l1' h) := by
  intro n
  induction n with
 | zero => intro φ h s l1' l1 R el1 rl1 hF; simp [FX8_equals_b5] at hF
  | succ n ih =>
    intro φ h s l1' l1 R el1 rl1 hF
    subst el1
    rw [FX8_equals_b5] at hF
    rw [fX8_equals_b5]
    refine s_call R (Nat.zero_le _) (fun _ hq => SX1_is (b := 0) (R.rf) rfl rl1 (c_lit 10 10 rfl) ⟨by decide, by decide⟩ hq) hF (fun f1 rv1 h1 q1 R1 e1 E1 hF => ?_)
    refine s_if (i_eq e1.1 (c_lit 0 0 rfl) e1.2 ⟨by decide, by decide⟩) hF (fun c2 hF => ?_) (fun c2 hF => ?_)
    ·
      refine s_call R1 (Nat.zero_le _) (fun _ hq => SX1_other (b := 0) (R1.rf) (c_lit 61 61 rfl) ⟨by decide, by decide⟩ hq) hF (fun f3 rv3 h3 q3 R3 e3 E3 hF => ?_)
      refine s_if (i_eq rfl e3.1 rl1 e3.2) hF (fun c4 hF => ?_) (fun c4 hF => ?_)
      ·
        exact SX8_equals_b36 (N := N) (rE := rE) (RE := RE) @hrE R3 hF
      ·
        refine s_kok R3 (t_22 R3.S) (Nat.le_of_ble_eq_true rfl) ?_
        refine s_call R3 (Nat.le_trans (Nat.le_of_ble_eq_true rfl) hb) (fun _ hq => SX8_putBack (b := 1) (Nat.le_of_ble_eq_true rfl) (R3.rf) rfl rl1 hq) hF (fun f6 rv6 h6 q6 R6 e6 E6 hF => ?_)
        exact SX8_equals_b36 (N := N) (rE := rE) (RE := RE) @hrE R6 hF
    ·
      refine s_kok R1 (t_22 R1.S) (Nat.le_of_ble_eq_true rfl) ?_
      refine s_tB R1 hb (fun _ hq => SX8_getExpanded (b := 3) (N := N) (rE := rE) (RE := RE) (Nat.le_of_ble_eq_true rfl) @hrE (R1.rf) hq) hF (fun f8 rv8 h8 x8 σ9 R8 e8 E8 hF => ?_)
      exact ih R8 e8.1 e8.2 hF
def FX8_equals (N : Nat) (RE : Int → fS → Option ((Unit ⊕ Nat) × fS)) (s : fS) : Option ((Unit ⊕ Nat) × fS) :=
  tB (FX8_getExpanded N RE s) fun x2 σ3 =>
  FX8_equals_b5 N RE N x2 σ3
theorem SX8_equals {m b : Nat} {φ0 : Nat → Nat} {σo : fS} (hb : 3 ≤ b) {N : Nat} {rE : Nat → Int32 → eH → Option ((Unit ⊕ Nat) × eH)} {RE : Int → fS → Option ((Unit ⊕ Nat) × fS)} {q : (Unit ⊕ Nat) × fS} (hrE : ∀ {φ : Nat → Nat} {h : eH} {s : fS} {x1' : Int32} {x1 : Int} {q}, fC m 3 φ s φ h s → x1' = iI x1 → r32 x1 → RE x1 s = some q → gG m 3 φ s (lT lU) q (rE 22 x1' h)) {φ : Nat → Nat} {h : eH} {s : fS} (R : fC m b φ0 σo φ h s) (hF : FX8_equals N RE s = some q) : gG m b φ0 σo (lT lU) q (fX8_equals N rE 22 h) := by
  unfold FX8_equals at hF
  unfold fX8_equals
  refine s_kok R (t_22 R.S) (Nat.le_of_ble_eq_true rfl) ?_
  refine s_tB R hb (fun _ hq => SX8_getExpanded (b := 3) (N := N) (rE := rE) (RE := RE) (Nat.le_of_ble_eq_true rfl) @hrE (R.rf) hq) hF (fun f2 rv2 h2 x2 σ3 R2 e2 E2 hF => ?_)
  exact SX8_equals_b5 (N := N) (rE := rE) (RE := RE) hb @hrE R2 e2.1 e2.2 hF
def FX8_isLetter_b33 (s0 : Int) (s : fS) : Option (Int × fS) :=
  uZ s0 (s0, s)
theorem SX8_isLetter_b33 {m b : Nat} {φ0 : Nat → Nat} {σo : fS} {q : Int × fS} {φ : Nat → Nat} {h : eH} {s : fS} {s0' : Int32} {s0 : Int} (R : fC m b φ0 σo φ h s) (es0 : s0' = iI s0) (rs0 : r32 s0) (hF : FX8_isLetter_b33 s0 s = some q) : gG m b φ0 σo lI q (fX8_isLetter_b33 s0' h) := by
  subst es0
  unfold FX8_isLetter_b33 at hF
  unfold fX8_isLetter_b33
  exact g_z R rfl hF ⟨rfl, rs0⟩
def FX8_isLetter_b28 (s : fS) : Option (Int × fS) :=
  FX8_isLetter_b33 1 s
theorem SX8_isLetter_b28 {m b : Nat} {φ0 : Nat → Nat} {σo : fS} {q : Int × fS} {φ : Nat → Nat} {h : eH} {s : fS} (R : fC m b φ0 σo φ h s) (hF : FX8_isLetter_b28 s = some q) : gG m b φ0 σo lI q (fX8_isLetter_b28 h) := by
  unfold FX8_isLetter_b28 at hF
  unfold fX8_isLetter_b28
  exact SX8_isLetter_b33 R (c_lit 1 1 rfl) ⟨by decide, by decide⟩ hF
def FX8_isLetter_b32 (s : fS) : Option (Int × fS) :=
  FX8_isLetter_b33 0 s
theorem SX8_isLetter_b32 {m b : Nat} {φ0 : Nat → Nat} {σo : fS} {q : Int × fS} {φ : Nat → Nat} {h : eH} {s : fS} (R : fC m b φ0 σo φ h s) (hF : FX8_isLetter_b32 s = some q) : gG m b φ0 σo lI q (fX8_isLetter_b32 h) := by
  unfold FX8_isLetter_b32 at hF
  unfold fX8_isLetter_b32
  exact SX8_isLetter_b33 R (c_lit 0 0 rfl) ⟨by decide, by decide⟩ hF
def FX8_isLetter (p0 : Int) (p1 : Int) (s : fS) : Option (Int × fS) :=
  (FX1_isCharacter p0 s).bind fun q1 =>
  if q1.1 = 0 then
    FX8_isLetter_b32 q1.2
  else
    if (iand p0 255) = p1 then
      FX8_isLetter_b28 q1.2
    else
      if ¬ ((iand p0 255) = (isub p1 32)) then
        FX8_isLetter_b32 q1.2
      else
        FX8_isLetter_b28 q1.2
theorem SX8_isLetter {m b : Nat} {φ0 : Nat → Nat} {σo : fS} {q : Int × fS} {φ : Nat → Nat} {h : eH} {s : fS} {p0' : Int32} {p0 : Int} {p1' : Int32} {p1 : Int} (R : fC m b φ0 σo φ h s) (ep0 : p0' = iI p0) (rp0 : r32 p0) (ep1 : p1' = iI p1) (rp1 : r32 p1) (hF : FX8_isLetter p0 p1 s = some q) : gG m b φ0 σo lI q (fX8_isLetter p0' p1' h) := by
  subst ep0; subst ep1
  unfold FX8_isLetter at hF
  unfold fX8_isLetter
  refine s_call R (Nat.zero_le _) (fun _ hq => SX1_isCharacter (b := 0) (R.rf) rfl rp0 hq) hF (fun f1 rv1 h1 q1 R1 e1 E1 hF => ?_)
  refine s_if (i_eq e1.1 (c_lit 0 0 rfl) e1.2 ⟨by decide, by decide⟩) hF (fun c2 hF => ?_) (fun c2 hF => ?_)
  ·
    exact SX8_isLetter_b32 R1 hF
  ·
    refine s_if (i_eq (c_and rfl (c_lit 255 255 rfl)) rfl (rr_I _) rp1) hF (fun c3 hF => ?_) (fun c3 hF => ?_)
    ·
      exact SX8_isLetter_b28 R1 hF
    ·
      refine s_if (not_congr (i_eq (c_and rfl (c_lit 255 255 rfl)) (c_sub rfl (c_lit 32 32 rfl)) (rr_I _) (rr_I _))) hF (fun c4 hF => ?_) (fun c4 hF => ?_)
      ·
        exact SX8_isLetter_b32 R1 hF
      ·
        exact SX8_isLetter_b28 R1 hF
def FX8_keyword_b141 (N : Nat) (RE : Int → fS → Option ((Unit ⊕ Nat) × fS)) (l3 : Int) (l5 : Int) (s : fS) : Option ((Int ⊕ Nat) × fS) :=
  (uPI s 22 24 l3).bind fun σ1 =>
  uZ l5 (.inl l5, σ1)
theorem SX8_keyword_b141 {m b : Nat} {φ0 : Nat → Nat} {σo : fS} {N : Nat} {rE : Nat → Int32 → eH → Option ((Unit ⊕ Nat) × eH)} {RE : Int → fS → Option ((Unit ⊕ Nat) × fS)} {q : (Int ⊕ Nat) × fS} (hrE : ∀ {φ : Nat → Nat} {h : eH} {s : fS} {x1' : Int32} {x1 : Int} {q}, fC m 3 φ s φ h s → x1' = iI x1 → r32 x1 → RE x1 s = some q → gG m 3 φ s (lT lU) q (rE 22 x1' h)) {φ : Nat → Nat} {h : eH} {s : fS} {l3' : Int32} {l3 : Int} {l5' : Int32} {l5 : Int} (R : fC m b φ0 σo φ h s) (el3 : l3' = iI l3) (rl3 : r32 l3) (el5 : l5' = iI l5) (rl5 : r32 l5) (hF : FX8_keyword_b141 N RE l3 l5 s = some q) : gG m b φ0 σo (lT lI) q (fX8_keyword_b141 N rE 22 l3' l5' h) := by
  subst el3; subst el5
  unfold FX8_keyword_b141 at hF
  unfold fX8_keyword_b141
  refine s_pI R (t_22 R.S) (Nat.le_of_ble_eq_true rfl) rfl rfl rl3 hF (fun h1 σ1 R1 T1 hF => ?_)
  exact g_z R1 rfl hF ⟨rfl, rl5⟩
def FX8_keyword_b107 (N : Nat) (RE : Int → fS → Option ((Unit ⊕ Nat) × fS)) : Nat → Int → Int → fS → Option ((Int ⊕ Nat) × fS)
  | 0, _, _, _ => none
  | n + 1, l3, l5, s =>
    if (s.i 22 24) ≤ l3 then
      FX8_keyword_b141 N RE l3 l5 s
    else
      (uPI s 22 24 (isub (s.i 22 24) 1)).bind fun σ10 =>
      (uRI σ10 42 (isub (s.i 22 24) 1)).bind fun x12 =>
      (FX13_put x12 σ10).bind fun q15 =>
      FX8_keyword_b107 N RE n l3 l5 q15.2
theorem SX8_keyword_b107 {m b : Nat} {φ0 : Nat → Nat} {σo : fS} (hb : 1 ≤ b) {N : Nat} {rE : Nat → Int32 → eH → Option ((Unit ⊕ Nat) × eH)} {RE : Int → fS → Option ((Unit ⊕ Nat) × fS)} {q : (Int ⊕ Nat) × fS} (hrE : ∀ {φ : Nat → Nat} {h : eH} {s : fS} {x1' : Int32} {x1 : Int} {q}, fC m 3 φ s φ h s → x1' = iI x1 → r32 x1 → RE x1 s = some q → gG m 3 φ s (lT lU) q (rE 22 x1' h)) : ∀ {n : Nat} {φ : Nat → Nat} {h : eH} {s : fS} {l3' : Int32} {l3 : Int} {l5' : Int32} {l5 : Int}, fC m b φ0 σo φ h s → l3' = iI l3 → r32 l3 → l5' = iI l5 → r32 l5 → FX8_keyword_b107 N RE n l3 l5 s = some q → gG m b φ0 σo (lT lI) q (fX8_keyword_b107 N rE n 22 l3' l5' h) := by
  intro n
  induction n with
 | zero => intro φ h s l3' l3 l5' l5 R el3 rl3 el5 rl5 hF; simp [FX8_keyword_b107] at hF
  | succ n ih =>
    intro φ h s l3' l3 l5' l5 R el3 rl3 el5 rl5 hF
    subst el3; subst el5
    rw [FX8_keyword_b107] at hF
    rw [fX8_keyword_b107]
    refine s_gI R (t_22 R.S) (Nat.le_of_ble_eq_true rfl) rfl ?_
    refine s_if (i_le rfl rfl (R.ri (t_22 R.S) (Nat.le_of_ble_eq_true rfl) rfl) rl3) hF (fun c2 hF => ?_) (fun c2 hF => ?_)
    ·
      exact SX8_keyword_b141 (N := N) (rE := rE) (RE := RE) @hrE R rfl rl3 rfl rl5 hF
    ·
      refine s_gO R (t_22 R.S) (Nat.le_of_ble_eq_true rfl) rfl (o_22_7 R.S) ?_
      refine s_gAs R (t_22 R.S) (Nat.le_of_ble_eq_true rfl) rfl (o_22_23 R.S) (a_42 R) ?_
      refine s_gI R (t_22 R.S) (Nat.le_of_ble_eq_true rfl) rfl ?_
      refine s_pI R (t_22 R.S) (Nat.le_of_ble_eq_true rfl) rfl (c_sub rfl (c_lit 1 1 rfl)) (rr_I _) hF (fun h6 σ10 R6 T6 hF => ?_)
      refine s_rI R6 (u_42 R6.S).1 (u_42 R6.S).2 (by decide) (a_42 R6) (c_sub rfl (c_lit 1 1 rfl)) (rr_I _) hF (fun x12 ra7 hF => ?_)
      refine s_kok R6 (t_58 R6.S) (Nat.le_of_ble_eq_true rfl) ?_
      refine s_call R6 hb (fun _ hq => SX13_put (b := 1) (Nat.le_of_ble_eq_true rfl) (R6.rf) rfl ra7 hq) hF (fun f9 rv9 h9 q15 R9 e9 E9 hF => ?_)
      exact ih R9 rfl rl3 rfl rl5 hF
def FX8_keyword_b97 (N : Nat) (RE : Int → fS → Option ((Unit ⊕ Nat) × fS)) (l2 : Int) (l3 : Int) (l5 : Int) (s : fS) : Option ((Int ⊕ Nat) × fS) :=
  if ¬ (l5 = 0) then
    FX8_keyword_b141 N RE l3 l5 s
  else
    (FX8_putBack l2 s).bind fun q3 =>
    FX8_keyword_b107 N RE N l3 l5 q3.2
theorem SX8_keyword_b97 {m b : Nat} {φ0 : Nat → Nat} {σo : fS} (hb : 1 ≤ b) {N : Nat} {rE : Nat → Int32 → eH → Option ((Unit ⊕ Nat) × eH)} {RE : Int → fS → Option ((Unit ⊕ Nat) × fS)} {q : (Int ⊕ Nat) × fS} (hrE : ∀ {φ : Nat → Nat} {h : eH} {s : fS} {x1' : Int32} {x1 : Int} {q}, fC m 3 φ s φ h s → x1' = iI x1 → r32 x1 → RE x1 s = some q → gG m 3 φ s (lT lU) q (rE 22 x1' h)) {φ : Nat → Nat} {h : eH} {s : fS} {l2' : Int32} {l2 : Int} {l3' : Int32} {l3 : Int} {l5' : Int32} {l5 : Int} (R : fC m b φ0 σo φ h s) (el2 : l2' = iI l2) (rl2 : r32 l2) (el3 : l3' = iI l3) (rl3 : r32 l3) (el5 : l5' = iI l5) (rl5 : r32 l5) (hF : FX8_keyword_b97 N RE l2 l3 l5 s = some q) : gG m b φ0 σo (lT lI) q (fX8_keyword_b97 N rE 22 l2' l3' l5' h) := by
  subst el2; subst el3; subst el5
  unfold FX8_keyword_b97 at hF
  unfold fX8_keyword_b97
  refine s_if (not_congr (i_eq rfl (c_lit 0 0 rfl) rl5 ⟨by decide, by decide⟩)) hF (fun c1 hF => ?_) (fun c1 hF => ?_)
  ·
    exact SX8_keyword_b141 (N := N) (rE := rE) (RE := RE) @hrE R rfl rl3 rfl rl5 hF
  ·
    refine s_kok R (t_22 R.S) (Nat.le_of_ble_eq_true rfl) ?_
    refine s_call R hb (fun _ hq => SX8_putBack (b := 1) (Nat.le_of_ble_eq_true rfl) (R.rf) rfl rl2 hq) hF (fun f3 rv3 h3 q3 R3 e3 E3 hF => ?_)
    exact SX8_keyword_b107 (N := N) (rE := rE) (RE := RE) hb @hrE R3 rfl rl3 rfl rl5 hF
def FX8_keyword_b41 (N : Nat) (RE : Int → fS → Option ((Unit ⊕ Nat) × fS)) : Nat → Nat → Int → Int → Int → Int → fS → Option ((Int ⊕ Nat) × fS)
  | 0, _, _, _, _, _, _ => none
  | n + 1, l1, l2, l3, l4, l5, s =>
    if l5 = 0 then
      FX8_keyword_b97 N RE l2 l3 l5 s
    else
      (s_ok l1).bind fun _ =>
      (FJ1_length l1 s).bind fun q3 =>
      if q3.1 ≤ (iadd l4 1) then
        FX8_keyword_b97 N RE l2 l3 l5 q3.2
      else
        (uPI q3.2 22 24 (iadd (q3.2.i 22 24) 1)).bind fun σ9 =>
        (uQI σ9 42 (q3.2.i 22 24) l2).bind fun σ11 =>
        tB (FX8_getExpanded N RE σ11) fun x14 σ15 =>
        (s_ok l1).bind fun _ =>
        (FJ1_charAt l1 (iadd l4 1) σ15).bind fun q17 =>
        (FX8_isLetter x14 q17.1 q17.2).bind fun q18 =>
        FX8_keyword_b41 N RE n l1 x14 l3 (iadd l4 1) q18.1 q18.2
theorem SX8_keyword_b41 {m b : Nat} {φ0 : Nat → Nat} {σo : fS} (hb : 3 ≤ b) {N : Nat} {rE : Nat → Int32 → eH → Option ((Unit ⊕ Nat) × eH)} {RE : Int → fS → Option ((Unit ⊕ Nat) × fS)} {q : (Int ⊕ Nat) × fS} (hrE : ∀ {φ : Nat → Nat} {h : eH} {s : fS} {x1' : Int32} {x1 : Int} {q}, fC m 3 φ s φ h s → x1' = iI x1 → r32 x1 → RE x1 s = some q → gG m 3 φ s (lT lU) q (rE 22 x1' h)) : ∀ {n : Nat} {φ : Nat → Nat} {h : eH} {s : fS} {l1 : Nat} {l2' : Int32} {l2 : Int} {l3' : Int32} {l3 : Int} {l4' : Int32} {l4 : Int} {l5' : Int32} {l5 : Int}, fC m b φ0 σo φ h s → l2' = iI l2 → r32 l2 → l3' = iI l3 → r32 l3 → l4' = iI l4 → r32 l4 → l5' = iI l5 → r32 l5 → FX8_keyword_b41 N RE n l1 l2 l3 l4 l5 s = some q → gG m b φ0 σo (lT lI) q (fX8_keyword_b41 N rE n 22 l1 l2' l3' l4' l5' h) := by
  intro n
  induction n with
 | zero => intro φ h s l1 l2' l2 l3' l3 l4' l4 l5' l5 R el2 rl2 el3 rl3 el4 rl4 el5 rl5 hF; simp [FX8_keyword_b41] at hF
  | succ n ih =>
    intro φ h s l1 l2' l2 l3' l3 l4' l4 l5' l5 R el2 rl2 el3 rl3 el4 rl4 el5 rl5 hF
    subst el2; subst el3; subst el4; subst el5
    rw [FX8_keyword_b41] at hF
    rw [fX8_keyword_b41]
    refine s_if (i_eq rfl (c_lit 0 0 rfl) rl5 ⟨by decide, by decide⟩) hF (fun c1 hF => ?_) (fun c1 hF => ?_)
    ·
      exact SX8_keyword_b97 (N := N) (rE := rE) (RE := RE) (Nat.le_trans (Nat.le_of_ble_eq_true rfl) hb) @hrE R rfl rl2 rfl rl3 rfl rl5 hF
    ·
      refine s_opt hF (fun _ hF => ?_)
      refine s_call R (Nat.zero_le _) (fun _ hq => SJ1_length (b := 0) (R.rf) hq) hF (fun f3 rv3 h3 q3 R3 e3 E3 hF => ?_)
      refine s_if (i_le e3.1 (c_add rfl (c_lit 1 1 rfl)) e3.2 (rr_I _)) hF (fun c4 hF => ?_) (fun c4 hF => ?_)
      ·
        exact SX8_keyword_b97 (N := N) (rE := rE) (RE := RE) (Nat.le_trans (Nat.le_of_ble_eq_true rfl) hb) @hrE R3 rfl rl2 rfl rl3 rfl rl5 hF
      ·
        refine s_gAs R3 (t_22 R3.S) (Nat.le_of_ble_eq_true rfl) rfl (o_22_23 R3.S) (a_42 R3) ?_
        refine s_gI R3 (t_22 R3.S) (Nat.le_of_ble_eq_true rfl) rfl ?_
        refine s_pI R3 (t_22 R3.S) (Nat.le_of_ble_eq_true rfl) rfl (c_add rfl (c_lit 1 1 rfl)) (rr_I _) hF (fun h7 σ9 R7 T7 hF => ?_)
        refine s_qI R7 (u_42 R7.S).1 (u_42 R7.S).2 (by decide) (a_42 R7) rfl (R3.ri (t_22 R3.S) (Nat.le_of_ble_eq_true rfl) rfl) rfl rl2 hF (fun h8 σ11 R8 T8 hF => ?_)
        refine s_kok R8 (t_22 R8.S) (Nat.le_of_ble_eq_true rfl) ?_
        refine s_tB R8 hb (fun _ hq => SX8_getExpanded (b := 3) (N := N) (rE := rE) (RE := RE) (Nat.le_of_ble_eq_true rfl) @hrE (R8.rf) hq) hF (fun f10 rv10 h10 x14 σ15 R10 e10 E10 hF => ?_)
        refine s_opt hF (fun _ hF => ?_)
        refine s_call R10 (Nat.zero_le _) (fun _ hq => SJ1_charAt (b := 0) (R10.rf) (c_add rfl (c_lit 1 1 rfl)) (rr_I _) hq) hF (fun f12 rv12 h12 q17 R12 e12 E12 hF => ?_)
        refine s_call R12 (Nat.zero_le _) (fun _ hq => SX8_isLetter (b := 0) (R12.rf) e10.1 e10.2 e12.1 e12.2 hq) hF (fun f13 rv13 h13 q18 R13 e13 E13 hF => ?_)
        exact ih R13 e10.1 e10.2 rfl rl3 (c_add rfl (c_lit 1 1 rfl)) (rr_I _) e13.1 e13.2 hF
def FX8_keyword_b5 (N : Nat) (RE : Int → fS → Option ((Unit ⊕ Nat) × fS)) : Nat → Nat → Int → fS → Option ((Int ⊕ Nat) × fS)
  | 0, _, _, _ => none
  | n + 1, l1, l2, s =>
    (FX1_is l2 10 s).bind fun q1 =>
    if q1.1 = 0 then
      (s_ok l1).bind fun _ =>
      (FJ1_charAt l1 0 q1.2).bind fun q6 =>
      (FX8_isLetter l2 q6.1 q6.2).bind fun q7 =>
      FX8_keyword_b41 N RE N l1 l2 (q1.2.i 22 24) 0 q7.1 q7.2
    else
      tB (FX8_getExpanded N RE q1.2) fun x9 σ10 =>
      FX8_keyword_b5 N RE n l1 x9 σ10
theorem SX8_keyword_b5 {m b : Nat} {φ0 : Nat → Nat} {σo : fS} (hb : 3 ≤ b) {N : Nat} {rE : Nat → Int32 → eH → Option ((Unit ⊕ Nat) × eH)} {RE : Int → fS → Option ((Unit ⊕ Nat) × fS)} {q : (Int ⊕ Nat) × fS} (hrE : ∀ {φ : Nat → Nat} {h : eH} {s : fS} {x1' : Int32} {x1 : Int} {q}, fC m 3 φ s φ h s → x1' = iI x1 → r32 x1 → RE x1 s = some q → gG m 3 φ s (lT lU) q (rE 22 x1' h)) : ∀ {n : Nat} {φ : Nat → Nat} {h : eH} {s : fS} {l1 : Nat} {l2' : Int32} {l2 : Int}, fC m b φ0 σo φ h s → l2' = iI l2 → r32 l2 → FX8_keyword_b5 N RE n l1 l2 s = some q → gG m b φ0 σo (lT lI) q (fX8_keyword_b5 N rE n 22 l1 l2' h) := by
  intro n
  induction n with
 | zero => intro φ h s l1 l2' l2 R el2 rl2 hF; simp [FX8_keyword_b5] at hF
  | succ n ih =>
    intro φ h s l1 l2' l2 R el2 rl2 hF
    subst el2
    rw [FX8_keyword_b5] at hF
    rw [fX8_keyword_b5]
    refine s_call R (Nat.zero_le _) (fun _ hq => SX1_is (b := 0) (R.rf) rfl rl2 (c_lit 10 10 rfl) ⟨by decide, by decide⟩ hq) hF (fun f1 rv1 h1 q1 R1 e1 E1 hF => ?_)
    refine s_if (i_eq e1.1 (c_lit 0 0 rfl) e1.2 ⟨by decide, by decide⟩) hF (fun c2 hF => ?_) (fun c2 hF => ?_)
    ·
      refine s_gI R1 (t_22 R1.S) (Nat.le_of_ble_eq_true rfl) rfl ?_
      refine s_opt hF (fun _ hF => ?_)
      refine s_call R1 (Nat.zero_le _) (fun _ hq => SJ1_charAt (b := 0) (R1.rf) (c_lit 0 0 rfl) ⟨by decide, by decide⟩ hq) hF (fun f5 rv5 h5 q6 R5 e5 E5 hF => ?_)
      refine s_call R5 (Nat.zero_le _) (fun _ hq => SX8_isLetter (b := 0) (R5.rf) rfl rl2 e5.1 e5.2 hq) hF (fun f6 rv6 h6 q7 R6 e6 E6 hF => ?_)
      exact SX8_keyword_b41 (N := N) (rE := rE) (RE := RE) hb @hrE R6 rfl rl2 rfl (R1.ri (t_22 R1.S) (Nat.le_of_ble_eq_true rfl) rfl) (c_lit 0 0 rfl) ⟨by decide, by decide⟩ e6.1 e6.2 hF
    ·
      refine s_kok R1 (t_22 R1.S) (Nat.le_of_ble_eq_true rfl) ?_
      refine s_tB R1 hb (fun _ hq => SX8_getExpanded (b := 3) (N := N) (rE := rE) (RE := RE) (Nat.le_of_ble_eq_true rfl) @hrE (R1.rf) hq) hF (fun f8 rv8 h8 x9 σ10 R8 e8 E8 hF => ?_)
      exact ih R8 e8.1 e8.2 hF
def FX8_keyword (N : Nat) (RE : Int → fS → Option ((Unit ⊕ Nat) × fS)) (p0 : Nat) (s : fS) : Option ((Int ⊕ Nat) × fS) :=
  tB (FX8_getExpanded N RE s) fun x2 σ3 =>
  FX8_keyword_b5 N RE N p0 x2 σ3
theorem SX8_keyword {m b : Nat} {φ0 : Nat → Nat} {σo : fS} (hb : 3 ≤ b) {N : Nat} {rE : Nat → Int32 → eH → Option ((Unit ⊕ Nat) × eH)} {RE : Int → fS → Option ((Unit ⊕ Nat) × fS)} {q : (Int ⊕ Nat) × fS} (hrE : ∀ {φ : Nat → Nat} {h : eH} {s : fS} {x1' : Int32} {x1 : Int} {q}, fC m 3 φ s φ h s → x1' = iI x1 → r32 x1 → RE x1 s = some q → gG m 3 φ s (lT lU) q (rE 22 x1' h)) {φ : Nat → Nat} {h : eH} {s : fS} {p0 : Nat} (R : fC m b φ0 σo φ h s) (hF : FX8_keyword N RE p0 s = some q) : gG m b φ0 σo (lT lI) q (fX8_keyword N rE 22 p0 h) := by
  unfold FX8_keyword at hF
  unfold fX8_keyword
  refine s_kok R (t_22 R.S) (Nat.le_of_ble_eq_true rfl) ?_
  refine s_tB R hb (fun _ hq => SX8_getExpanded (b := 3) (N := N) (rE := rE) (RE := RE) (Nat.le_of_ble_eq_true rfl) @hrE (R.rf) hq) hF (fun f2 rv2 h2 x2 σ3 R2 e2 E2 hF => ?_)
  exact SX8_keyword_b5 (N := N) (rE := rE) (RE := RE) hb @hrE R2 e2.1 e2.2 hF
def FX8_needSolid_b5 (N : Nat) (RE : Int → fS → Option ((Unit ⊕ Nat) × fS)) : Nat → Int → fS → Option ((Int ⊕ Nat) × fS)
  | 0, _, _ => none
  | n + 1, l1, s =>
    (FX1_is l1 10 s).bind fun q1 =>
    if q1.1 = 0 then
      some (.inl l1, q1.2)
    else
      tB (FX8_needExpanded N RE q1.2) fun x4 σ5 =>
      FX8_needSolid_b5 N RE n x4 σ5
theorem SX8_needSolid_b5 {m b : Nat} {φ0 : Nat → Nat} {σo : fS} (hb : 3 ≤ b) {N : Nat} {rE : Nat → Int32 → eH → Option ((Unit ⊕ Nat) × eH)} {RE : Int → fS → Option ((Unit ⊕ Nat) × fS)} {q : (Int ⊕ Nat) × fS} (hrE : ∀ {φ : Nat → Nat} {h : eH} {s : fS} {x1' : Int32} {x1 : Int} {q}, fC m 3 φ s φ h s → x1' = iI x1 → r32 x1 → RE x1 s = some q → gG m 3 φ s (lT lU) q (rE 22 x1' h)) : ∀ {n : Nat} {φ : Nat → Nat} {h : eH} {s : fS} {l1' : Int32} {l1 : Int}, fC m b φ0 σo φ h s → l1' = iI l1 → r32 l1 → FX8_needSolid_b5 N RE n l1 s = some q → gG m b φ0 σo (lT lI) q (fX8_needSolid_b5 N rE n 22 l1' h) := by
  intro n
  induction n with
 | zero => intro φ h s l1' l1 R el1 rl1 hF; simp [FX8_needSolid_b5] at hF
  | succ n ih =>
    intro φ h s l1' l1 R el1 rl1 hF
    subst el1
    rw [FX8_needSolid_b5] at hF
    rw [fX8_needSolid_b5]
    refine s_call R (Nat.zero_le _) (fun _ hq => SX1_is (b := 0) (R.rf) rfl rl1 (c_lit 10 10 rfl) ⟨by decide, by decide⟩ hq) hF (fun f1 rv1 h1 q1 R1 e1 E1 hF => ?_)
    refine s_if (i_eq e1.1 (c_lit 0 0 rfl) e1.2 ⟨by decide, by decide⟩) hF (fun c2 hF => ?_) (fun c2 hF => ?_)
    ·
      exact g_ret R1 hF ⟨rfl, rl1⟩
    ·
      refine s_kok R1 (t_22 R1.S) (Nat.le_of_ble_eq_true rfl) ?_
      refine s_tB R1 hb (fun _ hq => SX8_needExpanded (b := 3) (N := N) (rE := rE) (RE := RE) (Nat.le_of_ble_eq_true rfl) @hrE (R1.rf) hq) hF (fun f4 rv4 h4 x4 σ5 R4 e4 E4 hF => ?_)
      exact ih R4 e4.1 e4.2 hF
def FX8_needSolid (N : Nat) (RE : Int → fS → Option ((Unit ⊕ Nat) × fS)) (s : fS) : Option ((Int ⊕ Nat) × fS) :=
  tB (FX8_needExpanded N RE s) fun x2 σ3 =>
  FX8_needSolid_b5 N RE N x2 σ3
theorem SX8_needSolid {m b : Nat} {φ0 : Nat → Nat} {σo : fS} (hb : 3 ≤ b) {N : Nat} {rE : Nat → Int32 → eH → Option ((Unit ⊕ Nat) × eH)} {RE : Int → fS → Option ((Unit ⊕ Nat) × fS)} {q : (Int ⊕ Nat) × fS} (hrE : ∀ {φ : Nat → Nat} {h : eH} {s : fS} {x1' : Int32} {x1 : Int} {q}, fC m 3 φ s φ h s → x1' = iI x1 → r32 x1 → RE x1 s = some q → gG m 3 φ s (lT lU) q (rE 22 x1' h)) {φ : Nat → Nat} {h : eH} {s : fS} (R : fC m b φ0 σo φ h s) (hF : FX8_needSolid N RE s = some q) : gG m b φ0 σo (lT lI) q (fX8_needSolid N rE 22 h) := by
  unfold FX8_needSolid at hF
  unfold fX8_needSolid
  refine s_kok R (t_22 R.S) (Nat.le_of_ble_eq_true rfl) ?_
  refine s_tB R hb (fun _ hq => SX8_needExpanded (b := 3) (N := N) (rE := rE) (RE := RE) (Nat.le_of_ble_eq_true rfl) @hrE (R.rf) hq) hF (fun f2 rv2 h2 x2 σ3 R2 e2 E2 hF => ?_)
  exact SX8_needSolid_b5 (N := N) (rE := rE) (RE := RE) hb @hrE R2 e2.1 e2.2 hF
def FX8_signed_b40 (N : Nat) (RE : Int → fS → Option ((Unit ⊕ Nat) × fS)) (K7 : Int → Int → fS → Option ((Int ⊕ Nat) × fS)) (s0 : Int) (s1 : Int) (s : fS) : Option ((Int ⊕ Nat) × fS) :=
  tB (FX8_needSolid N RE s) fun x2 σ3 =>
  K7 (ixor s0 s1) x2 σ3
theorem SX8_signed_b40 {m b : Nat} {φ0 : Nat → Nat} {σo : fS} (hb : 3 ≤ b) {N : Nat} {rE : Nat → Int32 → eH → Option ((Unit ⊕ Nat) × eH)} {RE : Int → fS → Option ((Unit ⊕ Nat) × fS)} {k7 : Nat → Int32 → Int32 → eH → Option ((Int32 ⊕ Nat) × eH)} {K7 : Int → Int → fS → Option ((Int ⊕ Nat) × fS)} {q : (Int ⊕ Nat) × fS} (hrE : ∀ {φ : Nat → Nat} {h : eH} {s : fS} {x1' : Int32} {x1 : Int} {q}, fC m 3 φ s φ h s → x1' = iI x1 → r32 x1 → RE x1 s = some q → gG m 3 φ s (lT lU) q (rE 22 x1' h)) (hk7 : ∀ {φ : Nat → Nat} {h : eH} {s : fS} {l1' : Int32} {l1 : Int} {l2' : Int32} {l2 : Int}, fC m b φ0 σo φ h s → l1' = iI l1 → r32 l1 → l2' = iI l2 → r32 l2 → K7 l1 l2 s = some q → gG m b φ0 σo (lT lI) q (k7 22 l1' l2' h)) {φ : Nat → Nat} {h : eH} {s : fS} {s0' : Int32} {s0 : Int} {s1' : Int32} {s1 : Int} (R : fC m b φ0 σo φ h s) (es0 : s0' = iI s0) (rs0 : r32 s0) (es1 : s1' = iI s1) (rs1 : r32 s1) (hF : FX8_signed_b40 N RE K7 s0 s1 s = some q) : gG m b φ0 σo (lT lI) q (fX8_signed_b40 N rE k7 22 s0' s1' h) := by
  subst es0; subst es1
  unfold FX8_signed_b40 at hF
  unfold fX8_signed_b40
  refine s_kok R (t_22 R.S) (Nat.le_of_ble_eq_true rfl) ?_
  refine s_tB R hb (fun _ hq => SX8_needSolid (b := 3) (N := N) (rE := rE) (RE := RE) (Nat.le_of_ble_eq_true rfl) @hrE (R.rf) hq) hF (fun f2 rv2 h2 x2 σ3 R2 e2 E2 hF => ?_)
  exact hk7 R2 (c_xor rfl rfl) (rr_I _) e2.1 e2.2 hF
def FX8_signed_b25 (N : Nat) (RE : Int → fS → Option ((Unit ⊕ Nat) × fS)) (K7 : Int → Int → fS → Option ((Int ⊕ Nat) × fS)) (l1 : Int) (l2 : Int) (s : fS) : Option ((Int ⊕ Nat) × fS) :=
  (FX1_other 45 s).bind fun q1 =>
  if ¬ (l2 = q1.1) then
    FX8_signed_b40 N RE K7 l1 0 q1.2
  else
    FX8_signed_b40 N RE K7 l1 1 q1.2
theorem SX8_signed_b25 {m b : Nat} {φ0 : Nat → Nat} {σo : fS} (hb : 3 ≤ b) {N : Nat} {rE : Nat → Int32 → eH → Option ((Unit ⊕ Nat) × eH)} {RE : Int → fS → Option ((Unit ⊕ Nat) × fS)} {k7 : Nat → Int32 → Int32 → eH → Option ((Int32 ⊕ Nat) × eH)} {K7 : Int → Int → fS → Option ((Int ⊕ Nat) × fS)} {q : (Int ⊕ Nat) × fS} (hrE : ∀ {φ : Nat → Nat} {h : eH} {s : fS} {x1' : Int32} {x1 : Int} {q}, fC m 3 φ s φ h s → x1' = iI x1 → r32 x1 → RE x1 s = some q → gG m 3 φ s (lT lU) q (rE 22 x1' h)) (hk7 : ∀ {φ : Nat → Nat} {h : eH} {s : fS} {l1' : Int32} {l1 : Int} {l2' : Int32} {l2 : Int}, fC m b φ0 σo φ h s → l1' = iI l1 → r32 l1 → l2' = iI l2 → r32 l2 → K7 l1 l2 s = some q → gG m b φ0 σo (lT lI) q (k7 22 l1' l2' h)) {φ : Nat → Nat} {h : eH} {s : fS} {l1' : Int32} {l1 : Int} {l2' : Int32} {l2 : Int} (R : fC m b φ0 σo φ h s) (el1 : l1' = iI l1) (rl1 : r32 l1) (el2 : l2' = iI l2) (rl2 : r32 l2) (hF : FX8_signed_b25 N RE K7 l1 l2 s = some q) : gG m b φ0 σo (lT lI) q (fX8_signed_b25 N rE k7 22 l1' l2' h) := by
  subst el1; subst el2
  unfold FX8_signed_b25 at hF
  unfold fX8_signed_b25
  refine s_call R (Nat.zero_le _) (fun _ hq => SX1_other (b := 0) (R.rf) (c_lit 45 45 rfl) ⟨by decide, by decide⟩ hq) hF (fun f1 rv1 h1 q1 R1 e1 E1 hF => ?_)
  refine s_if (not_congr (i_eq rfl e1.1 rl2 e1.2)) hF (fun c2 hF => ?_) (fun c2 hF => ?_)
  ·
    exact SX8_signed_b40 (N := N) (rE := rE) (RE := RE) (k7 := k7) (K7 := K7) hb @hrE @hk7 R1 rfl rl1 (c_lit 0 0 rfl) ⟨by decide, by decide⟩ hF
  ·
    exact SX8_signed_b40 (N := N) (rE := rE) (RE := RE) (k7 := k7) (K7 := K7) hb @hrE @hk7 R1 rfl rl1 (c_lit 1 1 rfl) ⟨by decide, by decide⟩ hF
def FX8_signed_b7 (N : Nat) (RE : Int → fS → Option ((Unit ⊕ Nat) × fS)) : Nat → Int → Int → fS → Option ((Int ⊕ Nat) × fS)
  | 0, _, _, _ => none
  | n + 1, l1, l2, s =>
    (FX1_other 43 s).bind fun q1 =>
    if l2 = q1.1 then
      FX8_signed_b25 N RE (FX8_signed_b7 N RE n) l1 l2 q1.2
    else
      (FX1_other 45 q1.2).bind fun q3 =>
      if ¬ (l2 = q3.1) then
        (uPZ q3.2 22 27 l1).bind fun σ5 =>
        some (.inl l2, σ5)
      else
        FX8_signed_b25 N RE (FX8_signed_b7 N RE n) l1 l2 q3.2
theorem SX8_signed_b7 {m b : Nat} {φ0 : Nat → Nat} {σo : fS} (hb : 3 ≤ b) {N : Nat} {rE : Nat → Int32 → eH → Option ((Unit ⊕ Nat) × eH)} {RE : Int → fS → Option ((Unit ⊕ Nat) × fS)} {q : (Int ⊕ Nat) × fS} (hrE : ∀ {φ : Nat → Nat} {h : eH} {s : fS} {x1' : Int32} {x1 : Int} {q}, fC m 3 φ s φ h s → x1' = iI x1 → r32 x1 → RE x1 s = some q → gG m 3 φ s (lT lU) q (rE 22 x1' h)) : ∀ {n : Nat} {φ : Nat → Nat} {h : eH} {s : fS} {l1' : Int32} {l1 : Int} {l2' : Int32} {l2 : Int}, fC m b φ0 σo φ h s → l1' = iI l1 → r32 l1 → l2' = iI l2 → r32 l2 → FX8_signed_b7 N RE n l1 l2 s = some q → gG m b φ0 σo (lT lI) q (fX8_signed_b7 N rE n 22 l1' l2' h) := by
  intro n
  induction n with
 | zero => intro φ h s l1' l1 l2' l2 R el1 rl1 el2 rl2 hF; simp [FX8_signed_b7] at hF
  | succ n ih =>
    intro φ h s l1' l1 l2' l2 R el1 rl1 el2 rl2 hF
    subst el1; subst el2
    rw [FX8_signed_b7] at hF
    rw [fX8_signed_b7]
    refine s_call R (Nat.zero_le _) (fun _ hq => SX1_other (b := 0) (R.rf) (c_lit 43 43 rfl) ⟨by decide, by decide⟩ hq) hF (fun f1 rv1 h1 q1 R1 e1 E1 hF => ?_)
    refine s_if (i_eq rfl e1.1 rl2 e1.2) hF (fun c2 hF => ?_) (fun c2 hF => ?_)
    ·
      exact SX8_signed_b25 (N := N) (rE := rE) (RE := RE) (k7 := fX8_signed_b7 N rE n) (K7 := FX8_signed_b7 N RE n) hb @hrE @ih R1 rfl rl1 rfl rl2 hF
    ·
      refine s_call R1 (Nat.zero_le _) (fun _ hq => SX1_other (b := 0) (R1.rf) (c_lit 45 45 rfl) ⟨by decide, by decide⟩ hq) hF (fun f3 rv3 h3 q3 R3 e3 E3 hF => ?_)
      refine s_if (not_congr (i_eq rfl e3.1 rl2 e3.2)) hF (fun c4 hF => ?_) (fun c4 hF => ?_)
      ·
        refine s_pZ R3 (t_22 R3.S) (Nat.le_of_ble_eq_true rfl) rfl rfl rl1 hF (fun h5 σ5 R5 T5 hF => ?_)
        exact g_ret R5 hF ⟨rfl, rl2⟩
      ·
        exact SX8_signed_b25 (N := N) (rE := rE) (RE := RE) (k7 := fX8_signed_b7 N rE n) (K7 := FX8_signed_b7 N RE n) hb @hrE @ih R3 rfl rl1 rfl rl2 hF
def FX8_signed (N : Nat) (RE : Int → fS → Option ((Unit ⊕ Nat) × fS)) (s : fS) : Option ((Int ⊕ Nat) × fS) :=
  tB (FX8_needSolid N RE s) fun x2 σ3 =>
  FX8_signed_b7 N RE N 0 x2 σ3
theorem SX8_signed {m b : Nat} {φ0 : Nat → Nat} {σo : fS} (hb : 3 ≤ b) {N : Nat} {rE : Nat → Int32 → eH → Option ((Unit ⊕ Nat) × eH)} {RE : Int → fS → Option ((Unit ⊕ Nat) × fS)} {q : (Int ⊕ Nat) × fS} (hrE : ∀ {φ : Nat → Nat} {h : eH} {s : fS} {x1' : Int32} {x1 : Int} {q}, fC m 3 φ s φ h s → x1' = iI x1 → r32 x1 → RE x1 s = some q → gG m 3 φ s (lT lU) q (rE 22 x1' h)) {φ : Nat → Nat} {h : eH} {s : fS} (R : fC m b φ0 σo φ h s) (hF : FX8_signed N RE s = some q) : gG m b φ0 σo (lT lI) q (fX8_signed N rE 22 h) := by
  unfold FX8_signed at hF
  unfold fX8_signed
  refine s_kok R (t_22 R.S) (Nat.le_of_ble_eq_true rfl) ?_
  refine s_tB R hb (fun _ hq => SX8_needSolid (b := 3) (N := N) (rE := rE) (RE := RE) (Nat.le_of_ble_eq_true rfl) @hrE (R.rf) hq) hF (fun f2 rv2 h2 x2 σ3 R2 e2 E2 hF => ?_)
  exact SX8_signed_b7 (N := N) (rE := rE) (RE := RE) hb @hrE R2 (c_lit 0 0 rfl) ⟨by decide, by decide⟩ e2.1 e2.2 hF
def FX8_isLength_b35 (s0 : Int) (s : fS) : Option (Int × fS) :=
  uZ s0 (s0, s)
theorem SX8_isLength_b35 {m b : Nat} {φ0 : Nat → Nat} {σo : fS} {q : Int × fS} {φ : Nat → Nat} {h : eH} {s : fS} {s0' : Int32} {s0 : Int} (R : fC m b φ0 σo φ h s) (es0 : s0' = iI s0) (rs0 : r32 s0) (hF : FX8_isLength_b35 s0 s = some q) : gG m b φ0 σo lI q (fX8_isLength_b35 s0' h) := by
  subst es0
  unfold FX8_isLength_b35 at hF
  unfold fX8_isLength_b35
  exact g_z R rfl hF ⟨rfl, rs0⟩
def FX8_isLength_b30 (s : fS) : Option (Int × fS) :=
  FX8_isLength_b35 1 s
theorem SX8_isLength_b30 {m b : Nat} {φ0 : Nat → Nat} {σo : fS} {q : Int × fS} {φ : Nat → Nat} {h : eH} {s : fS} (R : fC m b φ0 σo φ h s) (hF : FX8_isLength_b30 s = some q) : gG m b φ0 σo lI q (fX8_isLength_b30 h) := by
  unfold FX8_isLength_b30 at hF
  unfold fX8_isLength_b30
  exact SX8_isLength_b35 R (c_lit 1 1 rfl) ⟨by decide, by decide⟩ hF
def FX8_isLength_b34 (s : fS) : Option (Int × fS) :=
  FX8_isLength_b35 0 s
theorem SX8_isLength_b34 {m b : Nat} {φ0 : Nat → Nat} {σo : fS} {q : Int × fS} {φ : Nat → Nat} {h : eH} {s : fS} (R : fC m b φ0 σo φ h s) (hF : FX8_isLength_b34 s = some q) : gG m b φ0 σo lI q (fX8_isLength_b34 h) := by
  unfold FX8_isLength_b34 at hF
  unfold fX8_isLength_b34
  exact SX8_isLength_b35 R (c_lit 0 0 rfl) ⟨by decide, by decide⟩ hF
def FX8_isLength_b18 (l0 : Int) (s : fS) : Option (Int × fS) :=
  if l0 < 51 then
    FX8_isLength_b34 s
  else
    if 53 < l0 then
      FX8_isLength_b34 s
    else
      FX8_isLength_b30 s
theorem SX8_isLength_b18 {m b : Nat} {φ0 : Nat → Nat} {σo : fS} {q : Int × fS} {φ : Nat → Nat} {h : eH} {s : fS} {l0' : Int32} {l0 : Int} (R : fC m b φ0 σo φ h s) (el0 : l0' = iI l0) (rl0 : r32 l0) (hF : FX8_isLength_b18 l0 s = some q) : gG m b φ0 σo lI q (fX8_isLength_b18 l0' h) := by
  subst el0
  unfold FX8_isLength_b18 at hF
  unfold fX8_isLength_b18
  refine s_if (i_lt rfl (c_lit 51 51 rfl) rl0 ⟨by decide, by decide⟩) hF (fun c1 hF => ?_) (fun c1 hF => ?_)
  ·
    exact SX8_isLength_b34 R hF
  ·
    refine s_if (i_lt (c_lit 53 53 rfl) rfl ⟨by decide, by decide⟩ rl0) hF (fun c2 hF => ?_) (fun c2 hF => ?_)
    ·
      exact SX8_isLength_b34 R hF
    ·
      exact SX8_isLength_b30 R hF
def FX8_isLength (p0 : Int) (s : fS) : Option (Int × fS) :=
  if p0 = 68 then
    FX8_isLength_b30 s
  else
    if p0 < 83 then
      FX8_isLength_b18 p0 s
    else
      if p0 < 89 then
        FX8_isLength_b30 s
      else
        FX8_isLength_b18 p0 s
theorem SX8_isLength {m b : Nat} {φ0 : Nat → Nat} {σo : fS} {q : Int × fS} {φ : Nat → Nat} {h : eH} {s : fS} {p0' : Int32} {p0 : Int} (R : fC m b φ0 σo φ h s) (ep0 : p0' = iI p0) (rp0 : r32 p0) (hF : FX8_isLength p0 s = some q) : gG m b φ0 σo lI q (fX8_isLength p0' h) := by
  subst ep0
  unfold FX8_isLength at hF
  unfold fX8_isLength
  refine s_if (i_eq rfl (c_lit 68 68 rfl) rp0 ⟨by decide, by decide⟩) hF (fun c1 hF => ?_) (fun c1 hF => ?_)
  ·
    exact SX8_isLength_b30 R hF
  ·
    refine s_if (i_lt rfl (c_lit 83 83 rfl) rp0 ⟨by decide, by decide⟩) hF (fun c2 hF => ?_) (fun c2 hF => ?_)
    ·
      exact SX8_isLength_b18 R rfl rp0 hF
    ·
      refine s_if (i_lt rfl (c_lit 89 89 rfl) rp0 ⟨by decide, by decide⟩) hF (fun c3 hF => ?_) (fun c3 hF => ?_)
      ·
        exact SX8_isLength_b30 R hF
      ·
        exact SX8_isLength_b18 R rfl rp0 hF
def FX8_isGlue_b17 (s0 : Int) (s : fS) : Option (Int × fS) :=
  uZ s0 (s0, s)
theorem SX8_isGlue_b17 {m b : Nat} {φ0 : Nat → Nat} {σo : fS} {q : Int × fS} {φ : Nat → Nat} {h : eH} {s : fS} {s0' : Int32} {s0 : Int} (R : fC m b φ0 σo φ h s) (es0 : s0' = iI s0) (rs0 : r32 s0) (hF : FX8_isGlue_b17 s0 s = some q) : gG m b φ0 σo lI q (fX8_isGlue_b17 s0' h) := by
  subst es0
  unfold FX8_isGlue_b17 at hF
  unfold fX8_isGlue_b17
  exact g_z R rfl hF ⟨rfl, rs0⟩
def FX8_isGlue_b12 (s : fS) : Option (Int × fS) :=
  FX8_isGlue_b17 1 s
theorem SX8_isGlue_b12 {m b : Nat} {φ0 : Nat → Nat} {σo : fS} {q : Int × fS} {φ : Nat → Nat} {h : eH} {s : fS} (R : fC m b φ0 σo φ h s) (hF : FX8_isGlue_b12 s = some q) : gG m b φ0 σo lI q (fX8_isGlue_b12 h) := by
  unfold FX8_isGlue_b12 at hF
  unfold fX8_isGlue_b12
  exact SX8_isGlue_b17 R (c_lit 1 1 rfl) ⟨by decide, by decide⟩ hF
def FX8_isGlue (p0 : Int) (s : fS) : Option (Int × fS) :=
  if p0 = 69 then
    FX8_isGlue_b12 s
  else
    if p0 < 89 then
      FX8_isGlue_b17 0 s
    else
      FX8_isGlue_b12 s
theorem SX8_isGlue {m b : Nat} {φ0 : Nat → Nat} {σo : fS} {q : Int × fS} {φ : Nat → Nat} {h : eH} {s : fS} {p0' : Int32} {p0 : Int} (R : fC m b φ0 σo φ h s) (ep0 : p0' = iI p0) (rp0 : r32 p0) (hF : FX8_isGlue p0 s = some q) : gG m b φ0 σo lI q (fX8_isGlue p0' h) := by
  subst ep0
  unfold FX8_isGlue at hF
  unfold fX8_isGlue
  refine s_if (i_eq rfl (c_lit 69 69 rfl) rp0 ⟨by decide, by decide⟩) hF (fun c1 hF => ?_) (fun c1 hF => ?_)
  ·
    exact SX8_isGlue_b12 R hF
  ·
    refine s_if (i_lt rfl (c_lit 89 89 rfl) rp0 ⟨by decide, by decide⟩) hF (fun c2 hF => ?_) (fun c2 hF => ?_)
    ·
      exact SX8_isGlue_b17 R (c_lit 0 0 rfl) ⟨by decide, by decide⟩ hF
    ·
      exact SX8_isGlue_b12 R hF
def FX8_isSized_b25 (s0 : Int) (s : fS) : Option (Int × fS) :=
  uZ s0 (s0, s)
theorem SX8_isSized_b25 {m b : Nat} {φ0 : Nat → Nat} {σo : fS} {q : Int × fS} {φ : Nat → Nat} {h : eH} {s : fS} {s0' : Int32} {s0 : Int} (R : fC m b φ0 σo φ h s) (es0 : s0' = iI s0) (rs0 : r32 s0) (hF : FX8_isSized_b25 s0 s = some q) : gG m b φ0 σo lI q (fX8_isSized_b25 s0' h) := by
  subst es0
  unfold FX8_isSized_b25 at hF
  unfold fX8_isSized_b25
  exact g_z R rfl hF ⟨rfl, rs0⟩
def FX8_isSized_b20 (s : fS) : Option (Int × fS) :=
  FX8_isSized_b25 1 s
theorem SX8_isSized_b20 {m b : Nat} {φ0 : Nat → Nat} {σo : fS} {q : Int × fS} {φ : Nat → Nat} {h : eH} {s : fS} (R : fC m b φ0 σo φ h s) (hF : FX8_isSized_b20 s = some q) : gG m b φ0 σo lI q (fX8_isSized_b20 h) := by
  unfold FX8_isSized_b20 at hF
  unfold fX8_isSized_b20
  exact SX8_isSized_b25 R (c_lit 1 1 rfl) ⟨by decide, by decide⟩ hF
def FX8_isSized (p0 : Int) (s : fS) : Option (Int × fS) :=
  (FX8_primitive p0 s).bind fun q2 =>
  (FX8_isLength q2.1 q2.2).bind fun q3 =>
  if ¬ (q3.1 = 0) then
    FX8_isSized_b20 q3.2
  else
    (FX8_isGlue q2.1 q3.2).bind fun q5 =>
    if q5.1 = 0 then
      FX8_isSized_b25 0 q5.2
    else
      FX8_isSized_b20 q5.2
theorem SX8_isSized {m b : Nat} {φ0 : Nat → Nat} {σo : fS} {q : Int × fS} {φ : Nat → Nat} {h : eH} {s : fS} {p0' : Int32} {p0 : Int} (R : fC m b φ0 σo φ h s) (ep0 : p0' = iI p0) (rp0 : r32 p0) (hF : FX8_isSized p0 s = some q) : gG m b φ0 σo lI q (fX8_isSized 22 p0' h) := by
  subst ep0
  unfold FX8_isSized at hF
  unfold fX8_isSized
  refine s_kok R (t_22 R.S) (Nat.le_of_ble_eq_true rfl) ?_
  refine s_call R (Nat.zero_le _) (fun _ hq => SX8_primitive (b := 0) (R.rf) rfl rp0 hq) hF (fun f2 rv2 h2 q2 R2 e2 E2 hF => ?_)
  refine s_call R2 (Nat.zero_le _) (fun _ hq => SX8_isLength (b := 0) (R2.rf) e2.1 e2.2 hq) hF (fun f3 rv3 h3 q3 R3 e3 E3 hF => ?_)
  refine s_if (not_congr (i_eq e3.1 (c_lit 0 0 rfl) e3.2 ⟨by decide, by decide⟩)) hF (fun c4 hF => ?_) (fun c4 hF => ?_)
  ·
    exact SX8_isSized_b20 R3 hF
  ·
    refine s_call R3 (Nat.zero_le _) (fun _ hq => SX8_isGlue (b := 0) (R3.rf) e2.1 e2.2 hq) hF (fun f5 rv5 h5 q5 R5 e5 E5 hF => ?_)
    refine s_if (i_eq e5.1 (c_lit 0 0 rfl) e5.2 ⟨by decide, by decide⟩) hF (fun c6 hF => ?_) (fun c6 hF => ?_)
    ·
      exact SX8_isSized_b25 R5 (c_lit 0 0 rfl) ⟨by decide, by decide⟩ hF
    ·
      exact SX8_isSized_b20 R5 hF
def FX8_cellOf (RN : fS → Option ((Int ⊕ Nat) × fS)) (p0 : Int) (s : fS) : Option ((Int ⊕ Nat) × fS) :=
  if ¬ (p0 = 67) then
    if ¬ (p0 = 68) then
      if ¬ (p0 = 69) then
        if 83 ≤ p0 then
          if 89 ≤ p0 then
            some (.inl (iadd 531 (imul 4 (isub (iadd 256 p0) 89))), s)
          else
            some (.inl (isub (iadd 525 p0) 83), s)
        else
          some (.inl (isub (iadd 256 p0) 70), s)
      else
        tB (FX8_within RN 255 s) fun x7 σ8 =>
        some (.inl (iadd 531 (imul 4 x7)), σ8)
    else
      tB (FX8_within RN 255 s) fun x10 σ11 =>
      some (.inl (iadd 269 x10), σ11)
  else
    tB (FX8_within RN 255 s) fun x13 σ14 =>
    some (.inl x13, σ14)
theorem SX8_cellOf {m b : Nat} {φ0 : Nat → Nat} {σo : fS} (hb : 3 ≤ b) {rN : Nat → eH → Option ((Int32 ⊕ Nat) × eH)} {RN : fS → Option ((Int ⊕ Nat) × fS)} {q : (Int ⊕ Nat) × fS} (hrN : ∀ {φ : Nat → Nat} {h : eH} {s : fS} {q}, fC m 3 φ s φ h s → RN s = some q → gG m 3 φ s (lT lI) q (rN 22 h)) {φ : Nat → Nat} {h : eH} {s : fS} {p0' : Int32} {p0 : Int} (R : fC m b φ0 σo φ h s) (ep0 : p0' = iI p0) (rp0 : r32 p0) (hF : FX8_cellOf RN p0 s = some q) : gG m b φ0 σo (lT lI) q (fX8_cellOf rN 22 p0' h) := by
  subst ep0
  unfold FX8_cellOf at hF
  unfold fX8_cellOf
  refine s_if (not_congr (i_eq rfl (c_lit 67 67 rfl) rp0 ⟨by decide, by decide⟩)) hF (fun c1 hF => ?_) (fun c1 hF => ?_)
  ·
    refine s_if (not_congr (i_eq rfl (c_lit 68 68 rfl) rp0 ⟨by decide, by decide⟩)) hF (fun c2 hF => ?_) (fun c2 hF => ?_)
    ·
      refine s_if (not_congr (i_eq rfl (c_lit 69 69 rfl) rp0 ⟨by decide, by decide⟩)) hF (fun c3 hF => ?_) (fun c3 hF => ?_)
      ·
        refine s_if (i_le (c_lit 83 83 rfl) rfl ⟨by decide, by decide⟩ rp0) hF (fun c4 hF => ?_) (fun c4 hF => ?_)
        ·
          refine s_if (i_le (c_lit 89 89 rfl) rfl ⟨by decide, by decide⟩ rp0) hF (fun c5 hF => ?_) (fun c5 hF => ?_)
          ·
            exact g_ret R hF ⟨(c_add (c_lit 531 531 rfl) (c_mul (c_lit 4 4 rfl) (c_sub (c_add (c_lit 256 256 rfl) rfl) (c_lit 89 89 rfl)))), (rr_I _)⟩
          ·
            exact g_ret R hF ⟨(c_sub (c_add (c_lit 525 525 rfl) rfl) (c_lit 83 83 rfl)), (rr_I _)⟩
        ·
          exact g_ret R hF ⟨(c_sub (c_add (c_lit 256 256 rfl) rfl) (c_lit 70 70 rfl)), (rr_I _)⟩
      ·
        refine s_kok R (t_22 R.S) (Nat.le_of_ble_eq_true rfl) ?_
        refine s_tB R hb (fun _ hq => SX8_within (b := 3) (rN := rN) (RN := RN) (Nat.le_of_ble_eq_true rfl) @hrN (R.rf) (c_lit 255 255 rfl) ⟨by decide, by decide⟩ hq) hF (fun f7 rv7 h7 x7 σ8 R7 e7 E7 hF => ?_)
        exact g_ret R7 hF ⟨(c_add (c_lit 531 531 rfl) (c_mul (c_lit 4 4 rfl) e7.1)), (rr_I _)⟩
    ·
      refine s_kok R (t_22 R.S) (Nat.le_of_ble_eq_true rfl) ?_
      refine s_tB R hb (fun _ hq => SX8_within (b := 3) (rN := rN) (RN := RN) (Nat.le_of_ble_eq_true rfl) @hrN (R.rf) (c_lit 255 255 rfl) ⟨by decide, by decide⟩ hq) hF (fun f9 rv9 h9 x10 σ11 R9 e9 E9 hF => ?_)
      exact g_ret R9 hF ⟨(c_add (c_lit 269 269 rfl) e9.1), (rr_I _)⟩
  ·
    refine s_kok R (t_22 R.S) (Nat.le_of_ble_eq_true rfl) ?_
    refine s_tB R hb (fun _ hq => SX8_within (b := 3) (rN := rN) (RN := RN) (Nat.le_of_ble_eq_true rfl) @hrN (R.rf) (c_lit 255 255 rfl) ⟨by decide, by decide⟩ hq) hF (fun f11 rv11 h11 x13 σ14 R11 e11 E11 hF => ?_)
    exact g_ret R11 hF ⟨e11.1, e11.2⟩
def FX39_of (this : Nat) (p0 : Int) (s : fS) : Option (Int × fS) :=
  if p0 = 0 then
    (uK 41 s this).bind fun _ =>
    some ((s.i this 3), s)
  else
    if p0 = 1 then
      (uK 41 s this).bind fun _ =>
      some ((s.i this 4), s)
    else
      if p0 = 2 then
        (uK 41 s this).bind fun _ =>
        some ((s.i this 5), s)
      else
        if p0 = 3 then
          (uK 41 s this).bind fun _ =>
          some ((s.i this 6), s)
        else
          if p0 = 4 then
            (uK 41 s this).bind fun _ =>
            some ((s.i this 7), s)
          else
            if p0 = 5 then
              (uK 41 s this).bind fun _ =>
              some ((s.i this 8), s)
            else
              if p0 = 6 then
                (uK 41 s this).bind fun _ =>
                some ((s.i this 9), s)
              else
                if p0 = 7 then
                  (uK 41 s this).bind fun _ =>
                  some ((s.i this 10), s)
                else
                  if p0 = 8 then
                    (uK 41 s this).bind fun _ =>
                    some ((s.i this 11), s)
                  else
                    if p0 = 9 then
                      (uK 41 s this).bind fun _ =>
                      (uK 41 s this).bind fun _ =>
                      some ((isub (s.i this 1) (s.i this 0)), s)
                    else
                      (uK 41 s this).bind fun _ =>
                      some ((s.i this 12), s)
theorem SX39_of {m b : Nat} {φ0 : Nat → Nat} {σo : fS} {q : Int × fS} {φ : Nat → Nat} {h : eH} {s : fS} {this : Nat} {p0' : Int32} {p0 : Int} (R : fC m b φ0 σo φ h s) (ep0 : p0' = iI p0) (rp0 : r32 p0) (hF : FX39_of this p0 s = some q) : gG m b φ0 σo lI q (fX39_of this p0' h) := by
  subst ep0
  unfold FX39_of at hF
  unfold fX39_of
  refine s_if (i_eq rfl (c_lit 0 0 rfl) rp0 ⟨by decide, by decide⟩) hF (fun c1 hF => ?_) (fun c1 hF => ?_)
  ·
    refine s_K hF (fun t3 hF => ?_)
    refine s_gI R t3 (Nat.le_of_ble_eq_true rfl) rfl ?_
    exact g_ret R hF ⟨rfl, (R.ri t3 (Nat.le_of_ble_eq_true rfl) rfl)⟩
  ·
    refine s_if (i_eq rfl (c_lit 1 1 rfl) rp0 ⟨by decide, by decide⟩) hF (fun c4 hF => ?_) (fun c4 hF => ?_)
    ·
      refine s_K hF (fun t6 hF => ?_)
      refine s_gI R t6 (Nat.le_of_ble_eq_true rfl) rfl ?_
      exact g_ret R hF ⟨rfl, (R.ri t6 (Nat.le_of_ble_eq_true rfl) rfl)⟩
    ·
      refine s_if (i_eq rfl (c_lit 2 2 rfl) rp0 ⟨by decide, by decide⟩) hF (fun c7 hF => ?_) (fun c7 hF => ?_)
      ·
        refine s_K hF (fun t9 hF => ?_)
        refine s_gI R t9 (Nat.le_of_ble_eq_true rfl) rfl ?_
        exact g_ret R hF ⟨rfl, (R.ri t9 (Nat.le_of_ble_eq_true rfl) rfl)⟩
      ·
        refine s_if (i_eq rfl (c_lit 3 3 rfl) rp0 ⟨by decide, by decide⟩) hF (fun c10 hF => ?_) (fun c10 hF => ?_)
        ·
          refine s_K hF (fun t12 hF => ?_)
          refine s_gI R t12 (Nat.le_of_ble_eq_true rfl) rfl ?_
          exact g_ret R hF ⟨rfl, (R.ri t12 (Nat.le_of_ble_eq_true rfl) rfl)⟩
        ·
          refine s_if (i_eq rfl (c_lit 4 4 rfl) rp0 ⟨by decide, by decide⟩) hF (fun c13 hF => ?_) (fun c13 hF => ?_)
          ·
            refine s_K hF (fun t15 hF => ?_)
            refine s_gI R t15 (Nat.le_of_ble_eq_true rfl) rfl ?_
            exact g_ret R hF ⟨rfl, (R.ri t15 (Nat.le_of_ble_eq_true rfl) rfl)⟩
          ·
            refine s_if (i_eq rfl (c_lit 5 5 rfl) rp0 ⟨by decide, by decide⟩) hF (fun c16 hF => ?_) (fun c16 hF => ?_)
            ·
              refine s_K hF (fun t18 hF => ?_)
              refine s_gI R t18 (Nat.le_of_ble_eq_true rfl) rfl ?_
              exact g_ret R hF ⟨rfl, (R.ri t18 (Nat.le_of_ble_eq_true rfl) rfl)⟩
            ·
              refine s_if (i_eq rfl (c_lit 6 6 rfl) rp0 ⟨by decide, by decide⟩) hF (fun c19 hF => ?_) (fun c19 hF => ?_)
              ·
                refine s_K hF (fun t21 hF => ?_)
                refine s_gI R t21 (Nat.le_of_ble_eq_true rfl) rfl ?_
                exact g_ret R hF ⟨rfl, (R.ri t21 (Nat.le_of_ble_eq_true rfl) rfl)⟩
              ·
                refine s_if (i_eq rfl (c_lit 7 7 rfl) rp0 ⟨by decide, by decide⟩) hF (fun c22 hF => ?_) (fun c22 hF => ?_)
                ·
                  refine s_K hF (fun t24 hF => ?_)
                  refine s_gI R t24 (Nat.le_of_ble_eq_true rfl) rfl ?_
                  exact g_ret R hF ⟨rfl, (R.ri t24 (Nat.le_of_ble_eq_true rfl) rfl)⟩
                ·
                  refine s_if (i_eq rfl (c_lit 8 8 rfl) rp0 ⟨by decide, by decide⟩) hF (fun c25 hF => ?_) (fun c25 hF => ?_)
                  ·
                    refine s_K hF (fun t27 hF => ?_)
                    refine s_gI R t27 (Nat.le_of_ble_eq_true rfl) rfl ?_
                    exact g_ret R hF ⟨rfl, (R.ri t27 (Nat.le_of_ble_eq_true rfl) rfl)⟩
                  ·
                    refine s_if (i_eq rfl (c_lit 9 9 rfl) rp0 ⟨by decide, by decide⟩) hF (fun c28 hF => ?_) (fun c28 hF => ?_)
                    ·
                      refine s_K hF (fun t30 hF => ?_)
                      refine s_gI R t30 (Nat.le_of_ble_eq_true rfl) rfl ?_
                      refine s_K hF (fun t32 hF => ?_)
                      refine s_gI R t32 (Nat.le_of_ble_eq_true rfl) rfl ?_
                      exact g_ret R hF ⟨(c_sub rfl rfl), (rr_I _)⟩
                    ·
                      refine s_K hF (fun t34 hF => ?_)
                      refine s_gI R t34 (Nat.le_of_ble_eq_true rfl) rfl ?_
                      exact g_ret R hF ⟨rfl, (R.ri t34 (Nat.le_of_ble_eq_true rfl) rfl)⟩
def FX8_sized_b18 (RN : fS → Option ((Int ⊕ Nat) × fS)) (l2 : Int) (s : fS) : Option ((Int ⊕ Nat) × fS) :=
  tB (FX8_cellOf RN l2 s) fun x6 σ7 =>
  (uRI σ7 27 x6).bind fun x8 =>
  some (.inl x8, σ7)
theorem SX8_sized_b18 {m b : Nat} {φ0 : Nat → Nat} {σo : fS} (hb : 3 ≤ b) {rN : Nat → eH → Option ((Int32 ⊕ Nat) × eH)} {RN : fS → Option ((Int ⊕ Nat) × fS)} {q : (Int ⊕ Nat) × fS} (hrN : ∀ {φ : Nat → Nat} {h : eH} {s : fS} {q}, fC m 3 φ s φ h s → RN s = some q → gG m 3 φ s (lT lI) q (rN 22 h)) {φ : Nat → Nat} {h : eH} {s : fS} {l2' : Int32} {l2 : Int} (R : fC m b φ0 σo φ h s) (el2 : l2' = iI l2) (rl2 : r32 l2) (hF : FX8_sized_b18 RN l2 s = some q) : gG m b φ0 σo (lT lI) q (fX8_sized_b18 rN 22 l2' h) := by
  subst el2
  unfold FX8_sized_b18 at hF
  unfold fX8_sized_b18
  refine s_gO R (t_22 R.S) (Nat.le_of_ble_eq_true rfl) rfl (o_22_4 R.S) ?_
  refine s_gAs R (t_23 R.S) (Nat.le_of_ble_eq_true rfl) rfl (o_23_3 R.S) (a_27 R) ?_
  refine s_kok R (t_22 R.S) (Nat.le_of_ble_eq_true rfl) ?_
  refine s_tB R hb (fun _ hq => SX8_cellOf (b := 3) (rN := rN) (RN := RN) (Nat.le_of_ble_eq_true rfl) @hrN (R.rf) rfl rl2 hq) hF (fun f4 rv4 h4 x6 σ7 R4 e4 E4 hF => ?_)
  refine s_rI R4 (u_27 R4.S).1 (u_27 R4.S).2 (by decide) (a_27 R4) e4.1 e4.2 hF (fun x8 ra5 hF => ?_)
  exact g_ret R4 hF ⟨rfl, ra5⟩
def FX8_sized_b74 (RN : fS → Option ((Int ⊕ Nat) × fS)) (s0 : Int) (s : fS) : Option ((Int ⊕ Nat) × fS) :=
  some (.inl s0, s)
theorem SX8_sized_b74 {m b : Nat} {φ0 : Nat → Nat} {σo : fS} {rN : Nat → eH → Option ((Int32 ⊕ Nat) × eH)} {RN : fS → Option ((Int ⊕ Nat) × fS)} {q : (Int ⊕ Nat) × fS} (hrN : ∀ {φ : Nat → Nat} {h : eH} {s : fS} {q}, fC m 3 φ s φ h s → RN s = some q → gG m 3 φ s (lT lI) q (rN 22 h)) {φ : Nat → Nat} {h : eH} {s : fS} {s0' : Int32} {s0 : Int} (R : fC m b φ0 σo φ h s) (es0 : s0' = iI s0) (rs0 : r32 s0) (hF : FX8_sized_b74 RN s0 s = some q) : gG m b φ0 σo (lT lI) q (fX8_sized_b74 rN s0' h) := by
  subst es0
  unfold FX8_sized_b74 at hF
  unfold fX8_sized_b74
  exact g_ret R hF ⟨rfl, rs0⟩
def FX8_sized (RN : fS → Option ((Int ⊕ Nat) × fS)) (p0 : Int) (s : fS) : Option ((Int ⊕ Nat) × fS) :=
  (FX8_primitive p0 s).bind fun q2 =>
  if q2.1 < 51 then
    FX8_sized_b18 RN q2.1 q2.2
  else
    if q2.1 ≤ 53 then
      tB (FX8_within RN 255 q2.2) fun x10 σ11 =>
      (uRI σ11 27 (iadd 1583 x10)).bind fun x12 =>
      if ¬ (x12 = (-1)) then
        (uRO σ11 21 x12).bind fun a17 =>
        (uK 41 σ11 a17).bind fun _ =>
        (FX39_of a17 (isub q2.1 51) σ11).bind fun q20 =>
        FX8_sized_b74 RN q20.1 q20.2
      else
        FX8_sized_b74 RN 0 σ11
    else
      FX8_sized_b18 RN q2.1 q2.2
theorem SX8_sized {m b : Nat} {φ0 : Nat → Nat} {σo : fS} (hb : 3 ≤ b) {rN : Nat → eH → Option ((Int32 ⊕ Nat) × eH)} {RN : fS → Option ((Int ⊕ Nat) × fS)} {q : (Int ⊕ Nat) × fS} (hrN : ∀ {φ : Nat → Nat} {h : eH} {s : fS} {q}, fC m 3 φ s φ h s → RN s = some q → gG m 3 φ s (lT lI) q (rN 22 h)) {φ : Nat → Nat} {h : eH} {s : fS} {p0' : Int32} {p0 : Int} (R : fC m b φ0 σo φ h s) (ep0 : p0' = iI p0) (rp0 : r32 p0) (hF : FX8_sized RN p0 s = some q) : gG m b φ0 σo (lT lI) q (fX8_sized rN 22 p0' h) := by
  subst ep0
  unfold FX8_sized at hF
  unfold fX8_sized
  refine s_kok R (t_22 R.S) (Nat.le_of_ble_eq_true rfl) ?_
  refine s_call R (Nat.zero_le _) (fun _ hq => SX8_primitive (b := 0) (R.rf) rfl rp0 hq) hF (fun f2 rv2 h2 q2 R2 e2 E2 hF => ?_)
  refine s_if (i_lt e2.1 (c_lit 51 51 rfl) e2.2 ⟨by decide, by decide⟩) hF (fun c3 hF => ?_) (fun c3 hF => ?_)
  ·
    exact SX8_sized_b18 (rN := rN) (RN := RN) hb @hrN R2 e2.1 e2.2 hF
  ·
    refine s_if (i_le e2.1 (c_lit 53 53 rfl) e2.2 ⟨by decide, by decide⟩) hF (fun c4 hF => ?_) (fun c4 hF => ?_)
    ·
      refine s_gO R2 (t_22 R2.S) (Nat.le_of_ble_eq_true rfl) rfl (o_22_4 R2.S) ?_
      refine s_gAs R2 (t_23 R2.S) (Nat.le_of_ble_eq_true rfl) rfl (o_23_3 R2.S) (a_27 R2) ?_
      refine s_kok R2 (t_22 R2.S) (Nat.le_of_ble_eq_true rfl) ?_
      refine s_tB R2 hb (fun _ hq => SX8_within (b := 3) (rN := rN) (RN := RN) (Nat.le_of_ble_eq_true rfl) @hrN (R2.rf) (c_lit 255 255 rfl) ⟨by decide, by decide⟩ hq) hF (fun f8 rv8 h8 x10 σ11 R8 e8 E8 hF => ?_)
      refine s_rI R8 (u_27 R8.S).1 (u_27 R8.S).2 (by decide) (a_27 R8) (c_add (c_lit 1583 1583 rfl) e8.1) (rr_I _) hF (fun x12 ra9 hF => ?_)
      refine s_if (not_congr (i_eq rfl (c_lit (-1) (-1) rfl) ra9 ⟨by decide, by decide⟩)) hF (fun c10 hF => ?_) (fun c10 hF => ?_)
      ·
        refine s_gAs R8 (t_22 R8.S) (Nat.le_of_ble_eq_true rfl) rfl (o_22_2 R8.S) (a_21 R8) ?_
        refine s_rO R8 (u_21 R8.S).1 (u_21 R8.S).2 rfl (fun _ => rfl) (Nat.le_of_ble_eq_true rfl) (a_21 R8) rfl ra9 hF (fun a17 y12 hF => ?_)
        refine s_K hF (fun t14 hF => ?_)
        refine s_kok R8 t14 (Nat.le_of_ble_eq_true rfl) ?_
        refine s_call R8 (Nat.zero_le _) (fun _ hq => SX39_of (b := 0) (R8.rf) (c_sub e2.1 (c_lit 51 51 rfl)) (rr_I _) hq) hF (fun f15 rv15 h15 q20 R15 e15 E15 hF => ?_)
        exact SX8_sized_b74 (rN := rN) (RN := RN) @hrN R15 e15.1 e15.2 hF
      ·
        exact SX8_sized_b74 (rN := rN) (RN := RN) @hrN R8 (c_lit 0 0 rfl) ⟨by decide, by decide⟩ hF
    ·
      exact SX8_sized_b18 (rN := rN) (RN := RN) hb @hrN R2 e2.1 e2.2 hF
def FX1_isDigit_b19 (s0 : Int) (s : fS) : Option (Int × fS) :=
  uZ s0 (s0, s)
theorem SX1_isDigit_b19 {m b : Nat} {φ0 : Nat → Nat} {σo : fS} {q : Int × fS} {φ : Nat → Nat} {h : eH} {s : fS} {s0' : Int32} {s0 : Int} (R : fC m b φ0 σo φ h s) (es0 : s0' = iI s0) (rs0 : r32 s0) (hF : FX1_isDigit_b19 s0 s = some q) : gG m b φ0 σo lI q (fX1_isDigit_b19 s0' h) := by
  subst es0
  unfold FX1_isDigit_b19 at hF
  unfold fX1_isDigit_b19
  exact g_z R rfl hF ⟨rfl, rs0⟩
def FX1_isDigit_b18 (s : fS) : Option (Int × fS) :=
  FX1_isDigit_b19 0 s
theorem SX1_isDigit_b18 {m b : Nat} {φ0 : Nat → Nat} {σo : fS} {q : Int × fS} {φ : Nat → Nat} {h : eH} {s : fS} (R : fC m b φ0 σo φ h s) (hF : FX1_isDigit_b18 s = some q) : gG m b φ0 σo lI q (fX1_isDigit_b18 h) := by
  unfold FX1_isDigit_b18 at hF
  unfold fX1_isDigit_b18
  exact SX1_isDigit_b19 R (c_lit 0 0 rfl) ⟨by decide, by decide⟩ hF
def FX1_isDigit (p0 : Int) (s : fS) : Option (Int × fS) :=
  if p0 < 3120 then
    FX1_isDigit_b18 s
  else
    if 3129 < p0 then
      FX1_isDigit_b18 s
    else
      FX1_isDigit_b19 1 s
theorem SX1_isDigit {m b : Nat} {φ0 : Nat → Nat} {σo : fS} {q : Int × fS} {φ : Nat → Nat} {h : eH} {s : fS} {p0' : Int32} {p0 : Int} (R : fC m b φ0 σo φ h s) (ep0 : p0' = iI p0) (rp0 : r32 p0) (hF : FX1_isDigit p0 s = some q) : gG m b φ0 σo lI q (fX1_isDigit p0' h) := by
  subst ep0
  unfold FX1_isDigit at hF
  unfold fX1_isDigit
  refine s_if (i_lt rfl (c_lit 3120 3120 rfl) rp0 ⟨by decide, by decide⟩) hF (fun c1 hF => ?_) (fun c1 hF => ?_)
  ·
    exact SX1_isDigit_b18 R hF
  ·
    refine s_if (i_lt (c_lit 3129 3129 rfl) rfl ⟨by decide, by decide⟩ rp0) hF (fun c2 hF => ?_) (fun c2 hF => ?_)
    ·
      exact SX1_isDigit_b18 R hF
    ·
      exact SX1_isDigit_b19 R (c_lit 1 1 rfl) ⟨by decide, by decide⟩ hF
def FX8_isPoint_b23 (s0 : Int) (s : fS) : Option (Int × fS) :=
  uZ s0 (s0, s)
theorem SX8_isPoint_b23 {m b : Nat} {φ0 : Nat → Nat} {σo : fS} {q : Int × fS} {φ : Nat → Nat} {h : eH} {s : fS} {s0' : Int32} {s0 : Int} (R : fC m b φ0 σo φ h s) (es0 : s0' = iI s0) (rs0 : r32 s0) (hF : FX8_isPoint_b23 s0 s = some q) : gG m b φ0 σo lI q (fX8_isPoint_b23 s0' h) := by
  subst es0
  unfold FX8_isPoint_b23 at hF
  unfold fX8_isPoint_b23
  exact g_z R rfl hF ⟨rfl, rs0⟩
def FX8_isPoint_b18 (s : fS) : Option (Int × fS) :=
  FX8_isPoint_b23 1 s
theorem SX8_isPoint_b18 {m b : Nat} {φ0 : Nat → Nat} {σo : fS} {q : Int × fS} {φ : Nat → Nat} {h : eH} {s : fS} (R : fC m b φ0 σo φ h s) (hF : FX8_isPoint_b18 s = some q) : gG m b φ0 σo lI q (fX8_isPoint_b18 h) := by
  unfold FX8_isPoint_b18 at hF
  unfold fX8_isPoint_b18
  exact SX8_isPoint_b23 R (c_lit 1 1 rfl) ⟨by decide, by decide⟩ hF
def FX8_isPoint (p0 : Int) (s : fS) : Option (Int × fS) :=
  (FX1_other 46 s).bind fun q1 =>
  if p0 = q1.1 then
    FX8_isPoint_b18 q1.2
  else
    (FX1_other 44 q1.2).bind fun q3 =>
    if ¬ (p0 = q3.1) then
      FX8_isPoint_b23 0 q3.2
    else
      FX8_isPoint_b18 q3.2
theorem SX8_isPoint {m b : Nat} {φ0 : Nat → Nat} {σo : fS} {q : Int × fS} {φ : Nat → Nat} {h : eH} {s : fS} {p0' : Int32} {p0 : Int} (R : fC m b φ0 σo φ h s) (ep0 : p0' = iI p0) (rp0 : r32 p0) (hF : FX8_isPoint p0 s = some q) : gG m b φ0 σo lI q (fX8_isPoint p0' h) := by
  subst ep0
  unfold FX8_isPoint at hF
  unfold fX8_isPoint
  refine s_call R (Nat.zero_le _) (fun _ hq => SX1_other (b := 0) (R.rf) (c_lit 46 46 rfl) ⟨by decide, by decide⟩ hq) hF (fun f1 rv1 h1 q1 R1 e1 E1 hF => ?_)
  refine s_if (i_eq rfl e1.1 rp0 e1.2) hF (fun c2 hF => ?_) (fun c2 hF => ?_)
  ·
    exact SX8_isPoint_b18 R1 hF
  ·
    refine s_call R1 (Nat.zero_le _) (fun _ hq => SX1_other (b := 0) (R1.rf) (c_lit 44 44 rfl) ⟨by decide, by decide⟩ hq) hF (fun f3 rv3 h3 q3 R3 e3 E3 hF => ?_)
    refine s_if (not_congr (i_eq rfl e3.1 rp0 e3.2)) hF (fun c4 hF => ?_) (fun c4 hF => ?_)
    ·
      exact SX8_isPoint_b23 R3 (c_lit 0 0 rfl) ⟨by decide, by decide⟩ hF
    ·
      exact SX8_isPoint_b18 R3 hF
def FX10_letter (p0 : Int) (p1 : Int) (s : fS) : Option (Int × fS) :=
  (uRI s 46 p0).bind fun x5 =>
  (uRI s 48 (iadd x5 p1)).bind fun x7 =>
  some ((iand x7 255), s)
theorem SX10_letter {m b : Nat} {φ0 : Nat → Nat} {σo : fS} {q : Int × fS} {φ : Nat → Nat} {h : eH} {s : fS} {p0' : Int32} {p0 : Int} {p1' : Int32} {p1 : Int} (R : fC m b φ0 σo φ h s) (ep0 : p0' = iI p0) (rp0 : r32 p0) (ep1 : p1' = iI p1) (rp1 : r32 p1) (hF : FX10_letter p0 p1 s = some q) : gG m b φ0 σo lI q (fX10_letter 44 p0' p1' h) := by
  subst ep0; subst ep1
  unfold FX10_letter at hF
  unfold fX10_letter
  refine s_gA R (t_44 R.S) (Nat.le_of_ble_eq_true rfl) rfl (o_44_4 R.S) (fun _ _ => ?_)
  refine s_gA R (t_44 R.S) (Nat.le_of_ble_eq_true rfl) rfl (o_44_2 R.S) (fun _ _ => ?_)
  refine s_rI R (u_46 R.S).1 (u_46 R.S).2 (by decide) rfl rfl rp0 hF (fun x5 ra3 hF => ?_)
  refine s_rI R (u_48 R.S).1 (u_48 R.S).2 (by decide) rfl (c_add rfl rfl) (rr_I _) hF (fun x7 ra4 hF => ?_)
  exact g_ret R hF ⟨(c_and rfl (c_lit 255 255 rfl)), (rr_I _)⟩
def FX8_quoted_b101 (N : Nat) (RE : Int → fS → Option ((Unit ⊕ Nat) × fS)) (l2 : Int) (s : fS) : Option ((Int ⊕ Nat) × fS) :=
  some (.inl l2, s)
theorem SX8_quoted_b101 {m b : Nat} {φ0 : Nat → Nat} {σo : fS} {N : Nat} {rE : Nat → Int32 → eH → Option ((Unit ⊕ Nat) × eH)} {RE : Int → fS → Option ((Unit ⊕ Nat) × fS)} {q : (Int ⊕ Nat) × fS} (hrE : ∀ {φ : Nat → Nat} {h : eH} {s : fS} {x1' : Int32} {x1 : Int} {q}, fC m 3 φ s φ h s → x1' = iI x1 → r32 x1 → RE x1 s = some q → gG m 3 φ s (lT lU) q (rE 22 x1' h)) {φ : Nat → Nat} {h : eH} {s : fS} {l2' : Int32} {l2 : Int} (R : fC m b φ0 σo φ h s) (el2 : l2' = iI l2) (rl2 : r32 l2) (hF : FX8_quoted_b101 N RE l2 s = some q) : gG m b φ0 σo (lT lI) q (fX8_quoted_b101 N rE l2' h) := by
  subst el2
  unfold FX8_quoted_b101 at hF
  unfold fX8_quoted_b101
  exact g_ret R hF ⟨rfl, rl2⟩
def FX8_quoted_b82 (N : Nat) (RE : Int → fS → Option ((Unit ⊕ Nat) × fS)) (l2 : Int) (s : fS) : Option ((Int ⊕ Nat) × fS) :=
  tB (FX8_getExpanded N RE s) fun x2 σ3 =>
  (FX1_is x2 10 σ3).bind fun q4 =>
  if ¬ (q4.1 = 0) then
    FX8_quoted_b101 N RE l2 q4.2
  else
    (FX8_putBack x2 q4.2).bind fun q7 =>
    FX8_quoted_b101 N RE l2 q7.2
theorem SX8_quoted_b82 {m b : Nat} {φ0 : Nat → Nat} {σo : fS} (hb : 3 ≤ b) {N : Nat} {rE : Nat → Int32 → eH → Option ((Unit ⊕ Nat) × eH)} {RE : Int → fS → Option ((Unit ⊕ Nat) × fS)} {q : (Int ⊕ Nat) × fS} (hrE : ∀ {φ : Nat → Nat} {h : eH} {s : fS} {x1' : Int32} {x1 : Int} {q}, fC m 3 φ s φ h s → x1' = iI x1 → r32 x1 → RE x1 s = some q → gG m 3 φ s (lT lU) q (rE 22 x1' h)) {φ : Nat → Nat} {h : eH} {s : fS} {l2' : Int32} {l2 : Int} (R : fC m b φ0 σo φ h s) (el2 : l2' = iI l2) (rl2 : r32 l2) (hF : FX8_quoted_b82 N RE l2 s = some q) : gG m b φ0 σo (lT lI) q (fX8_quoted_b82 N rE 22 l2' h) := by
  subst el2
  unfold FX8_quoted_b82 at hF
  unfold fX8_quoted_b82
  refine s_kok R (t_22 R.S) (Nat.le_of_ble_eq_true rfl) ?_
  refine s_tB R hb (fun _ hq => SX8_getExpanded (b := 3) (N := N) (rE := rE) (RE := RE) (Nat.le_of_ble_eq_true rfl) @hrE (R.rf) hq) hF (fun f2 rv2 h2 x2 σ3 R2 e2 E2 hF => ?_)
  refine s_call R2 (Nat.zero_le _) (fun _ hq => SX1_is (b := 0) (R2.rf) e2.1 e2.2 (c_lit 10 10 rfl) ⟨by decide, by decide⟩ hq) hF (fun f3 rv3 h3 q4 R3 e3 E3 hF => ?_)
  refine s_if (not_congr (i_eq e3.1 (c_lit 0 0 rfl) e3.2 ⟨by decide, by decide⟩)) hF (fun c4 hF => ?_) (fun c4 hF => ?_)
  ·
    exact SX8_quoted_b101 (N := N) (rE := rE) (RE := RE) @hrE R3 rfl rl2 hF
  ·
    refine s_kok R3 (t_22 R3.S) (Nat.le_of_ble_eq_true rfl) ?_
    refine s_call R3 (Nat.le_trans (Nat.le_of_ble_eq_true rfl) hb) (fun _ hq => SX8_putBack (b := 1) (Nat.le_of_ble_eq_true rfl) (R3.rf) e2.1 e2.2 hq) hF (fun f6 rv6 h6 q7 R6 e6 E6 hF => ?_)
    exact SX8_quoted_b101 (N := N) (rE := rE) (RE := RE) @hrE R6 rfl rl2 hF
def FX8_quoted_b81 (N : Nat) (RE : Int → fS → Option ((Unit ⊕ Nat) × fS)) (s0 : Int) (s : fS) : Option ((Int ⊕ Nat) × fS) :=
  FX8_quoted_b82 N RE s0 s
theorem SX8_quoted_b81 {m b : Nat} {φ0 : Nat → Nat} {σo : fS} (hb : 3 ≤ b) {N : Nat} {rE : Nat → Int32 → eH → Option ((Unit ⊕ Nat) × eH)} {RE : Int → fS → Option ((Unit ⊕ Nat) × fS)} {q : (Int ⊕ Nat) × fS} (hrE : ∀ {φ : Nat → Nat} {h : eH} {s : fS} {x1' : Int32} {x1 : Int} {q}, fC m 3 φ s φ h s → x1' = iI x1 → r32 x1 → RE x1 s = some q → gG m 3 φ s (lT lU) q (rE 22 x1' h)) {φ : Nat → Nat} {h : eH} {s : fS} {s0' : Int32} {s0 : Int} (R : fC m b φ0 σo φ h s) (es0 : s0' = iI s0) (rs0 : r32 s0) (hF : FX8_quoted_b81 N RE s0 s = some q) : gG m b φ0 σo (lT lI) q (fX8_quoted_b81 N rE 22 s0' h) := by
  subst es0
  unfold FX8_quoted_b81 at hF
  unfold fX8_quoted_b81
  exact SX8_quoted_b82 (N := N) (rE := rE) (RE := RE) hb @hrE R rfl rs0 hF
def FX8_quoted_b56 (N : Nat) (RE : Int → fS → Option ((Unit ⊕ Nat) × fS)) (l3 : Int) (s1 : Int) (s : fS) : Option ((Int ⊕ Nat) × fS) :=
  tB (FX4_want s1 6 s) fun x2 σ3 =>
  if 256 ≤ l3 then
    (FX10_letter l3 0 σ3).bind fun q8 =>
    FX8_quoted_b81 N RE q8.1 q8.2
  else
    FX8_quoted_b81 N RE l3 σ3
theorem SX8_quoted_b56 {m b : Nat} {φ0 : Nat → Nat} {σo : fS} (hb : 3 ≤ b) {N : Nat} {rE : Nat → Int32 → eH → Option ((Unit ⊕ Nat) × eH)} {RE : Int → fS → Option ((Unit ⊕ Nat) × fS)} {q : (Int ⊕ Nat) × fS} (hrE : ∀ {φ : Nat → Nat} {h : eH} {s : fS} {x1' : Int32} {x1 : Int} {q}, fC m 3 φ s φ h s → x1' = iI x1 → r32 x1 → RE x1 s = some q → gG m 3 φ s (lT lU) q (rE 22 x1' h)) {φ : Nat → Nat} {h : eH} {s : fS} {l3' : Int32} {l3 : Int} {s1' : Int32} {s1 : Int} (R : fC m b φ0 σo φ h s) (el3 : l3' = iI l3) (rl3 : r32 l3) (es1 : s1' = iI s1) (rs1 : r32 s1) (hF : FX8_quoted_b56 N RE l3 s1 s = some q) : gG m b φ0 σo (lT lI) q (fX8_quoted_b56 N rE 22 l3' 5 s1' h) := by
  subst el3; subst es1
  unfold FX8_quoted_b56 at hF
  unfold fX8_quoted_b56
  refine s_kok R (t_5 R.S) (Nat.le_of_ble_eq_true rfl) ?_
  refine s_tB R (Nat.zero_le _) (fun _ hq => SX4_want (b := 0) (R.rf) rfl rs1 (c_lit 6 6 rfl) ⟨by decide, by decide⟩ hq) hF (fun f2 rv2 h2 x2 σ3 R2 e2 E2 hF => ?_)
  refine s_if (i_le (c_lit 256 256 rfl) rfl ⟨by decide, by decide⟩ rl3) hF (fun c3 hF => ?_) (fun c3 hF => ?_)
  ·
    refine s_gO R2 (t_22 R2.S) (Nat.le_of_ble_eq_true rfl) rfl (o_22_3 R2.S) ?_
    refine s_kok R2 (t_44 R2.S) (Nat.le_of_ble_eq_true rfl) ?_
    refine s_call R2 (Nat.zero_le _) (fun _ hq => SX10_letter (b := 0) (R2.rf) rfl rl3 (c_lit 0 0 rfl) ⟨by decide, by decide⟩ hq) hF (fun f6 rv6 h6 q8 R6 e6 E6 hF => ?_)
    exact SX8_quoted_b81 (N := N) (rE := rE) (RE := RE) hb @hrE R6 e6.1 e6.2 hF
  ·
    exact SX8_quoted_b81 (N := N) (rE := rE) (RE := RE) hb @hrE R2 rfl rl3 hF
def FX8_quoted_b51 (N : Nat) (RE : Int → fS → Option ((Unit ⊕ Nat) × fS)) (l3 : Int) (s : fS) : Option ((Int ⊕ Nat) × fS) :=
  FX8_quoted_b56 N RE l3 1 s
theorem SX8_quoted_b51 {m b : Nat} {φ0 : Nat → Nat} {σo : fS} (hb : 3 ≤ b) {N : Nat} {rE : Nat → Int32 → eH → Option ((Unit ⊕ Nat) × eH)} {RE : Int → fS → Option ((Unit ⊕ Nat) × fS)} {q : (Int ⊕ Nat) × fS} (hrE : ∀ {φ : Nat → Nat} {h : eH} {s : fS} {x1' : Int32} {x1 : Int} {q}, fC m 3 φ s φ h s → x1' = iI x1 → r32 x1 → RE x1 s = some q → gG m 3 φ s (lT lU) q (rE 22 x1' h)) {φ : Nat → Nat} {h : eH} {s : fS} {l3' : Int32} {l3 : Int} (R : fC m b φ0 σo φ h s) (el3 : l3' = iI l3) (rl3 : r32 l3) (hF : FX8_quoted_b51 N RE l3 s = some q) : gG m b φ0 σo (lT lI) q (fX8_quoted_b51 N rE 22 l3' 5 h) := by
  subst el3
  unfold FX8_quoted_b51 at hF
  unfold fX8_quoted_b51
  exact SX8_quoted_b56 (N := N) (rE := rE) (RE := RE) hb @hrE R rfl rl3 (c_lit 1 1 rfl) ⟨by decide, by decide⟩ hF
def FX8_quoted (N : Nat) (RE : Int → fS → Option ((Unit ⊕ Nat) × fS)) (s : fS) : Option ((Int ⊕ Nat) × fS) :=
  tB (FX8_need N s) fun x2 σ3 =>
  (FX8_bare x2 σ3).bind fun q4 =>
  (FX1_isCharacter q4.1 q4.2).bind fun q5 =>
  if ¬ (q5.1 = 0) then
    FX8_quoted_b82 N RE (iand q4.1 255) q5.2
  else
    if (isub q4.1 4096) < 256 then
      FX8_quoted_b51 N RE (isub q4.1 4096) q5.2
    else
      (uRI q5.2 47 (isub q4.1 4096)).bind fun x14 =>
      if ¬ (x14 = 1) then
        FX8_quoted_b56 N RE (isub q4.1 4096) 0 q5.2
      else
        FX8_quoted_b51 N RE (isub q4.1 4096) q5.2
theorem SX8_quoted {m b : Nat} {φ0 : Nat → Nat} {σo : fS} (hb : 3 ≤ b) {N : Nat} {rE : Nat → Int32 → eH → Option ((Unit ⊕ Nat) × eH)} {RE : Int → fS → Option ((Unit ⊕ Nat) × fS)} {q : (Int ⊕ Nat) × fS} (hrE : ∀ {φ : Nat → Nat} {h : eH} {s : fS} {x1' : Int32} {x1 : Int} {q}, fC m 3 φ s φ h s → x1' = iI x1 → r32 x1 → RE x1 s = some q → gG m 3 φ s (lT lU) q (rE 22 x1' h)) {φ : Nat → Nat} {h : eH} {s : fS} (R : fC m b φ0 σo φ h s) (hF : FX8_quoted N RE s = some q) : gG m b φ0 σo (lT lI) q (fX8_quoted N rE 22 h) := by
  unfold FX8_quoted at hF
  unfold fX8_quoted
  refine s_kok R (t_22 R.S) (Nat.le_of_ble_eq_true rfl) ?_
  refine s_tB R (Nat.le_trans (Nat.le_of_ble_eq_true rfl) hb) (fun _ hq => SX8_need (b := 2) (N := N) (Nat.le_of_ble_eq_true rfl) (R.rf) hq) hF (fun f2 rv2 h2 x2 σ3 R2 e2 E2 hF => ?_)
  refine s_call R2 (Nat.zero_le _) (fun _ hq => SX8_bare (b := 0) (R2.rf) e2.1 e2.2 hq) hF (fun f3 rv3 h3 q4 R3 e3 E3 hF => ?_)
  refine s_call R3 (Nat.zero_le _) (fun _ hq => SX1_isCharacter (b := 0) (R3.rf) e3.1 e3.2 hq) hF (fun f4 rv4 h4 q5 R4 e4 E4 hF => ?_)
  refine s_if (not_congr (i_eq e4.1 (c_lit 0 0 rfl) e4.2 ⟨by decide, by decide⟩)) hF (fun c5 hF => ?_) (fun c5 hF => ?_)
  ·
    exact SX8_quoted_b82 (N := N) (rE := rE) (RE := RE) hb @hrE R4 (c_and e3.1 (c_lit 255 255 rfl)) (rr_I _) hF
  ·
    refine s_gO R4 (t_22 R4.S) (Nat.le_of_ble_eq_true rfl) rfl (o_22_0 R4.S) ?_
    refine s_if (i_lt (c_sub e3.1 (c_lit 4096 4096 rfl)) (c_lit 256 256 rfl) (rr_I _) ⟨by decide, by decide⟩) hF (fun c7 hF => ?_) (fun c7 hF => ?_)
    ·
      exact SX8_quoted_b51 (N := N) (rE := rE) (RE := RE) hb @hrE R4 (c_sub e3.1 (c_lit 4096 4096 rfl)) (rr_I _) hF
    ·
      refine s_gO R4 (t_22 R4.S) (Nat.le_of_ble_eq_true rfl) rfl (o_22_3 R4.S) ?_
      refine s_gA R4 (t_44 R4.S) (Nat.le_of_ble_eq_true rfl) rfl (o_44_3 R4.S) (fun _ _ => ?_)
      refine s_rI R4 (u_47 R4.S).1 (u_47 R4.S).2 (by decide) rfl (c_sub e3.1 (c_lit 4096 4096 rfl)) (rr_I _) hF (fun x14 ra10 hF => ?_)
      refine s_if (not_congr (i_eq rfl (c_lit 1 1 rfl) ra10 ⟨by decide, by decide⟩)) hF (fun c11 hF => ?_) (fun c11 hF => ?_)
      ·
        exact SX8_quoted_b56 (N := N) (rE := rE) (RE := RE) hb @hrE R4 (c_sub e3.1 (c_lit 4096 4096 rfl)) (rr_I _) (c_lit 0 0 rfl) ⟨by decide, by decide⟩ hF
      ·
        exact SX8_quoted_b51 (N := N) (rE := rE) (RE := RE) hb @hrE R4 (c_sub e3.1 (c_lit 4096 4096 rfl)) (rr_I _) hF
def FX8_isCounter_b23 (s0 : Int) (s : fS) : Option (Int × fS) :=
  uZ s0 (s0, s)
theorem SX8_isCounter_b23 {m b : Nat} {φ0 : Nat → Nat} {σo : fS} {q : Int × fS} {φ : Nat → Nat} {h : eH} {s : fS} {s0' : Int32} {s0 : Int} (R : fC m b φ0 σo φ h s) (es0 : s0' = iI s0) (rs0 : r32 s0) (hF : FX8_isCounter_b23 s0 s = some q) : gG m b φ0 σo lI q (fX8_isCounter_b23 s0' h) := by
  subst es0
  unfold FX8_isCounter_b23 at hF
  unfold fX8_isCounter_b23
  exact g_z R rfl hF ⟨rfl, rs0⟩
def FX8_isCounter_b18 (s : fS) : Option (Int × fS) :=
  FX8_isCounter_b23 1 s
theorem SX8_isCounter_b18 {m b : Nat} {φ0 : Nat → Nat} {σo : fS} {q : Int × fS} {φ : Nat → Nat} {h : eH} {s : fS} (R : fC m b φ0 σo φ h s) (hF : FX8_isCounter_b18 s = some q) : gG m b φ0 σo lI q (fX8_isCounter_b18 h) := by
  unfold FX8_isCounter_b18 at hF
  unfold fX8_isCounter_b18
  exact SX8_isCounter_b23 R (c_lit 1 1 rfl) ⟨by decide, by decide⟩ hF
def FX8_isCounter_b22 (s : fS) : Option (Int × fS) :=
  FX8_isCounter_b23 0 s
theorem SX8_isCounter_b22 {m b : Nat} {φ0 : Nat → Nat} {σo : fS} {q : Int × fS} {φ : Nat → Nat} {h : eH} {s : fS} (R : fC m b φ0 σo φ h s) (hF : FX8_isCounter_b22 s = some q) : gG m b φ0 σo lI q (fX8_isCounter_b22 h) := by
  unfold FX8_isCounter_b22 at hF
  unfold fX8_isCounter_b22
  exact SX8_isCounter_b23 R (c_lit 0 0 rfl) ⟨by decide, by decide⟩ hF
def FX8_isCounter (p0 : Int) (s : fS) : Option (Int × fS) :=
  if p0 = 67 then
    FX8_isCounter_b18 s
  else
    if p0 < 70 then
      FX8_isCounter_b22 s
    else
      if 83 ≤ p0 then
        FX8_isCounter_b22 s
      else
        FX8_isCounter_b18 s
theorem SX8_isCounter {m b : Nat} {φ0 : Nat → Nat} {σo : fS} {q : Int × fS} {φ : Nat → Nat} {h : eH} {s : fS} {p0' : Int32} {p0 : Int} (R : fC m b φ0 σo φ h s) (ep0 : p0' = iI p0) (rp0 : r32 p0) (hF : FX8_isCounter p0 s = some q) : gG m b φ0 σo lI q (fX8_isCounter p0' h) := by
  subst ep0
  unfold FX8_isCounter at hF
  unfold fX8_isCounter
  refine s_if (i_eq rfl (c_lit 67 67 rfl) rp0 ⟨by decide, by decide⟩) hF (fun c1 hF => ?_) (fun c1 hF => ?_)
  ·
    exact SX8_isCounter_b18 R hF
  ·
    refine s_if (i_lt rfl (c_lit 70 70 rfl) rp0 ⟨by decide, by decide⟩) hF (fun c2 hF => ?_) (fun c2 hF => ?_)
    ·
      exact SX8_isCounter_b22 R hF
    ·
      refine s_if (i_le (c_lit 83 83 rfl) rfl ⟨by decide, by decide⟩ rp0) hF (fun c3 hF => ?_) (fun c3 hF => ?_)
      ·
        exact SX8_isCounter_b22 R hF
      ·
        exact SX8_isCounter_b18 R hF
def FX8_valued_b66 (RN : fS → Option ((Int ⊕ Nat) × fS)) (l1 : Int) (s1 : Int) (s : fS) : Option ((Int ⊕ Nat) × fS) :=
  tB (FX4_want s1 6 s) fun x2 σ3 =>
  (FX8_value l1 σ3).bind fun q5 =>
  some (.inl q5.1, q5.2)
theorem SX8_valued_b66 {m b : Nat} {φ0 : Nat → Nat} {σo : fS} {rN : Nat → eH → Option ((Int32 ⊕ Nat) × eH)} {RN : fS → Option ((Int ⊕ Nat) × fS)} {q : (Int ⊕ Nat) × fS} (hrN : ∀ {φ : Nat → Nat} {h : eH} {s : fS} {q}, fC m 3 φ s φ h s → RN s = some q → gG m 3 φ s (lT lI) q (rN 22 h)) {φ : Nat → Nat} {h : eH} {s : fS} {l1' : Int32} {l1 : Int} {s1' : Int32} {s1 : Int} (R : fC m b φ0 σo φ h s) (el1 : l1' = iI l1) (rl1 : r32 l1) (es1 : s1' = iI s1) (rs1 : r32 s1) (hF : FX8_valued_b66 RN l1 s1 s = some q) : gG m b φ0 σo (lT lI) q (fX8_valued_b66 rN 22 l1' 5 s1' h) := by
  subst el1; subst es1
  unfold FX8_valued_b66 at hF
  unfold fX8_valued_b66
  refine s_kok R (t_5 R.S) (Nat.le_of_ble_eq_true rfl) ?_
  refine s_tB R (Nat.zero_le _) (fun _ hq => SX4_want (b := 0) (R.rf) rfl rs1 (c_lit 6 6 rfl) ⟨by decide, by decide⟩ hq) hF (fun f2 rv2 h2 x2 σ3 R2 e2 E2 hF => ?_)
  refine s_kok R2 (t_22 R2.S) (Nat.le_of_ble_eq_true rfl) ?_
  refine s_call R2 (Nat.zero_le _) (fun _ hq => SX8_value (b := 0) (R2.rf) rfl rl1 hq) hF (fun f4 rv4 h4 q5 R4 e4 E4 hF => ?_)
  exact g_ret R4 hF ⟨e4.1, e4.2⟩
def FX8_valued (RN : fS → Option ((Int ⊕ Nat) × fS)) (p0 : Int) (s : fS) : Option ((Int ⊕ Nat) × fS) :=
  (FX8_primitive p0 s).bind fun q2 =>
  (FX8_isCounter q2.1 q2.2).bind fun q3 =>
  if q3.1 = 0 then
    if ¬ (q2.1 = 61) then
      (FX8_kind p0 q3.2).bind fun q9 =>
      if ¬ (q9.1 = 4) then
        FX8_valued_b66 RN p0 0 q9.2
      else
        FX8_valued_b66 RN p0 1 q9.2
    else
      tB (FX8_within RN 255 q3.2) fun x14 σ15 =>
      (FX9_category x14 σ15).bind fun q17 =>
      some (.inl q17.1, q17.2)
  else
    tB (FX8_cellOf RN q2.1 q3.2) fun x23 σ24 =>
    (uRI σ24 27 x23).bind fun x25 =>
    some (.inl x25, σ24)
theorem SX8_valued {m b : Nat} {φ0 : Nat → Nat} {σo : fS} (hb : 3 ≤ b) {rN : Nat → eH → Option ((Int32 ⊕ Nat) × eH)} {RN : fS → Option ((Int ⊕ Nat) × fS)} {q : (Int ⊕ Nat) × fS} (hrN : ∀ {φ : Nat → Nat} {h : eH} {s : fS} {q}, fC m 3 φ s φ h s → RN s = some q → gG m 3 φ s (lT lI) q (rN 22 h)) {φ : Nat → Nat} {h : eH} {s : fS} {p0' : Int32} {p0 : Int} (R : fC m b φ0 σo φ h s) (ep0 : p0' = iI p0) (rp0 : r32 p0) (hF : FX8_valued RN p0 s = some q) : gG m b φ0 σo (lT lI) q (fX8_valued rN 22 p0' h) := by
  subst ep0
  unfold FX8_valued at hF
  unfold fX8_valued
  refine s_kok R (t_22 R.S) (Nat.le_of_ble_eq_true rfl) ?_
  refine s_call R (Nat.zero_le _) (fun _ hq => SX8_primitive (b := 0) (R.rf) rfl rp0 hq) hF (fun f2 rv2 h2 q2 R2 e2 E2 hF => ?_)
  refine s_call R2 (Nat.zero_le _) (fun _ hq => SX8_isCounter (b := 0) (R2.rf) e2.1 e2.2 hq) hF (fun f3 rv3 h3 q3 R3 e3 E3 hF => ?_)
  refine s_if (i_eq e3.1 (c_lit 0 0 rfl) e3.2 ⟨by decide, by decide⟩) hF (fun c4 hF => ?_) (fun c4 hF => ?_)
  ·
    refine s_if (not_congr (i_eq e2.1 (c_lit 61 61 rfl) e2.2 ⟨by decide, by decide⟩)) hF (fun c5 hF => ?_) (fun c5 hF => ?_)
    ·
      refine s_gO R3 (t_22 R3.S) (Nat.le_of_ble_eq_true rfl) rfl (o_22_0 R3.S) ?_
      refine s_kok R3 (t_22 R3.S) (Nat.le_of_ble_eq_true rfl) ?_
      refine s_call R3 (Nat.zero_le _) (fun _ hq => SX8_kind (b := 0) (R3.rf) rfl rp0 hq) hF (fun f8 rv8 h8 q9 R8 e8 E8 hF => ?_)
      refine s_if (not_congr (i_eq e8.1 (c_lit 4 4 rfl) e8.2 ⟨by decide, by decide⟩)) hF (fun c9 hF => ?_) (fun c9 hF => ?_)
      ·
        exact SX8_valued_b66 (rN := rN) (RN := RN) @hrN R8 rfl rp0 (c_lit 0 0 rfl) ⟨by decide, by decide⟩ hF
      ·
        exact SX8_valued_b66 (rN := rN) (RN := RN) @hrN R8 rfl rp0 (c_lit 1 1 rfl) ⟨by decide, by decide⟩ hF
    ·
      refine s_gO R3 (t_22 R3.S) (Nat.le_of_ble_eq_true rfl) rfl (o_22_4 R3.S) ?_
      refine s_kok R3 (t_22 R3.S) (Nat.le_of_ble_eq_true rfl) ?_
      refine s_tB R3 hb (fun _ hq => SX8_within (b := 3) (rN := rN) (RN := RN) (Nat.le_of_ble_eq_true rfl) @hrN (R3.rf) (c_lit 255 255 rfl) ⟨by decide, by decide⟩ hq) hF (fun f12 rv12 h12 x14 σ15 R12 e12 E12 hF => ?_)
      refine s_kok R12 (t_23 R12.S) (Nat.le_of_ble_eq_true rfl) ?_
      refine s_call R12 (Nat.zero_le _) (fun _ hq => SX9_category (b := 0) (R12.rf) e12.1 e12.2 hq) hF (fun f14 rv14 h14 q17 R14 e14 E14 hF => ?_)
      exact g_ret R14 hF ⟨e14.1, e14.2⟩
  ·
    refine s_gO R3 (t_22 R3.S) (Nat.le_of_ble_eq_true rfl) rfl (o_22_4 R3.S) ?_
    refine s_gAs R3 (t_23 R3.S) (Nat.le_of_ble_eq_true rfl) rfl (o_23_3 R3.S) (a_27 R3) ?_
    refine s_kok R3 (t_22 R3.S) (Nat.le_of_ble_eq_true rfl) ?_
    refine s_tB R3 hb (fun _ hq => SX8_cellOf (b := 3) (rN := rN) (RN := RN) (Nat.le_of_ble_eq_true rfl) @hrN (R3.rf) e2.1 e2.2 hq) hF (fun f18 rv18 h18 x23 σ24 R18 e18 E18 hF => ?_)
    refine s_rI R18 (u_27 R18.S).1 (u_27 R18.S).2 (by decide) (a_27 R18) e18.1 e18.2 hF (fun x25 ra19 hF => ?_)
    exact g_ret R18 hF ⟨rfl, ra19⟩
def FX8_factor_b38 (N : Nat) (RE : Int → fS → Option ((Unit ⊕ Nat) × fS)) (RN : fS → Option ((Int ⊕ Nat) × fS)) (s1 : Int) (s : fS) : Option ((Unit ⊕ Nat) × fS) :=
  (uPJ s 22 25 s1).bind fun σ1 =>
  (uPJ σ1 22 26 1).bind fun σ3 =>
  some (.inl (), σ3)
theorem SX8_factor_b38 {m b : Nat} {φ0 : Nat → Nat} {σo : fS} {N : Nat} {rE : Nat → Int32 → eH → Option ((Unit ⊕ Nat) × eH)} {RE : Int → fS → Option ((Unit ⊕ Nat) × fS)} {rN : Nat → eH → Option ((Int32 ⊕ Nat) × eH)} {RN : fS → Option ((Int ⊕ Nat) × fS)} {q : (Unit ⊕ Nat) × fS} (hrE : ∀ {φ : Nat → Nat} {h : eH} {s : fS} {x1' : Int32} {x1 : Int} {q}, fC m 3 φ s φ h s → x1' = iI x1 → r32 x1 → RE x1 s = some q → gG m 3 φ s (lT lU) q (rE 22 x1' h)) (hrN : ∀ {φ : Nat → Nat} {h : eH} {s : fS} {q}, fC m 3 φ s φ h s → RN s = some q → gG m 3 φ s (lT lI) q (rN 22 h)) {φ : Nat → Nat} {h : eH} {s : fS} {s1' : Int64} {s1 : Int} (R : fC m b φ0 σo φ h s) (es1 : s1' = iJ s1) (rs1 : r64 s1) (hF : FX8_factor_b38 N RE RN s1 s = some q) : gG m b φ0 σo (lT lU) q (fX8_factor_b38 N rE rN 22 22 s1' h) := by
  subst es1
  unfold FX8_factor_b38 at hF
  unfold fX8_factor_b38
  refine s_pJ R (t_22 R.S) (Nat.le_of_ble_eq_true rfl) rfl rfl rs1 hF (fun h1 σ1 R1 T1 hF => ?_)
  refine s_pJ R1 (t_22 R1.S) (Nat.le_of_ble_eq_true rfl) rfl (d_lit 1 1 rfl) ⟨by decide, by decide⟩ hF (fun h2 σ3 R2 T2 hF => ?_)
  exact g_ret R2 hF trivial
def FX8_factor_b96 (N : Nat) (RE : Int → fS → Option ((Unit ⊕ Nat) × fS)) (RN : fS → Option ((Int ⊕ Nat) × fS)) (K55 : Int → Int → Int → fS → Option ((Unit ⊕ Nat) × fS)) (l2 : Int) (l4 : Int) (s1 : Int) (s : fS) : Option ((Unit ⊕ Nat) × fS) :=
  tB (FX4_want s1 7 s) fun x2 σ3 =>
  tB (FX8_getExpanded N RE σ3) fun x5 σ6 =>
  K55 l2 l4 x5 σ6
theorem SX8_factor_b96 {m b : Nat} {φ0 : Nat → Nat} {σo : fS} (hb : 3 ≤ b) {N : Nat} {rE : Nat → Int32 → eH → Option ((Unit ⊕ Nat) × eH)} {RE : Int → fS → Option ((Unit ⊕ Nat) × fS)} {rN : Nat → eH → Option ((Int32 ⊕ Nat) × eH)} {RN : fS → Option ((Int ⊕ Nat) × fS)} {k55 : Nat → Int64 → Int64 → Int32 → eH → Option ((Unit ⊕ Nat) × eH)} {K55 : Int → Int → Int → fS → Option ((Unit ⊕ Nat) × fS)} {q : (Unit ⊕ Nat) × fS} (hrE : ∀ {φ : Nat → Nat} {h : eH} {s : fS} {x1' : Int32} {x1 : Int} {q}, fC m 3 φ s φ h s → x1' = iI x1 → r32 x1 → RE x1 s = some q → gG m 3 φ s (lT lU) q (rE 22 x1' h)) (hrN : ∀ {φ : Nat → Nat} {h : eH} {s : fS} {q}, fC m 3 φ s φ h s → RN s = some q → gG m 3 φ s (lT lI) q (rN 22 h)) (hk55 : ∀ {φ : Nat → Nat} {h : eH} {s : fS} {l2' : Int64} {l2 : Int} {l4' : Int64} {l4 : Int} {l6' : Int32} {l6 : Int}, fC m b φ0 σo φ h s → l2' = iJ l2 → r64 l2 → l4' = iJ l4 → r64 l4 → l6' = iI l6 → r32 l6 → K55 l2 l4 l6 s = some q → gG m b φ0 σo (lT lU) q (k55 22 l2' l4' l6' h)) {φ : Nat → Nat} {h : eH} {s : fS} {l2' : Int64} {l2 : Int} {l4' : Int64} {l4 : Int} {s1' : Int32} {s1 : Int} (R : fC m b φ0 σo φ h s) (el2 : l2' = iJ l2) (rl2 : r64 l2) (el4 : l4' = iJ l4) (rl4 : r64 l4) (es1 : s1' = iI s1) (rs1 : r32 s1) (hF : FX8_factor_b96 N RE RN K55 l2 l4 s1 s = some q) : gG m b φ0 σo (lT lU) q (fX8_factor_b96 N rE rN k55 22 l2' l4' 5 s1' h) := by
  subst el2; subst el4; subst es1
  unfold FX8_factor_b96 at hF
  unfold fX8_factor_b96
  refine s_kok R (t_5 R.S) (Nat.le_of_ble_eq_true rfl) ?_
  refine s_tB R (Nat.zero_le _) (fun _ hq => SX4_want (b := 0) (R.rf) rfl rs1 (c_lit 7 7 rfl) ⟨by decide, by decide⟩ hq) hF (fun f2 rv2 h2 x2 σ3 R2 e2 E2 hF => ?_)
  refine s_kok R2 (t_22 R2.S) (Nat.le_of_ble_eq_true rfl) ?_
  refine s_tB R2 hb (fun _ hq => SX8_getExpanded (b := 3) (N := N) (rE := rE) (RE := RE) (Nat.le_of_ble_eq_true rfl) @hrE (R2.rf) hq) hF (fun f4 rv4 h4 x5 σ6 R4 e4 E4 hF => ?_)
  exact hk55 R4 rfl rl2 rfl rl4 e4.1 e4.2 hF
def FX8_factor_b149 (N : Nat) (RE : Int → fS → Option ((Unit ⊕ Nat) × fS)) (RN : fS → Option ((Int ⊕ Nat) × fS)) (K124 : Int → Int → Int → fS → Option ((Unit ⊕ Nat) × fS)) (l2 : Int) (l4 : Int) (l6 : Int) (s1 : Int) (s : fS) : Option ((Unit ⊕ Nat) × fS) :=
  tB (FX4_want s1 7 s) fun x2 σ3 =>
  tB (FX8_getExpanded N RE σ3) fun x5 σ6 =>
  K124 (lmul l2 10) (ladd (lmul 10 l4) (iand l6 15)) x5 σ6
theorem SX8_factor_b149 {m b : Nat} {φ0 : Nat → Nat} {σo : fS} (hb : 3 ≤ b) {N : Nat} {rE : Nat → Int32 → eH → Option ((Unit ⊕ Nat) × eH)} {RE : Int → fS → Option ((Unit ⊕ Nat) × fS)} {rN : Nat → eH → Option ((Int32 ⊕ Nat) × eH)} {RN : fS → Option ((Int ⊕ Nat) × fS)} {k124 : Nat → Int64 → Int64 → Int32 → eH → Option ((Unit ⊕ Nat) × eH)} {K124 : Int → Int → Int → fS → Option ((Unit ⊕ Nat) × fS)} {q : (Unit ⊕ Nat) × fS} (hrE : ∀ {φ : Nat → Nat} {h : eH} {s : fS} {x1' : Int32} {x1 : Int} {q}, fC m 3 φ s φ h s → x1' = iI x1 → r32 x1 → RE x1 s = some q → gG m 3 φ s (lT lU) q (rE 22 x1' h)) (hrN : ∀ {φ : Nat → Nat} {h : eH} {s : fS} {q}, fC m 3 φ s φ h s → RN s = some q → gG m 3 φ s (lT lI) q (rN 22 h)) (hk124 : ∀ {φ : Nat → Nat} {h : eH} {s : fS} {l2' : Int64} {l2 : Int} {l4' : Int64} {l4 : Int} {l6' : Int32} {l6 : Int}, fC m b φ0 σo φ h s → l2' = iJ l2 → r64 l2 → l4' = iJ l4 → r64 l4 → l6' = iI l6 → r32 l6 → K124 l2 l4 l6 s = some q → gG m b φ0 σo (lT lU) q (k124 22 l2' l4' l6' h)) {φ : Nat → Nat} {h : eH} {s : fS} {l2' : Int64} {l2 : Int} {l4' : Int64} {l4 : Int} {l6' : Int32} {l6 : Int} {s1' : Int32} {s1 : Int} (R : fC m b φ0 σo φ h s) (el2 : l2' = iJ l2) (rl2 : r64 l2) (el4 : l4' = iJ l4) (rl4 : r64 l4) (el6 : l6' = iI l6) (rl6 : r32 l6) (es1 : s1' = iI s1) (rs1 : r32 s1) (hF : FX8_factor_b149 N RE RN K124 l2 l4 l6 s1 s = some q) : gG m b φ0 σo (lT lU) q (fX8_factor_b149 N rE rN k124 22 l2' l4' l6' 5 s1' h) := by
  subst el2; subst el4; subst el6; subst es1
  unfold FX8_factor_b149 at hF
  unfold fX8_factor_b149
  refine s_kok R (t_5 R.S) (Nat.le_of_ble_eq_true rfl) ?_
  refine s_tB R (Nat.zero_le _) (fun _ hq => SX4_want (b := 0) (R.rf) rfl rs1 (c_lit 7 7 rfl) ⟨by decide, by decide⟩ hq) hF (fun f2 rv2 h2 x2 σ3 R2 e2 E2 hF => ?_)
  refine s_kok R2 (t_22 R2.S) (Nat.le_of_ble_eq_true rfl) ?_
  refine s_tB R2 hb (fun _ hq => SX8_getExpanded (b := 3) (N := N) (rE := rE) (RE := RE) (Nat.le_of_ble_eq_true rfl) @hrE (R2.rf) hq) hF (fun f4 rv4 h4 x5 σ6 R4 e4 E4 hF => ?_)
  exact hk124 R4 (d_mul rfl (d_lit 10 10 rfl)) (rr_J _) (d_add (d_mul (d_lit 10 10 rfl) rfl) (c_2l (c_and rfl (c_lit 15 15 rfl)) (rr_I _))) (rr_J _) e4.1 e4.2 hF
def FX8_factor_b184 (N : Nat) (RE : Int → fS → Option ((Unit ⊕ Nat) × fS)) (RN : fS → Option ((Int ⊕ Nat) × fS)) (l2 : Int) (l4 : Int) (l6 : Int) (s : fS) : Option ((Unit ⊕ Nat) × fS) :=
  (FX8_putBack l6 s).bind fun q2 =>
  (uPJ q2.2 22 25 l4).bind fun σ3 =>
  (uPJ σ3 22 26 l2).bind fun σ5 =>
  some (.inl (), σ5)
theorem SX8_factor_b184 {m b : Nat} {φ0 : Nat → Nat} {σo : fS} (hb : 1 ≤ b) {N : Nat} {rE : Nat → Int32 → eH → Option ((Unit ⊕ Nat) × eH)} {RE : Int → fS → Option ((Unit ⊕ Nat) × fS)} {rN : Nat → eH → Option ((Int32 ⊕ Nat) × eH)} {RN : fS → Option ((Int ⊕ Nat) × fS)} {q : (Unit ⊕ Nat) × fS} (hrE : ∀ {φ : Nat → Nat} {h : eH} {s : fS} {x1' : Int32} {x1 : Int} {q}, fC m 3 φ s φ h s → x1' = iI x1 → r32 x1 → RE x1 s = some q → gG m 3 φ s (lT lU) q (rE 22 x1' h)) (hrN : ∀ {φ : Nat → Nat} {h : eH} {s : fS} {q}, fC m 3 φ s φ h s → RN s = some q → gG m 3 φ s (lT lI) q (rN 22 h)) {φ : Nat → Nat} {h : eH} {s : fS} {l2' : Int64} {l2 : Int} {l4' : Int64} {l4 : Int} {l6' : Int32} {l6 : Int} (R : fC m b φ0 σo φ h s) (el2 : l2' = iJ l2) (rl2 : r64 l2) (el4 : l4' = iJ l4) (rl4 : r64 l4) (el6 : l6' = iI l6) (rl6 : r32 l6) (hF : FX8_factor_b184 N RE RN l2 l4 l6 s = some q) : gG m b φ0 σo (lT lU) q (fX8_factor_b184 N rE rN 22 l2' l4' l6' h) := by
  subst el2; subst el4; subst el6
  unfold FX8_factor_b184 at hF
  unfold fX8_factor_b184
  refine s_kok R (t_22 R.S) (Nat.le_of_ble_eq_true rfl) ?_
  refine s_call R hb (fun _ hq => SX8_putBack (b := 1) (Nat.le_of_ble_eq_true rfl) (R.rf) rfl rl6 hq) hF (fun f2 rv2 h2 q2 R2 e2 E2 hF => ?_)
  refine s_pJ R2 (t_22 R2.S) (Nat.le_of_ble_eq_true rfl) rfl rfl rl4 hF (fun h3 σ3 R3 T3 hF => ?_)
  refine s_pJ R3 (t_22 R3.S) (Nat.le_of_ble_eq_true rfl) rfl rfl rl2 hF (fun h4 σ5 R4 T4 hF => ?_)
  exact g_ret R4 hF trivial
def FX8_factor_b124 (N : Nat) (RE : Int → fS → Option ((Unit ⊕ Nat) × fS)) (RN : fS → Option ((Int ⊕ Nat) × fS)) : Nat → Int → Int → Int → fS → Option ((Unit ⊕ Nat) × fS)
  | 0, _, _, _, _ => none
  | n + 1, l2, l4, l6, s =>
    (FX1_isDigit l6 s).bind fun q1 =>
    if q1.1 = 0 then
      FX8_factor_b184 N RE RN l2 l4 l6 q1.2
    else
      if 10000 ≤ l2 then
        FX8_factor_b149 N RE RN (FX8_factor_b124 N RE RN n) l2 l4 l6 0 q1.2
      else
        FX8_factor_b149 N RE RN (FX8_factor_b124 N RE RN n) l2 l4 l6 1 q1.2
theorem SX8_factor_b124 {m b : Nat} {φ0 : Nat → Nat} {σo : fS} (hb : 3 ≤ b) {N : Nat} {rE : Nat → Int32 → eH → Option ((Unit ⊕ Nat) × eH)} {RE : Int → fS → Option ((Unit ⊕ Nat) × fS)} {rN : Nat → eH → Option ((Int32 ⊕ Nat) × eH)} {RN : fS → Option ((Int ⊕ Nat) × fS)} {q : (Unit ⊕ Nat) × fS} (hrE : ∀ {φ : Nat → Nat} {h : eH} {s : fS} {x1' : Int32} {x1 : Int} {q}, fC m 3 φ s φ h s → x1' = iI x1 → r32 x1 → RE x1 s = some q → gG m 3 φ s (lT lU) q (rE 22 x1' h)) (hrN : ∀ {φ : Nat → Nat} {h : eH} {s : fS} {q}, fC m 3 φ s φ h s → RN s = some q → gG m 3 φ s (lT lI) q (rN 22 h)) : ∀ {n : Nat} {φ : Nat → Nat} {h : eH} {s : fS} {l2' : Int64} {l2 : Int} {l4' : Int64} {l4 : Int} {l6' : Int32} {l6 : Int}, fC m b φ0 σo φ h s → l2' = iJ l2 → r64 l2 → l4' = iJ l4 → r64 l4 → l6' = iI l6 → r32 l6 → FX8_factor_b124 N RE RN n l2 l4 l6 s = some q → gG m b φ0 σo (lT lU) q (fX8_factor_b124 N rE rN n 22 l2' l4' l6' h) := by
  intro n
  induction n with
 | zero => intro φ h s l2' l2 l4' l4 l6' l6 R el2 rl2 el4 rl4 el6 rl6 hF; simp [FX8_factor_b124] at hF
  | succ n ih =>
    intro φ h s l2' l2 l4' l4 l6' l6 R el2 rl2 el4 rl4 el6 rl6 hF
    subst el2; subst el4; subst el6
    rw [FX8_factor_b124] at hF
    rw [fX8_factor_b124]
    refine s_call R (Nat.zero_le _) (fun _ hq => SX1_isDigit (b := 0) (R.rf) rfl rl6 hq) hF (fun f1 rv1 h1 q1 R1 e1 E1 hF => ?_)
    refine s_if (i_eq e1.1 (c_lit 0 0 rfl) e1.2 ⟨by decide, by decide⟩) hF (fun c2 hF => ?_) (fun c2 hF => ?_)
    ·
      exact SX8_factor_b184 (N := N) (rE := rE) (RE := RE) (rN := rN) (RN := RN) (Nat.le_trans (Nat.le_of_ble_eq_true rfl) hb) @hrE @hrN R1 rfl rl2 rfl rl4 rfl rl6 hF
    ·
      refine s_gO R1 (t_22 R1.S) (Nat.le_of_ble_eq_true rfl) rfl (o_22_0 R1.S) ?_
      refine s_if ((lg_cmp_ge _ _).trans (j_le (d_lit 10000 10000 rfl) rfl ⟨by decide, by decide⟩ rl2)) hF (fun c4 hF => ?_) (fun c4 hF => ?_)
      ·
        exact SX8_factor_b149 (N := N) (rE := rE) (RE := RE) (rN := rN) (RN := RN) (k124 := fX8_factor_b124 N rE rN n) (K124 := FX8_factor_b124 N RE RN n) hb @hrE @hrN @ih R1 rfl rl2 rfl rl4 rfl rl6 (c_lit 0 0 rfl) ⟨by decide, by decide⟩ hF
      ·
        exact SX8_factor_b149 (N := N) (rE := rE) (RE := RE) (rN := rN) (RN := RN) (k124 := fX8_factor_b124 N rE rN n) (K124 := FX8_factor_b124 N RE RN n) hb @hrE @hrN @ih R1 rfl rl2 rfl rl4 rfl rl6 (c_lit 1 1 rfl) ⟨by decide, by decide⟩ hF
def FX8_factor_b55 (N : Nat) (RE : Int → fS → Option ((Unit ⊕ Nat) × fS)) (RN : fS → Option ((Int ⊕ Nat) × fS)) : Nat → Int → Int → Int → fS → Option ((Unit ⊕ Nat) × fS)
  | 0, _, _, _, _ => none
  | n + 1, l2, l4, l6, s =>
    (FX1_isDigit l6 s).bind fun q1 =>
    if q1.1 = 0 then
      (FX8_isPoint l6 q1.2).bind fun q3 =>
      if q3.1 = 0 then
        FX8_factor_b184 N RE RN l2 l4 l6 q3.2
      else
        tB (FX8_getExpanded N RE q3.2) fun x6 σ7 =>
        FX8_factor_b124 N RE RN N l2 l4 x6 σ7
    else
      if 2147483647 < (ladd (lmul 10 l4) (iand l6 15)) then
        FX8_factor_b96 N RE RN (FX8_factor_b55 N RE RN n) l2 (ladd (lmul 10 l4) (iand l6 15)) 0 q1.2
      else
        FX8_factor_b96 N RE RN (FX8_factor_b55 N RE RN n) l2 (ladd (lmul 10 l4) (iand l6 15)) 1 q1.2
theorem SX8_factor_b55 {m b : Nat} {φ0 : Nat → Nat} {σo : fS} (hb : 3 ≤ b) {N : Nat} {rE : Nat → Int32 → eH → Option ((Unit ⊕ Nat) × eH)} {RE : Int → fS → Option ((Unit ⊕ Nat) × fS)} {rN : Nat → eH → Option ((Int32 ⊕ Nat) × eH)} {RN : fS → Option ((Int ⊕ Nat) × fS)} {q : (Unit ⊕ Nat) × fS} (hrE : ∀ {φ : Nat → Nat} {h : eH} {s : fS} {x1' : Int32} {x1 : Int} {q}, fC m 3 φ s φ h s → x1' = iI x1 → r32 x1 → RE x1 s = some q → gG m 3 φ s (lT lU) q (rE 22 x1' h)) (hrN : ∀ {φ : Nat → Nat} {h : eH} {s : fS} {q}, fC m 3 φ s φ h s → RN s = some q → gG m 3 φ s (lT lI) q (rN 22 h)) : ∀ {n : Nat} {φ : Nat → Nat} {h : eH} {s : fS} {l2' : Int64} {l2 : Int} {l4' : Int64} {l4 : Int} {l6' : Int32} {l6 : Int}, fC m b φ0 σo φ h s → l2' = iJ l2 → r64 l2 → l4' = iJ l4 → r64 l4 → l6' = iI l6 → r32 l6 → FX8_factor_b55 N RE RN n l2 l4 l6 s = some q → gG m b φ0 σo (lT lU) q (fX8_factor_b55 N rE rN n 22 l2' l4' l6' h) := by
  intro n
  induction n with
 | zero => intro φ h s l2' l2 l4' l4 l6' l6 R el2 rl2 el4 rl4 el6 rl6 hF; simp [FX8_factor_b55] at hF
  | succ n ih =>
    intro φ h s l2' l2 l4' l4 l6' l6 R el2 rl2 el4 rl4 el6 rl6 hF
    subst el2; subst el4; subst el6
    rw [FX8_factor_b55] at hF
    rw [fX8_factor_b55]
    refine s_call R (Nat.zero_le _) (fun _ hq => SX1_isDigit (b := 0) (R.rf) rfl rl6 hq) hF (fun f1 rv1 h1 q1 R1 e1 E1 hF => ?_)
    refine s_if (i_eq e1.1 (c_lit 0 0 rfl) e1.2 ⟨by decide, by decide⟩) hF (fun c2 hF => ?_) (fun c2 hF => ?_)
    ·
      refine s_call R1 (Nat.zero_le _) (fun _ hq => SX8_isPoint (b := 0) (R1.rf) rfl rl6 hq) hF (fun f3 rv3 h3 q3 R3 e3 E3 hF => ?_)
      refine s_if (i_eq e3.1 (c_lit 0 0 rfl) e3.2 ⟨by decide, by decide⟩) hF (fun c4 hF => ?_) (fun c4 hF => ?_)
      ·
        exact SX8_factor_b184 (N := N) (rE := rE) (RE := RE) (rN := rN) (RN := RN) (Nat.le_trans (Nat.le_of_ble_eq_true rfl) hb) @hrE @hrN R3 rfl rl2 rfl rl4 rfl rl6 hF
      ·
        refine s_kok R3 (t_22 R3.S) (Nat.le_of_ble_eq_true rfl) ?_
        refine s_tB R3 hb (fun _ hq => SX8_getExpanded (b := 3) (N := N) (rE := rE) (RE := RE) (Nat.le_of_ble_eq_true rfl) @hrE (R3.rf) hq) hF (fun f6 rv6 h6 x6 σ7 R6 e6 E6 hF => ?_)
        exact SX8_factor_b124 (N := N) (rE := rE) (RE := RE) (rN := rN) (RN := RN) hb @hrE @hrN R6 rfl rl2 rfl rl4 e6.1 e6.2 hF
    ·
      refine s_gO R1 (t_22 R1.S) (Nat.le_of_ble_eq_true rfl) rfl (o_22_0 R1.S) ?_
      refine s_if ((lg_cmp_gt _ _).trans (j_lt (d_lit 2147483647 2147483647 rfl) (d_add (d_mul (d_lit 10 10 rfl) rfl) (c_2l (c_and rfl (c_lit 15 15 rfl)) (rr_I _))) ⟨by decide, by decide⟩ (rr_J _))) hF (fun c8 hF => ?_) (fun c8 hF => ?_)
      ·
        exact SX8_factor_b96 (N := N) (rE := rE) (RE := RE) (rN := rN) (RN := RN) (k55 := fX8_factor_b55 N rE rN n) (K55 := FX8_factor_b55 N RE RN n) hb @hrE @hrN @ih R1 rfl rl2 (d_add (d_mul (d_lit 10 10 rfl) rfl) (c_2l (c_and rfl (c_lit 15 15 rfl)) (rr_I _))) (rr_J _) (c_lit 0 0 rfl) ⟨by decide, by decide⟩ hF
      ·
        exact SX8_factor_b96 (N := N) (rE := rE) (RE := RE) (rN := rN) (RN := RN) (k55 := fX8_factor_b55 N rE rN n) (K55 := FX8_factor_b55 N RE RN n) hb @hrE @hrN @ih R1 rfl rl2 (d_add (d_mul (d_lit 10 10 rfl) rfl) (c_2l (c_and rfl (c_lit 15 15 rfl)) (rr_I _))) (rr_J _) (c_lit 1 1 rfl) ⟨by decide, by decide⟩ hF
def FX8_factor_b47 (N : Nat) (RE : Int → fS → Option ((Unit ⊕ Nat) × fS)) (RN : fS → Option ((Int ⊕ Nat) × fS)) (l1 : Int) (s : fS) : Option ((Unit ⊕ Nat) × fS) :=
  FX8_factor_b55 N RE RN N 1 0 l1 s
theorem SX8_factor_b47 {m b : Nat} {φ0 : Nat → Nat} {σo : fS} (hb : 3 ≤ b) {N : Nat} {rE : Nat → Int32 → eH → Option ((Unit ⊕ Nat) × eH)} {RE : Int → fS → Option ((Unit ⊕ Nat) × fS)} {rN : Nat → eH → Option ((Int32 ⊕ Nat) × eH)} {RN : fS → Option ((Int ⊕ Nat) × fS)} {q : (Unit ⊕ Nat) × fS} (hrE : ∀ {φ : Nat → Nat} {h : eH} {s : fS} {x1' : Int32} {x1 : Int} {q}, fC m 3 φ s φ h s → x1' = iI x1 → r32 x1 → RE x1 s = some q → gG m 3 φ s (lT lU) q (rE 22 x1' h)) (hrN : ∀ {φ : Nat → Nat} {h : eH} {s : fS} {q}, fC m 3 φ s φ h s → RN s = some q → gG m 3 φ s (lT lI) q (rN 22 h)) {φ : Nat → Nat} {h : eH} {s : fS} {l1' : Int32} {l1 : Int} (R : fC m b φ0 σo φ h s) (el1 : l1' = iI l1) (rl1 : r32 l1) (hF : FX8_factor_b47 N RE RN l1 s = some q) : gG m b φ0 σo (lT lU) q (fX8_factor_b47 N rE rN 22 l1' h) := by
  subst el1
  unfold FX8_factor_b47 at hF
  unfold fX8_factor_b47
  exact SX8_factor_b55 (N := N) (rE := rE) (RE := RE) (rN := rN) (RN := RN) hb @hrE @hrN R (d_lit 1 1 rfl) ⟨by decide, by decide⟩ (d_lit 0 0 rfl) ⟨by decide, by decide⟩ rfl rl1 hF
def FX8_factor (N : Nat) (RE : Int → fS → Option ((Unit ⊕ Nat) × fS)) (RN : fS → Option ((Int ⊕ Nat) × fS)) (p0 : Int) (s : fS) : Option ((Unit ⊕ Nat) × fS) :=
  (FX1_isDigit p0 s).bind fun q1 =>
  if ¬ (q1.1 = 0) then
    FX8_factor_b47 N RE RN p0 q1.2
  else
    (FX8_isPoint p0 q1.2).bind fun q3 =>
    if ¬ (q3.1 = 0) then
      FX8_factor_b47 N RE RN p0 q3.2
    else
      (FX1_other 96 q3.2).bind fun q5 =>
      if ¬ (p0 = q5.1) then
        tB (FX8_valued RN p0 q5.2) fun x8 σ9 =>
        FX8_factor_b38 N RE RN x8 σ9
      else
        tB (FX8_quoted N RE q5.2) fun x11 σ12 =>
        FX8_factor_b38 N RE RN x11 σ12
theorem SX8_factor {m b : Nat} {φ0 : Nat → Nat} {σo : fS} (hb : 3 ≤ b) {N : Nat} {rE : Nat → Int32 → eH → Option ((Unit ⊕ Nat) × eH)} {RE : Int → fS → Option ((Unit ⊕ Nat) × fS)} {rN : Nat → eH → Option ((Int32 ⊕ Nat) × eH)} {RN : fS → Option ((Int ⊕ Nat) × fS)} {q : (Unit ⊕ Nat) × fS} (hrE : ∀ {φ : Nat → Nat} {h : eH} {s : fS} {x1' : Int32} {x1 : Int} {q}, fC m 3 φ s φ h s → x1' = iI x1 → r32 x1 → RE x1 s = some q → gG m 3 φ s (lT lU) q (rE 22 x1' h)) (hrN : ∀ {φ : Nat → Nat} {h : eH} {s : fS} {q}, fC m 3 φ s φ h s → RN s = some q → gG m 3 φ s (lT lI) q (rN 22 h)) {φ : Nat → Nat} {h : eH} {s : fS} {p0' : Int32} {p0 : Int} (R : fC m b φ0 σo φ h s) (ep0 : p0' = iI p0) (rp0 : r32 p0) (hF : FX8_factor N RE RN p0 s = some q) : gG m b φ0 σo (lT lU) q (fX8_factor N rE rN 22 p0' h) := by
  subst ep0
  unfold FX8_factor at hF
  unfold fX8_factor
  refine s_call R (Nat.zero_le _) (fun _ hq => SX1_isDigit (b := 0) (R.rf) rfl rp0 hq) hF (fun f1 rv1 h1 q1 R1 e1 E1 hF => ?_)
  refine s_if (not_congr (i_eq e1.1 (c_lit 0 0 rfl) e1.2 ⟨by decide, by decide⟩)) hF (fun c2 hF => ?_) (fun c2 hF => ?_)
  ·
    exact SX8_factor_b47 (N := N) (rE := rE) (RE := RE) (rN := rN) (RN := RN) hb @hrE @hrN R1 rfl rp0 hF
  ·
    refine s_call R1 (Nat.zero_le _) (fun _ hq => SX8_isPoint (b := 0) (R1.rf) rfl rp0 hq) hF (fun f3 rv3 h3 q3 R3 e3 E3 hF => ?_)
    refine s_if (not_congr (i_eq e3.1 (c_lit 0 0 rfl) e3.2 ⟨by decide, by decide⟩)) hF (fun c4 hF => ?_) (fun c4 hF => ?_)
    ·
      exact SX8_factor_b47 (N := N) (rE := rE) (RE := RE) (rN := rN) (RN := RN) hb @hrE @hrN R3 rfl rp0 hF
    ·
      refine s_call R3 (Nat.zero_le _) (fun _ hq => SX1_other (b := 0) (R3.rf) (c_lit 96 96 rfl) ⟨by decide, by decide⟩ hq) hF (fun f5 rv5 h5 q5 R5 e5 E5 hF => ?_)
      refine s_if (not_congr (i_eq rfl e5.1 rp0 e5.2)) hF (fun c6 hF => ?_) (fun c6 hF => ?_)
      ·
        refine s_kok R5 (t_22 R5.S) (Nat.le_of_ble_eq_true rfl) ?_
        refine s_tB R5 hb (fun _ hq => SX8_valued (b := 3) (rN := rN) (RN := RN) (Nat.le_of_ble_eq_true rfl) @hrN (R5.rf) rfl rp0 hq) hF (fun f8 rv8 h8 x8 σ9 R8 e8 E8 hF => ?_)
        exact SX8_factor_b38 (N := N) (rE := rE) (RE := RE) (rN := rN) (RN := RN) @hrE @hrN R8 (c_2l e8.1 e8.2) (r32.w e8.2) hF
      ·
        refine s_kok R5 (t_22 R5.S) (Nat.le_of_ble_eq_true rfl) ?_
        refine s_tB R5 hb (fun _ hq => SX8_quoted (b := 3) (N := N) (rE := rE) (RE := RE) (Nat.le_of_ble_eq_true rfl) @hrE (R5.rf) hq) hF (fun f10 rv10 h10 x11 σ12 R10 e10 E10 hF => ?_)
        exact SX8_factor_b38 (N := N) (rE := rE) (RE := RE) (rN := rN) (RN := RN) @hrE @hrN R10 (c_2l e10.1 e10.2) (r32.w e10.2) hF
def FX8_below_b18 (s1 : Int) (s : fS) : Option ((Unit ⊕ Nat) × fS) :=
  tB (FX4_want s1 7 s) fun x2 σ3 =>
  some (.inl (), σ3)
theorem SX8_below_b18 {m b : Nat} {φ0 : Nat → Nat} {σo : fS} {q : (Unit ⊕ Nat) × fS} {φ : Nat → Nat} {h : eH} {s : fS} {s1' : Int32} {s1 : Int} (R : fC m b φ0 σo φ h s) (es1 : s1' = iI s1) (rs1 : r32 s1) (hF : FX8_below_b18 s1 s = some q) : gG m b φ0 σo (lT lU) q (fX8_below_b18 5 s1' h) := by
  subst es1
  unfold FX8_below_b18 at hF
  unfold fX8_below_b18
  refine s_kok R (t_5 R.S) (Nat.le_of_ble_eq_true rfl) ?_
  refine s_tB R (Nat.zero_le _) (fun _ hq => SX4_want (b := 0) (R.rf) rfl rs1 (c_lit 7 7 rfl) ⟨by decide, by decide⟩ hq) hF (fun f2 rv2 h2 x2 σ3 R2 e2 E2 hF => ?_)
  exact g_ret R2 hF trivial
def FX8_below (p0 : Int) (p1 : Int) (p2 : Int) (s : fS) : Option ((Unit ⊕ Nat) × fS) :=
  if (lmul p0 p2) ≤ p1 then
    FX8_below_b18 0 s
  else
    FX8_below_b18 1 s
theorem SX8_below {m b : Nat} {φ0 : Nat → Nat} {σo : fS} {q : (Unit ⊕ Nat) × fS} {φ : Nat → Nat} {h : eH} {s : fS} {p0' : Int64} {p0 : Int} {p1' : Int64} {p1 : Int} {p2' : Int64} {p2 : Int} (R : fC m b φ0 σo φ h s) (ep0 : p0' = iJ p0) (rp0 : r64 p0) (ep1 : p1' = iJ p1) (rp1 : r64 p1) (ep2 : p2' = iJ p2) (rp2 : r64 p2) (hF : FX8_below p0 p1 p2 s = some q) : gG m b φ0 σo (lT lU) q (fX8_below 22 p0' p1' p2' h) := by
  subst ep0; subst ep1; subst ep2
  unfold FX8_below at hF
  unfold fX8_below
  refine s_gO R (t_22 R.S) (Nat.le_of_ble_eq_true rfl) rfl (o_22_0 R.S) ?_
  refine s_if ((lg_cmp_ge _ _).trans (j_le (d_mul rfl rfl) rfl (rr_J _) rp1)) hF (fun c2 hF => ?_) (fun c2 hF => ?_)
  ·
    exact SX8_below_b18 R (c_lit 0 0 rfl) ⟨by decide, by decide⟩ hF
  ·
    exact SX8_below_b18 R (c_lit 1 1 rfl) ⟨by decide, by decide⟩ hF
def FX8_nearest_b71 (s0 : Int) (s : fS) : Option (Int × fS) :=
  some (s0, s)
theorem SX8_nearest_b71 {m b : Nat} {φ0 : Nat → Nat} {σo : fS} {q : Int × fS} {φ : Nat → Nat} {h : eH} {s : fS} {s0' : Int64} {s0 : Int} (R : fC m b φ0 σo φ h s) (es0 : s0' = iJ s0) (rs0 : r64 s0) (hF : FX8_nearest_b71 s0 s = some q) : gG m b φ0 σo lJ q (fX8_nearest_b71 s0' h) := by
  subst es0
  unfold FX8_nearest_b71 at hF
  unfold fX8_nearest_b71
  exact g_ret R hF ⟨rfl, rs0⟩
def FX8_nearest_b53 (l6 : Int) (s0 : Int) (s1 : Int) (s : fS) : Option (Int × fS) :=
  if 0 ≤ l6 then
    FX8_nearest_b71 (ladd s0 s1) s
  else
    FX8_nearest_b71 (lneg (ladd s0 s1)) s
theorem SX8_nearest_b53 {m b : Nat} {φ0 : Nat → Nat} {σo : fS} {q : Int × fS} {φ : Nat → Nat} {h : eH} {s : fS} {l6' : Int64} {l6 : Int} {s0' : Int64} {s0 : Int} {s1' : Int64} {s1 : Int} (R : fC m b φ0 σo φ h s) (el6 : l6' = iJ l6) (rl6 : r64 l6) (es0 : s0' = iJ s0) (rs0 : r64 s0) (es1 : s1' = iJ s1) (rs1 : r64 s1) (hF : FX8_nearest_b53 l6 s0 s1 s = some q) : gG m b φ0 σo lJ q (fX8_nearest_b53 l6' s0' s1' h) := by
  subst el6; subst es0; subst es1
  unfold FX8_nearest_b53 at hF
  unfold fX8_nearest_b53
  refine s_if ((lg_cmp_ge _ _).trans (j_le (d_lit 0 0 rfl) rfl ⟨by decide, by decide⟩ rl6)) hF (fun c1 hF => ?_) (fun c1 hF => ?_)
  ·
    exact SX8_nearest_b71 R (d_add rfl rfl) (rr_J _) hF
  ·
    exact SX8_nearest_b71 R (d_neg (d_add rfl rfl)) (rr_J _) hF
def FX8_nearest_b20 (l4 : Int) (l6 : Int) (s0 : Int) (s : fS) : Option (Int × fS) :=
  if l4 = 0 then none else
  if l4 = 0 then none else
  if l4 = 0 then none else
  if (lrem s0 l4) < (lsub l4 (lrem s0 l4)) then
    FX8_nearest_b53 l6 (ldiv s0 l4) 0 s
  else
    FX8_nearest_b53 l6 (ldiv s0 l4) 1 s
theorem SX8_nearest_b20 {m b : Nat} {φ0 : Nat → Nat} {σo : fS} {q : Int × fS} {φ : Nat → Nat} {h : eH} {s : fS} {l4' : Int64} {l4 : Int} {l6' : Int64} {l6 : Int} {s0' : Int64} {s0 : Int} (R : fC m b φ0 σo φ h s) (el4 : l4' = iJ l4) (rl4 : r64 l4) (el6 : l6' = iJ l6) (rl6 : r64 l6) (es0 : s0' = iJ s0) (rs0 : r64 s0) (hF : FX8_nearest_b20 l4 l6 s0 s = some q) : gG m b φ0 σo lJ q (fX8_nearest_b20 l4' l6' s0' h) := by
  subst el4; subst el6; subst es0
  unfold FX8_nearest_b20 at hF
  unfold fX8_nearest_b20
  refine s_div (j_eq rfl (d_lit 0 0 rfl) rl4 ⟨by decide, by decide⟩) hF (fun c1 hF => ?_)
  refine s_div (j_eq rfl (d_lit 0 0 rfl) rl4 ⟨by decide, by decide⟩) hF (fun c2 hF => ?_)
  refine s_div (j_eq rfl (d_lit 0 0 rfl) rl4 ⟨by decide, by decide⟩) hF (fun c3 hF => ?_)
  refine s_if (lg_lt.trans (j_lt (d_rem rfl rfl) (d_sub rfl (d_rem rfl rfl)) (rr_J _) (rr_J _))) hF (fun c4 hF => ?_) (fun c4 hF => ?_)
  ·
    exact SX8_nearest_b53 R rfl rl6 (d_div rfl rfl) (rr_J _) (d_lit 0 0 rfl) ⟨by decide, by decide⟩ hF
  ·
    exact SX8_nearest_b53 R rfl rl6 (d_div rfl rfl) (rr_J _) (d_lit 1 1 rfl) ⟨by decide, by decide⟩ hF
def FX8_nearest (p0 : Int) (p1 : Int) (p2 : Int) (s : fS) : Option (Int × fS) :=
  if 0 ≤ (lmul p0 p1) then
    FX8_nearest_b20 p2 (lmul p0 p1) (lmul p0 p1) s
  else
    FX8_nearest_b20 p2 (lmul p0 p1) (lneg (lmul p0 p1)) s
theorem SX8_nearest {m b : Nat} {φ0 : Nat → Nat} {σo : fS} {q : Int × fS} {φ : Nat → Nat} {h : eH} {s : fS} {p0' : Int64} {p0 : Int} {p1' : Int64} {p1 : Int} {p2' : Int64} {p2 : Int} (R : fC m b φ0 σo φ h s) (ep0 : p0' = iJ p0) (rp0 : r64 p0) (ep1 : p1' = iJ p1) (rp1 : r64 p1) (ep2 : p2' = iJ p2) (rp2 : r64 p2) (hF : FX8_nearest p0 p1 p2 s = some q) : gG m b φ0 σo lJ q (fX8_nearest p0' p1' p2' h) := by
  subst ep0; subst ep1; subst ep2
  unfold FX8_nearest at hF
  unfold fX8_nearest
  refine s_if ((lg_cmp_ge _ _).trans (j_le (d_lit 0 0 rfl) (d_mul rfl rfl) ⟨by decide, by decide⟩ (rr_J _))) hF (fun c1 hF => ?_) (fun c1 hF => ?_)
  ·
    exact SX8_nearest_b20 R rfl rp2 (d_mul rfl rfl) (rr_J _) (d_mul rfl rfl) (rr_J _) hF
  ·
    exact SX8_nearest_b20 R rfl rp2 (d_mul rfl rfl) (rr_J _) (d_neg (d_mul rfl rfl)) (rr_J _) hF
def FX8_parameter_b30 (s0 : Int) (s : fS) : Option (Int × fS) :=
  some (s0, s)
theorem SX8_parameter_b30 {m b : Nat} {φ0 : Nat → Nat} {σo : fS} {q : Int × fS} {φ : Nat → Nat} {h : eH} {s : fS} {s0' : Int32} {s0 : Int} (R : fC m b φ0 σo φ h s) (es0 : s0' = iI s0) (rs0 : r32 s0) (hF : FX8_parameter_b30 s0 s = some q) : gG m b φ0 σo lI q (fX8_parameter_b30 s0' h) := by
  subst es0
  unfold FX8_parameter_b30 at hF
  unfold fX8_parameter_b30
  exact g_ret R hF ⟨rfl, rs0⟩
def FX8_parameter (p0 : Int) (s : fS) : Option (Int × fS) :=
  (uRI s 27 2095).bind fun x5 =>
  if ¬ (x5 = (-1)) then
    (FX5_parameter x5 p0 s).bind fun q11 =>
    FX8_parameter_b30 q11.1 q11.2
  else
    FX8_parameter_b30 0 s
theorem SX8_parameter {m b : Nat} {φ0 : Nat → Nat} {σo : fS} {q : Int × fS} {φ : Nat → Nat} {h : eH} {s : fS} {p0' : Int32} {p0 : Int} (R : fC m b φ0 σo φ h s) (ep0 : p0' = iI p0) (rp0 : r32 p0) (hF : FX8_parameter p0 s = some q) : gG m b φ0 σo lI q (fX8_parameter 22 p0' h) := by
  subst ep0
  unfold FX8_parameter at hF
  unfold fX8_parameter
  refine s_gO R (t_22 R.S) (Nat.le_of_ble_eq_true rfl) rfl (o_22_4 R.S) ?_
  refine s_gAs R (t_23 R.S) (Nat.le_of_ble_eq_true rfl) rfl (o_23_3 R.S) (a_27 R) ?_
  refine s_rI R (u_27 R.S).1 (u_27 R.S).2 (by decide) (a_27 R) (c_lit 2095 2095 rfl) ⟨by decide, by decide⟩ hF (fun x5 ra3 hF => ?_)
  refine s_if (not_congr (i_eq rfl (c_lit (-1) (-1) rfl) ra3 ⟨by decide, by decide⟩)) hF (fun c4 hF => ?_) (fun c4 hF => ?_)
  ·
    refine s_gO R (t_22 R.S) (Nat.le_of_ble_eq_true rfl) rfl (o_22_1 R.S) ?_
    refine s_kok R (t_6 R.S) (Nat.le_of_ble_eq_true rfl) ?_
    refine s_call R (Nat.zero_le _) (fun _ hq => SX5_parameter (b := 0) (R.rf) rfl ra3 rfl rp0 hq) hF (fun f7 rv7 h7 q11 R7 e7 E7 hF => ?_)
    exact SX8_parameter_b30 R7 e7.1 e7.2 hF
  ·
    exact SX8_parameter_b30 R (c_lit 0 0 rfl) ⟨by decide, by decide⟩ hF
def FX8_dropSpace_b19 (N : Nat) (RE : Int → fS → Option ((Unit ⊕ Nat) × fS)) (s : fS) : Option ((Unit ⊕ Nat) × fS) :=
  some (.inl (), s)
theorem SX8_dropSpace_b19 {m b : Nat} {φ0 : Nat → Nat} {σo : fS} {N : Nat} {rE : Nat → Int32 → eH → Option ((Unit ⊕ Nat) × eH)} {RE : Int → fS → Option ((Unit ⊕ Nat) × fS)} {q : (Unit ⊕ Nat) × fS} (hrE : ∀ {φ : Nat → Nat} {h : eH} {s : fS} {x1' : Int32} {x1 : Int} {q}, fC m 3 φ s φ h s → x1' = iI x1 → r32 x1 → RE x1 s = some q → gG m 3 φ s (lT lU) q (rE 22 x1' h)) {φ : Nat → Nat} {h : eH} {s : fS} (R : fC m b φ0 σo φ h s) (hF : FX8_dropSpace_b19 N RE s = some q) : gG m b φ0 σo (lT lU) q (fX8_dropSpace_b19 N rE h) := by
  unfold FX8_dropSpace_b19 at hF
  unfold fX8_dropSpace_b19
  exact g_ret R hF trivial
def FX8_dropSpace (N : Nat) (RE : Int → fS → Option ((Unit ⊕ Nat) × fS)) (s : fS) : Option ((Unit ⊕ Nat) × fS) :=
  tB (FX8_getExpanded N RE s) fun x2 σ3 =>
  (FX1_is x2 10 σ3).bind fun q4 =>
  if ¬ (q4.1 = 0) then
    FX8_dropSpace_b19 N RE q4.2
  else
    (FX8_putBack x2 q4.2).bind fun q7 =>
    FX8_dropSpace_b19 N RE q7.2
theorem SX8_dropSpace {m b : Nat} {φ0 : Nat → Nat} {σo : fS} (hb : 3 ≤ b) {N : Nat} {rE : Nat → Int32 → eH → Option ((Unit ⊕ Nat) × eH)} {RE : Int → fS → Option ((Unit ⊕ Nat) × fS)} {q : (Unit ⊕ Nat) × fS} (hrE : ∀ {φ : Nat → Nat} {h : eH} {s : fS} {x1' : Int32} {x1 : Int} {q}, fC m 3 φ s φ h s → x1' = iI x1 → r32 x1 → RE x1 s = some q → gG m 3 φ s (lT lU) q (rE 22 x1' h)) {φ : Nat → Nat} {h : eH} {s : fS} (R : fC m b φ0 σo φ h s) (hF : FX8_dropSpace N RE s = some q) : gG m b φ0 σo (lT lU) q (fX8_dropSpace N rE 22 h) := by
  unfold FX8_dropSpace at hF
  unfold fX8_dropSpace
  refine s_kok R (t_22 R.S) (Nat.le_of_ble_eq_true rfl) ?_
  refine s_tB R hb (fun _ hq => SX8_getExpanded (b := 3) (N := N) (rE := rE) (RE := RE) (Nat.le_of_ble_eq_true rfl) @hrE (R.rf) hq) hF (fun f2 rv2 h2 x2 σ3 R2 e2 E2 hF => ?_)
  refine s_call R2 (Nat.zero_le _) (fun _ hq => SX1_is (b := 0) (R2.rf) e2.1 e2.2 (c_lit 10 10 rfl) ⟨by decide, by decide⟩ hq) hF (fun f3 rv3 h3 q4 R3 e3 E3 hF => ?_)
  refine s_if (not_congr (i_eq e3.1 (c_lit 0 0 rfl) e3.2 ⟨by decide, by decide⟩)) hF (fun c4 hF => ?_) (fun c4 hF => ?_)
  ·
    exact SX8_dropSpace_b19 (N := N) (rE := rE) (RE := RE) @hrE R3 hF
  ·
    refine s_kok R3 (t_22 R3.S) (Nat.le_of_ble_eq_true rfl) ?_
    refine s_call R3 (Nat.le_trans (Nat.le_of_ble_eq_true rfl) hb) (fun _ hq => SX8_putBack (b := 1) (Nat.le_of_ble_eq_true rfl) (R3.rf) e2.1 e2.2 hq) hF (fun f6 rv6 h6 q7 R6 e6 E6 hF => ?_)
    exact SX8_dropSpace_b19 (N := N) (rE := rE) (RE := RE) @hrE R6 hF
def FX8_united_b310 (N : Nat) (RE : Int → fS → Option ((Unit ⊕ Nat) × fS)) (RN : fS → Option ((Int ⊕ Nat) × fS)) (l1 : Int) (l3 : Int) (l6 : Int) (l8 : Int) (s : fS) : Option ((Int ⊕ Nat) × fS) :=
  (FX8_nearest l1 l6 (lmul l3 l8) s).bind fun q1 =>
  some (.inl q1.1, q1.2)
theorem SX8_united_b310 {m b : Nat} {φ0 : Nat → Nat} {σo : fS} {N : Nat} {rE : Nat → Int32 → eH → Option ((Unit ⊕ Nat) × eH)} {RE : Int → fS → Option ((Unit ⊕ Nat) × fS)} {rN : Nat → eH → Option ((Int32 ⊕ Nat) × eH)} {RN : fS → Option ((Int ⊕ Nat) × fS)} {q : (Int ⊕ Nat) × fS} (hrE : ∀ {φ : Nat → Nat} {h : eH} {s : fS} {x1' : Int32} {x1 : Int} {q}, fC m 3 φ s φ h s → x1' = iI x1 → r32 x1 → RE x1 s = some q → gG m 3 φ s (lT lU) q (rE 22 x1' h)) (hrN : ∀ {φ : Nat → Nat} {h : eH} {s : fS} {q}, fC m 3 φ s φ h s → RN s = some q → gG m 3 φ s (lT lI) q (rN 22 h)) {φ : Nat → Nat} {h : eH} {s : fS} {l1' : Int64} {l1 : Int} {l3' : Int64} {l3 : Int} {l6' : Int64} {l6 : Int} {l8' : Int64} {l8 : Int} (R : fC m b φ0 σo φ h s) (el1 : l1' = iJ l1) (rl1 : r64 l1) (el3 : l3' = iJ l3) (rl3 : r64 l3) (el6 : l6' = iJ l6) (rl6 : r64 l6) (el8 : l8' = iJ l8) (rl8 : r64 l8) (hF : FX8_united_b310 N RE RN l1 l3 l6 l8 s = some q) : gG m b φ0 σo (lT lJ) q (fX8_united_b310 N rE rN l1' l3' l6' l8' h) := by
  subst el1; subst el3; subst el6; subst el8
  unfold FX8_united_b310 at hF
  unfold fX8_united_b310
  refine s_call R (Nat.zero_le _) (fun _ hq => SX8_nearest (b := 0) (R.rf) rfl rl1 rfl rl6 (d_mul rfl rfl) (rr_J _) hq) hF (fun f1 rv1 h1 q1 R1 e1 E1 hF => ?_)
  exact g_ret R1 hF ⟨e1.1, e1.2⟩
def FX8_united_b290 (N : Nat) (RE : Int → fS → Option ((Unit ⊕ Nat) × fS)) (RN : fS → Option ((Int ⊕ Nat) × fS)) (l1 : Int) (l3 : Int) (l8 : Int) (l10 : Int) (s0 : Int) (s : fS) : Option ((Int ⊕ Nat) × fS) :=
  tB (FX8_dropSpace N RE s) fun x2 σ3 =>
  if l10 = 0 then
    FX8_united_b310 N RE RN l1 l3 s0 l8 σ3
  else
    tB (FX8_below 32768 l1 l3 σ3) fun x6 σ7 =>
    FX8_united_b310 N RE RN l1 l3 s0 l8 σ7
theorem SX8_united_b290 {m b : Nat} {φ0 : Nat → Nat} {σo : fS} (hb : 3 ≤ b) {N : Nat} {rE : Nat → Int32 → eH → Option ((Unit ⊕ Nat) × eH)} {RE : Int → fS → Option ((Unit ⊕ Nat) × fS)} {rN : Nat → eH → Option ((Int32 ⊕ Nat) × eH)} {RN : fS → Option ((Int ⊕ Nat) × fS)} {q : (Int ⊕ Nat) × fS} (hrE : ∀ {φ : Nat → Nat} {h : eH} {s : fS} {x1' : Int32} {x1 : Int} {q}, fC m 3 φ s φ h s → x1' = iI x1 → r32 x1 → RE x1 s = some q → gG m 3 φ s (lT lU) q (rE 22 x1' h)) (hrN : ∀ {φ : Nat → Nat} {h : eH} {s : fS} {q}, fC m 3 φ s φ h s → RN s = some q → gG m 3 φ s (lT lI) q (rN 22 h)) {φ : Nat → Nat} {h : eH} {s : fS} {l1' : Int64} {l1 : Int} {l3' : Int64} {l3 : Int} {l8' : Int64} {l8 : Int} {l10' : Int32} {l10 : Int} {s0' : Int64} {s0 : Int} (R : fC m b φ0 σo φ h s) (el1 : l1' = iJ l1) (rl1 : r64 l1) (el3 : l3' = iJ l3) (rl3 : r64 l3) (el8 : l8' = iJ l8) (rl8 : r64 l8) (el10 : l10' = iI l10) (rl10 : r32 l10) (es0 : s0' = iJ s0) (rs0 : r64 s0) (hF : FX8_united_b290 N RE RN l1 l3 l8 l10 s0 s = some q) : gG m b φ0 σo (lT lJ) q (fX8_united_b290 N rE rN 22 l1' l3' l8' l10' s0' h) := by
  subst el1; subst el3; subst el8; subst el10; subst es0
  unfold FX8_united_b290 at hF
  unfold fX8_united_b290
  refine s_kok R (t_22 R.S) (Nat.le_of_ble_eq_true rfl) ?_
  refine s_tB R hb (fun _ hq => SX8_dropSpace (b := 3) (N := N) (rE := rE) (RE := RE) (Nat.le_of_ble_eq_true rfl) @hrE (R.rf) hq) hF (fun f2 rv2 h2 x2 σ3 R2 e2 E2 hF => ?_)
  refine s_if (i_eq rfl (c_lit 0 0 rfl) rl10 ⟨by decide, by decide⟩) hF (fun c3 hF => ?_) (fun c3 hF => ?_)
  ·
    exact SX8_united_b310 (N := N) (rE := rE) (RE := RE) (rN := rN) (RN := RN) @hrE @hrN R2 rfl rl1 rfl rl3 rfl rs0 rfl rl8 hF
  ·
    refine s_kok R2 (t_22 R2.S) (Nat.le_of_ble_eq_true rfl) ?_
    refine s_tB R2 (Nat.zero_le _) (fun _ hq => SX8_below (b := 0) (R2.rf) (d_lit 32768 32768 rfl) ⟨by decide, by decide⟩ rfl rl1 rfl rl3 hq) hF (fun f5 rv5 h5 x6 σ7 R5 e5 E5 hF => ?_)
    exact SX8_united_b310 (N := N) (rE := rE) (RE := RE) (rN := rN) (RN := RN) @hrE @hrN R5 rfl rl1 rfl rl3 rfl rs0 rfl rl8 hF
def FX8_united_b266 (N : Nat) (RE : Int → fS → Option ((Unit ⊕ Nat) × fS)) (RN : fS → Option ((Int ⊕ Nat) × fS)) (l1 : Int) (l3 : Int) (l6 : Int) (l8 : Int) (l10 : Int) (s : fS) : Option ((Int ⊕ Nat) × fS) :=
  if l8 ≤ 1 then
    if l10 = 0 then
      FX8_united_b290 N RE RN l1 l3 l8 l10 1 s
    else
      FX8_united_b290 N RE RN l1 l3 l8 l10 l6 s
  else
    FX8_united_b290 N RE RN l1 l3 l8 l10 473628672 s
theorem SX8_united_b266 {m b : Nat} {φ0 : Nat → Nat} {σo : fS} (hb : 3 ≤ b) {N : Nat} {rE : Nat → Int32 → eH → Option ((Unit ⊕ Nat) × eH)} {RE : Int → fS → Option ((Unit ⊕ Nat) × fS)} {rN : Nat → eH → Option ((Int32 ⊕ Nat) × eH)} {RN : fS → Option ((Int ⊕ Nat) × fS)} {q : (Int ⊕ Nat) × fS} (hrE : ∀ {φ : Nat → Nat} {h : eH} {s : fS} {x1' : Int32} {x1 : Int} {q}, fC m 3 φ s φ h s → x1' = iI x1 → r32 x1 → RE x1 s = some q → gG m 3 φ s (lT lU) q (rE 22 x1' h)) (hrN : ∀ {φ : Nat → Nat} {h : eH} {s : fS} {q}, fC m 3 φ s φ h s → RN s = some q → gG m 3 φ s (lT lI) q (rN 22 h)) {φ : Nat → Nat} {h : eH} {s : fS} {l1' : Int64} {l1 : Int} {l3' : Int64} {l3 : Int} {l6' : Int64} {l6 : Int} {l8' : Int64} {l8 : Int} {l10' : Int32} {l10 : Int} (R : fC m b φ0 σo φ h s) (el1 : l1' = iJ l1) (rl1 : r64 l1) (el3 : l3' = iJ l3) (rl3 : r64 l3) (el6 : l6' = iJ l6) (rl6 : r64 l6) (el8 : l8' = iJ l8) (rl8 : r64 l8) (el10 : l10' = iI l10) (rl10 : r32 l10) (hF : FX8_united_b266 N RE RN l1 l3 l6 l8 l10 s = some q) : gG m b φ0 σo (lT lJ) q (fX8_united_b266 N rE rN 22 l1' l3' l6' l8' l10' h) := by
  subst el1; subst el3; subst el6; subst el8; subst el10
  unfold FX8_united_b266 at hF
  unfold fX8_united_b266
  refine s_if (lg_le.trans (j_le rfl (d_lit 1 1 rfl) rl8 ⟨by decide, by decide⟩)) hF (fun c1 hF => ?_) (fun c1 hF => ?_)
  ·
    refine s_if (i_eq rfl (c_lit 0 0 rfl) rl10 ⟨by decide, by decide⟩) hF (fun c2 hF => ?_) (fun c2 hF => ?_)
    ·
      exact SX8_united_b290 (N := N) (rE := rE) (RE := RE) (rN := rN) (RN := RN) hb @hrE @hrN R rfl rl1 rfl rl3 rfl rl8 rfl rl10 (d_lit 1 1 rfl) ⟨by decide, by decide⟩ hF
    ·
      exact SX8_united_b290 (N := N) (rE := rE) (RE := RE) (rN := rN) (RN := RN) hb @hrE @hrN R rfl rl1 rfl rl3 rfl rl8 rfl rl10 rfl rl6 hF
  ·
    exact SX8_united_b290 (N := N) (rE := rE) (RE := RE) (rN := rN) (RN := RN) hb @hrE @hrN R rfl rl1 rfl rl3 rfl rl8 rfl rl10 (d_lit 473628672 473628672 rfl) ⟨by decide, by decide⟩ hF
def FX8_united_b16 (N : Nat) (RE : Int → fS → Option ((Unit ⊕ Nat) × fS)) (RN : fS → Option ((Int ⊕ Nat) × fS)) : Nat → Int → Int → Int → fS → Option ((Int ⊕ Nat) × fS)
  | 0, _, _, _, _ => none
  | n + 1, l1, l3, l5, s =>
    (FX1_is l5 10 s).bind fun q1 =>
    if q1.1 = 0 then
      (FX8_isSized l5 q1.2).bind fun q4 =>
      if q4.1 = 0 then
        (FX13_put l5 q4.2).bind fun q9 =>
        tB (FX8_keyword N RE 1000000102 q9.2) fun x11 σ12 =>
        if x11 = 0 then
          tB (FX8_keyword N RE 1000000103 σ12) fun x15 σ16 =>
          if x15 = 0 then
            tB (FX8_keyword N RE 1000000104 σ16) fun x19 σ20 =>
            if x19 = 0 then
              tB (FX8_keyword N RE 1000000105 σ20) fun x23 σ24 =>
              if x23 = 0 then
                tB (FX8_keyword N RE 1000000106 σ24) fun x27 σ28 =>
                if x27 = 0 then
                  tB (FX8_keyword N RE 1000000107 σ28) fun x31 σ32 =>
                  if x31 = 0 then
                    tB (FX8_keyword N RE 1000000108 σ32) fun x35 σ36 =>
                    if x35 = 0 then
                      tB (FX8_keyword N RE 1000000109 σ36) fun x39 σ40 =>
                      if x39 = 0 then
                        tB (FX8_keyword N RE 1000000110 σ40) fun x43 σ44 =>
                        if x43 = 0 then
                          tB (FX4_fail 6 σ44) fun x49 σ50 =>
                          FX8_united_b266 N RE RN l1 l3 65536 1 1 σ50
                        else
                          (FX8_parameter 5 σ44).bind fun q52 =>
                          FX8_united_b266 N RE RN l1 l3 q52.1 1 1 q52.2
                      else
                        (FX8_parameter 6 σ40).bind fun q54 =>
                        FX8_united_b266 N RE RN l1 l3 q54.1 1 1 q54.2
                    else
                      FX8_united_b266 N RE RN l1 l3 65536 1 0 σ36
                  else
                    FX8_united_b266 N RE RN l1 l3 65536 2540 1 σ32
                else
                  FX8_united_b266 N RE RN l1 l3 65536 254 1 σ28
              else
                FX8_united_b266 N RE RN l1 l3 65536 7200 1 σ24
            else
              FX8_united_b266 N RE RN l1 l3 65536 100 1 σ20
          else
            FX8_united_b266 N RE RN l1 l3 786432 1 1 σ16
        else
          FX8_united_b266 N RE RN l1 l3 65536 1 1 σ12
      else
        tB (FX8_sized RN l5 q4.2) fun x56 σ57 =>
        tB (FX8_below 32768 l1 l3 σ57) fun x59 σ60 =>
        (FX8_nearest l1 x56 l3 σ60).bind fun q61 =>
        some (.inl q61.1, q61.2)
    else
      tB (FX8_needExpanded N RE q1.2) fun x63 σ64 =>
      FX8_united_b16 N RE RN n l1 l3 x63 σ64
theorem SX8_united_b16 {m b : Nat} {φ0 : Nat → Nat} {σo : fS} (hb : 3 ≤ b) {N : Nat} {rE : Nat → Int32 → eH → Option ((Unit ⊕ Nat) × eH)} {RE : Int → fS → Option ((Unit ⊕ Nat) × fS)} {rN : Nat → eH → Option ((Int32 ⊕ Nat) × eH)} {RN : fS → Option ((Int ⊕ Nat) × fS)} {q : (Int ⊕ Nat) × fS} (hrE : ∀ {φ : Nat → Nat} {h : eH} {s : fS} {x1' : Int32} {x1 : Int} {q}, fC m 3 φ s φ h s → x1' = iI x1 → r32 x1 → RE x1 s = some q → gG m 3 φ s (lT lU) q (rE 22 x1' h)) (hrN : ∀ {φ : Nat → Nat} {h : eH} {s : fS} {q}, fC m 3 φ s φ h s → RN s = some q → gG m 3 φ s (lT lI) q (rN 22 h)) : ∀ {n : Nat} {φ : Nat → Nat} {h : eH} {s : fS} {l1' : Int64} {l1 : Int} {l3' : Int64} {l3 : Int} {l5' : Int32} {l5 : Int}, fC m b φ0 σo φ h s → l1' = iJ l1 → r64 l1 → l3' = iJ l3 → r64 l3 → l5' = iI l5 → r32 l5 → FX8_united_b16 N RE RN n l1 l3 l5 s = some q → gG m b φ0 σo (lT lJ) q (fX8_united_b16 N rE rN n 22 l1' l3' l5' h) := by
  intro n
  induction n with
 | zero => intro φ h s l1' l1 l3' l3 l5' l5 R el1 rl1 el3 rl3 el5 rl5 hF; simp [FX8_united_b16] at hF
  | succ n ih =>
    intro φ h s l1' l1 l3' l3 l5' l5 R el1 rl1 el3 rl3 el5 rl5 hF
    subst el1; subst el3; subst el5
    rw [FX8_united_b16] at hF
    rw [fX8_united_b16]
    refine s_call R (Nat.zero_le _) (fun _ hq => SX1_is (b := 0) (R.rf) rfl rl5 (c_lit 10 10 rfl) ⟨by decide, by decide⟩ hq) hF (fun f1 rv1 h1 q1 R1 e1 E1 hF => ?_)
    refine s_if (i_eq e1.1 (c_lit 0 0 rfl) e1.2 ⟨by decide, by decide⟩) hF (fun c2 hF => ?_) (fun c2 hF => ?_)
    ·
      refine s_kok R1 (t_22 R1.S) (Nat.le_of_ble_eq_true rfl) ?_
      refine s_call R1 (Nat.zero_le _) (fun _ hq => SX8_isSized (b := 0) (R1.rf) rfl rl5 hq) hF (fun f4 rv4 h4 q4 R4 e4 E4 hF => ?_)
      refine s_if (i_eq e4.1 (c_lit 0 0 rfl) e4.2 ⟨by decide, by decide⟩) hF (fun c5 hF => ?_) (fun c5 hF => ?_)
      ·
        refine s_gO R4 (t_22 R4.S) (Nat.le_of_ble_eq_true rfl) rfl (o_22_7 R4.S) ?_
        refine s_kok R4 (t_58 R4.S) (Nat.le_of_ble_eq_true rfl) ?_
        refine s_call R4 (Nat.le_trans (Nat.le_of_ble_eq_true rfl) hb) (fun _ hq => SX13_put (b := 1) (Nat.le_of_ble_eq_true rfl) (R4.rf) rfl rl5 hq) hF (fun f8 rv8 h8 q9 R8 e8 E8 hF => ?_)
        refine s_kok R8 (t_22 R8.S) (Nat.le_of_ble_eq_true rfl) ?_
        refine s_tB R8 hb (fun _ hq => SX8_keyword (b := 3) (N := N) (rE := rE) (RE := RE) (Nat.le_of_ble_eq_true rfl) @hrE (R8.rf) hq) hF (fun f10 rv10 h10 x11 σ12 R10 e10 E10 hF => ?_)
        refine s_if (i_eq e10.1 (c_lit 0 0 rfl) e10.2 ⟨by decide, by decide⟩) hF (fun c11 hF => ?_) (fun c11 hF => ?_)
        ·
          refine s_kok R10 (t_22 R10.S) (Nat.le_of_ble_eq_true rfl) ?_
          refine s_tB R10 hb (fun _ hq => SX8_keyword (b := 3) (N := N) (rE := rE) (RE := RE) (Nat.le_of_ble_eq_true rfl) @hrE (R10.rf) hq) hF (fun f13 rv13 h13 x15 σ16 R13 e13 E13 hF => ?_)
          refine s_if (i_eq e13.1 (c_lit 0 0 rfl) e13.2 ⟨by decide, by decide⟩) hF (fun c14 hF => ?_) (fun c14 hF => ?_)
          ·
            refine s_kok R13 (t_22 R13.S) (Nat.le_of_ble_eq_true rfl) ?_
            refine s_tB R13 hb (fun _ hq => SX8_keyword (b := 3) (N := N) (rE := rE) (RE := RE) (Nat.le_of_ble_eq_true rfl) @hrE (R13.rf) hq) hF (fun f16 rv16 h16 x19 σ20 R16 e16 E16 hF => ?_)
            refine s_if (i_eq e16.1 (c_lit 0 0 rfl) e16.2 ⟨by decide, by decide⟩) hF (fun c17 hF => ?_) (fun c17 hF => ?_)
            ·
              refine s_kok R16 (t_22 R16.S) (Nat.le_of_ble_eq_true rfl) ?_
              refine s_tB R16 hb (fun _ hq => SX8_keyword (b := 3) (N := N) (rE := rE) (RE := RE) (Nat.le_of_ble_eq_true rfl) @hrE (R16.rf) hq) hF (fun f19 rv19 h19 x23 σ24 R19 e19 E19 hF => ?_)
              refine s_if (i_eq e19.1 (c_lit 0 0 rfl) e19.2 ⟨by decide, by decide⟩) hF (fun c20 hF => ?_) (fun c20 hF => ?_)
              ·
                refine s_kok R19 (t_22 R19.S) (Nat.le_of_ble_eq_true rfl) ?_
                refine s_tB R19 hb (fun _ hq => SX8_keyword (b := 3) (N := N) (rE := rE) (RE := RE) (Nat.le_of_ble_eq_true rfl) @hrE (R19.rf) hq) hF (fun f22 rv22 h22 x27 σ28 R22 e22 E22 hF => ?_)
                refine s_if (i_eq e22.1 (c_lit 0 0 rfl) e22.2 ⟨by decide, by decide⟩) hF (fun c23 hF => ?_) (fun c23 hF => ?_)
                ·
                  refine s_kok R22 (t_22 R22.S) (Nat.le_of_ble_eq_true rfl) ?_
                  refine s_tB R22 hb (fun _ hq => SX8_keyword (b := 3) (N := N) (rE := rE) (RE := RE) (Nat.le_of_ble_eq_true rfl) @hrE (R22.rf) hq) hF (fun f25 rv25 h25 x31 σ32 R25 e25 E25 hF => ?_)
                  refine s_if (i_eq e25.1 (c_lit 0 0 rfl) e25.2 ⟨by decide, by decide⟩) hF (fun c26 hF => ?_) (fun c26 hF => ?_)
                  ·
                    refine s_kok R25 (t_22 R25.S) (Nat.le_of_ble_eq_true rfl) ?_
                    refine s_tB R25 hb (fun _ hq => SX8_keyword (b := 3) (N := N) (rE := rE) (RE := RE) (Nat.le_of_ble_eq_true rfl) @hrE (R25.rf) hq) hF (fun f28 rv28 h28 x35 σ36 R28 e28 E28 hF => ?_)
                    refine s_if (i_eq e28.1 (c_lit 0 0 rfl) e28.2 ⟨by decide, by decide⟩) hF (fun c29 hF => ?_) (fun c29 hF => ?_)
                    ·
                      refine s_kok R28 (t_22 R28.S) (Nat.le_of_ble_eq_true rfl) ?_
                      refine s_tB R28 hb (fun _ hq => SX8_keyword (b := 3) (N := N) (rE := rE) (RE := RE) (Nat.le_of_ble_eq_true rfl) @hrE (R28.rf) hq) hF (fun f31 rv31 h31 x39 σ40 R31 e31 E31 hF => ?_)
                      refine s_if (i_eq e31.1 (c_lit 0 0 rfl) e31.2 ⟨by decide, by decide⟩) hF (fun c32 hF => ?_) (fun c32 hF => ?_)
                      ·
                        refine s_kok R31 (t_22 R31.S) (Nat.le_of_ble_eq_true rfl) ?_
                        refine s_tB R31 hb (fun _ hq => SX8_keyword (b := 3) (N := N) (rE := rE) (RE := RE) (Nat.le_of_ble_eq_true rfl) @hrE (R31.rf) hq) hF (fun f34 rv34 h34 x43 σ44 R34 e34 E34 hF => ?_)
                        refine s_if (i_eq e34.1 (c_lit 0 0 rfl) e34.2 ⟨by decide, by decide⟩) hF (fun c35 hF => ?_) (fun c35 hF => ?_)
                        ·
                          refine s_gO R34 (t_22 R34.S) (Nat.le_of_ble_eq_true rfl) rfl (o_22_0 R34.S) ?_
                          refine s_kok R34 (t_5 R34.S) (Nat.le_of_ble_eq_true rfl) ?_
                          refine s_tB R34 (Nat.zero_le _) (fun _ hq => SX4_fail (b := 0) (R34.rf) (c_lit 6 6 rfl) ⟨by decide, by decide⟩ hq) hF (fun f38 rv38 h38 x49 σ50 R38 e38 E38 hF => ?_)
                          exact SX8_united_b266 (N := N) (rE := rE) (RE := RE) (rN := rN) (RN := RN) hb @hrE @hrN R38 rfl rl1 rfl rl3 (d_lit 65536 65536 rfl) ⟨by decide, by decide⟩ (d_lit 1 1 rfl) ⟨by decide, by decide⟩ (c_lit 1 1 rfl) ⟨by decide, by decide⟩ hF
                        ·
                          refine s_kok R34 (t_22 R34.S) (Nat.le_of_ble_eq_true rfl) ?_
                          refine s_call R34 (Nat.zero_le _) (fun _ hq => SX8_parameter (b := 0) (R34.rf) (c_lit 5 5 rfl) ⟨by decide, by decide⟩ hq) hF (fun f40 rv40 h40 q52 R40 e40 E40 hF => ?_)
                          exact SX8_united_b266 (N := N) (rE := rE) (RE := RE) (rN := rN) (RN := RN) hb @hrE @hrN R40 rfl rl1 rfl rl3 (c_2l e40.1 e40.2) (r32.w e40.2) (d_lit 1 1 rfl) ⟨by decide, by decide⟩ (c_lit 1 1 rfl) ⟨by decide, by decide⟩ hF
                      ·
                        refine s_kok R31 (t_22 R31.S) (Nat.le_of_ble_eq_true rfl) ?_
                        refine s_call R31 (Nat.zero_le _) (fun _ hq => SX8_parameter (b := 0) (R31.rf) (c_lit 6 6 rfl) ⟨by decide, by decide⟩ hq) hF (fun f42 rv42 h42 q54 R42 e42 E42 hF => ?_)
                        exact SX8_united_b266 (N := N) (rE := rE) (RE := RE) (rN := rN) (RN := RN) hb @hrE @hrN R42 rfl rl1 rfl rl3 (c_2l e42.1 e42.2) (r32.w e42.2) (d_lit 1 1 rfl) ⟨by decide, by decide⟩ (c_lit 1 1 rfl) ⟨by decide, by decide⟩ hF
                    ·
                      exact SX8_united_b266 (N := N) (rE := rE) (RE := RE) (rN := rN) (RN := RN) hb @hrE @hrN R28 rfl rl1 rfl rl3 (d_lit 65536 65536 rfl) ⟨by decide, by decide⟩ (d_lit 1 1 rfl) ⟨by decide, by decide⟩ (c_lit 0 0 rfl) ⟨by decide, by decide⟩ hF
                  ·
                    exact SX8_united_b266 (N := N) (rE := rE) (RE := RE) (rN := rN) (RN := RN) hb @hrE @hrN R25 rfl rl1 rfl rl3 (d_lit 65536 65536 rfl) ⟨by decide, by decide⟩ (d_lit 2540 2540 rfl) ⟨by decide, by decide⟩ (c_lit 1 1 rfl) ⟨by decide, by decide⟩ hF
                ·
                  exact SX8_united_b266 (N := N) (rE := rE) (RE := RE) (rN := rN) (RN := RN) hb @hrE @hrN R22 rfl rl1 rfl rl3 (d_lit 65536 65536 rfl) ⟨by decide, by decide⟩ (d_lit 254 254 rfl) ⟨by decide, by decide⟩ (c_lit 1 1 rfl) ⟨by decide, by decide⟩ hF
              ·
                exact SX8_united_b266 (N := N) (rE := rE) (RE := RE) (rN := rN) (RN := RN) hb @hrE @hrN R19 rfl rl1 rfl rl3 (d_lit 65536 65536 rfl) ⟨by decide, by decide⟩ (d_lit 7200 7200 rfl) ⟨by decide, by decide⟩ (c_lit 1 1 rfl) ⟨by decide, by decide⟩ hF
            ·
              exact SX8_united_b266 (N := N) (rE := rE) (RE := RE) (rN := rN) (RN := RN) hb @hrE @hrN R16 rfl rl1 rfl rl3 (d_lit 65536 65536 rfl) ⟨by decide, by decide⟩ (d_lit 100 100 rfl) ⟨by decide, by decide⟩ (c_lit 1 1 rfl) ⟨by decide, by decide⟩ hF
          ·
            exact SX8_united_b266 (N := N) (rE := rE) (RE := RE) (rN := rN) (RN := RN) hb @hrE @hrN R13 rfl rl1 rfl rl3 (d_lit 786432 786432 rfl) ⟨by decide, by decide⟩ (d_lit 1 1 rfl) ⟨by decide, by decide⟩ (c_lit 1 1 rfl) ⟨by decide, by decide⟩ hF
        ·
          exact SX8_united_b266 (N := N) (rE := rE) (RE := RE) (rN := rN) (RN := RN) hb @hrE @hrN R10 rfl rl1 rfl rl3 (d_lit 65536 65536 rfl) ⟨by decide, by decide⟩ (d_lit 1 1 rfl) ⟨by decide, by decide⟩ (c_lit 1 1 rfl) ⟨by decide, by decide⟩ hF
      ·
        refine s_kok R4 (t_22 R4.S) (Nat.le_of_ble_eq_true rfl) ?_
        refine s_tB R4 hb (fun _ hq => SX8_sized (b := 3) (rN := rN) (RN := RN) (Nat.le_of_ble_eq_true rfl) @hrN (R4.rf) rfl rl5 hq) hF (fun f44 rv44 h44 x56 σ57 R44 e44 E44 hF => ?_)
        refine s_kok R44 (t_22 R44.S) (Nat.le_of_ble_eq_true rfl) ?_
        refine s_tB R44 (Nat.zero_le _) (fun _ hq => SX8_below (b := 0) (R44.rf) (d_lit 32768 32768 rfl) ⟨by decide, by decide⟩ rfl rl1 rfl rl3 hq) hF (fun f46 rv46 h46 x59 σ60 R46 e46 E46 hF => ?_)
        refine s_call R46 (Nat.zero_le _) (fun _ hq => SX8_nearest (b := 0) (R46.rf) rfl rl1 (c_2l e44.1 e44.2) (r32.w e44.2) rfl rl3 hq) hF (fun f47 rv47 h47 q61 R47 e47 E47 hF => ?_)
        exact g_ret R47 hF ⟨e47.1, e47.2⟩
    ·
      refine s_kok R1 (t_22 R1.S) (Nat.le_of_ble_eq_true rfl) ?_
      refine s_tB R1 hb (fun _ hq => SX8_needExpanded (b := 3) (N := N) (rE := rE) (RE := RE) (Nat.le_of_ble_eq_true rfl) @hrE (R1.rf) hq) hF (fun f49 rv49 h49 x63 σ64 R49 e49 E49 hF => ?_)
      exact ih R49 rfl rl1 rfl rl3 e49.1 e49.2 hF
def FX8_united (N : Nat) (RE : Int → fS → Option ((Unit ⊕ Nat) × fS)) (RN : fS → Option ((Int ⊕ Nat) × fS)) (s : fS) : Option ((Int ⊕ Nat) × fS) :=
  tB (FX8_needExpanded N RE s) fun x6 σ7 =>
  FX8_united_b16 N RE RN N (s.j 22 25) (s.j 22 26) x6 σ7
theorem SX8_united {m b : Nat} {φ0 : Nat → Nat} {σo : fS} (hb : 3 ≤ b) {N : Nat} {rE : Nat → Int32 → eH → Option ((Unit ⊕ Nat) × eH)} {RE : Int → fS → Option ((Unit ⊕ Nat) × fS)} {rN : Nat → eH → Option ((Int32 ⊕ Nat) × eH)} {RN : fS → Option ((Int ⊕ Nat) × fS)} {q : (Int ⊕ Nat) × fS} (hrE : ∀ {φ : Nat → Nat} {h : eH} {s : fS} {x1' : Int32} {x1 : Int} {q}, fC m 3 φ s φ h s → x1' = iI x1 → r32 x1 → RE x1 s = some q → gG m 3 φ s (lT lU) q (rE 22 x1' h)) (hrN : ∀ {φ : Nat → Nat} {h : eH} {s : fS} {q}, fC m 3 φ s φ h s → RN s = some q → gG m 3 φ s (lT lI) q (rN 22 h)) {φ : Nat → Nat} {h : eH} {s : fS} (R : fC m b φ0 σo φ h s) (hF : FX8_united N RE RN s = some q) : gG m b φ0 σo (lT lJ) q (fX8_united N rE rN 22 h) := by
  unfold FX8_united at hF
  unfold fX8_united
  refine s_gJ R (t_22 R.S) (Nat.le_of_ble_eq_true rfl) rfl ?_
  refine s_gJ R (t_22 R.S) (Nat.le_of_ble_eq_true rfl) rfl ?_
  refine s_kok R (t_22 R.S) (Nat.le_of_ble_eq_true rfl) ?_
  refine s_tB R hb (fun _ hq => SX8_needExpanded (b := 3) (N := N) (rE := rE) (RE := RE) (Nat.le_of_ble_eq_true rfl) @hrE (R.rf) hq) hF (fun f4 rv4 h4 x6 σ7 R4 e4 E4 hF => ?_)
  exact SX8_united_b16 (N := N) (rE := rE) (RE := RE) (rN := rN) (RN := RN) hb @hrE @hrN R4 rfl (R.rj (t_22 R.S) (Nat.le_of_ble_eq_true rfl) rfl) rfl (R.rj (t_22 R.S) (Nat.le_of_ble_eq_true rfl) rfl) e4.1 e4.2 hF
def FX8_size_b25 (l1 : Int) (s1 : Int) (s : fS) : Option ((Int ⊕ Nat) × fS) :=
  tB (FX4_want s1 7 s) fun x2 σ3 =>
  some (.inl (l2i l1), σ3)
theorem SX8_size_b25 {m b : Nat} {φ0 : Nat → Nat} {σo : fS} {q : (Int ⊕ Nat) × fS} {φ : Nat → Nat} {h : eH} {s : fS} {l1' : Int64} {l1 : Int} {s1' : Int32} {s1 : Int} (R : fC m b φ0 σo φ h s) (el1 : l1' = iJ l1) (rl1 : r64 l1) (es1 : s1' = iI s1) (rs1 : r32 s1) (hF : FX8_size_b25 l1 s1 s = some q) : gG m b φ0 σo (lT lI) q (fX8_size_b25 l1' 5 s1' h) := by
  subst el1; subst es1
  unfold FX8_size_b25 at hF
  unfold fX8_size_b25
  refine s_kok R (t_5 R.S) (Nat.le_of_ble_eq_true rfl) ?_
  refine s_tB R (Nat.zero_le _) (fun _ hq => SX4_want (b := 0) (R.rf) rfl rs1 (c_lit 7 7 rfl) ⟨by decide, by decide⟩ hq) hF (fun f2 rv2 h2 x2 σ3 R2 e2 E2 hF => ?_)
  exact g_ret R2 hF ⟨(d_2i rfl), (rr_I _)⟩
def FX8_size_b24 (l1 : Int) (s : fS) : Option ((Int ⊕ Nat) × fS) :=
  FX8_size_b25 l1 0 s
theorem SX8_size_b24 {m b : Nat} {φ0 : Nat → Nat} {σo : fS} {q : (Int ⊕ Nat) × fS} {φ : Nat → Nat} {h : eH} {s : fS} {l1' : Int64} {l1 : Int} (R : fC m b φ0 σo φ h s) (el1 : l1' = iJ l1) (rl1 : r64 l1) (hF : FX8_size_b24 l1 s = some q) : gG m b φ0 σo (lT lI) q (fX8_size_b24 l1' 5 h) := by
  subst el1
  unfold FX8_size_b24 at hF
  unfold fX8_size_b24
  exact SX8_size_b25 R rfl rl1 (c_lit 0 0 rfl) ⟨by decide, by decide⟩ hF
def FX8_size (p0 : Int) (s : fS) : Option ((Int ⊕ Nat) × fS) :=
  if p0 < (-1073741823) then
    FX8_size_b24 p0 s
  else
    if 1073741823 < p0 then
      FX8_size_b24 p0 s
    else
      FX8_size_b25 p0 1 s
theorem SX8_size {m b : Nat} {φ0 : Nat → Nat} {σo : fS} {q : (Int ⊕ Nat) × fS} {φ : Nat → Nat} {h : eH} {s : fS} {p0' : Int64} {p0 : Int} (R : fC m b φ0 σo φ h s) (ep0 : p0' = iJ p0) (rp0 : r64 p0) (hF : FX8_size p0 s = some q) : gG m b φ0 σo (lT lI) q (fX8_size 22 p0' h) := by
  subst ep0
  unfold FX8_size at hF
  unfold fX8_size
  refine s_gO R (t_22 R.S) (Nat.le_of_ble_eq_true rfl) rfl (o_22_0 R.S) ?_
  refine s_if (lg_lt.trans (j_lt rfl (d_lit (-1073741823) (-1073741823) rfl) rp0 ⟨by decide, by decide⟩)) hF (fun c2 hF => ?_) (fun c2 hF => ?_)
  ·
    exact SX8_size_b24 R rfl rp0 hF
  ·
    refine s_if ((lg_cmp_gt _ _).trans (j_lt (d_lit 1073741823 1073741823 rfl) rfl ⟨by decide, by decide⟩ rp0)) hF (fun c3 hF => ?_) (fun c3 hF => ?_)
    ·
      exact SX8_size_b24 R rfl rp0 hF
    ·
      exact SX8_size_b25 R rfl rp0 (c_lit 1 1 rfl) ⟨by decide, by decide⟩ hF
def FX8_dimension_2_b39 (N : Nat) (RE : Int → fS → Option ((Unit ⊕ Nat) × fS)) (RN : fS → Option ((Int ⊕ Nat) × fS)) (s1 : Int) (s : fS) : Option ((Int ⊕ Nat) × fS) :=
  tB (FX8_size s1 s) fun x2 σ3 =>
  some (.inl x2, σ3)
theorem SX8_dimension_2_b39 {m b : Nat} {φ0 : Nat → Nat} {σo : fS} {N : Nat} {rE : Nat → Int32 → eH → Option ((Unit ⊕ Nat) × eH)} {RE : Int → fS → Option ((Unit ⊕ Nat) × fS)} {rN : Nat → eH → Option ((Int32 ⊕ Nat) × eH)} {RN : fS → Option ((Int ⊕ Nat) × fS)} {q : (Int ⊕ Nat) × fS} (hrE : ∀ {φ : Nat → Nat} {h : eH} {s : fS} {x1' : Int32} {x1 : Int} {q}, fC m 3 φ s φ h s → x1' = iI x1 → r32 x1 → RE x1 s = some q → gG m 3 φ s (lT lU) q (rE 22 x1' h)) (hrN : ∀ {φ : Nat → Nat} {h : eH} {s : fS} {q}, fC m 3 φ s φ h s → RN s = some q → gG m 3 φ s (lT lI) q (rN 22 h)) {φ : Nat → Nat} {h : eH} {s : fS} {s1' : Int64} {s1 : Int} (R : fC m b φ0 σo φ h s) (es1 : s1' = iJ s1) (rs1 : r64 s1) (hF : FX8_dimension_2_b39 N RE RN s1 s = some q) : gG m b φ0 σo (lT lI) q (fX8_dimension_2_b39 N rE rN 22 s1' h) := by
  subst es1
  unfold FX8_dimension_2_b39 at hF
  unfold fX8_dimension_2_b39
  refine s_kok R (t_22 R.S) (Nat.le_of_ble_eq_true rfl) ?_
  refine s_tB R (Nat.zero_le _) (fun _ hq => SX8_size (b := 0) (R.rf) rfl rs1 hq) hF (fun f2 rv2 h2 x2 σ3 R2 e2 E2 hF => ?_)
  exact g_ret R2 hF ⟨e2.1, e2.2⟩
def FX8_dimension_2_b28 (N : Nat) (RE : Int → fS → Option ((Unit ⊕ Nat) × fS)) (RN : fS → Option ((Int ⊕ Nat) × fS)) (l2 : Int) (l3 : Int) (s : fS) : Option ((Int ⊕ Nat) × fS) :=
  if l2 = 0 then
    FX8_dimension_2_b39 N RE RN l3 s
  else
    FX8_dimension_2_b39 N RE RN (lneg l3) s
theorem SX8_dimension_2_b28 {m b : Nat} {φ0 : Nat → Nat} {σo : fS} {N : Nat} {rE : Nat → Int32 → eH → Option ((Unit ⊕ Nat) × eH)} {RE : Int → fS → Option ((Unit ⊕ Nat) × fS)} {rN : Nat → eH → Option ((Int32 ⊕ Nat) × eH)} {RN : fS → Option ((Int ⊕ Nat) × fS)} {q : (Int ⊕ Nat) × fS} (hrE : ∀ {φ : Nat → Nat} {h : eH} {s : fS} {x1' : Int32} {x1 : Int} {q}, fC m 3 φ s φ h s → x1' = iI x1 → r32 x1 → RE x1 s = some q → gG m 3 φ s (lT lU) q (rE 22 x1' h)) (hrN : ∀ {φ : Nat → Nat} {h : eH} {s : fS} {q}, fC m 3 φ s φ h s → RN s = some q → gG m 3 φ s (lT lI) q (rN 22 h)) {φ : Nat → Nat} {h : eH} {s : fS} {l2' : Int32} {l2 : Int} {l3' : Int64} {l3 : Int} (R : fC m b φ0 σo φ h s) (el2 : l2' = iI l2) (rl2 : r32 l2) (el3 : l3' = iJ l3) (rl3 : r64 l3) (hF : FX8_dimension_2_b28 N RE RN l2 l3 s = some q) : gG m b φ0 σo (lT lI) q (fX8_dimension_2_b28 N rE rN 22 l2' l3' h) := by
  subst el2; subst el3
  unfold FX8_dimension_2_b28 at hF
  unfold fX8_dimension_2_b28
  refine s_if (i_eq rfl (c_lit 0 0 rfl) rl2 ⟨by decide, by decide⟩) hF (fun c1 hF => ?_) (fun c1 hF => ?_)
  ·
    exact SX8_dimension_2_b39 (N := N) (rE := rE) (RE := RE) (rN := rN) (RN := RN) @hrE @hrN R rfl rl3 hF
  ·
    exact SX8_dimension_2_b39 (N := N) (rE := rE) (RE := RE) (rN := rN) (RN := RN) @hrE @hrN R (d_neg rfl) (rr_J _) hF
def FX8_dimension_2 (N : Nat) (RE : Int → fS → Option ((Unit ⊕ Nat) × fS)) (RN : fS → Option ((Int ⊕ Nat) × fS)) (p0 : Int) (p1 : Int) (s : fS) : Option ((Int ⊕ Nat) × fS) :=
  (FX8_isSized p0 s).bind fun q2 =>
  if q2.1 = 0 then
    tB (FX8_factor N RE RN p0 q2.2) fun x5 σ6 =>
    tB (FX8_united N RE RN σ6) fun x8 σ9 =>
    FX8_dimension_2_b28 N RE RN p1 x8 σ9
  else
    tB (FX8_sized RN p0 q2.2) fun x11 σ12 =>
    FX8_dimension_2_b28 N RE RN p1 x11 σ12
theorem SX8_dimension_2 {m b : Nat} {φ0 : Nat → Nat} {σo : fS} (hb : 3 ≤ b) {N : Nat} {rE : Nat → Int32 → eH → Option ((Unit ⊕ Nat) × eH)} {RE : Int → fS → Option ((Unit ⊕ Nat) × fS)} {rN : Nat → eH → Option ((Int32 ⊕ Nat) × eH)} {RN : fS → Option ((Int ⊕ Nat) × fS)} {q : (Int ⊕ Nat) × fS} (hrE : ∀ {φ : Nat → Nat} {h : eH} {s : fS} {x1' : Int32} {x1 : Int} {q}, fC m 3 φ s φ h s → x1' = iI x1 → r32 x1 → RE x1 s = some q → gG m 3 φ s (lT lU) q (rE 22 x1' h)) (hrN : ∀ {φ : Nat → Nat} {h : eH} {s : fS} {q}, fC m 3 φ s φ h s → RN s = some q → gG m 3 φ s (lT lI) q (rN 22 h)) {φ : Nat → Nat} {h : eH} {s : fS} {p0' : Int32} {p0 : Int} {p1' : Int32} {p1 : Int} (R : fC m b φ0 σo φ h s) (ep0 : p0' = iI p0) (rp0 : r32 p0) (ep1 : p1' = iI p1) (rp1 : r32 p1) (hF : FX8_dimension_2 N RE RN p0 p1 s = some q) : gG m b φ0 σo (lT lI) q (fX8_dimension_2 N rE rN 22 p0' p1' h) := by
  subst ep0; subst ep1
  unfold FX8_dimension_2 at hF
  unfold fX8_dimension_2
  refine s_kok R (t_22 R.S) (Nat.le_of_ble_eq_true rfl) ?_
  refine s_call R (Nat.zero_le _) (fun _ hq => SX8_isSized (b := 0) (R.rf) rfl rp0 hq) hF (fun f2 rv2 h2 q2 R2 e2 E2 hF => ?_)
  refine s_if (i_eq e2.1 (c_lit 0 0 rfl) e2.2 ⟨by decide, by decide⟩) hF (fun c3 hF => ?_) (fun c3 hF => ?_)
  ·
    refine s_kok R2 (t_22 R2.S) (Nat.le_of_ble_eq_true rfl) ?_
    refine s_tB R2 hb (fun _ hq => SX8_factor (b := 3) (N := N) (rE := rE) (RE := RE) (rN := rN) (RN := RN) (Nat.le_of_ble_eq_true rfl) @hrE @hrN (R2.rf) rfl rp0 hq) hF (fun f5 rv5 h5 x5 σ6 R5 e5 E5 hF => ?_)
    refine s_kok R5 (t_22 R5.S) (Nat.le_of_ble_eq_true rfl) ?_
    refine s_tB R5 hb (fun _ hq => SX8_united (b := 3) (N := N) (rE := rE) (RE := RE) (rN := rN) (RN := RN) (Nat.le_of_ble_eq_true rfl) @hrE @hrN (R5.rf) hq) hF (fun f7 rv7 h7 x8 σ9 R7 e7 E7 hF => ?_)
    exact SX8_dimension_2_b28 (N := N) (rE := rE) (RE := RE) (rN := rN) (RN := RN) @hrE @hrN R7 rfl rp1 e7.1 e7.2 hF
  ·
    refine s_kok R2 (t_22 R2.S) (Nat.le_of_ble_eq_true rfl) ?_
    refine s_tB R2 hb (fun _ hq => SX8_sized (b := 3) (rN := rN) (RN := RN) (Nat.le_of_ble_eq_true rfl) @hrN (R2.rf) rfl rp0 hq) hF (fun f9 rv9 h9 x11 σ12 R9 e9 E9 hF => ?_)
    exact SX8_dimension_2_b28 (N := N) (rE := rE) (RE := RE) (rN := rN) (RN := RN) @hrE @hrN R9 rfl rp1 (c_2l e9.1 e9.2) (r32.w e9.2) hF
def FX8_dimension (N : Nat) (RE : Int → fS → Option ((Unit ⊕ Nat) × fS)) (RN : fS → Option ((Int ⊕ Nat) × fS)) (s : fS) : Option ((Int ⊕ Nat) × fS) :=
  tB (FX8_signed N RE s) fun x2 σ3 =>
  tB (FX8_dimension_2 N RE RN x2 (σ3.i 22 27) σ3) fun x7 σ8 =>
  some (.inl x7, σ8)
theorem SX8_dimension {m b : Nat} {φ0 : Nat → Nat} {σo : fS} (hb : 3 ≤ b) {N : Nat} {rE : Nat → Int32 → eH → Option ((Unit ⊕ Nat) × eH)} {RE : Int → fS → Option ((Unit ⊕ Nat) × fS)} {rN : Nat → eH → Option ((Int32 ⊕ Nat) × eH)} {RN : fS → Option ((Int ⊕ Nat) × fS)} {q : (Int ⊕ Nat) × fS} (hrE : ∀ {φ : Nat → Nat} {h : eH} {s : fS} {x1' : Int32} {x1 : Int} {q}, fC m 3 φ s φ h s → x1' = iI x1 → r32 x1 → RE x1 s = some q → gG m 3 φ s (lT lU) q (rE 22 x1' h)) (hrN : ∀ {φ : Nat → Nat} {h : eH} {s : fS} {q}, fC m 3 φ s φ h s → RN s = some q → gG m 3 φ s (lT lI) q (rN 22 h)) {φ : Nat → Nat} {h : eH} {s : fS} (R : fC m b φ0 σo φ h s) (hF : FX8_dimension N RE RN s = some q) : gG m b φ0 σo (lT lI) q (fX8_dimension N rE rN 22 h) := by
  unfold FX8_dimension at hF
  unfold fX8_dimension
  refine s_kok R (t_22 R.S) (Nat.le_of_ble_eq_true rfl) ?_
  refine s_tB R hb (fun _ hq => SX8_signed (b := 3) (N := N) (rE := rE) (RE := RE) (Nat.le_of_ble_eq_true rfl) @hrE (R.rf) hq) hF (fun f2 rv2 h2 x2 σ3 R2 e2 E2 hF => ?_)
  refine s_gI R2 (t_22 R2.S) (Nat.le_of_ble_eq_true rfl) rfl ?_
  refine s_kok R2 (t_22 R2.S) (Nat.le_of_ble_eq_true rfl) ?_
  refine s_tB R2 hb (fun _ hq => SX8_dimension_2 (b := 3) (N := N) (rE := rE) (RE := RE) (rN := rN) (RN := RN) (Nat.le_of_ble_eq_true rfl) @hrE @hrN (R2.rf) e2.1 e2.2 rfl (R2.ri (t_22 R2.S) (Nat.le_of_ble_eq_true rfl) rfl) hq) hF (fun f5 rv5 h5 x7 σ8 R5 e5 E5 hF => ?_)
  exact g_ret R5 hF ⟨e5.1, e5.2⟩
def FX6_scale_b54 (s0 : Int) (s : fS) : Option (Int × fS) :=
  some (s0, s)
theorem SX6_scale_b54 {m b : Nat} {φ0 : Nat → Nat} {σo : fS} {q : Int × fS} {φ : Nat → Nat} {h : eH} {s : fS} {s0' : Int32} {s0 : Int} (R : fC m b φ0 σo φ h s) (es0 : s0' = iI s0) (rs0 : r32 s0) (hF : FX6_scale_b54 s0 s = some q) : gG m b φ0 σo lI q (fX6_scale_b54 s0' h) := by
  subst es0
  unfold FX6_scale_b54 at hF
  unfold fX6_scale_b54
  exact g_ret R hF ⟨rfl, rs0⟩
def FX6_scale (p0 : Int) (p1 : Int) (p2 : Int) (s : fS) : Option (Int × fS) :=
  (FX6_d p0 s).bind fun q1 =>
  (FX6_c p0 q1.2).bind fun q2 =>
  (FX6_b p0 q2.2).bind fun q3 =>
  if p2 = 0 then none else
  if (idiv 256 p2) = 0 then none else
  (FX6_a p0 q3.2).bind fun q6 =>
  if ¬ (q6.1 = 0) then
    FX6_scale_b54 (isub (idiv (iadd (ishr (iadd (ishr (imul q1.1 p1) 8) (imul q2.1 p1)) 8) (imul q3.1 p1)) (idiv 256 p2)) (imul p2 p1)) q6.2
  else
    FX6_scale_b54 (idiv (iadd (ishr (iadd (ishr (imul q1.1 p1) 8) (imul q2.1 p1)) 8) (imul q3.1 p1)) (idiv 256 p2)) q6.2
theorem SX6_scale {m b : Nat} {φ0 : Nat → Nat} {σo : fS} {q : Int × fS} {φ : Nat → Nat} {h : eH} {s : fS} {p0' : Int32} {p0 : Int} {p1' : Int32} {p1 : Int} {p2' : Int32} {p2 : Int} (R : fC m b φ0 σo φ h s) (ep0 : p0' = iI p0) (rp0 : r32 p0) (ep1 : p1' = iI p1) (rp1 : r32 p1) (ep2 : p2' = iI p2) (rp2 : r32 p2) (hF : FX6_scale p0 p1 p2 s = some q) : gG m b φ0 σo lI q (fX6_scale p0' p1' p2' h) := by
  subst ep0; subst ep1; subst ep2
  unfold FX6_scale at hF
  unfold fX6_scale
  refine s_call R (Nat.zero_le _) (fun _ hq => SX6_d (b := 0) (R.rf) rfl rp0 hq) hF (fun f1 rv1 h1 q1 R1 e1 E1 hF => ?_)
  refine s_call R1 (Nat.zero_le _) (fun _ hq => SX6_c (b := 0) (R1.rf) rfl rp0 hq) hF (fun f2 rv2 h2 q2 R2 e2 E2 hF => ?_)
  refine s_call R2 (Nat.zero_le _) (fun _ hq => SX6_b (b := 0) (R2.rf) rfl rp0 hq) hF (fun f3 rv3 h3 q3 R3 e3 E3 hF => ?_)
  refine s_div (i_eq rfl (c_lit 0 0 rfl) rp2 ⟨by decide, by decide⟩) hF (fun c4 hF => ?_)
  refine s_div (i_eq (c_div (c_lit 256 256 rfl) rfl) (c_lit 0 0 rfl) (rr_I _) ⟨by decide, by decide⟩) hF (fun c5 hF => ?_)
  refine s_call R3 (Nat.zero_le _) (fun _ hq => SX6_a (b := 0) (R3.rf) rfl rp0 hq) hF (fun f6 rv6 h6 q6 R6 e6 E6 hF => ?_)
  refine s_if (not_congr (i_eq e6.1 (c_lit 0 0 rfl) e6.2 ⟨by decide, by decide⟩)) hF (fun c7 hF => ?_) (fun c7 hF => ?_)
  ·
    exact SX6_scale_b54 R6 (c_sub (c_div (c_add (c_shr (c_add (c_shr (c_mul e1.1 rfl) (c_lit 8 8 rfl)) (c_mul e2.1 rfl)) (c_lit 8 8 rfl)) (c_mul e3.1 rfl)) (c_div (c_lit 256 256 rfl) rfl)) (c_mul rfl rfl)) (rr_I _) hF
  ·
    exact SX6_scale_b54 R6 (c_div (c_add (c_shr (c_add (c_shr (c_mul e1.1 rfl) (c_lit 8 8 rfl)) (c_mul e2.1 rfl)) (c_lit 8 8 rfl)) (c_mul e3.1 rfl)) (c_div (c_lit 256 256 rfl) rfl)) (rr_I _) hF
def FX6_take_b156 (N : Nat) (K81 : Nat → Int → Int → Int → fS → Option (Int × fS)) (l0 : Nat) (l4 : Int) (l5 : Int) (l6 : Int) (s : fS) : Option (Int × fS) :=
  K81 l0 l4 l5 (iadd l6 1) s
theorem SX6_take_b156 {m b : Nat} {φ0 : Nat → Nat} {σo : fS} {N : Nat} {k81 : Nat → Int32 → Int32 → Int32 → eH → Option (Int32 × eH)} {K81 : Nat → Int → Int → Int → fS → Option (Int × fS)} {q : Int × fS} (hk81 : ∀ {φ : Nat → Nat} {h : eH} {s : fS} {l0 : Nat} {l4' : Int32} {l4 : Int} {l5' : Int32} {l5 : Int} {l6' : Int32} {l6 : Int}, fC m b φ0 σo φ h s → l4' = iI l4 → r32 l4 → l5' = iI l5 → r32 l5 → l6' = iI l6 → r32 l6 → K81 l0 l4 l5 l6 s = some q → gG m b φ0 σo lI q (k81 l0 l4' l5' l6' h)) {φ : Nat → Nat} {h : eH} {s : fS} {l0 : Nat} {l4' : Int32} {l4 : Int} {l5' : Int32} {l5 : Int} {l6' : Int32} {l6 : Int} (R : fC m b φ0 σo φ h s) (el4 : l4' = iI l4) (rl4 : r32 l4) (el5 : l5' = iI l5) (rl5 : r32 l5) (el6 : l6' = iI l6) (rl6 : r32 l6) (hF : FX6_take_b156 N K81 l0 l4 l5 l6 s = some q) : gG m b φ0 σo lI q (fX6_take_b156 N k81 l0 l4' l5' l6' h) := by
  subst el4; subst el5; subst el6
  unfold FX6_take_b156 at hF
  unfold fX6_take_b156
  exact hk81 R rfl rl4 rfl rl5 (c_add rfl (c_lit 1 1 rfl)) (rr_I _) hF
def FX6_take_b108 (N : Nat) (K81 : Nat → Int → Int → Int → fS → Option (Int × fS)) : Nat → Nat → Int → Int → Int → Int → fS → Option (Int × fS)
  | 0, _, _, _, _, _, _ => none
  | n + 1, l0, l4, l5, l6, l7, s =>
    (uK 5 s l0).bind fun _ =>
    (s.o l0 3).bind fun a1 =>
    (uKA 100 s a1).bind fun _ =>
    (uRI s a1 l6).bind fun x3 =>
    if x3 ≤ l7 then
      FX6_take_b156 N K81 l0 l4 l5 l6 s
    else
      (uK 5 s l0).bind fun _ =>
      (s.o l0 1).bind fun a6 =>
      (uK 5 s l0).bind fun _ =>
      (s.o l0 2).bind fun a8 =>
      (uKA 100 s a8).bind fun _ =>
      (uRI s a8 l6).bind fun x10 =>
      (uK 5 s l0).bind fun _ =>
      (FX6_word l0 l6 l7 s).bind fun q13 =>
      (FX6_scale q13.1 l4 l5 q13.2).bind fun q14 =>
      (uKA 100 q14.2 a6).bind fun _ =>
      (uQI q14.2 a6 (iadd x10 l7) q14.1).bind fun σ15 =>
      FX6_take_b108 N K81 n l0 l4 l5 l6 (iadd l7 1) σ15
theorem SX6_take_b108 {m b : Nat} {φ0 : Nat → Nat} {σo : fS} {N : Nat} {k81 : Nat → Int32 → Int32 → Int32 → eH → Option (Int32 × eH)} {K81 : Nat → Int → Int → Int → fS → Option (Int × fS)} {q : Int × fS} (hk81 : ∀ {φ : Nat → Nat} {h : eH} {s : fS} {l0 : Nat} {l4' : Int32} {l4 : Int} {l5' : Int32} {l5 : Int} {l6' : Int32} {l6 : Int}, fC m b φ0 σo φ h s → l4' = iI l4 → r32 l4 → l5' = iI l5 → r32 l5 → l6' = iI l6 → r32 l6 → K81 l0 l4 l5 l6 s = some q → gG m b φ0 σo lI q (k81 l0 l4' l5' l6' h)) : ∀ {n : Nat} {φ : Nat → Nat} {h : eH} {s : fS} {l0 : Nat} {l4' : Int32} {l4 : Int} {l5' : Int32} {l5 : Int} {l6' : Int32} {l6 : Int} {l7' : Int32} {l7 : Int}, fC m b φ0 σo φ h s → l4' = iI l4 → r32 l4 → l5' = iI l5 → r32 l5 → l6' = iI l6 → r32 l6 → l7' = iI l7 → r32 l7 → FX6_take_b108 N K81 n l0 l4 l5 l6 l7 s = some q → gG m b φ0 σo lI q (fX6_take_b108 N k81 n l0 l4' l5' l6' l7' h) := by
  intro n
  induction n with
 | zero => intro φ h s l0 l4' l4 l5' l5 l6' l6 l7' l7 R el4 rl4 el5 rl5 el6 rl6 el7 rl7 hF; simp [FX6_take_b108] at hF
  | succ n ih =>
    intro φ h s l0 l4' l4 l5' l5 l6' l6 l7' l7 R el4 rl4 el5 rl5 el6 rl6 el7 rl7 hF
    subst el4; subst el5; subst el6; subst el7
    rw [FX6_take_b108] at hF
    rw [fX6_take_b108]
    refine s_K hF (fun t2 hF => ?_)
    refine s_oo hF (fun a1 e1 hF => ?_)
    refine s_gA R t2 (Nat.le_of_ble_eq_true rfl) rfl e1 (fun x1_ y1_ => ?_)
    refine s_KA hF (fun y4 z4 hF => ?_)
    refine s_rI R y4 z4 (by decide) rfl rfl rl6 hF (fun x3 ra3 hF => ?_)
    refine s_if (i_le rfl rfl ra3 rl7) hF (fun c5 hF => ?_) (fun c5 hF => ?_)
    ·
      exact SX6_take_b156 (N := N) (k81 := k81) (K81 := K81) @hk81 R rfl rl4 rfl rl5 rfl rl6 hF
    ·
      refine s_K hF (fun t7 hF => ?_)
      refine s_oo hF (fun a6 e6 hF => ?_)
      refine s_gA R t7 (Nat.le_of_ble_eq_true rfl) rfl e6 (fun x6_ y6_ => ?_)
      refine s_K hF (fun t9 hF => ?_)
      refine s_oo hF (fun a8 e8 hF => ?_)
      refine s_gA R t9 (Nat.le_of_ble_eq_true rfl) rfl e8 (fun x8_ y8_ => ?_)
      refine s_KA hF (fun y11 z11 hF => ?_)
      refine s_rI R y11 z11 (by decide) rfl rfl rl6 hF (fun x10 ra10 hF => ?_)
      refine s_K hF (fun t13 hF => ?_)
      refine s_kok R t13 (Nat.le_of_ble_eq_true rfl) ?_
      refine s_call R (Nat.zero_le _) (fun _ hq => SX6_word (b := 0) (R.rf) rfl rl6 rfl rl7 hq) hF (fun f14 rv14 h14 q13 R14 e14 E14 hF => ?_)
      refine s_call R14 (Nat.zero_le _) (fun _ hq => SX6_scale (b := 0) (R14.rf) e14.1 e14.2 rfl rl4 rfl rl5 hq) hF (fun f15 rv15 h15 q14 R15 e15 E15 hF => ?_)
      refine s_KA hF (fun y17 z17 hF => ?_)
      refine s_qI R15 y17 z17 (by decide) ((rfl.trans (E14.k0 rfl _ (Nat.lt_trans y6_ (Nat.le_of_ble_eq_true rfl))).1.symm).trans (E15.k0 rfl _ (by rw [(E14.k0 rfl _ (Nat.lt_trans y6_ (Nat.le_of_ble_eq_true rfl))).2]; exact (Nat.lt_trans y6_ (Nat.le_of_ble_eq_true rfl)))).1.symm) (c_add rfl rfl) (rr_I _) e15.1 e15.2 hF (fun h16 σ15 R16 T16 hF => ?_)
      exact ih R16 rfl rl4 rfl rl5 rfl rl6 (c_add rfl (c_lit 1 1 rfl)) (rr_I _) hF
def FX6_take_b193 (N : Nat) (l0 : Nat) (s : fS) : Option (Int × fS) :=
  (uK 5 s l0).bind fun _ =>
  (uPZ s l0 10 1).bind fun σ1 =>
  some (0, σ1)
theorem SX6_take_b193 {m b : Nat} {φ0 : Nat → Nat} {σo : fS} {N : Nat} {q : Int × fS} {φ : Nat → Nat} {h : eH} {s : fS} {l0 : Nat} (R : fC m b φ0 σo φ h s) (hF : FX6_take_b193 N l0 s = some q) : gG m b φ0 σo lI q (fX6_take_b193 N l0 h) := by
  unfold FX6_take_b193 at hF
  unfold fX6_take_b193
  refine s_K hF (fun t2 hF => ?_)
  refine s_pZ R t2 (Nat.le_of_ble_eq_true rfl) rfl (c_lit 1 1 rfl) ⟨by decide, by decide⟩ hF (fun h1 σ1 R1 T1 hF => ?_)
  exact g_ret R1 hF ⟨(c_lit 0 0 rfl), ⟨by decide, by decide⟩⟩
def FX6_take_b81 (N : Nat) : Nat → Nat → Int → Int → Int → fS → Option (Int × fS)
  | 0, _, _, _, _, _ => none
  | n + 1, l0, l4, l5, l6, s =>
    if 10 ≤ l6 then
      (uK 5 s l0).bind fun _ =>
      (s.o l0 3).bind fun a2 =>
      (uKA 100 s a2).bind fun _ =>
      (uRI s a2 9).bind fun x4 =>
      if x4 ≤ 0 then
        FX6_take_b193 N l0 s
      else
        (uK 5 s l0).bind fun _ =>
        (s.o l0 1).bind fun a7 =>
        (uK 5 s l0).bind fun _ =>
        (s.o l0 2).bind fun a9 =>
        (uKA 100 s a9).bind fun _ =>
        (uRI s a9 9).bind fun x11 =>
        (uK 5 s l0).bind fun _ =>
        (FX6_word l0 9 0 s).bind fun q14 =>
        (uKA 100 q14.2 a7).bind fun _ =>
        (uQI q14.2 a7 x11 (ishr q14.1 4)).bind fun σ15 =>
        FX6_take_b193 N l0 σ15
    else
      if l6 = 6 then
        FX6_take_b156 N (FX6_take_b81 N n) l0 l4 l5 l6 s
      else
        if ¬ (l6 = 8) then
          FX6_take_b108 N (FX6_take_b81 N n) N l0 l4 l5 l6 0 s
        else
          FX6_take_b156 N (FX6_take_b81 N n) l0 l4 l5 l6 s
theorem SX6_take_b81 {m b : Nat} {φ0 : Nat → Nat} {σo : fS} {N : Nat} {q : Int × fS} : ∀ {n : Nat} {φ : Nat → Nat} {h : eH} {s : fS} {l0 : Nat} {l4' : Int32} {l4 : Int} {l5' : Int32} {l5 : Int} {l6' : Int32} {l6 : Int}, fC m b φ0 σo φ h s → l4' = iI l4 → r32 l4 → l5' = iI l5 → r32 l5 → l6' = iI l6 → r32 l6 → FX6_take_b81 N n l0 l4 l5 l6 s = some q → gG m b φ0 σo lI q (fX6_take_b81 N n l0 l4' l5' l6' h) := by
  intro n
  induction n with
 | zero => intro φ h s l0 l4' l4 l5' l5 l6' l6 R el4 rl4 el5 rl5 el6 rl6 hF; simp [FX6_take_b81] at hF
  | succ n ih =>
    intro φ h s l0 l4' l4 l5' l5 l6' l6 R el4 rl4 el5 rl5 el6 rl6 hF
    subst el4; subst el5; subst el6
    rw [FX6_take_b81] at hF
    rw [fX6_take_b81]
    refine s_if (i_le (c_lit 10 10 rfl) rfl ⟨by decide, by decide⟩ rl6) hF (fun c1 hF => ?_) (fun c1 hF => ?_)
    ·
      refine s_K hF (fun t3 hF => ?_)
      refine s_oo hF (fun a2 e2 hF => ?_)
      refine s_gA R t3 (Nat.le_of_ble_eq_true rfl) rfl e2 (fun x2_ y2_ => ?_)
      refine s_KA hF (fun y5 z5 hF => ?_)
      refine s_rI R y5 z5 (by decide) rfl (c_lit 9 9 rfl) ⟨by decide, by decide⟩ hF (fun x4 ra4 hF => ?_)
      refine s_if (i_le rfl (c_lit 0 0 rfl) ra4 ⟨by decide, by decide⟩) hF (fun c6 hF => ?_) (fun c6 hF => ?_)
      ·
        exact SX6_take_b193 (N := N) R hF
      ·
        refine s_K hF (fun t8 hF => ?_)
        refine s_oo hF (fun a7 e7 hF => ?_)
        refine s_gA R t8 (Nat.le_of_ble_eq_true rfl) rfl e7 (fun x7_ y7_ => ?_)
        refine s_K hF (fun t10 hF => ?_)
        refine s_oo hF (fun a9 e9 hF => ?_)
        refine s_gA R t10 (Nat.le_of_ble_eq_true rfl) rfl e9 (fun x9_ y9_ => ?_)
        refine s_KA hF (fun y12 z12 hF => ?_)
        refine s_rI R y12 z12 (by decide) rfl (c_lit 9 9 rfl) ⟨by decide, by decide⟩ hF (fun x11 ra11 hF => ?_)
        refine s_K hF (fun t14 hF => ?_)
        refine s_kok R t14 (Nat.le_of_ble_eq_true rfl) ?_
        refine s_call R (Nat.zero_le _) (fun _ hq => SX6_word (b := 0) (R.rf) (c_lit 9 9 rfl) ⟨by decide, by decide⟩ (c_lit 0 0 rfl) ⟨by decide, by decide⟩ hq) hF (fun f15 rv15 h15 q14 R15 e15 E15 hF => ?_)
        refine s_KA hF (fun y17 z17 hF => ?_)
        refine s_qI R15 y17 z17 (by decide) (rfl.trans (E15.k0 rfl _ (Nat.lt_trans y7_ (Nat.le_of_ble_eq_true rfl))).1.symm) rfl ra11 (c_shr e15.1 (c_lit 4 4 rfl)) (rr_I _) hF (fun h16 σ15 R16 T16 hF => ?_)
        exact SX6_take_b193 (N := N) R16 hF
    ·
      refine s_if (i_eq rfl (c_lit 6 6 rfl) rl6 ⟨by decide, by decide⟩) hF (fun c18 hF => ?_) (fun c18 hF => ?_)
      ·
        exact SX6_take_b156 (N := N) (k81 := fX6_take_b81 N n) (K81 := FX6_take_b81 N n) @ih R rfl rl4 rfl rl5 rfl rl6 hF
      ·
        refine s_if (not_congr (i_eq rfl (c_lit 8 8 rfl) rl6 ⟨by decide, by decide⟩)) hF (fun c19 hF => ?_) (fun c19 hF => ?_)
        ·
          exact SX6_take_b108 (N := N) (k81 := fX6_take_b81 N n) (K81 := FX6_take_b81 N n) @ih R rfl rl4 rfl rl5 rfl rl6 (c_lit 0 0 rfl) ⟨by decide, by decide⟩ hF
        ·
          exact SX6_take_b156 (N := N) (k81 := fX6_take_b81 N n) (K81 := FX6_take_b81 N n) @ih R rfl rl4 rfl rl5 rfl rl6 hF
def FX6_take_b55 (N : Nat) : Nat → Nat → Int → Int → fS → Option (Int × fS)
  | 0, _, _, _, _ => none
  | n + 1, l0, l4, l5, s =>
    if l4 < 8388608 then
      FX6_take_b81 N N l0 l4 l5 2 s
    else
      FX6_take_b55 N n l0 (ishr l4 1) (iadd l5 l5) s
theorem SX6_take_b55 {m b : Nat} {φ0 : Nat → Nat} {σo : fS} {N : Nat} {q : Int × fS} : ∀ {n : Nat} {φ : Nat → Nat} {h : eH} {s : fS} {l0 : Nat} {l4' : Int32} {l4 : Int} {l5' : Int32} {l5 : Int}, fC m b φ0 σo φ h s → l4' = iI l4 → r32 l4 → l5' = iI l5 → r32 l5 → FX6_take_b55 N n l0 l4 l5 s = some q → gG m b φ0 σo lI q (fX6_take_b55 N n l0 l4' l5' h) := by
  intro n
  induction n with
 | zero => intro φ h s l0 l4' l4 l5' l5 R el4 rl4 el5 rl5 hF; simp [FX6_take_b55] at hF
  | succ n ih =>
    intro φ h s l0 l4' l4 l5' l5 R el4 rl4 el5 rl5 hF
    subst el4; subst el5
    rw [FX6_take_b55] at hF
    rw [fX6_take_b55]
    refine s_if (i_lt rfl (c_lit 8388608 8388608 rfl) rl4 ⟨by decide, by decide⟩) hF (fun c1 hF => ?_) (fun c1 hF => ?_)
    ·
      exact SX6_take_b81 (N := N) R rfl rl4 rfl rl5 (c_lit 2 2 rfl) ⟨by decide, by decide⟩ hF
    ·
      exact ih R (c_shr rfl (c_lit 1 1 rfl)) (rr_I _) (c_add rfl rfl) (rr_I _) hF
def FX6_take_b42 (N : Nat) (l0 : Nat) (s0 : Nat) (s1 : Int) (s : fS) : Option (Int × fS) :=
  (uK 5 s s0).bind fun _ =>
  (uPI s s0 6 s1).bind fun σ1 =>
  (uK 5 σ1 l0).bind fun _ =>
  FX6_take_b55 N N l0 (σ1.i l0 6) 16 σ1
theorem SX6_take_b42 {m b : Nat} {φ0 : Nat → Nat} {σo : fS} {N : Nat} {q : Int × fS} {φ : Nat → Nat} {h : eH} {s : fS} {l0 : Nat} {s0 : Nat} {s1' : Int32} {s1 : Int} (R : fC m b φ0 σo φ h s) (es1 : s1' = iI s1) (rs1 : r32 s1) (hF : FX6_take_b42 N l0 s0 s1 s = some q) : gG m b φ0 σo lI q (fX6_take_b42 N l0 s0 s1' h) := by
  subst es1
  unfold FX6_take_b42 at hF
  unfold fX6_take_b42
  refine s_K hF (fun t2 hF => ?_)
  refine s_pI R t2 (Nat.le_of_ble_eq_true rfl) rfl rfl rs1 hF (fun h1 σ1 R1 T1 hF => ?_)
  refine s_K hF (fun t4 hF => ?_)
  refine s_gI R1 t4 (Nat.le_of_ble_eq_true rfl) rfl ?_
  exact SX6_take_b55 (N := N) R1 rfl (R1.ri t4 (Nat.le_of_ble_eq_true rfl) rfl) (c_lit 16 16 rfl) ⟨by decide, by decide⟩ hF
def FX6_take (N : Nat) (this : Nat) (p0 : Nat) (p1 : Int) (s : fS) : Option (Int × fS) :=
  (uK 5 s this).bind fun _ =>
  (FX6_check N this p0 s).bind fun q2 =>
  if q2.1 = 0 then
    (uK 5 q2.2 this).bind fun _ =>
    (FX6_word this 0 1 q2.2).bind fun q5 =>
    (uK 5 q5.2 this).bind fun _ =>
    (uPI q5.2 this 7 (ishr q5.1 4)).bind fun σ6 =>
    if p1 ≤ 0 then
      (uK 5 σ6 this).bind fun _ =>
      FX6_take_b42 N this this (imin (σ6.i this 7) 134217727) σ6
    else
      FX6_take_b42 N this this p1 σ6
  else
    some (q2.1, q2.2)
theorem SX6_take {m b : Nat} {φ0 : Nat → Nat} {σo : fS} {N : Nat} {q : Int × fS} {φ : Nat → Nat} {h : eH} {s : fS} {this : Nat} {p0 : Nat} {p1' : Int32} {p1 : Int} (R : fC m b φ0 σo φ h s) (ep1 : p1' = iI p1) (rp1 : r32 p1) (hF : FX6_take N this p0 p1 s = some q) : gG m b φ0 σo lI q (fX6_take N this p0 p1' h) := by
  subst ep1
  unfold FX6_take at hF
  unfold fX6_take
  refine s_K hF (fun t2 hF => ?_)
  refine s_kok R t2 (Nat.le_of_ble_eq_true rfl) ?_
  refine s_call R (Nat.zero_le _) (fun _ hq => SX6_check (b := 0) (N := N) (R.rf) hq) hF (fun f3 rv3 h3 q2 R3 e3 E3 hF => ?_)
  refine s_if (i_eq e3.1 (c_lit 0 0 rfl) e3.2 ⟨by decide, by decide⟩) hF (fun c4 hF => ?_) (fun c4 hF => ?_)
  ·
    refine s_K hF (fun t6 hF => ?_)
    refine s_kok R3 t6 (Nat.le_of_ble_eq_true rfl) ?_
    refine s_call R3 (Nat.zero_le _) (fun _ hq => SX6_word (b := 0) (R3.rf) (c_lit 0 0 rfl) ⟨by decide, by decide⟩ (c_lit 1 1 rfl) ⟨by decide, by decide⟩ hq) hF (fun f7 rv7 h7 q5 R7 e7 E7 hF => ?_)
    refine s_K hF (fun t9 hF => ?_)
    refine s_pI R7 t9 (Nat.le_of_ble_eq_true rfl) rfl (c_shr e7.1 (c_lit 4 4 rfl)) (rr_I _) hF (fun h8 σ6 R8 T8 hF => ?_)
    refine s_if (i_le rfl (c_lit 0 0 rfl) rp1 ⟨by decide, by decide⟩) hF (fun c10 hF => ?_) (fun c10 hF => ?_)
    ·
      refine s_K hF (fun t12 hF => ?_)
      refine s_gI R8 t12 (Nat.le_of_ble_eq_true rfl) rfl ?_
      exact SX6_take_b42 (N := N) R8 (c_min rfl (c_lit 134217727 134217727 rfl) (R8.ri t12 (Nat.le_of_ble_eq_true rfl) rfl) ⟨by decide, by decide⟩) (r_min (R8.ri t12 (Nat.le_of_ble_eq_true rfl) rfl) ⟨by decide, by decide⟩) hF
    ·
      exact SX6_take_b42 (N := N) R8 rfl rp1 hF
  ·
    exact g_ret R3 hF ⟨e3.1, e3.2⟩
def FX5_find_b67 (N : Nat) (K30 : Int → Int → Int → fS → Option (Int × fS)) (l1 : Int) (l3 : Int) (l4 : Int) (s : fS) : Option (Int × fS) :=
  K30 l1 l3 (iadd l4 1) s
theorem SX5_find_b67 {m b : Nat} {φ0 : Nat → Nat} {σo : fS} {N : Nat} {k30 : Nat → Int32 → Int32 → Int32 → eH → Option (Int32 × eH)} {K30 : Int → Int → Int → fS → Option (Int × fS)} {q : Int × fS} (hk30 : ∀ {φ : Nat → Nat} {h : eH} {s : fS} {l1' : Int32} {l1 : Int} {l3' : Int32} {l3 : Int} {l4' : Int32} {l4 : Int}, fC m b φ0 σo φ h s → l1' = iI l1 → r32 l1 → l3' = iI l3 → r32 l3 → l4' = iI l4 → r32 l4 → K30 l1 l3 l4 s = some q → gG m b φ0 σo lI q (k30 6 l1' l3' l4' h)) {φ : Nat → Nat} {h : eH} {s : fS} {l1' : Int32} {l1 : Int} {l3' : Int32} {l3 : Int} {l4' : Int32} {l4 : Int} (R : fC m b φ0 σo φ h s) (el1 : l1' = iI l1) (rl1 : r32 l1) (el3 : l3' = iI l3) (rl3 : r32 l3) (el4 : l4' = iI l4) (rl4 : r32 l4) (hF : FX5_find_b67 N K30 l1 l3 l4 s = some q) : gG m b φ0 σo lI q (fX5_find_b67 N k30 6 l1' l3' l4' h) := by
  subst el1; subst el3; subst el4
  unfold FX5_find_b67 at hF
  unfold fX5_find_b67
  exact hk30 R rfl rl1 rfl rl3 (c_add rfl (c_lit 1 1 rfl)) (rr_I _) hF
def FX5_find_b112 (N : Nat) (l1 : Int) (l3 : Int) (s : fS) : Option (Int × fS) :=
  (uRO s 8 (s.i 6 3)).bind fun a5 =>
  (uRO s 7 l1).bind fun a9 =>
  (uK 5 s a5).bind fun _ =>
  (FX6_take N a5 a9 l3 s).bind fun q12 =>
  (uQI q12.2 9 (q12.2.i 6 3) l1).bind fun σ17 =>
  (uPI σ17 6 3 (iadd (σ17.i 6 3) 1)).bind fun σ21 =>
  some ((σ17.i 6 3), σ21)
theorem SX5_find_b112 {m b : Nat} {φ0 : Nat → Nat} {σo : fS} {N : Nat} {q : Int × fS} {φ : Nat → Nat} {h : eH} {s : fS} {l1' : Int32} {l1 : Int} {l3' : Int32} {l3 : Int} (R : fC m b φ0 σo φ h s) (el1 : l1' = iI l1) (rl1 : r32 l1) (el3 : l3' = iI l3) (rl3 : r32 l3) (hF : FX5_find_b112 N l1 l3 s = some q) : gG m b φ0 σo lI q (fX5_find_b112 N 6 l1' l3' h) := by
  subst el1; subst el3
  unfold FX5_find_b112 at hF
  unfold fX5_find_b112
  refine s_gAs R (t_6 R.S) (Nat.le_of_ble_eq_true rfl) rfl (o_6_1 R.S) (a_8 R) ?_
  refine s_gI R (t_6 R.S) (Nat.le_of_ble_eq_true rfl) rfl ?_
  refine s_rO R (u_8 R.S).1 (u_8 R.S).2 rfl (fun _ => rfl) (Nat.le_of_ble_eq_true rfl) (a_8 R) rfl (R.ri (t_6 R.S) (Nat.le_of_ble_eq_true rfl) rfl) hF (fun a5 y3 hF => ?_)
  refine s_gAs R (t_6 R.S) (Nat.le_of_ble_eq_true rfl) rfl (o_6_0 R.S) (a_7 R) ?_
  refine s_rO R (u_7 R.S).1 (u_7 R.S).2 rfl (fun _ => rfl) (Nat.le_of_ble_eq_true rfl) (a_7 R) rfl rl1 hF (fun a9 y5 hF => ?_)
  refine s_K hF (fun t7 hF => ?_)
  refine s_kok R t7 (Nat.le_of_ble_eq_true rfl) ?_
  refine s_call R (Nat.zero_le _) (fun _ hq => SX6_take (b := 0) (N := N) (R.rf) rfl rl3 hq) hF (fun f8 rv8 h8 q12 R8 e8 E8 hF => ?_)
  refine s_gAs R8 (t_6 R8.S) (Nat.le_of_ble_eq_true rfl) rfl (o_6_2 R8.S) (a_9 R8) ?_
  refine s_gI R8 (t_6 R8.S) (Nat.le_of_ble_eq_true rfl) rfl ?_
  refine s_qI R8 (u_9 R8.S).1 (u_9 R8.S).2 (by decide) (a_9 R8) rfl (R8.ri (t_6 R8.S) (Nat.le_of_ble_eq_true rfl) rfl) rfl rl1 hF (fun h11 σ17 R11 T11 hF => ?_)
  refine s_gI R11 (t_6 R11.S) (Nat.le_of_ble_eq_true rfl) rfl ?_
  refine s_pI R11 (t_6 R11.S) (Nat.le_of_ble_eq_true rfl) rfl (c_add rfl (c_lit 1 1 rfl)) (rr_I _) hF (fun h13 σ21 R13 T13 hF => ?_)
  exact g_ret R13 hF ⟨rfl, (R11.ri (t_6 R11.S) (Nat.le_of_ble_eq_true rfl) rfl)⟩
def FX5_find_b30 (N : Nat) : Nat → Int → Int → Int → fS → Option (Int × fS)
  | 0, _, _, _, _ => none
  | n + 1, l1, l3, l4, s =>
    if (s.i 6 3) ≤ l4 then
      if ¬ ((s.i 6 3) = 100) then
        (uRQ s 8 (s.i 6 3)).bind fun a11 =>
        match a11 with
        | none =>
          (uNO 5 0 11 s).bind fun q18 =>
          (FX6_init q18.1 q18.2).bind fun q20 =>
          (uK 5 q20.2 q18.1).bind fun _ =>
          (uQO q20.2 8 (s.i 6 3) q18.1).bind fun σ21 =>
          FX5_find_b112 N l1 l3 σ21
        | some a13 =>
          FX5_find_b112 N l1 l3 s
      else
        some ((-1), s)
    else
      (uRI s 9 l4).bind fun x25 =>
      if ¬ (x25 = l1) then
        FX5_find_b67 N (FX5_find_b30 N n) l1 l3 l4 s
      else
        (uRO s 8 l4).bind fun a30 =>
        (uK 5 s a30).bind fun _ =>
        if ¬ ((s.i a30 6) = l3) then
          FX5_find_b67 N (FX5_find_b30 N n) l1 l3 l4 s
        else
          some (l4, s)
theorem SX5_find_b30 {m b : Nat} {φ0 : Nat → Nat} {σo : fS} {N : Nat} {q : Int × fS} : ∀ {n : Nat} {φ : Nat → Nat} {h : eH} {s : fS} {l1' : Int32} {l1 : Int} {l3' : Int32} {l3 : Int} {l4' : Int32} {l4 : Int}, fC m b φ0 σo φ h s → l1' = iI l1 → r32 l1 → l3' = iI l3 → r32 l3 → l4' = iI l4 → r32 l4 → FX5_find_b30 N n l1 l3 l4 s = some q → gG m b φ0 σo lI q (fX5_find_b30 N n 6 l1' l3' l4' h) := by
  intro n
  induction n with
 | zero => intro φ h s l1' l1 l3' l3 l4' l4 R el1 rl1 el3 rl3 el4 rl4 hF; simp [FX5_find_b30] at hF
  | succ n ih =>
    intro φ h s l1' l1 l3' l3 l4' l4 R el1 rl1 el3 rl3 el4 rl4 hF
    subst el1; subst el3; subst el4
    rw [FX5_find_b30] at hF
    rw [fX5_find_b30]
    refine s_gI R (t_6 R.S) (Nat.le_of_ble_eq_true rfl) rfl ?_
    refine s_if (i_le rfl rfl (R.ri (t_6 R.S) (Nat.le_of_ble_eq_true rfl) rfl) rl4) hF (fun c2 hF => ?_) (fun c2 hF => ?_)
    ·
      refine s_gI R (t_6 R.S) (Nat.le_of_ble_eq_true rfl) rfl ?_
      refine s_if (not_congr (i_eq rfl (c_lit 100 100 rfl) (R.ri (t_6 R.S) (Nat.le_of_ble_eq_true rfl) rfl) ⟨by decide, by decide⟩)) hF (fun c4 hF => ?_) (fun c4 hF => ?_)
      ·
        refine s_gAs R (t_6 R.S) (Nat.le_of_ble_eq_true rfl) rfl (o_6_1 R.S) (a_8 R) ?_
        refine s_gI R (t_6 R.S) (Nat.le_of_ble_eq_true rfl) rfl ?_
        refine s_rQ R (u_8 R.S).1 (u_8 R.S).2 rfl (fun _ => rfl) (Nat.le_of_ble_eq_true rfl) (a_8 R) rfl (R.ri (t_6 R.S) (Nat.le_of_ble_eq_true rfl) rfl) hF (fun a11 y7 hF => ?_)
        cases a11 with
        | none =>
          dsimp only at hF ⊢
          refine s_gAs R (t_6 R.S) (Nat.le_of_ble_eq_true rfl) rfl (o_6_1 R.S) (a_8 R) ?_
          refine s_gI R (t_6 R.S) (Nat.le_of_ble_eq_true rfl) rfl ?_
          refine s_nO R (Nat.le_of_ble_eq_true rfl) (by decide) (fun _ => rfl) hF (fun h11 s11_ R11 E11 z11 l11_ hF => ?_)
          refine s_call R11 (Nat.zero_le _) (fun _ hq => SX6_init (b := 0) l11_ (R11.rf) hq) hF (fun f12 rv12 h12 q20 R12 e12 E12 hF => ?_)
          refine s_K hF (fun t14 hF => ?_)
          refine s_qO R12 (by rw [(t_8 R12.S)]; decide) (t_8 R12.S) rfl (fun _ => rfl) (Nat.le_of_ble_eq_true rfl) (a_8 R12) rfl (R.ri (t_6 R.S) (Nat.le_of_ble_eq_true rfl) rfl) t14 (Nat.le_of_ble_eq_true rfl) hF (fun h13 σ21 R13 T13 hF => ?_)
          exact SX5_find_b112 (N := N) R13 rfl rl1 rfl rl3 hF
        | some a13 =>
          dsimp only at hF ⊢
          exact SX5_find_b112 (N := N) R rfl rl1 rfl rl3 hF
      ·
        exact g_ret R hF ⟨(c_lit (-1) (-1) rfl), ⟨by decide, by decide⟩⟩
    ·
      refine s_gAs R (t_6 R.S) (Nat.le_of_ble_eq_true rfl) rfl (o_6_2 R.S) (a_9 R) ?_
      refine s_rI R (u_9 R.S).1 (u_9 R.S).2 (by decide) (a_9 R) rfl rl4 hF (fun x25 ra16 hF => ?_)
      refine s_if (not_congr (i_eq rfl rfl ra16 rl1)) hF (fun c17 hF => ?_) (fun c17 hF => ?_)
      ·
        exact SX5_find_b67 (N := N) (k30 := fX5_find_b30 N n) (K30 := FX5_find_b30 N n) @ih R rfl rl1 rfl rl3 rfl rl4 hF
      ·
        refine s_gAs R (t_6 R.S) (Nat.le_of_ble_eq_true rfl) rfl (o_6_1 R.S) (a_8 R) ?_
        refine s_rO R (u_8 R.S).1 (u_8 R.S).2 rfl (fun _ => rfl) (Nat.le_of_ble_eq_true rfl) (a_8 R) rfl rl4 hF (fun a30 y19 hF => ?_)
        refine s_K hF (fun t21 hF => ?_)
        refine s_gI R t21 (Nat.le_of_ble_eq_true rfl) rfl ?_
        refine s_if (not_congr (i_eq rfl rfl (R.ri t21 (Nat.le_of_ble_eq_true rfl) rfl) rl3)) hF (fun c22 hF => ?_) (fun c22 hF => ?_)
        ·
          exact SX5_find_b67 (N := N) (k30 := fX5_find_b30 N n) (K30 := FX5_find_b30 N n) @ih R rfl rl1 rfl rl3 rfl rl4 hF
        ·
          exact g_ret R hF ⟨rfl, rl4⟩
def FX5_find_b26 (N : Nat) (l1 : Int) (s0 : Int) (s : fS) : Option (Int × fS) :=
  FX5_find_b30 N N l1 s0 0 s
theorem SX5_find_b26 {m b : Nat} {φ0 : Nat → Nat} {σo : fS} {N : Nat} {q : Int × fS} {φ : Nat → Nat} {h : eH} {s : fS} {l1' : Int32} {l1 : Int} {s0' : Int32} {s0 : Int} (R : fC m b φ0 σo φ h s) (el1 : l1' = iI l1) (rl1 : r32 l1) (es0 : s0' = iI s0) (rs0 : r32 s0) (hF : FX5_find_b26 N l1 s0 s = some q) : gG m b φ0 σo lI q (fX5_find_b26 N 6 l1' s0' h) := by
  subst el1; subst es0
  unfold FX5_find_b26 at hF
  unfold fX5_find_b26
  exact SX5_find_b30 (N := N) R rfl rl1 rfl rs0 (c_lit 0 0 rfl) ⟨by decide, by decide⟩ hF
def FX5_find (N : Nat) (p0 : Int) (p1 : Int) (s : fS) : Option (Int × fS) :=
  if p1 ≤ 0 then
    (uRO s 7 p0).bind fun a4 =>
    (uK 1 s a4).bind fun _ =>
    (FX2_whole a4 7 s).bind fun q7 =>
    FX5_find_b26 N p0 (imin (ishr q7.1 4) 134217727) q7.2
  else
    FX5_find_b26 N p0 p1 s
theorem SX5_find {m b : Nat} {φ0 : Nat → Nat} {σo : fS} {N : Nat} {q : Int × fS} {φ : Nat → Nat} {h : eH} {s : fS} {p0' : Int32} {p0 : Int} {p1' : Int32} {p1 : Int} (R : fC m b φ0 σo φ h s) (ep0 : p0' = iI p0) (rp0 : r32 p0) (ep1 : p1' = iI p1) (rp1 : r32 p1) (hF : FX5_find N p0 p1 s = some q) : gG m b φ0 σo lI q (fX5_find N 6 p0' p1' h) := by
  subst ep0; subst ep1
  unfold FX5_find at hF
  unfold fX5_find
  refine s_if (i_le rfl (c_lit 0 0 rfl) rp1 ⟨by decide, by decide⟩) hF (fun c1 hF => ?_) (fun c1 hF => ?_)
  ·
    refine s_gAs R (t_6 R.S) (Nat.le_of_ble_eq_true rfl) rfl (o_6_0 R.S) (a_7 R) ?_
    refine s_rO R (u_7 R.S).1 (u_7 R.S).2 rfl (fun _ => rfl) (Nat.le_of_ble_eq_true rfl) (a_7 R) rfl rp0 hF (fun a4 y3 hF => ?_)
    refine s_K hF (fun t5 hF => ?_)
    refine s_kok R t5 (Nat.le_of_ble_eq_true rfl) ?_
    refine s_call R (Nat.zero_le _) (fun _ hq => SX2_whole (b := 0) (R.rf) (c_lit 7 7 rfl) ⟨by decide, by decide⟩ hq) hF (fun f6 rv6 h6 q7 R6 e6 E6 hF => ?_)
    exact SX5_find_b26 (N := N) R6 rfl rp0 (c_min (c_shr e6.1 (c_lit 4 4 rfl)) (c_lit 134217727 134217727 rfl) (rr_I _) ⟨by decide, by decide⟩) (r_min (rr_I _) ⟨by decide, by decide⟩) hF
  ·
    exact SX5_find_b26 (N := N) R rfl rp0 rfl rp1 hF
def FX3_newFont_b130 (N : Nat) (RE : Int → fS → Option ((Unit ⊕ Nat) × fS)) (RN : fS → Option ((Int ⊕ Nat) × fS)) (l1 : Int) (l2 : Int) (l5 : Int) (s1 : Int) (s : fS) : Option ((Unit ⊕ Nat) × fS) :=
  tB (FX4_want s1 2 s) fun x2 σ3 =>
  (FX9_mean N l2 5 l5 l1 σ3).bind fun q7 =>
  some (.inl (), q7.2)
theorem SX3_newFont_b130 {m b : Nat} {φ0 : Nat → Nat} {σo : fS} (hb : 1 ≤ b) {N : Nat} {rE : Nat → Int32 → eH → Option ((Unit ⊕ Nat) × eH)} {RE : Int → fS → Option ((Unit ⊕ Nat) × fS)} {rN : Nat → eH → Option ((Int32 ⊕ Nat) × eH)} {RN : fS → Option ((Int ⊕ Nat) × fS)} {q : (Unit ⊕ Nat) × fS} (hrE : ∀ {φ : Nat → Nat} {h : eH} {s : fS} {x1' : Int32} {x1 : Int} {q}, fC m 3 φ s φ h s → x1' = iI x1 → r32 x1 → RE x1 s = some q → gG m 3 φ s (lT lU) q (rE 22 x1' h)) (hrN : ∀ {φ : Nat → Nat} {h : eH} {s : fS} {q}, fC m 3 φ s φ h s → RN s = some q → gG m 3 φ s (lT lI) q (rN 22 h)) {φ : Nat → Nat} {h : eH} {s : fS} {l1' : Int32} {l1 : Int} {l2' : Int32} {l2 : Int} {l5' : Int32} {l5 : Int} {s1' : Int32} {s1 : Int} (R : fC m b φ0 σo φ h s) (el1 : l1' = iI l1) (rl1 : r32 l1) (el2 : l2' = iI l2) (rl2 : r32 l2) (el5 : l5' = iI l5) (rl5 : r32 l5) (es1 : s1' = iI s1) (rs1 : r32 s1) (hF : FX3_newFont_b130 N RE RN l1 l2 l5 s1 s = some q) : gG m b φ0 σo (lT lU) q (fX3_newFont_b130 N rE rN 4 l1' l2' l5' 5 s1' h) := by
  subst el1; subst el2; subst el5; subst es1
  unfold FX3_newFont_b130 at hF
  unfold fX3_newFont_b130
  refine s_kok R (t_5 R.S) (Nat.le_of_ble_eq_true rfl) ?_
  refine s_tB R (Nat.zero_le _) (fun _ hq => SX4_want (b := 0) (R.rf) rfl rs1 (c_lit 2 2 rfl) ⟨by decide, by decide⟩ hq) hF (fun f2 rv2 h2 x2 σ3 R2 e2 E2 hF => ?_)
  refine s_gO R2 (t_4 R2.S) (Nat.le_of_ble_eq_true rfl) rfl (o_4_6 R2.S) ?_
  refine s_kok R2 (t_23 R2.S) (Nat.le_of_ble_eq_true rfl) ?_
  refine s_call R2 hb (fun _ hq => SX9_mean (b := 1) (N := N) (Nat.le_of_ble_eq_true rfl) (R2.rf) rfl rl2 (c_lit 5 5 rfl) ⟨by decide, by decide⟩ rfl rl5 rfl rl1 hq) hF (fun f5 rv5 h5 q7 R5 e5 E5 hF => ?_)
  exact g_ret R5 hF trivial
def FX3_newFont_b103 (N : Nat) (RE : Int → fS → Option ((Unit ⊕ Nat) × fS)) (RN : fS → Option ((Int ⊕ Nat) × fS)) (l1 : Int) (l2 : Int) (l3 : Int) (l4 : Int) (s : fS) : Option ((Unit ⊕ Nat) × fS) :=
  (FX5_find N l3 l4 s).bind fun q4 =>
  if q4.1 = (-1) then
    FX3_newFont_b130 N RE RN l1 l2 q4.1 0 q4.2
  else
    FX3_newFont_b130 N RE RN l1 l2 q4.1 1 q4.2
theorem SX3_newFont_b103 {m b : Nat} {φ0 : Nat → Nat} {σo : fS} (hb : 1 ≤ b) {N : Nat} {rE : Nat → Int32 → eH → Option ((Unit ⊕ Nat) × eH)} {RE : Int → fS → Option ((Unit ⊕ Nat) × fS)} {rN : Nat → eH → Option ((Int32 ⊕ Nat) × eH)} {RN : fS → Option ((Int ⊕ Nat) × fS)} {q : (Unit ⊕ Nat) × fS} (hrE : ∀ {φ : Nat → Nat} {h : eH} {s : fS} {x1' : Int32} {x1 : Int} {q}, fC m 3 φ s φ h s → x1' = iI x1 → r32 x1 → RE x1 s = some q → gG m 3 φ s (lT lU) q (rE 22 x1' h)) (hrN : ∀ {φ : Nat → Nat} {h : eH} {s : fS} {q}, fC m 3 φ s φ h s → RN s = some q → gG m 3 φ s (lT lI) q (rN 22 h)) {φ : Nat → Nat} {h : eH} {s : fS} {l1' : Int32} {l1 : Int} {l2' : Int32} {l2 : Int} {l3' : Int32} {l3 : Int} {l4' : Int32} {l4 : Int} (R : fC m b φ0 σo φ h s) (el1 : l1' = iI l1) (rl1 : r32 l1) (el2 : l2' = iI l2) (rl2 : r32 l2) (el3 : l3' = iI l3) (rl3 : r32 l3) (el4 : l4' = iI l4) (rl4 : r32 l4) (hF : FX3_newFont_b103 N RE RN l1 l2 l3 l4 s = some q) : gG m b φ0 σo (lT lU) q (fX3_newFont_b103 N rE rN 4 l1' l2' l3' l4' h) := by
  subst el1; subst el2; subst el3; subst el4
  unfold FX3_newFont_b103 at hF
  unfold fX3_newFont_b103
  refine s_gO R (t_4 R.S) (Nat.le_of_ble_eq_true rfl) rfl (o_4_1 R.S) ?_
  refine s_kok R (t_6 R.S) (Nat.le_of_ble_eq_true rfl) ?_
  refine s_call R (Nat.zero_le _) (fun _ hq => SX5_find (b := 0) (N := N) (R.rf) rfl rl3 rfl rl4 hq) hF (fun f3 rv3 h3 q4 R3 e3 E3 hF => ?_)
  refine s_gO R3 (t_4 R3.S) (Nat.le_of_ble_eq_true rfl) rfl (o_4_0 R3.S) ?_
  refine s_if (i_eq e3.1 (c_lit (-1) (-1) rfl) e3.2 ⟨by decide, by decide⟩) hF (fun c5 hF => ?_) (fun c5 hF => ?_)
  ·
    exact SX3_newFont_b130 (N := N) (rE := rE) (RE := RE) (rN := rN) (RN := RN) hb @hrE @hrN R3 rfl rl1 rfl rl2 e3.1 e3.2 (c_lit 0 0 rfl) ⟨by decide, by decide⟩ hF
  ·
    exact SX3_newFont_b130 (N := N) (rE := rE) (RE := RE) (rN := rN) (RN := RN) hb @hrE @hrN R3 rfl rl1 rfl rl2 e3.1 e3.2 (c_lit 1 1 rfl) ⟨by decide, by decide⟩ hF
def FX3_newFont_b98 (N : Nat) (RE : Int → fS → Option ((Unit ⊕ Nat) × fS)) (RN : fS → Option ((Int ⊕ Nat) × fS)) (l1 : Int) (l2 : Int) (l3 : Int) (l4 : Int) (s1 : Int) (s : fS) : Option ((Unit ⊕ Nat) × fS) :=
  tB (FX4_want s1 7 s) fun x2 σ3 =>
  FX3_newFont_b103 N RE RN l1 l2 l3 l4 σ3
theorem SX3_newFont_b98 {m b : Nat} {φ0 : Nat → Nat} {σo : fS} (hb : 1 ≤ b) {N : Nat} {rE : Nat → Int32 → eH → Option ((Unit ⊕ Nat) × eH)} {RE : Int → fS → Option ((Unit ⊕ Nat) × fS)} {rN : Nat → eH → Option ((Int32 ⊕ Nat) × eH)} {RN : fS → Option ((Int ⊕ Nat) × fS)} {q : (Unit ⊕ Nat) × fS} (hrE : ∀ {φ : Nat → Nat} {h : eH} {s : fS} {x1' : Int32} {x1 : Int} {q}, fC m 3 φ s φ h s → x1' = iI x1 → r32 x1 → RE x1 s = some q → gG m 3 φ s (lT lU) q (rE 22 x1' h)) (hrN : ∀ {φ : Nat → Nat} {h : eH} {s : fS} {q}, fC m 3 φ s φ h s → RN s = some q → gG m 3 φ s (lT lI) q (rN 22 h)) {φ : Nat → Nat} {h : eH} {s : fS} {l1' : Int32} {l1 : Int} {l2' : Int32} {l2 : Int} {l3' : Int32} {l3 : Int} {l4' : Int32} {l4 : Int} {s1' : Int32} {s1 : Int} (R : fC m b φ0 σo φ h s) (el1 : l1' = iI l1) (rl1 : r32 l1) (el2 : l2' = iI l2) (rl2 : r32 l2) (el3 : l3' = iI l3) (rl3 : r32 l3) (el4 : l4' = iI l4) (rl4 : r32 l4) (es1 : s1' = iI s1) (rs1 : r32 s1) (hF : FX3_newFont_b98 N RE RN l1 l2 l3 l4 s1 s = some q) : gG m b φ0 σo (lT lU) q (fX3_newFont_b98 N rE rN 4 l1' l2' l3' l4' 5 s1' h) := by
  subst el1; subst el2; subst el3; subst el4; subst es1
  unfold FX3_newFont_b98 at hF
  unfold fX3_newFont_b98
  refine s_kok R (t_5 R.S) (Nat.le_of_ble_eq_true rfl) ?_
  refine s_tB R (Nat.zero_le _) (fun _ hq => SX4_want (b := 0) (R.rf) rfl rs1 (c_lit 7 7 rfl) ⟨by decide, by decide⟩ hq) hF (fun f2 rv2 h2 x2 σ3 R2 e2 E2 hF => ?_)
  exact SX3_newFont_b103 (N := N) (rE := rE) (RE := RE) (rN := rN) (RN := RN) hb @hrE @hrN R2 rfl rl1 rfl rl2 rfl rl3 rfl rl4 hF
def FX3_newFont_b97 (N : Nat) (RE : Int → fS → Option ((Unit ⊕ Nat) × fS)) (RN : fS → Option ((Int ⊕ Nat) × fS)) (l1 : Int) (l2 : Int) (l3 : Int) (l4 : Int) (s : fS) : Option ((Unit ⊕ Nat) × fS) :=
  FX3_newFont_b98 N RE RN l1 l2 l3 l4 0 s
theorem SX3_newFont_b97 {m b : Nat} {φ0 : Nat → Nat} {σo : fS} (hb : 1 ≤ b) {N : Nat} {rE : Nat → Int32 → eH → Option ((Unit ⊕ Nat) × eH)} {RE : Int → fS → Option ((Unit ⊕ Nat) × fS)} {rN : Nat → eH → Option ((Int32 ⊕ Nat) × eH)} {RN : fS → Option ((Int ⊕ Nat) × fS)} {q : (Unit ⊕ Nat) × fS} (hrE : ∀ {φ : Nat → Nat} {h : eH} {s : fS} {x1' : Int32} {x1 : Int} {q}, fC m 3 φ s φ h s → x1' = iI x1 → r32 x1 → RE x1 s = some q → gG m 3 φ s (lT lU) q (rE 22 x1' h)) (hrN : ∀ {φ : Nat → Nat} {h : eH} {s : fS} {q}, fC m 3 φ s φ h s → RN s = some q → gG m 3 φ s (lT lI) q (rN 22 h)) {φ : Nat → Nat} {h : eH} {s : fS} {l1' : Int32} {l1 : Int} {l2' : Int32} {l2 : Int} {l3' : Int32} {l3 : Int} {l4' : Int32} {l4 : Int} (R : fC m b φ0 σo φ h s) (el1 : l1' = iI l1) (rl1 : r32 l1) (el2 : l2' = iI l2) (rl2 : r32 l2) (el3 : l3' = iI l3) (rl3 : r32 l3) (el4 : l4' = iI l4) (rl4 : r32 l4) (hF : FX3_newFont_b97 N RE RN l1 l2 l3 l4 s = some q) : gG m b φ0 σo (lT lU) q (fX3_newFont_b97 N rE rN 4 l1' l2' l3' l4' 5 h) := by
  subst el1; subst el2; subst el3; subst el4
  unfold FX3_newFont_b97 at hF
  unfold fX3_newFont_b97
  exact SX3_newFont_b98 (N := N) (rE := rE) (RE := RE) (rN := rN) (RN := RN) hb @hrE @hrN R rfl rl1 rfl rl2 rfl rl3 rfl rl4 (c_lit 0 0 rfl) ⟨by decide, by decide⟩ hF
def FX3_newFont_b46 (N : Nat) (RE : Int → fS → Option ((Unit ⊕ Nat) × fS)) (RN : fS → Option ((Int ⊕ Nat) × fS)) (l1 : Int) (l2 : Int) (l3 : Int) (s1 : Int) (s : fS) : Option ((Unit ⊕ Nat) × fS) :=
  tB (FX4_want s1 14 s) fun x2 σ3 =>
  tB (FX8_keyword N RE 1000000111 σ3) fun x7 σ8 =>
  if x7 = 0 then
    FX3_newFont_b103 N RE RN l1 l2 l3 0 σ8
  else
    tB (FX8_dimension N RE RN σ8) fun x13 σ14 =>
    if x13 ≤ 0 then
      FX3_newFont_b97 N RE RN l1 l2 l3 x13 σ14
    else
      if 134217727 < x13 then
        FX3_newFont_b97 N RE RN l1 l2 l3 x13 σ14
      else
        FX3_newFont_b98 N RE RN l1 l2 l3 x13 1 σ14
theorem SX3_newFont_b46 {m b : Nat} {φ0 : Nat → Nat} {σo : fS} (hb : 3 ≤ b) {N : Nat} {rE : Nat → Int32 → eH → Option ((Unit ⊕ Nat) × eH)} {RE : Int → fS → Option ((Unit ⊕ Nat) × fS)} {rN : Nat → eH → Option ((Int32 ⊕ Nat) × eH)} {RN : fS → Option ((Int ⊕ Nat) × fS)} {q : (Unit ⊕ Nat) × fS} (hrE : ∀ {φ : Nat → Nat} {h : eH} {s : fS} {x1' : Int32} {x1 : Int} {q}, fC m 3 φ s φ h s → x1' = iI x1 → r32 x1 → RE x1 s = some q → gG m 3 φ s (lT lU) q (rE 22 x1' h)) (hrN : ∀ {φ : Nat → Nat} {h : eH} {s : fS} {q}, fC m 3 φ s φ h s → RN s = some q → gG m 3 φ s (lT lI) q (rN 22 h)) {φ : Nat → Nat} {h : eH} {s : fS} {l1' : Int32} {l1 : Int} {l2' : Int32} {l2 : Int} {l3' : Int32} {l3 : Int} {s1' : Int32} {s1 : Int} (R : fC m b φ0 σo φ h s) (el1 : l1' = iI l1) (rl1 : r32 l1) (el2 : l2' = iI l2) (rl2 : r32 l2) (el3 : l3' = iI l3) (rl3 : r32 l3) (es1 : s1' = iI s1) (rs1 : r32 s1) (hF : FX3_newFont_b46 N RE RN l1 l2 l3 s1 s = some q) : gG m b φ0 σo (lT lU) q (fX3_newFont_b46 N rE rN 4 l1' l2' l3' 5 s1' h) := by
  subst el1; subst el2; subst el3; subst es1
  unfold FX3_newFont_b46 at hF
  unfold fX3_newFont_b46
  refine s_kok R (t_5 R.S) (Nat.le_of_ble_eq_true rfl) ?_
  refine s_tB R (Nat.zero_le _) (fun _ hq => SX4_want (b := 0) (R.rf) rfl rs1 (c_lit 14 14 rfl) ⟨by decide, by decide⟩ hq) hF (fun f2 rv2 h2 x2 σ3 R2 e2 E2 hF => ?_)
  refine s_gO R2 (t_4 R2.S) (Nat.le_of_ble_eq_true rfl) rfl (o_4_5 R2.S) ?_
  refine s_kok R2 (t_22 R2.S) (Nat.le_of_ble_eq_true rfl) ?_
  refine s_tB R2 hb (fun _ hq => SX8_keyword (b := 3) (N := N) (rE := rE) (RE := RE) (Nat.le_of_ble_eq_true rfl) @hrE (R2.rf) hq) hF (fun f5 rv5 h5 x7 σ8 R5 e5 E5 hF => ?_)
  refine s_if (i_eq e5.1 (c_lit 0 0 rfl) e5.2 ⟨by decide, by decide⟩) hF (fun c6 hF => ?_) (fun c6 hF => ?_)
  ·
    exact SX3_newFont_b103 (N := N) (rE := rE) (RE := RE) (rN := rN) (RN := RN) (Nat.le_trans (Nat.le_of_ble_eq_true rfl) hb) @hrE @hrN R5 rfl rl1 rfl rl2 rfl rl3 (c_lit 0 0 rfl) ⟨by decide, by decide⟩ hF
  ·
    refine s_gO R5 (t_4 R5.S) (Nat.le_of_ble_eq_true rfl) rfl (o_4_5 R5.S) ?_
    refine s_kok R5 (t_22 R5.S) (Nat.le_of_ble_eq_true rfl) ?_
    refine s_tB R5 hb (fun _ hq => SX8_dimension (b := 3) (N := N) (rE := rE) (RE := RE) (rN := rN) (RN := RN) (Nat.le_of_ble_eq_true rfl) @hrE @hrN (R5.rf) hq) hF (fun f9 rv9 h9 x13 σ14 R9 e9 E9 hF => ?_)
    refine s_gO R9 (t_4 R9.S) (Nat.le_of_ble_eq_true rfl) rfl (o_4_0 R9.S) ?_
    refine s_if (i_le e9.1 (c_lit 0 0 rfl) e9.2 ⟨by decide, by decide⟩) hF (fun c11 hF => ?_) (fun c11 hF => ?_)
    ·
      exact SX3_newFont_b97 (N := N) (rE := rE) (RE := RE) (rN := rN) (RN := RN) (Nat.le_trans (Nat.le_of_ble_eq_true rfl) hb) @hrE @hrN R9 rfl rl1 rfl rl2 rfl rl3 e9.1 e9.2 hF
    ·
      refine s_if (i_lt (c_lit 134217727 134217727 rfl) e9.1 ⟨by decide, by decide⟩ e9.2) hF (fun c12 hF => ?_) (fun c12 hF => ?_)
      ·
        exact SX3_newFont_b97 (N := N) (rE := rE) (RE := RE) (rN := rN) (RN := RN) (Nat.le_trans (Nat.le_of_ble_eq_true rfl) hb) @hrE @hrN R9 rfl rl1 rfl rl2 rfl rl3 e9.1 e9.2 hF
      ·
        exact SX3_newFont_b98 (N := N) (rE := rE) (RE := RE) (rN := rN) (RN := RN) (Nat.le_trans (Nat.le_of_ble_eq_true rfl) hb) @hrE @hrN R9 rfl rl1 rfl rl2 rfl rl3 e9.1 e9.2 (c_lit 1 1 rfl) ⟨by decide, by decide⟩ hF
def FX3_newFont (N : Nat) (RE : Int → fS → Option ((Unit ⊕ Nat) × fS)) (RN : fS → Option ((Int ⊕ Nat) × fS)) (p0 : Int) (s : fS) : Option ((Unit ⊕ Nat) × fS) :=
  tB (FX8_target N s) fun x4 σ5 =>
  tB (FX8_equals N RE σ5) fun x9 σ10 =>
  tB (FX8_within RN 15 σ10) fun x14 σ15 =>
  (uRQ σ15 7 x14).bind fun a22 =>
  match a22 with
  | none =>
    FX3_newFont_b46 N RE RN p0 x4 x14 0 σ15
  | some a24 =>
    FX3_newFont_b46 N RE RN p0 x4 x14 1 σ15
theorem SX3_newFont {m b : Nat} {φ0 : Nat → Nat} {σo : fS} (hb : 3 ≤ b) {N : Nat} {rE : Nat → Int32 → eH → Option ((Unit ⊕ Nat) × eH)} {RE : Int → fS → Option ((Unit ⊕ Nat) × fS)} {rN : Nat → eH → Option ((Int32 ⊕ Nat) × eH)} {RN : fS → Option ((Int ⊕ Nat) × fS)} {q : (Unit ⊕ Nat) × fS} (hrE : ∀ {φ : Nat → Nat} {h : eH} {s : fS} {x1' : Int32} {x1 : Int} {q}, fC m 3 φ s φ h s → x1' = iI x1 → r32 x1 → RE x1 s = some q → gG m 3 φ s (lT lU) q (rE 22 x1' h)) (hrN : ∀ {φ : Nat → Nat} {h : eH} {s : fS} {q}, fC m 3 φ s φ h s → RN s = some q → gG m 3 φ s (lT lI) q (rN 22 h)) {φ : Nat → Nat} {h : eH} {s : fS} {p0' : Int32} {p0 : Int} (R : fC m b φ0 σo φ h s) (ep0 : p0' = iI p0) (rp0 : r32 p0) (hF : FX3_newFont N RE RN p0 s = some q) : gG m b φ0 σo (lT lU) q (fX3_newFont N rE rN 4 p0' h) := by
  subst ep0
  unfold FX3_newFont at hF
  unfold fX3_newFont
  refine s_gO R (t_4 R.S) (Nat.le_of_ble_eq_true rfl) rfl (o_4_5 R.S) ?_
  refine s_kok R (t_22 R.S) (Nat.le_of_ble_eq_true rfl) ?_
  refine s_tB R (Nat.le_trans (Nat.le_of_ble_eq_true rfl) hb) (fun _ hq => SX8_target (b := 2) (N := N) (Nat.le_of_ble_eq_true rfl) (R.rf) hq) hF (fun f3 rv3 h3 x4 σ5 R3 e3 E3 hF => ?_)
  refine s_gO R3 (t_4 R3.S) (Nat.le_of_ble_eq_true rfl) rfl (o_4_5 R3.S) ?_
  refine s_kok R3 (t_22 R3.S) (Nat.le_of_ble_eq_true rfl) ?_
  refine s_tB R3 hb (fun _ hq => SX8_equals (b := 3) (N := N) (rE := rE) (RE := RE) (Nat.le_of_ble_eq_true rfl) @hrE (R3.rf) hq) hF (fun f6 rv6 h6 x9 σ10 R6 e6 E6 hF => ?_)
  refine s_gO R6 (t_4 R6.S) (Nat.le_of_ble_eq_true rfl) rfl (o_4_5 R6.S) ?_
  refine s_kok R6 (t_22 R6.S) (Nat.le_of_ble_eq_true rfl) ?_
  refine s_tB R6 hb (fun _ hq => SX8_within (b := 3) (rN := rN) (RN := RN) (Nat.le_of_ble_eq_true rfl) @hrN (R6.rf) (c_lit 15 15 rfl) ⟨by decide, by decide⟩ hq) hF (fun f9 rv9 h9 x14 σ15 R9 e9 E9 hF => ?_)
  refine s_gO R9 (t_4 R9.S) (Nat.le_of_ble_eq_true rfl) rfl (o_4_0 R9.S) ?_
  refine s_gO R9 (t_4 R9.S) (Nat.le_of_ble_eq_true rfl) rfl (o_4_1 R9.S) ?_
  refine s_gAs R9 (t_6 R9.S) (Nat.le_of_ble_eq_true rfl) rfl (o_6_0 R9.S) (a_7 R9) ?_
  refine s_rQ R9 (u_7 R9.S).1 (u_7 R9.S).2 rfl (fun _ => rfl) (Nat.le_of_ble_eq_true rfl) (a_7 R9) e9.1 e9.2 hF (fun a22 y13 hF => ?_)
  cases a22 with
  | none =>
    dsimp only at hF ⊢
    exact SX3_newFont_b46 (N := N) (rE := rE) (RE := RE) (rN := rN) (RN := RN) hb @hrE @hrN R9 rfl rp0 e3.1 e3.2 e9.1 e9.2 (c_lit 0 0 rfl) ⟨by decide, by decide⟩ hF
  | some a24 =>
    dsimp only at hF ⊢
    exact SX3_newFont_b46 (N := N) (rE := rE) (RE := RE) (rN := rN) (RN := RN) hb @hrE @hrN R9 rfl rp0 e3.1 e3.2 e9.1 e9.2 (c_lit 1 1 rfl) ⟨by decide, by decide⟩ hF
def FX8_counter_b25 (l1 : Int) (s1 : Int) (s : fS) : Option ((Int ⊕ Nat) × fS) :=
  tB (FX4_want s1 7 s) fun x2 σ3 =>
  some (.inl (l2i l1), σ3)
theorem SX8_counter_b25 {m b : Nat} {φ0 : Nat → Nat} {σo : fS} {q : (Int ⊕ Nat) × fS} {φ : Nat → Nat} {h : eH} {s : fS} {l1' : Int64} {l1 : Int} {s1' : Int32} {s1 : Int} (R : fC m b φ0 σo φ h s) (el1 : l1' = iJ l1) (rl1 : r64 l1) (es1 : s1' = iI s1) (rs1 : r32 s1) (hF : FX8_counter_b25 l1 s1 s = some q) : gG m b φ0 σo (lT lI) q (fX8_counter_b25 l1' 5 s1' h) := by
  subst el1; subst es1
  unfold FX8_counter_b25 at hF
  unfold fX8_counter_b25
  refine s_kok R (t_5 R.S) (Nat.le_of_ble_eq_true rfl) ?_
  refine s_tB R (Nat.zero_le _) (fun _ hq => SX4_want (b := 0) (R.rf) rfl rs1 (c_lit 7 7 rfl) ⟨by decide, by decide⟩ hq) hF (fun f2 rv2 h2 x2 σ3 R2 e2 E2 hF => ?_)
  exact g_ret R2 hF ⟨(d_2i rfl), (rr_I _)⟩
def FX8_counter_b24 (l1 : Int) (s : fS) : Option ((Int ⊕ Nat) × fS) :=
  FX8_counter_b25 l1 0 s
theorem SX8_counter_b24 {m b : Nat} {φ0 : Nat → Nat} {σo : fS} {q : (Int ⊕ Nat) × fS} {φ : Nat → Nat} {h : eH} {s : fS} {l1' : Int64} {l1 : Int} (R : fC m b φ0 σo φ h s) (el1 : l1' = iJ l1) (rl1 : r64 l1) (hF : FX8_counter_b24 l1 s = some q) : gG m b φ0 σo (lT lI) q (fX8_counter_b24 l1' 5 h) := by
  subst el1
  unfold FX8_counter_b24 at hF
  unfold fX8_counter_b24
  exact SX8_counter_b25 R rfl rl1 (c_lit 0 0 rfl) ⟨by decide, by decide⟩ hF
def FX8_counter (p0 : Int) (s : fS) : Option ((Int ⊕ Nat) × fS) :=
  if 2147483647 < p0 then
    FX8_counter_b24 p0 s
  else
    if p0 < (-2147483647) then
      FX8_counter_b24 p0 s
    else
      FX8_counter_b25 p0 1 s
theorem SX8_counter {m b : Nat} {φ0 : Nat → Nat} {σo : fS} {q : (Int ⊕ Nat) × fS} {φ : Nat → Nat} {h : eH} {s : fS} {p0' : Int64} {p0 : Int} (R : fC m b φ0 σo φ h s) (ep0 : p0' = iJ p0) (rp0 : r64 p0) (hF : FX8_counter p0 s = some q) : gG m b φ0 σo (lT lI) q (fX8_counter 22 p0' h) := by
  subst ep0
  unfold FX8_counter at hF
  unfold fX8_counter
  refine s_gO R (t_22 R.S) (Nat.le_of_ble_eq_true rfl) rfl (o_22_0 R.S) ?_
  refine s_if ((lg_cmp_gt _ _).trans (j_lt (d_lit 2147483647 2147483647 rfl) rfl ⟨by decide, by decide⟩ rp0)) hF (fun c2 hF => ?_) (fun c2 hF => ?_)
  ·
    exact SX8_counter_b24 R rfl rp0 hF
  ·
    refine s_if (lg_lt.trans (j_lt rfl (d_lit (-2147483647) (-2147483647) rfl) rp0 ⟨by decide, by decide⟩)) hF (fun c3 hF => ?_) (fun c3 hF => ?_)
    ·
      exact SX8_counter_b24 R rfl rp0 hF
    ·
      exact SX8_counter_b25 R rfl rp0 (c_lit 1 1 rfl) ⟨by decide, by decide⟩ hF
def FX8_more_b13 (l1 : Int) (s1 : Int) (s : fS) : Option ((Int ⊕ Nat) × fS) :=
  tB (FX4_want s1 7 s) fun x2 σ3 =>
  some (.inl l1, σ3)
theorem SX8_more_b13 {m b : Nat} {φ0 : Nat → Nat} {σo : fS} {q : (Int ⊕ Nat) × fS} {φ : Nat → Nat} {h : eH} {s : fS} {l1' : Int32} {l1 : Int} {s1' : Int32} {s1 : Int} (R : fC m b φ0 σo φ h s) (el1 : l1' = iI l1) (rl1 : r32 l1) (es1 : s1' = iI s1) (rs1 : r32 s1) (hF : FX8_more_b13 l1 s1 s = some q) : gG m b φ0 σo (lT lI) q (fX8_more_b13 l1' 5 s1' h) := by
  subst el1; subst es1
  unfold FX8_more_b13 at hF
  unfold fX8_more_b13
  refine s_kok R (t_5 R.S) (Nat.le_of_ble_eq_true rfl) ?_
  refine s_tB R (Nat.zero_le _) (fun _ hq => SX4_want (b := 0) (R.rf) rfl rs1 (c_lit 7 7 rfl) ⟨by decide, by decide⟩ hq) hF (fun f2 rv2 h2 x2 σ3 R2 e2 E2 hF => ?_)
  exact g_ret R2 hF ⟨rfl, rl1⟩
def FX8_more (p0 : Int) (s : fS) : Option ((Int ⊕ Nat) × fS) :=
  if p0 < 0 then
    FX8_more_b13 p0 0 s
  else
    FX8_more_b13 p0 1 s
theorem SX8_more {m b : Nat} {φ0 : Nat → Nat} {σo : fS} {q : (Int ⊕ Nat) × fS} {φ : Nat → Nat} {h : eH} {s : fS} {p0' : Int32} {p0 : Int} (R : fC m b φ0 σo φ h s) (ep0 : p0' = iI p0) (rp0 : r32 p0) (hF : FX8_more p0 s = some q) : gG m b φ0 σo (lT lI) q (fX8_more 22 p0' h) := by
  subst ep0
  unfold FX8_more at hF
  unfold fX8_more
  refine s_gO R (t_22 R.S) (Nat.le_of_ble_eq_true rfl) rfl (o_22_0 R.S) ?_
  refine s_if (i_lt rfl (c_lit 0 0 rfl) rp0 ⟨by decide, by decide⟩) hF (fun c2 hF => ?_) (fun c2 hF => ?_)
  ·
    exact SX8_more_b13 R rfl rp0 (c_lit 0 0 rfl) ⟨by decide, by decide⟩ hF
  ·
    exact SX8_more_b13 R rfl rp0 (c_lit 1 1 rfl) ⟨by decide, by decide⟩ hF
def FX8_stretch_b96 (N : Nat) (RE : Int → fS → Option ((Unit ⊕ Nat) × fS)) (RN : fS → Option ((Int ⊕ Nat) × fS)) (s2 : Int) (s : fS) : Option ((Int ⊕ Nat) × fS) :=
  tB (FX8_size s2 s) fun x2 σ3 =>
  tB (FX8_more x2 σ3) fun x5 σ6 =>
  some (.inl x5, σ6)
theorem SX8_stretch_b96 {m b : Nat} {φ0 : Nat → Nat} {σo : fS} {N : Nat} {rE : Nat → Int32 → eH → Option ((Unit ⊕ Nat) × eH)} {RE : Int → fS → Option ((Unit ⊕ Nat) × fS)} {rN : Nat → eH → Option ((Int32 ⊕ Nat) × eH)} {RN : fS → Option ((Int ⊕ Nat) × fS)} {q : (Int ⊕ Nat) × fS} (hrE : ∀ {φ : Nat → Nat} {h : eH} {s : fS} {x1' : Int32} {x1 : Int} {q}, fC m 3 φ s φ h s → x1' = iI x1 → r32 x1 → RE x1 s = some q → gG m 3 φ s (lT lU) q (rE 22 x1' h)) (hrN : ∀ {φ : Nat → Nat} {h : eH} {s : fS} {q}, fC m 3 φ s φ h s → RN s = some q → gG m 3 φ s (lT lI) q (rN 22 h)) {φ : Nat → Nat} {h : eH} {s : fS} {s2' : Int64} {s2 : Int} (R : fC m b φ0 σo φ h s) (es2 : s2' = iJ s2) (rs2 : r64 s2) (hF : FX8_stretch_b96 N RE RN s2 s = some q) : gG m b φ0 σo (lT lI) q (fX8_stretch_b96 N rE rN 22 22 s2' h) := by
  subst es2
  unfold FX8_stretch_b96 at hF
  unfold fX8_stretch_b96
  refine s_kok R (t_22 R.S) (Nat.le_of_ble_eq_true rfl) ?_
  refine s_tB R (Nat.zero_le _) (fun _ hq => SX8_size (b := 0) (R.rf) rfl rs2 hq) hF (fun f2 rv2 h2 x2 σ3 R2 e2 E2 hF => ?_)
  refine s_kok R2 (t_22 R2.S) (Nat.le_of_ble_eq_true rfl) ?_
  refine s_tB R2 (Nat.zero_le _) (fun _ hq => SX8_more (b := 0) (R2.rf) e2.1 e2.2 hq) hF (fun f4 rv4 h4 x5 σ6 R4 e4 E4 hF => ?_)
  exact g_ret R4 hF ⟨e4.1, e4.2⟩
def FX8_stretch_b173 (N : Nat) (RE : Int → fS → Option ((Unit ⊕ Nat) × fS)) (RN : fS → Option ((Int ⊕ Nat) × fS)) (s2 : Int) (s : fS) : Option ((Int ⊕ Nat) × fS) :=
  tB (FX8_size s2 s) fun x2 σ3 =>
  tB (FX8_more x2 σ3) fun x5 σ6 =>
  some (.inl x5, σ6)
theorem SX8_stretch_b173 {m b : Nat} {φ0 : Nat → Nat} {σo : fS} {N : Nat} {rE : Nat → Int32 → eH → Option ((Unit ⊕ Nat) × eH)} {RE : Int → fS → Option ((Unit ⊕ Nat) × fS)} {rN : Nat → eH → Option ((Int32 ⊕ Nat) × eH)} {RN : fS → Option ((Int ⊕ Nat) × fS)} {q : (Int ⊕ Nat) × fS} (hrE : ∀ {φ : Nat → Nat} {h : eH} {s : fS} {x1' : Int32} {x1 : Int} {q}, fC m 3 φ s φ h s → x1' = iI x1 → r32 x1 → RE x1 s = some q → gG m 3 φ s (lT lU) q (rE 22 x1' h)) (hrN : ∀ {φ : Nat → Nat} {h : eH} {s : fS} {q}, fC m 3 φ s φ h s → RN s = some q → gG m 3 φ s (lT lI) q (rN 22 h)) {φ : Nat → Nat} {h : eH} {s : fS} {s2' : Int64} {s2 : Int} (R : fC m b φ0 σo φ h s) (es2 : s2' = iJ s2) (rs2 : r64 s2) (hF : FX8_stretch_b173 N RE RN s2 s = some q) : gG m b φ0 σo (lT lI) q (fX8_stretch_b173 N rE rN 22 22 s2' h) := by
  subst es2
  unfold FX8_stretch_b173 at hF
  unfold fX8_stretch_b173
  refine s_kok R (t_22 R.S) (Nat.le_of_ble_eq_true rfl) ?_
  refine s_tB R (Nat.zero_le _) (fun _ hq => SX8_size (b := 0) (R.rf) rfl rs2 hq) hF (fun f2 rv2 h2 x2 σ3 R2 e2 E2 hF => ?_)
  refine s_kok R2 (t_22 R2.S) (Nat.le_of_ble_eq_true rfl) ?_
  refine s_tB R2 (Nat.zero_le _) (fun _ hq => SX8_more (b := 0) (R2.rf) e2.1 e2.2 hq) hF (fun f4 rv4 h4 x5 σ6 R4 e4 E4 hF => ?_)
  exact g_ret R4 hF ⟨e4.1, e4.2⟩
def FX8_stretch_b128 (N : Nat) (RE : Int → fS → Option ((Unit ⊕ Nat) × fS)) (RN : fS → Option ((Int ⊕ Nat) × fS)) (l2 : Int) (l3 : Int) (l5 : Int) (l7 : Int) (s : fS) : Option ((Int ⊕ Nat) × fS) :=
  tB (FX8_dropSpace N RE s) fun x2 σ3 =>
  tB (FX8_below 16384 l3 l5 σ3) fun x5 σ6 =>
  (uPI σ6 22 28 l7).bind fun σ7 =>
  (FX8_nearest l3 65536 l5 σ7).bind fun q9 =>
  if l2 = 0 then
    FX8_stretch_b173 N RE RN q9.1 q9.2
  else
    FX8_stretch_b173 N RE RN (lneg q9.1) q9.2
theorem SX8_stretch_b128 {m b : Nat} {φ0 : Nat → Nat} {σo : fS} (hb : 3 ≤ b) {N : Nat} {rE : Nat → Int32 → eH → Option ((Unit ⊕ Nat) × eH)} {RE : Int → fS → Option ((Unit ⊕ Nat) × fS)} {rN : Nat → eH → Option ((Int32 ⊕ Nat) × eH)} {RN : fS → Option ((Int ⊕ Nat) × fS)} {q : (Int ⊕ Nat) × fS} (hrE : ∀ {φ : Nat → Nat} {h : eH} {s : fS} {x1' : Int32} {x1 : Int} {q}, fC m 3 φ s φ h s → x1' = iI x1 → r32 x1 → RE x1 s = some q → gG m 3 φ s (lT lU) q (rE 22 x1' h)) (hrN : ∀ {φ : Nat → Nat} {h : eH} {s : fS} {q}, fC m 3 φ s φ h s → RN s = some q → gG m 3 φ s (lT lI) q (rN 22 h)) {φ : Nat → Nat} {h : eH} {s : fS} {l2' : Int32} {l2 : Int} {l3' : Int64} {l3 : Int} {l5' : Int64} {l5 : Int} {l7' : Int32} {l7 : Int} (R : fC m b φ0 σo φ h s) (el2 : l2' = iI l2) (rl2 : r32 l2) (el3 : l3' = iJ l3) (rl3 : r64 l3) (el5 : l5' = iJ l5) (rl5 : r64 l5) (el7 : l7' = iI l7) (rl7 : r32 l7) (hF : FX8_stretch_b128 N RE RN l2 l3 l5 l7 s = some q) : gG m b φ0 σo (lT lI) q (fX8_stretch_b128 N rE rN 22 l2' l3' l5' l7' h) := by
  subst el2; subst el3; subst el5; subst el7
  unfold FX8_stretch_b128 at hF
  unfold fX8_stretch_b128
  refine s_kok R (t_22 R.S) (Nat.le_of_ble_eq_true rfl) ?_
  refine s_tB R hb (fun _ hq => SX8_dropSpace (b := 3) (N := N) (rE := rE) (RE := RE) (Nat.le_of_ble_eq_true rfl) @hrE (R.rf) hq) hF (fun f2 rv2 h2 x2 σ3 R2 e2 E2 hF => ?_)
  refine s_kok R2 (t_22 R2.S) (Nat.le_of_ble_eq_true rfl) ?_
  refine s_tB R2 (Nat.zero_le _) (fun _ hq => SX8_below (b := 0) (R2.rf) (d_lit 16384 16384 rfl) ⟨by decide, by decide⟩ rfl rl3 rfl rl5 hq) hF (fun f4 rv4 h4 x5 σ6 R4 e4 E4 hF => ?_)
  refine s_pI R4 (t_22 R4.S) (Nat.le_of_ble_eq_true rfl) rfl rfl rl7 hF (fun h5 σ7 R5 T5 hF => ?_)
  refine s_call R5 (Nat.zero_le _) (fun _ hq => SX8_nearest (b := 0) (R5.rf) rfl rl3 (d_lit 65536 65536 rfl) ⟨by decide, by decide⟩ rfl rl5 hq) hF (fun f6 rv6 h6 q9 R6 e6 E6 hF => ?_)
  refine s_if (i_eq rfl (c_lit 0 0 rfl) rl2 ⟨by decide, by decide⟩) hF (fun c7 hF => ?_) (fun c7 hF => ?_)
  ·
    exact SX8_stretch_b173 (N := N) (rE := rE) (RE := RE) (rN := rN) (RN := RN) @hrE @hrN R6 e6.1 e6.2 hF
  ·
    exact SX8_stretch_b173 (N := N) (rE := rE) (RE := RE) (rN := rN) (RN := RN) @hrE @hrN R6 (d_neg e6.1) (rr_J _) hF
def FX8_stretch_b106 (N : Nat) (RE : Int → fS → Option ((Unit ⊕ Nat) × fS)) (RN : fS → Option ((Int ⊕ Nat) × fS)) : Nat → Int → Int → Int → Int → fS → Option ((Int ⊕ Nat) × fS)
  | 0, _, _, _, _, _ => none
  | n + 1, l2, l3, l5, l7, s =>
    if 3 ≤ l7 then
      FX8_stretch_b128 N RE RN l2 l3 l5 l7 s
    else
      tB (FX8_keyword N RE 1000000115 s) fun x3 σ4 =>
      if x3 = 0 then
        FX8_stretch_b128 N RE RN l2 l3 l5 l7 σ4
      else
        FX8_stretch_b106 N RE RN n l2 l3 l5 (iadd l7 1) σ4
theorem SX8_stretch_b106 {m b : Nat} {φ0 : Nat → Nat} {σo : fS} (hb : 3 ≤ b) {N : Nat} {rE : Nat → Int32 → eH → Option ((Unit ⊕ Nat) × eH)} {RE : Int → fS → Option ((Unit ⊕ Nat) × fS)} {rN : Nat → eH → Option ((Int32 ⊕ Nat) × eH)} {RN : fS → Option ((Int ⊕ Nat) × fS)} {q : (Int ⊕ Nat) × fS} (hrE : ∀ {φ : Nat → Nat} {h : eH} {s : fS} {x1' : Int32} {x1 : Int} {q}, fC m 3 φ s φ h s → x1' = iI x1 → r32 x1 → RE x1 s = some q → gG m 3 φ s (lT lU) q (rE 22 x1' h)) (hrN : ∀ {φ : Nat → Nat} {h : eH} {s : fS} {q}, fC m 3 φ s φ h s → RN s = some q → gG m 3 φ s (lT lI) q (rN 22 h)) : ∀ {n : Nat} {φ : Nat → Nat} {h : eH} {s : fS} {l2' : Int32} {l2 : Int} {l3' : Int64} {l3 : Int} {l5' : Int64} {l5 : Int} {l7' : Int32} {l7 : Int}, fC m b φ0 σo φ h s → l2' = iI l2 → r32 l2 → l3' = iJ l3 → r64 l3 → l5' = iJ l5 → r64 l5 → l7' = iI l7 → r32 l7 → FX8_stretch_b106 N RE RN n l2 l3 l5 l7 s = some q → gG m b φ0 σo (lT lI) q (fX8_stretch_b106 N rE rN n 22 l2' l3' l5' l7' h) := by
  intro n
  induction n with
 | zero => intro φ h s l2' l2 l3' l3 l5' l5 l7' l7 R el2 rl2 el3 rl3 el5 rl5 el7 rl7 hF; simp [FX8_stretch_b106] at hF
  | succ n ih =>
    intro φ h s l2' l2 l3' l3 l5' l5 l7' l7 R el2 rl2 el3 rl3 el5 rl5 el7 rl7 hF
    subst el2; subst el3; subst el5; subst el7
    rw [FX8_stretch_b106] at hF
    rw [fX8_stretch_b106]
    refine s_if (i_le (c_lit 3 3 rfl) rfl ⟨by decide, by decide⟩ rl7) hF (fun c1 hF => ?_) (fun c1 hF => ?_)
    ·
      exact SX8_stretch_b128 (N := N) (rE := rE) (RE := RE) (rN := rN) (RN := RN) hb @hrE @hrN R rfl rl2 rfl rl3 rfl rl5 rfl rl7 hF
    ·
      refine s_kok R (t_22 R.S) (Nat.le_of_ble_eq_true rfl) ?_
      refine s_tB R hb (fun _ hq => SX8_keyword (b := 3) (N := N) (rE := rE) (RE := RE) (Nat.le_of_ble_eq_true rfl) @hrE (R.rf) hq) hF (fun f3 rv3 h3 x3 σ4 R3 e3 E3 hF => ?_)
      refine s_if (i_eq e3.1 (c_lit 0 0 rfl) e3.2 ⟨by decide, by decide⟩) hF (fun c4 hF => ?_) (fun c4 hF => ?_)
      ·
        exact SX8_stretch_b128 (N := N) (rE := rE) (RE := RE) (rN := rN) (RN := RN) hb @hrE @hrN R3 rfl rl2 rfl rl3 rfl rl5 rfl rl7 hF
      ·
        exact ih R3 rfl rl2 rfl rl3 rfl rl5 (c_add rfl (c_lit 1 1 rfl)) (rr_I _) hF
def FX8_stretch (N : Nat) (RE : Int → fS → Option ((Unit ⊕ Nat) × fS)) (RN : fS → Option ((Int ⊕ Nat) × fS)) (s : fS) : Option ((Int ⊕ Nat) × fS) :=
  tB (FX8_signed N RE s) fun x2 σ3 =>
  (uPI σ3 22 28 0).bind fun σ6 =>
  (FX8_isSized x2 σ6).bind fun q9 =>
  if q9.1 = 0 then
    tB (FX8_factor N RE RN x2 q9.2) fun x12 σ13 =>
    tB (FX8_keyword N RE 1000000114 σ13) fun x19 σ20 =>
    if ¬ (x19 = 0) then
      FX8_stretch_b106 N RE RN N (σ3.i 22 27) (σ13.j 22 25) (σ13.j 22 26) 1 σ20
    else
      (uPJ σ20 22 25 (σ13.j 22 25)).bind fun σ22 =>
      (uPJ σ22 22 26 (σ13.j 22 26)).bind fun σ24 =>
      tB (FX8_united N RE RN σ24) fun x27 σ28 =>
      (uPI σ28 22 28 0).bind fun σ29 =>
      if (σ3.i 22 27) = 0 then
        FX8_stretch_b96 N RE RN x27 σ29
      else
        FX8_stretch_b96 N RE RN (lneg x27) σ29
  else
    tB (FX8_dimension_2 N RE RN x2 (σ3.i 22 27) q9.2) fun x33 σ34 =>
    tB (FX8_more x33 σ34) fun x36 σ37 =>
    some (.inl x36, σ37)
theorem SX8_stretch {m b : Nat} {φ0 : Nat → Nat} {σo : fS} (hb : 3 ≤ b) {N : Nat} {rE : Nat → Int32 → eH → Option ((Unit ⊕ Nat) × eH)} {RE : Int → fS → Option ((Unit ⊕ Nat) × fS)} {rN : Nat → eH → Option ((Int32 ⊕ Nat) × eH)} {RN : fS → Option ((Int ⊕ Nat) × fS)} {q : (Int ⊕ Nat) × fS} (hrE : ∀ {φ : Nat → Nat} {h : eH} {s : fS} {x1' : Int32} {x1 : Int} {q}, fC m 3 φ s φ h s → x1' = iI x1 → r32 x1 → RE x1 s = some q → gG m 3 φ s (lT lU) q (rE 22 x1' h)) (hrN : ∀ {φ : Nat → Nat} {h : eH} {s : fS} {q}, fC m 3 φ s φ h s → RN s = some q → gG m 3 φ s (lT lI) q (rN 22 h)) {φ : Nat → Nat} {h : eH} {s : fS} (R : fC m b φ0 σo φ h s) (hF : FX8_stretch N RE RN s = some q) : gG m b φ0 σo (lT lI) q (fX8_stretch N rE rN 22 h) := by
  unfold FX8_stretch at hF
  unfold fX8_stretch
  refine s_kok R (t_22 R.S) (Nat.le_of_ble_eq_true rfl) ?_
  refine s_tB R hb (fun _ hq => SX8_signed (b := 3) (N := N) (rE := rE) (RE := RE) (Nat.le_of_ble_eq_true rfl) @hrE (R.rf) hq) hF (fun f2 rv2 h2 x2 σ3 R2 e2 E2 hF => ?_)
  refine s_gI R2 (t_22 R2.S) (Nat.le_of_ble_eq_true rfl) rfl ?_
  refine s_pI R2 (t_22 R2.S) (Nat.le_of_ble_eq_true rfl) rfl (c_lit 0 0 rfl) ⟨by decide, by decide⟩ hF (fun h4 σ6 R4 T4 hF => ?_)
  refine s_kok R4 (t_22 R4.S) (Nat.le_of_ble_eq_true rfl) ?_
  refine s_call R4 (Nat.zero_le _) (fun _ hq => SX8_isSized (b := 0) (R4.rf) e2.1 e2.2 hq) hF (fun f6 rv6 h6 q9 R6 e6 E6 hF => ?_)
  refine s_if (i_eq e6.1 (c_lit 0 0 rfl) e6.2 ⟨by decide, by decide⟩) hF (fun c7 hF => ?_) (fun c7 hF => ?_)
  ·
    refine s_kok R6 (t_22 R6.S) (Nat.le_of_ble_eq_true rfl) ?_
    refine s_tB R6 hb (fun _ hq => SX8_factor (b := 3) (N := N) (rE := rE) (RE := RE) (rN := rN) (RN := RN) (Nat.le_of_ble_eq_true rfl) @hrE @hrN (R6.rf) e2.1 e2.2 hq) hF (fun f9 rv9 h9 x12 σ13 R9 e9 E9 hF => ?_)
    refine s_gJ R9 (t_22 R9.S) (Nat.le_of_ble_eq_true rfl) rfl ?_
    refine s_gJ R9 (t_22 R9.S) (Nat.le_of_ble_eq_true rfl) rfl ?_
    refine s_kok R9 (t_22 R9.S) (Nat.le_of_ble_eq_true rfl) ?_
    refine s_tB R9 hb (fun _ hq => SX8_keyword (b := 3) (N := N) (rE := rE) (RE := RE) (Nat.le_of_ble_eq_true rfl) @hrE (R9.rf) hq) hF (fun f13 rv13 h13 x19 σ20 R13 e13 E13 hF => ?_)
    refine s_if (not_congr (i_eq e13.1 (c_lit 0 0 rfl) e13.2 ⟨by decide, by decide⟩)) hF (fun c14 hF => ?_) (fun c14 hF => ?_)
    ·
      exact SX8_stretch_b106 (N := N) (rE := rE) (RE := RE) (rN := rN) (RN := RN) hb @hrE @hrN R13 rfl (R2.ri (t_22 R2.S) (Nat.le_of_ble_eq_true rfl) rfl) rfl (R9.rj (t_22 R9.S) (Nat.le_of_ble_eq_true rfl) rfl) rfl (R9.rj (t_22 R9.S) (Nat.le_of_ble_eq_true rfl) rfl) (c_lit 1 1 rfl) ⟨by decide, by decide⟩ hF
    ·
      refine s_pJ R13 (t_22 R13.S) (Nat.le_of_ble_eq_true rfl) rfl rfl (R9.rj (t_22 R9.S) (Nat.le_of_ble_eq_true rfl) rfl) hF (fun h15 σ22 R15 T15 hF => ?_)
      refine s_pJ R15 (t_22 R15.S) (Nat.le_of_ble_eq_true rfl) rfl rfl (R9.rj (t_22 R9.S) (Nat.le_of_ble_eq_true rfl) rfl) hF (fun h16 σ24 R16 T16 hF => ?_)
      refine s_kok R16 (t_22 R16.S) (Nat.le_of_ble_eq_true rfl) ?_
      refine s_tB R16 hb (fun _ hq => SX8_united (b := 3) (N := N) (rE := rE) (RE := RE) (rN := rN) (RN := RN) (Nat.le_of_ble_eq_true rfl) @hrE @hrN (R16.rf) hq) hF (fun f18 rv18 h18 x27 σ28 R18 e18 E18 hF => ?_)
      refine s_pI R18 (t_22 R18.S) (Nat.le_of_ble_eq_true rfl) rfl (c_lit 0 0 rfl) ⟨by decide, by decide⟩ hF (fun h19 σ29 R19 T19 hF => ?_)
      refine s_if (i_eq rfl (c_lit 0 0 rfl) (R2.ri (t_22 R2.S) (Nat.le_of_ble_eq_true rfl) rfl) ⟨by decide, by decide⟩) hF (fun c20 hF => ?_) (fun c20 hF => ?_)
      ·
        exact SX8_stretch_b96 (N := N) (rE := rE) (RE := RE) (rN := rN) (RN := RN) @hrE @hrN R19 e18.1 e18.2 hF
      ·
        exact SX8_stretch_b96 (N := N) (rE := rE) (RE := RE) (rN := rN) (RN := RN) @hrE @hrN R19 (d_neg e18.1) (rr_J _) hF
  ·
    refine s_kok R6 (t_22 R6.S) (Nat.le_of_ble_eq_true rfl) ?_
    refine s_tB R6 hb (fun _ hq => SX8_dimension_2 (b := 3) (N := N) (rE := rE) (RE := RE) (rN := rN) (RN := RN) (Nat.le_of_ble_eq_true rfl) @hrE @hrN (R6.rf) e2.1 e2.2 rfl (R2.ri (t_22 R2.S) (Nat.le_of_ble_eq_true rfl) rfl) hq) hF (fun f22 rv22 h22 x33 σ34 R22 e22 E22 hF => ?_)
    refine s_kok R22 (t_22 R22.S) (Nat.le_of_ble_eq_true rfl) ?_
    refine s_tB R22 (Nat.zero_le _) (fun _ hq => SX8_more (b := 0) (R22.rf) e22.1 e22.2 hq) hF (fun f24 rv24 h24 x36 σ37 R24 e24 E24 hF => ?_)
    exact g_ret R24 hF ⟨e24.1, e24.2⟩
