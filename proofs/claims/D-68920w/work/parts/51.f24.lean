set_option maxRecDepth 100000
set_option maxHeartbeats 4000000
def FX8_get (N : Nat) (s : fS) : Option ((Int ⊕ Nat) × fS) :=
  tB (FX13_get N s) fun x4 σ5 =>
  (FX9_reach (σ5.i 44 6) σ5).bind fun q13 =>
  some (.inl x4, q13.2)
theorem SX8_get {m b : Nat} {φ0 : Nat → Nat} {σo : fS} (hb : 2 ≤ b) {N : Nat} {q : (Int ⊕ Nat) × fS} {φ : Nat → Nat} {h : eH} {s : fS} (R : fC m b φ0 σo φ h s) (hF : FX8_get N s = some q) : gG m b φ0 σo (lT lI) q (fX8_get N 22 h) := by
  unfold FX8_get at hF
  unfold fX8_get
  refine s_gO R (t_22 R.S) (Nat.le_of_ble_eq_true rfl) rfl (o_22_7 R.S) ?_
  refine s_kok R (t_58 R.S) (Nat.le_of_ble_eq_true rfl) ?_
  refine s_tB R (Nat.le_trans (Nat.le_of_ble_eq_true rfl) hb) (fun _ hq => SX13_get (b := 1) (N := N) (Nat.le_of_ble_eq_true rfl) (R.rf) hq) hF (fun f3 rv3 h3 x4 σ5 R3 e3 E3 hF => ?_)
  refine s_gO R3 (t_22 R3.S) (Nat.le_of_ble_eq_true rfl) rfl (o_22_4 R3.S) ?_
  refine s_gO R3 (t_22 R3.S) (Nat.le_of_ble_eq_true rfl) rfl (o_22_3 R3.S) ?_
  refine s_gI R3 (t_44 R3.S) (Nat.le_of_ble_eq_true rfl) rfl ?_
  refine s_kok R3 (t_23 R3.S) (Nat.le_of_ble_eq_true rfl) ?_
  refine s_call R3 hb (fun _ hq => SX9_reach (b := 2) (Nat.le_of_ble_eq_true rfl) (R3.rf) rfl (R3.ri (t_44 R3.S) (Nat.le_of_ble_eq_true rfl) rfl) hq) hF (fun f8 rv8 h8 q13 R8 e8 E8 hF => ?_)
  exact g_ret R8 hF ⟨e3.1, e3.2⟩
def FX8_isMarked_b11 (s0 : Int) (s : fS) : Option (Int × fS) :=
  uZ s0 (s0, s)
theorem SX8_isMarked_b11 {m b : Nat} {φ0 : Nat → Nat} {σo : fS} {q : Int × fS} {φ : Nat → Nat} {h : eH} {s : fS} {s0' : Int32} {s0 : Int} (R : fC m b φ0 σo φ h s) (es0 : s0' = iI s0) (rs0 : r32 s0) (hF : FX8_isMarked_b11 s0 s = some q) : gG m b φ0 σo lI q (fX8_isMarked_b11 s0' h) := by
  subst es0
  unfold FX8_isMarked_b11 at hF
  unfold fX8_isMarked_b11
  exact g_z R rfl hF ⟨rfl, rs0⟩
def FX8_isMarked (p0 : Int) (s : fS) : Option (Int × fS) :=
  if p0 < 1048576 then
    FX8_isMarked_b11 0 s
  else
    FX8_isMarked_b11 1 s
theorem SX8_isMarked {m b : Nat} {φ0 : Nat → Nat} {σo : fS} {q : Int × fS} {φ : Nat → Nat} {h : eH} {s : fS} {p0' : Int32} {p0 : Int} (R : fC m b φ0 σo φ h s) (ep0 : p0' = iI p0) (rp0 : r32 p0) (hF : FX8_isMarked p0 s = some q) : gG m b φ0 σo lI q (fX8_isMarked p0' h) := by
  subst ep0
  unfold FX8_isMarked at hF
  unfold fX8_isMarked
  refine s_if (i_lt rfl (c_lit 1048576 1048576 rfl) rp0 ⟨by decide, by decide⟩) hF (fun c1 hF => ?_) (fun c1 hF => ?_)
  ·
    exact SX8_isMarked_b11 R (c_lit 0 0 rfl) ⟨by decide, by decide⟩ hF
  ·
    exact SX8_isMarked_b11 R (c_lit 1 1 rfl) ⟨by decide, by decide⟩ hF
def FX1_isCharacter_b16 (s0 : Int) (s : fS) : Option (Int × fS) :=
  uZ s0 (s0, s)
theorem SX1_isCharacter_b16 {m b : Nat} {φ0 : Nat → Nat} {σo : fS} {q : Int × fS} {φ : Nat → Nat} {h : eH} {s : fS} {s0' : Int32} {s0 : Int} (R : fC m b φ0 σo φ h s) (es0 : s0' = iI s0) (rs0 : r32 s0) (hF : FX1_isCharacter_b16 s0 s = some q) : gG m b φ0 σo lI q (fX1_isCharacter_b16 s0' h) := by
  subst es0
  unfold FX1_isCharacter_b16 at hF
  unfold fX1_isCharacter_b16
  exact g_z R rfl hF ⟨rfl, rs0⟩
def FX1_isCharacter_b15 (s : fS) : Option (Int × fS) :=
  FX1_isCharacter_b16 0 s
theorem SX1_isCharacter_b15 {m b : Nat} {φ0 : Nat → Nat} {σo : fS} {q : Int × fS} {φ : Nat → Nat} {h : eH} {s : fS} (R : fC m b φ0 σo φ h s) (hF : FX1_isCharacter_b15 s = some q) : gG m b φ0 σo lI q (fX1_isCharacter_b15 h) := by
  unfold FX1_isCharacter_b15 at hF
  unfold fX1_isCharacter_b15
  exact SX1_isCharacter_b16 R (c_lit 0 0 rfl) ⟨by decide, by decide⟩ hF
def FX1_isCharacter (p0 : Int) (s : fS) : Option (Int × fS) :=
  if p0 < 0 then
    FX1_isCharacter_b15 s
  else
    if 4096 ≤ p0 then
      FX1_isCharacter_b15 s
    else
      FX1_isCharacter_b16 1 s
theorem SX1_isCharacter {m b : Nat} {φ0 : Nat → Nat} {σo : fS} {q : Int × fS} {φ : Nat → Nat} {h : eH} {s : fS} {p0' : Int32} {p0 : Int} (R : fC m b φ0 σo φ h s) (ep0 : p0' = iI p0) (rp0 : r32 p0) (hF : FX1_isCharacter p0 s = some q) : gG m b φ0 σo lI q (fX1_isCharacter p0' h) := by
  subst ep0
  unfold FX1_isCharacter at hF
  unfold fX1_isCharacter
  refine s_if (i_lt rfl (c_lit 0 0 rfl) rp0 ⟨by decide, by decide⟩) hF (fun c1 hF => ?_) (fun c1 hF => ?_)
  ·
    exact SX1_isCharacter_b15 R hF
  ·
    refine s_if (i_le (c_lit 4096 4096 rfl) rfl ⟨by decide, by decide⟩ rp0) hF (fun c2 hF => ?_) (fun c2 hF => ?_)
    ·
      exact SX1_isCharacter_b15 R hF
    ·
      exact SX1_isCharacter_b16 R (c_lit 1 1 rfl) ⟨by decide, by decide⟩ hF
def FX8_kind_b35 (s0 : Int) (s : fS) : Option (Int × fS) :=
  some (s0, s)
theorem SX8_kind_b35 {m b : Nat} {φ0 : Nat → Nat} {σo : fS} {q : Int × fS} {φ : Nat → Nat} {h : eH} {s : fS} {s0' : Int32} {s0 : Int} (R : fC m b φ0 σo φ h s) (es0 : s0' = iI s0) (rs0 : r32 s0) (hF : FX8_kind_b35 s0 s = some q) : gG m b φ0 σo lI q (fX8_kind_b35 s0' h) := by
  subst es0
  unfold FX8_kind_b35 at hF
  unfold fX8_kind_b35
  exact g_ret R hF ⟨rfl, rs0⟩
def FX8_kind (p0 : Int) (s : fS) : Option (Int × fS) :=
  (FX8_isMarked p0 s).bind fun q1 =>
  if q1.1 = 0 then
    (FX1_isCharacter p0 q1.2).bind fun q3 =>
    if q3.1 = 0 then
      (uRI q3.2 24 (isub p0 4096)).bind fun x9 =>
      FX8_kind_b35 x9 q3.2
    else
      FX8_kind_b35 3 q3.2
  else
    FX8_kind_b35 1 q1.2
theorem SX8_kind {m b : Nat} {φ0 : Nat → Nat} {σo : fS} {q : Int × fS} {φ : Nat → Nat} {h : eH} {s : fS} {p0' : Int32} {p0 : Int} (R : fC m b φ0 σo φ h s) (ep0 : p0' = iI p0) (rp0 : r32 p0) (hF : FX8_kind p0 s = some q) : gG m b φ0 σo lI q (fX8_kind 22 p0' h) := by
  subst ep0
  unfold FX8_kind at hF
  unfold fX8_kind
  refine s_call R (Nat.zero_le _) (fun _ hq => SX8_isMarked (b := 0) (R.rf) rfl rp0 hq) hF (fun f1 rv1 h1 q1 R1 e1 E1 hF => ?_)
  refine s_if (i_eq e1.1 (c_lit 0 0 rfl) e1.2 ⟨by decide, by decide⟩) hF (fun c2 hF => ?_) (fun c2 hF => ?_)
  ·
    refine s_call R1 (Nat.zero_le _) (fun _ hq => SX1_isCharacter (b := 0) (R1.rf) rfl rp0 hq) hF (fun f3 rv3 h3 q3 R3 e3 E3 hF => ?_)
    refine s_if (i_eq e3.1 (c_lit 0 0 rfl) e3.2 ⟨by decide, by decide⟩) hF (fun c4 hF => ?_) (fun c4 hF => ?_)
    ·
      refine s_gO R3 (t_22 R3.S) (Nat.le_of_ble_eq_true rfl) rfl (o_22_4 R3.S) ?_
      refine s_gA R3 (t_23 R3.S) (Nat.le_of_ble_eq_true rfl) rfl (o_23_0 R3.S) (fun _ _ => ?_)
      refine s_rI R3 (u_24 R3.S).1 (u_24 R3.S).2 (by decide) rfl (c_sub rfl (c_lit 4096 4096 rfl)) (rr_I _) hF (fun x9 ra7 hF => ?_)
      exact SX8_kind_b35 R3 rfl ra7 hF
    ·
      exact SX8_kind_b35 R3 (c_lit 3 3 rfl) ⟨by decide, by decide⟩ hF
  ·
    exact SX8_kind_b35 R1 (c_lit 1 1 rfl) ⟨by decide, by decide⟩ hF
def FX8_value_b36 (s0 : Int) (s : fS) : Option (Int × fS) :=
  some (s0, s)
theorem SX8_value_b36 {m b : Nat} {φ0 : Nat → Nat} {σo : fS} {q : Int × fS} {φ : Nat → Nat} {h : eH} {s : fS} {s0' : Int32} {s0 : Int} (R : fC m b φ0 σo φ h s) (es0 : s0' = iI s0) (rs0 : r32 s0) (hF : FX8_value_b36 s0 s = some q) : gG m b φ0 σo lI q (fX8_value_b36 s0' h) := by
  subst es0
  unfold FX8_value_b36 at hF
  unfold fX8_value_b36
  exact g_ret R hF ⟨rfl, rs0⟩
def FX8_value (p0 : Int) (s : fS) : Option (Int × fS) :=
  (FX8_isMarked p0 s).bind fun q1 =>
  if q1.1 = 0 then
    (FX1_isCharacter p0 q1.2).bind fun q3 =>
    if q3.1 = 0 then
      (uRI q3.2 25 (isub p0 4096)).bind fun x9 =>
      FX8_value_b36 x9 q3.2
    else
      FX8_value_b36 p0 q3.2
  else
    FX8_value_b36 22 q1.2
theorem SX8_value {m b : Nat} {φ0 : Nat → Nat} {σo : fS} {q : Int × fS} {φ : Nat → Nat} {h : eH} {s : fS} {p0' : Int32} {p0 : Int} (R : fC m b φ0 σo φ h s) (ep0 : p0' = iI p0) (rp0 : r32 p0) (hF : FX8_value p0 s = some q) : gG m b φ0 σo lI q (fX8_value 22 p0' h) := by
  subst ep0
  unfold FX8_value at hF
  unfold fX8_value
  refine s_call R (Nat.zero_le _) (fun _ hq => SX8_isMarked (b := 0) (R.rf) rfl rp0 hq) hF (fun f1 rv1 h1 q1 R1 e1 E1 hF => ?_)
  refine s_if (i_eq e1.1 (c_lit 0 0 rfl) e1.2 ⟨by decide, by decide⟩) hF (fun c2 hF => ?_) (fun c2 hF => ?_)
  ·
    refine s_call R1 (Nat.zero_le _) (fun _ hq => SX1_isCharacter (b := 0) (R1.rf) rfl rp0 hq) hF (fun f3 rv3 h3 q3 R3 e3 E3 hF => ?_)
    refine s_if (i_eq e3.1 (c_lit 0 0 rfl) e3.2 ⟨by decide, by decide⟩) hF (fun c4 hF => ?_) (fun c4 hF => ?_)
    ·
      refine s_gO R3 (t_22 R3.S) (Nat.le_of_ble_eq_true rfl) rfl (o_22_4 R3.S) ?_
      refine s_gA R3 (t_23 R3.S) (Nat.le_of_ble_eq_true rfl) rfl (o_23_1 R3.S) (fun _ _ => ?_)
      refine s_rI R3 (u_25 R3.S).1 (u_25 R3.S).2 (by decide) rfl (c_sub rfl (c_lit 4096 4096 rfl)) (rr_I _) hF (fun x9 ra7 hF => ?_)
      exact SX8_value_b36 R3 rfl ra7 hF
    ·
      exact SX8_value_b36 R3 rfl rp0 hF
  ·
    exact SX8_value_b36 R1 (c_lit 22 22 rfl) ⟨by decide, by decide⟩ hF
def FX8_isExpandable_b38 (s0 : Int) (s : fS) : Option (Int × fS) :=
  uZ s0 (s0, s)
theorem SX8_isExpandable_b38 {m b : Nat} {φ0 : Nat → Nat} {σo : fS} {q : Int × fS} {φ : Nat → Nat} {h : eH} {s : fS} {s0' : Int32} {s0 : Int} (R : fC m b φ0 σo φ h s) (es0 : s0' = iI s0) (rs0 : r32 s0) (hF : FX8_isExpandable_b38 s0 s = some q) : gG m b φ0 σo lI q (fX8_isExpandable_b38 s0' h) := by
  subst es0
  unfold FX8_isExpandable_b38 at hF
  unfold fX8_isExpandable_b38
  exact g_z R rfl hF ⟨rfl, rs0⟩
def FX8_isExpandable_b33 (s : fS) : Option (Int × fS) :=
  FX8_isExpandable_b38 1 s
theorem SX8_isExpandable_b33 {m b : Nat} {φ0 : Nat → Nat} {σo : fS} {q : Int × fS} {φ : Nat → Nat} {h : eH} {s : fS} (R : fC m b φ0 σo φ h s) (hF : FX8_isExpandable_b33 s = some q) : gG m b φ0 σo lI q (fX8_isExpandable_b33 h) := by
  unfold FX8_isExpandable_b33 at hF
  unfold fX8_isExpandable_b33
  exact SX8_isExpandable_b38 R (c_lit 1 1 rfl) ⟨by decide, by decide⟩ hF
def FX8_isExpandable_b37 (s : fS) : Option (Int × fS) :=
  FX8_isExpandable_b38 0 s
theorem SX8_isExpandable_b37 {m b : Nat} {φ0 : Nat → Nat} {σo : fS} {q : Int × fS} {φ : Nat → Nat} {h : eH} {s : fS} (R : fC m b φ0 σo φ h s) (hF : FX8_isExpandable_b37 s = some q) : gG m b φ0 σo lI q (fX8_isExpandable_b37 h) := by
  unfold FX8_isExpandable_b37 at hF
  unfold fX8_isExpandable_b37
  exact SX8_isExpandable_b38 R (c_lit 0 0 rfl) ⟨by decide, by decide⟩ hF
def FX8_isExpandable (p0 : Int) (s : fS) : Option (Int × fS) :=
  if ¬ (p0 = (-1)) then
    (FX8_kind p0 s).bind fun q3 =>
    if q3.1 = 2 then
      FX8_isExpandable_b33 q3.2
    else
      if ¬ (q3.1 = 1) then
        FX8_isExpandable_b37 q3.2
      else
        (FX8_value p0 q3.2).bind fun q7 =>
        if 22 ≤ q7.1 then
          FX8_isExpandable_b37 q7.2
        else
          FX8_isExpandable_b33 q7.2
  else
    some (0, s)
theorem SX8_isExpandable {m b : Nat} {φ0 : Nat → Nat} {σo : fS} {q : Int × fS} {φ : Nat → Nat} {h : eH} {s : fS} {p0' : Int32} {p0 : Int} (R : fC m b φ0 σo φ h s) (ep0 : p0' = iI p0) (rp0 : r32 p0) (hF : FX8_isExpandable p0 s = some q) : gG m b φ0 σo lI q (fX8_isExpandable 22 p0' h) := by
  subst ep0
  unfold FX8_isExpandable at hF
  unfold fX8_isExpandable
  refine s_if (not_congr (i_eq rfl (c_lit (-1) (-1) rfl) rp0 ⟨by decide, by decide⟩)) hF (fun c1 hF => ?_) (fun c1 hF => ?_)
  ·
    refine s_kok R (t_22 R.S) (Nat.le_of_ble_eq_true rfl) ?_
    refine s_call R (Nat.zero_le _) (fun _ hq => SX8_kind (b := 0) (R.rf) rfl rp0 hq) hF (fun f3 rv3 h3 q3 R3 e3 E3 hF => ?_)
    refine s_if (i_eq e3.1 (c_lit 2 2 rfl) e3.2 ⟨by decide, by decide⟩) hF (fun c4 hF => ?_) (fun c4 hF => ?_)
    ·
      exact SX8_isExpandable_b33 R3 hF
    ·
      refine s_if (not_congr (i_eq e3.1 (c_lit 1 1 rfl) e3.2 ⟨by decide, by decide⟩)) hF (fun c5 hF => ?_) (fun c5 hF => ?_)
      ·
        exact SX8_isExpandable_b37 R3 hF
      ·
        refine s_kok R3 (t_22 R3.S) (Nat.le_of_ble_eq_true rfl) ?_
        refine s_call R3 (Nat.zero_le _) (fun _ hq => SX8_value (b := 0) (R3.rf) rfl rp0 hq) hF (fun f7 rv7 h7 q7 R7 e7 E7 hF => ?_)
        refine s_if (i_le (c_lit 22 22 rfl) e7.1 ⟨by decide, by decide⟩ e7.2) hF (fun c8 hF => ?_) (fun c8 hF => ?_)
        ·
          exact SX8_isExpandable_b37 R7 hF
        ·
          exact SX8_isExpandable_b33 R7 hF
  ·
    exact g_ret R hF ⟨(c_lit 0 0 rfl), ⟨by decide, by decide⟩⟩
def FX8_getExpanded_b5 (N : Nat) (RE : Int → fS → Option ((Unit ⊕ Nat) × fS)) : Nat → Int → fS → Option ((Int ⊕ Nat) × fS)
  | 0, _, _ => none
  | n + 1, l1, s =>
    (FX8_isExpandable l1 s).bind fun q2 =>
    if q2.1 = 0 then
      some (.inl l1, q2.2)
    else
      tB (RE l1 q2.2) fun x5 σ6 =>
      tB (FX8_get N σ6) fun x8 σ9 =>
      FX8_getExpanded_b5 N RE n x8 σ9
theorem SX8_getExpanded_b5 {m b : Nat} {φ0 : Nat → Nat} {σo : fS} (hb : 3 ≤ b) {N : Nat} {rE : Nat → Int32 → eH → Option ((Unit ⊕ Nat) × eH)} {RE : Int → fS → Option ((Unit ⊕ Nat) × fS)} {q : (Int ⊕ Nat) × fS} (hrE : ∀ {φ : Nat → Nat} {h : eH} {s : fS} {x1' : Int32} {x1 : Int} {q}, fC m 3 φ s φ h s → x1' = iI x1 → r32 x1 → RE x1 s = some q → gG m 3 φ s (lT lU) q (rE 22 x1' h)) : ∀ {n : Nat} {φ : Nat → Nat} {h : eH} {s : fS} {l1' : Int32} {l1 : Int}, fC m b φ0 σo φ h s → l1' = iI l1 → r32 l1 → FX8_getExpanded_b5 N RE n l1 s = some q → gG m b φ0 σo (lT lI) q (fX8_getExpanded_b5 N rE n 22 l1' h) := by
  intro n
  induction n with
 | zero => intro φ h s l1' l1 R el1 rl1 hF; simp [FX8_getExpanded_b5] at hF
  | succ n ih =>
    intro φ h s l1' l1 R el1 rl1 hF
    subst el1
    rw [FX8_getExpanded_b5] at hF
    rw [fX8_getExpanded_b5]
    refine s_kok R (t_22 R.S) (Nat.le_of_ble_eq_true rfl) ?_
    refine s_call R (Nat.zero_le _) (fun _ hq => SX8_isExpandable (b := 0) (R.rf) rfl rl1 hq) hF (fun f2 rv2 h2 q2 R2 e2 E2 hF => ?_)
    refine s_if (i_eq e2.1 (c_lit 0 0 rfl) e2.2 ⟨by decide, by decide⟩) hF (fun c3 hF => ?_) (fun c3 hF => ?_)
    ·
      exact g_ret R2 hF ⟨rfl, rl1⟩
    ·
      refine s_kok R2 (t_22 R2.S) (Nat.le_of_ble_eq_true rfl) ?_
      refine s_tB R2 hb (fun _ hq => hrE (R2.rf) rfl rl1 hq) hF (fun f5 rv5 h5 x5 σ6 R5 e5 E5 hF => ?_)
      refine s_kok R5 (t_22 R5.S) (Nat.le_of_ble_eq_true rfl) ?_
      refine s_tB R5 (Nat.le_trans (Nat.le_of_ble_eq_true rfl) hb) (fun _ hq => SX8_get (b := 2) (N := N) (Nat.le_of_ble_eq_true rfl) (R5.rf) hq) hF (fun f7 rv7 h7 x8 σ9 R7 e7 E7 hF => ?_)
      exact ih R7 e7.1 e7.2 hF
def FX8_getExpanded (N : Nat) (RE : Int → fS → Option ((Unit ⊕ Nat) × fS)) (s : fS) : Option ((Int ⊕ Nat) × fS) :=
  tB (FX8_get N s) fun x2 σ3 =>
  FX8_getExpanded_b5 N RE N x2 σ3
theorem SX8_getExpanded {m b : Nat} {φ0 : Nat → Nat} {σo : fS} (hb : 3 ≤ b) {N : Nat} {rE : Nat → Int32 → eH → Option ((Unit ⊕ Nat) × eH)} {RE : Int → fS → Option ((Unit ⊕ Nat) × fS)} {q : (Int ⊕ Nat) × fS} (hrE : ∀ {φ : Nat → Nat} {h : eH} {s : fS} {x1' : Int32} {x1 : Int} {q}, fC m 3 φ s φ h s → x1' = iI x1 → r32 x1 → RE x1 s = some q → gG m 3 φ s (lT lU) q (rE 22 x1' h)) {φ : Nat → Nat} {h : eH} {s : fS} (R : fC m b φ0 σo φ h s) (hF : FX8_getExpanded N RE s = some q) : gG m b φ0 σo (lT lI) q (fX8_getExpanded N rE 22 h) := by
  unfold FX8_getExpanded at hF
  unfold fX8_getExpanded
  refine s_kok R (t_22 R.S) (Nat.le_of_ble_eq_true rfl) ?_
  refine s_tB R (Nat.le_trans (Nat.le_of_ble_eq_true rfl) hb) (fun _ hq => SX8_get (b := 2) (N := N) (Nat.le_of_ble_eq_true rfl) (R.rf) hq) hF (fun f2 rv2 h2 x2 σ3 R2 e2 E2 hF => ?_)
  exact SX8_getExpanded_b5 (N := N) (rE := rE) (RE := RE) hb @hrE R2 e2.1 e2.2 hF
def FX8_tick_b30 (s1 : Int) (s : fS) : Option ((Unit ⊕ Nat) × fS) :=
  tB (FX4_want s1 10 s) fun x2 σ3 =>
  some (.inl (), σ3)
theorem SX8_tick_b30 {m b : Nat} {φ0 : Nat → Nat} {σo : fS} {q : (Unit ⊕ Nat) × fS} {φ : Nat → Nat} {h : eH} {s : fS} {s1' : Int32} {s1 : Int} (R : fC m b φ0 σo φ h s) (es1 : s1' = iI s1) (rs1 : r32 s1) (hF : FX8_tick_b30 s1 s = some q) : gG m b φ0 σo (lT lU) q (fX8_tick_b30 5 s1' h) := by
  subst es1
  unfold FX8_tick_b30 at hF
  unfold fX8_tick_b30
  refine s_kok R (t_5 R.S) (Nat.le_of_ble_eq_true rfl) ?_
  refine s_tB R (Nat.zero_le _) (fun _ hq => SX4_want (b := 0) (R.rf) rfl rs1 (c_lit 10 10 rfl) ⟨by decide, by decide⟩ hq) hF (fun f2 rv2 h2 x2 σ3 R2 e2 E2 hF => ?_)
  exact g_ret R2 hF trivial
def FX8_tick (s : fS) : Option ((Unit ⊕ Nat) × fS) :=
  (uPI s 22 8 (iadd (s.i 22 8) 1)).bind fun σ3 =>
  if (σ3.i 22 9) < (σ3.i 22 8) then
    FX8_tick_b30 0 σ3
  else
    FX8_tick_b30 1 σ3
theorem SX8_tick {m b : Nat} {φ0 : Nat → Nat} {σo : fS} {q : (Unit ⊕ Nat) × fS} {φ : Nat → Nat} {h : eH} {s : fS} (R : fC m b φ0 σo φ h s) (hF : FX8_tick s = some q) : gG m b φ0 σo (lT lU) q (fX8_tick 22 h) := by
  unfold FX8_tick at hF
  unfold fX8_tick
  refine s_gI R (t_22 R.S) (Nat.le_of_ble_eq_true rfl) rfl ?_
  refine s_pI R (t_22 R.S) (Nat.le_of_ble_eq_true rfl) rfl (c_add rfl (c_lit 1 1 rfl)) (rr_I _) hF (fun h2 σ3 R2 T2 hF => ?_)
  refine s_gO R2 (t_22 R2.S) (Nat.le_of_ble_eq_true rfl) rfl (o_22_0 R2.S) ?_
  refine s_gI R2 (t_22 R2.S) (Nat.le_of_ble_eq_true rfl) rfl ?_
  refine s_gI R2 (t_22 R2.S) (Nat.le_of_ble_eq_true rfl) rfl ?_
  refine s_if (i_lt rfl rfl (R2.ri (t_22 R2.S) (Nat.le_of_ble_eq_true rfl) rfl) (R2.ri (t_22 R2.S) (Nat.le_of_ble_eq_true rfl) rfl)) hF (fun c6 hF => ?_) (fun c6 hF => ?_)
  ·
    exact SX8_tick_b30 R2 (c_lit 0 0 rfl) ⟨by decide, by decide⟩ hF
  ·
    exact SX8_tick_b30 R2 (c_lit 1 1 rfl) ⟨by decide, by decide⟩ hF
def FX18_link_b50 (l3 : Int) (s : fS) : Option (Int × fS) :=
  some (l3, s)
theorem SX18_link_b50 {m b : Nat} {φ0 : Nat → Nat} {σo : fS} {q : Int × fS} {φ : Nat → Nat} {h : eH} {s : fS} {l3' : Int32} {l3 : Int} (R : fC m b φ0 σo φ h s) (el3 : l3' = iI l3) (rl3 : r32 l3) (hF : FX18_link_b50 l3 s = some q) : gG m b φ0 σo lI q (fX18_link_b50 l3' h) := by
  subst el3
  unfold FX18_link_b50 at hF
  unfold fX18_link_b50
  exact g_ret R hF ⟨rfl, rl3⟩
def FX18_link (p0 : Int) (p1 : Int) (s : fS) : Option (Int × fS) :=
  (uPI s 89 3 (iadd (s.i 89 3) 1)).bind fun σ3 =>
  (uQI σ3 90 (s.i 89 3) p0).bind fun σ7 =>
  (uQI σ7 92 (s.i 89 3) (-1)).bind fun σ11 =>
  if p1 = (-1) then
    FX18_link_b50 (s.i 89 3) σ11
  else
    (uRI σ11 92 p1).bind fun x18 =>
    (uQI σ11 92 (s.i 89 3) x18).bind fun σ20 =>
    (uQI σ20 92 p1 (s.i 89 3)).bind fun σ24 =>
    FX18_link_b50 (s.i 89 3) σ24
theorem SX18_link {m b : Nat} {φ0 : Nat → Nat} {σo : fS} {q : Int × fS} {φ : Nat → Nat} {h : eH} {s : fS} {p0' : Int32} {p0 : Int} {p1' : Int32} {p1 : Int} (R : fC m b φ0 σo φ h s) (ep0 : p0' = iI p0) (rp0 : r32 p0) (ep1 : p1' = iI p1) (rp1 : r32 p1) (hF : FX18_link p0 p1 s = some q) : gG m b φ0 σo lI q (fX18_link 89 p0' p1' h) := by
  subst ep0; subst ep1
  unfold FX18_link at hF
  unfold fX18_link
  refine s_gI R (t_89 R.S) (Nat.le_of_ble_eq_true rfl) rfl ?_
  refine s_pI R (t_89 R.S) (Nat.le_of_ble_eq_true rfl) rfl (c_add rfl (c_lit 1 1 rfl)) (rr_I _) hF (fun h2 σ3 R2 T2 hF => ?_)
  refine s_gAs R2 (t_89 R2.S) (Nat.le_of_ble_eq_true rfl) rfl (o_89_0 R2.S) (a_90 R2) ?_
  refine s_qI R2 (u_90 R2.S).1 (u_90 R2.S).2 (by decide) (a_90 R2) rfl (R.ri (t_89 R.S) (Nat.le_of_ble_eq_true rfl) rfl) rfl rp0 hF (fun h4 σ7 R4 T4 hF => ?_)
  refine s_gAs R4 (t_89 R4.S) (Nat.le_of_ble_eq_true rfl) rfl (o_89_2 R4.S) (a_92 R4) ?_
  refine s_qI R4 (u_92 R4.S).1 (u_92 R4.S).2 (by decide) (a_92 R4) rfl (R.ri (t_89 R.S) (Nat.le_of_ble_eq_true rfl) rfl) (c_lit (-1) (-1) rfl) ⟨by decide, by decide⟩ hF (fun h6 σ11 R6 T6 hF => ?_)
  refine s_if (i_eq rfl (c_lit (-1) (-1) rfl) rp1 ⟨by decide, by decide⟩) hF (fun c7 hF => ?_) (fun c7 hF => ?_)
  ·
    exact SX18_link_b50 R6 rfl (R.ri (t_89 R.S) (Nat.le_of_ble_eq_true rfl) rfl) hF
  ·
    refine s_gAs R6 (t_89 R6.S) (Nat.le_of_ble_eq_true rfl) rfl (o_89_2 R6.S) (a_92 R6) ?_
    refine s_gAs R6 (t_89 R6.S) (Nat.le_of_ble_eq_true rfl) rfl (o_89_2 R6.S) (a_92 R6) ?_
    refine s_rI R6 (u_92 R6.S).1 (u_92 R6.S).2 (by decide) (a_92 R6) rfl rp1 hF (fun x18 ra10 hF => ?_)
    refine s_qI R6 (u_92 R6.S).1 (u_92 R6.S).2 (by decide) (a_92 R6) rfl (R.ri (t_89 R.S) (Nat.le_of_ble_eq_true rfl) rfl) rfl ra10 hF (fun h11 σ20 R11 T11 hF => ?_)
    refine s_gAs R11 (t_89 R11.S) (Nat.le_of_ble_eq_true rfl) rfl (o_89_2 R11.S) (a_92 R11) ?_
    refine s_qI R11 (u_92 R11.S).1 (u_92 R11.S).2 (by decide) (a_92 R11) rfl rp1 rfl (R.ri (t_89 R.S) (Nat.le_of_ble_eq_true rfl) rfl) hF (fun h13 σ24 R13 T13 hF => ?_)
    exact SX18_link_b50 R13 rfl (R.ri (t_89 R.S) (Nat.le_of_ble_eq_true rfl) rfl) hF
def FX6_begin_b30 (s0 : Int) (s : fS) : Option (Int × fS) :=
  some (s0, s)
theorem SX6_begin_b30 {m b : Nat} {φ0 : Nat → Nat} {σo : fS} {q : Int × fS} {φ : Nat → Nat} {h : eH} {s : fS} {s0' : Int32} {s0 : Int} (R : fC m b φ0 σo φ h s) (es0 : s0' = iI s0) (rs0 : r32 s0) (hF : FX6_begin_b30 s0 s = some q) : gG m b φ0 σo lI q (fX6_begin_b30 s0' h) := by
  subst es0
  unfold FX6_begin_b30 at hF
  unfold fX6_begin_b30
  exact g_ret R hF ⟨rfl, rs0⟩
def FX6_begin (this : Nat) (p0 : Int) (s : fS) : Option (Int × fS) :=
  (uK 5 s this).bind fun _ =>
  (FX6_word this 6 p0 s).bind fun q2 =>
  (FX6_a q2.1 q2.2).bind fun q3 =>
  if q3.1 ≤ 128 then
    FX6_begin_b30 p0 q3.2
  else
    (uK 5 q3.2 this).bind fun _ =>
    (FX6_word this 6 p0 q3.2).bind fun q6 =>
    (FX6_far q6.1 q6.2).bind fun q7 =>
    FX6_begin_b30 q7.1 q7.2
theorem SX6_begin {m b : Nat} {φ0 : Nat → Nat} {σo : fS} {q : Int × fS} {φ : Nat → Nat} {h : eH} {s : fS} {this : Nat} {p0' : Int32} {p0 : Int} (R : fC m b φ0 σo φ h s) (ep0 : p0' = iI p0) (rp0 : r32 p0) (hF : FX6_begin this p0 s = some q) : gG m b φ0 σo lI q (fX6_begin this p0' h) := by
  subst ep0
  unfold FX6_begin at hF
  unfold fX6_begin
  refine s_K hF (fun t2 hF => ?_)
  refine s_kok R t2 (Nat.le_of_ble_eq_true rfl) ?_
  refine s_call R (Nat.zero_le _) (fun _ hq => SX6_word (b := 0) (R.rf) (c_lit 6 6 rfl) ⟨by decide, by decide⟩ rfl rp0 hq) hF (fun f3 rv3 h3 q2 R3 e3 E3 hF => ?_)
  refine s_call R3 (Nat.zero_le _) (fun _ hq => SX6_a (b := 0) (R3.rf) e3.1 e3.2 hq) hF (fun f4 rv4 h4 q3 R4 e4 E4 hF => ?_)
  refine s_if (i_le e4.1 (c_lit 128 128 rfl) e4.2 ⟨by decide, by decide⟩) hF (fun c5 hF => ?_) (fun c5 hF => ?_)
  ·
    exact SX6_begin_b30 R4 rfl rp0 hF
  ·
    refine s_K hF (fun t7 hF => ?_)
    refine s_kok R4 t7 (Nat.le_of_ble_eq_true rfl) ?_
    refine s_call R4 (Nat.zero_le _) (fun _ hq => SX6_word (b := 0) (R4.rf) (c_lit 6 6 rfl) ⟨by decide, by decide⟩ rfl rp0 hq) hF (fun f8 rv8 h8 q6 R8 e8 E8 hF => ?_)
    refine s_call R8 (Nat.zero_le _) (fun _ hq => SX6_far (b := 0) (R8.rf) e8.1 e8.2 hq) hF (fun f9 rv9 h9 q7 R9 e9 E9 hF => ?_)
    exact SX6_begin_b30 R9 e9.1 e9.2 hF
def FX6_find_b61 (N : Nat) (s : fS) : Option (Int × fS) :=
  some ((-1), s)
theorem SX6_find_b61 {m b : Nat} {φ0 : Nat → Nat} {σo : fS} {N : Nat} {q : Int × fS} {φ : Nat → Nat} {h : eH} {s : fS} (R : fC m b φ0 σo φ h s) (hF : FX6_find_b61 N s = some q) : gG m b φ0 σo lI q (fX6_find_b61 N h) := by
  unfold FX6_find_b61 at hF
  unfold fX6_find_b61
  exact g_ret R hF ⟨(c_lit (-1) (-1) rfl), ⟨by decide, by decide⟩⟩
def FX6_find_b70 (N : Nat) : Nat → Nat → Int → Int → fS → Option (Int × fS)
  | 0, _, _, _, _ => none
  | n + 1, l0, l4, l5, s =>
    (uK 5 s l0).bind fun _ =>
    (FX6_word l0 6 l5 s).bind fun q2 =>
    (FX6_a q2.1 q2.2).bind fun q3 =>
    if q3.1 ≤ 128 then
      (FX6_b q2.1 q3.2).bind fun q5 =>
      if ¬ (q5.1 = l4) then
        (FX6_a q2.1 q5.2).bind fun q7 =>
        if ¬ (q7.1 = 128) then
          (FX6_a q2.1 q7.2).bind fun q9 =>
          FX6_find_b70 N n l0 l4 (iadd l5 (iadd q9.1 1)) q9.2
        else
          some ((-1), q7.2)
      else
        some ((iand q2.1 65535), q5.2)
    else
      some ((-1), q3.2)
theorem SX6_find_b70 {m b : Nat} {φ0 : Nat → Nat} {σo : fS} {N : Nat} {q : Int × fS} : ∀ {n : Nat} {φ : Nat → Nat} {h : eH} {s : fS} {l0 : Nat} {l4' : Int32} {l4 : Int} {l5' : Int32} {l5 : Int}, fC m b φ0 σo φ h s → l4' = iI l4 → r32 l4 → l5' = iI l5 → r32 l5 → FX6_find_b70 N n l0 l4 l5 s = some q → gG m b φ0 σo lI q (fX6_find_b70 N n l0 l4' l5' h) := by
  intro n
  induction n with
 | zero => intro φ h s l0 l4' l4 l5' l5 R el4 rl4 el5 rl5 hF; simp [FX6_find_b70] at hF
  | succ n ih =>
    intro φ h s l0 l4' l4 l5' l5 R el4 rl4 el5 rl5 hF
    subst el4; subst el5
    rw [FX6_find_b70] at hF
    rw [fX6_find_b70]
    refine s_K hF (fun t2 hF => ?_)
    refine s_kok R t2 (Nat.le_of_ble_eq_true rfl) ?_
    refine s_call R (Nat.zero_le _) (fun _ hq => SX6_word (b := 0) (R.rf) (c_lit 6 6 rfl) ⟨by decide, by decide⟩ rfl rl5 hq) hF (fun f3 rv3 h3 q2 R3 e3 E3 hF => ?_)
    refine s_call R3 (Nat.zero_le _) (fun _ hq => SX6_a (b := 0) (R3.rf) e3.1 e3.2 hq) hF (fun f4 rv4 h4 q3 R4 e4 E4 hF => ?_)
    refine s_if (i_le e4.1 (c_lit 128 128 rfl) e4.2 ⟨by decide, by decide⟩) hF (fun c5 hF => ?_) (fun c5 hF => ?_)
    ·
      refine s_call R4 (Nat.zero_le _) (fun _ hq => SX6_b (b := 0) (R4.rf) e3.1 e3.2 hq) hF (fun f6 rv6 h6 q5 R6 e6 E6 hF => ?_)
      refine s_if (not_congr (i_eq e6.1 rfl e6.2 rl4)) hF (fun c7 hF => ?_) (fun c7 hF => ?_)
      ·
        refine s_call R6 (Nat.zero_le _) (fun _ hq => SX6_a (b := 0) (R6.rf) e3.1 e3.2 hq) hF (fun f8 rv8 h8 q7 R8 e8 E8 hF => ?_)
        refine s_if (not_congr (i_eq e8.1 (c_lit 128 128 rfl) e8.2 ⟨by decide, by decide⟩)) hF (fun c9 hF => ?_) (fun c9 hF => ?_)
        ·
          refine s_call R8 (Nat.zero_le _) (fun _ hq => SX6_a (b := 0) (R8.rf) e3.1 e3.2 hq) hF (fun f10 rv10 h10 q9 R10 e10 E10 hF => ?_)
          exact ih R10 rfl rl4 (c_add rfl (c_add e10.1 (c_lit 1 1 rfl))) (rr_I _) hF
        ·
          exact g_ret R8 hF ⟨(c_lit (-1) (-1) rfl), ⟨by decide, by decide⟩⟩
      ·
        exact g_ret R6 hF ⟨(c_and e3.1 (c_lit 65535 65535 rfl)), (rr_I _)⟩
    ·
      exact g_ret R4 hF ⟨(c_lit (-1) (-1) rfl), ⟨by decide, by decide⟩⟩
def FX6_find_b48 (N : Nat) (l0 : Nat) (l3 : Int) (s0 : Int) (s : fS) : Option (Int × fS) :=
  if l3 = (-1) then
    FX6_find_b61 N s
  else
    if ¬ (s0 = (-1)) then
      (uK 5 s l0).bind fun _ =>
      (FX6_begin l0 l3 s).bind fun q4 =>
      FX6_find_b70 N N l0 s0 q4.1 q4.2
    else
      FX6_find_b61 N s
theorem SX6_find_b48 {m b : Nat} {φ0 : Nat → Nat} {σo : fS} {N : Nat} {q : Int × fS} {φ : Nat → Nat} {h : eH} {s : fS} {l0 : Nat} {l3' : Int32} {l3 : Int} {s0' : Int32} {s0 : Int} (R : fC m b φ0 σo φ h s) (el3 : l3' = iI l3) (rl3 : r32 l3) (es0 : s0' = iI s0) (rs0 : r32 s0) (hF : FX6_find_b48 N l0 l3 s0 s = some q) : gG m b φ0 σo lI q (fX6_find_b48 N l0 l3' s0' h) := by
  subst el3; subst es0
  unfold FX6_find_b48 at hF
  unfold fX6_find_b48
  refine s_if (i_eq rfl (c_lit (-1) (-1) rfl) rl3 ⟨by decide, by decide⟩) hF (fun c1 hF => ?_) (fun c1 hF => ?_)
  ·
    exact SX6_find_b61 (N := N) R hF
  ·
    refine s_if (not_congr (i_eq rfl (c_lit (-1) (-1) rfl) rs0 ⟨by decide, by decide⟩)) hF (fun c2 hF => ?_) (fun c2 hF => ?_)
    ·
      refine s_K hF (fun t4 hF => ?_)
      refine s_kok R t4 (Nat.le_of_ble_eq_true rfl) ?_
      refine s_call R (Nat.zero_le _) (fun _ hq => SX6_begin (b := 0) (R.rf) rfl rl3 hq) hF (fun f5 rv5 h5 q4 R5 e5 E5 hF => ?_)
      exact SX6_find_b70 (N := N) R5 rfl rs0 e5.1 e5.2 hF
    ·
      exact SX6_find_b61 (N := N) R hF
def FX6_find_b32 (N : Nat) (l0 : Nat) (l2 : Int) (s0 : Int) (s : fS) : Option (Int × fS) :=
  if ¬ (l2 = 256) then
    FX6_find_b48 N l0 s0 l2 s
  else
    (uK 5 s l0).bind fun _ =>
    FX6_find_b48 N l0 s0 (s.i l0 8) s
theorem SX6_find_b32 {m b : Nat} {φ0 : Nat → Nat} {σo : fS} {N : Nat} {q : Int × fS} {φ : Nat → Nat} {h : eH} {s : fS} {l0 : Nat} {l2' : Int32} {l2 : Int} {s0' : Int32} {s0 : Int} (R : fC m b φ0 σo φ h s) (el2 : l2' = iI l2) (rl2 : r32 l2) (es0 : s0' = iI s0) (rs0 : r32 s0) (hF : FX6_find_b32 N l0 l2 s0 s = some q) : gG m b φ0 σo lI q (fX6_find_b32 N l0 l2' s0' h) := by
  subst el2; subst es0
  unfold FX6_find_b32 at hF
  unfold fX6_find_b32
  refine s_if (not_congr (i_eq rfl (c_lit 256 256 rfl) rl2 ⟨by decide, by decide⟩)) hF (fun c1 hF => ?_) (fun c1 hF => ?_)
  ·
    exact SX6_find_b48 (N := N) R rfl rs0 rfl rl2 hF
  ·
    refine s_K hF (fun t3 hF => ?_)
    refine s_gI R t3 (Nat.le_of_ble_eq_true rfl) rfl ?_
    exact SX6_find_b48 (N := N) R rfl rs0 rfl (R.ri t3 (Nat.le_of_ble_eq_true rfl) rfl) hF
def FX6_find (N : Nat) (this : Nat) (p0 : Int) (p1 : Int) (s : fS) : Option (Int × fS) :=
  if ¬ (p0 = 256) then
    (uK 5 s this).bind fun _ =>
    (FX6_tag this p0 s).bind fun q3 =>
    if ¬ (q3.1 = 1) then
      FX6_find_b32 N this p1 (-1) q3.2
    else
      (uK 5 q3.2 this).bind fun _ =>
      (FX6_rest this p0 q3.2).bind fun q6 =>
      FX6_find_b32 N this p1 q6.1 q6.2
  else
    (uK 5 s this).bind fun _ =>
    FX6_find_b32 N this p1 (s.i this 9) s
theorem SX6_find {m b : Nat} {φ0 : Nat → Nat} {σo : fS} {N : Nat} {q : Int × fS} {φ : Nat → Nat} {h : eH} {s : fS} {this : Nat} {p0' : Int32} {p0 : Int} {p1' : Int32} {p1 : Int} (R : fC m b φ0 σo φ h s) (ep0 : p0' = iI p0) (rp0 : r32 p0) (ep1 : p1' = iI p1) (rp1 : r32 p1) (hF : FX6_find N this p0 p1 s = some q) : gG m b φ0 σo lI q (fX6_find N this p0' p1' h) := by
  subst ep0; subst ep1
  unfold FX6_find at hF
  unfold fX6_find
  refine s_if (not_congr (i_eq rfl (c_lit 256 256 rfl) rp0 ⟨by decide, by decide⟩)) hF (fun c1 hF => ?_) (fun c1 hF => ?_)
  ·
    refine s_K hF (fun t3 hF => ?_)
    refine s_kok R t3 (Nat.le_of_ble_eq_true rfl) ?_
    refine s_call R (Nat.zero_le _) (fun _ hq => SX6_tag (b := 0) (R.rf) rfl rp0 hq) hF (fun f4 rv4 h4 q3 R4 e4 E4 hF => ?_)
    refine s_if (not_congr (i_eq e4.1 (c_lit 1 1 rfl) e4.2 ⟨by decide, by decide⟩)) hF (fun c5 hF => ?_) (fun c5 hF => ?_)
    ·
      exact SX6_find_b32 (N := N) R4 rfl rp1 (c_lit (-1) (-1) rfl) ⟨by decide, by decide⟩ hF
    ·
      refine s_K hF (fun t7 hF => ?_)
      refine s_kok R4 t7 (Nat.le_of_ble_eq_true rfl) ?_
      refine s_call R4 (Nat.zero_le _) (fun _ hq => SX6_rest (b := 0) (R4.rf) rfl rp0 hq) hF (fun f8 rv8 h8 q6 R8 e8 E8 hF => ?_)
      exact SX6_find_b32 (N := N) R8 rfl rp1 e8.1 e8.2 hF
  ·
    refine s_K hF (fun t10 hF => ?_)
    refine s_gI R t10 (Nat.le_of_ble_eq_true rfl) rfl ?_
    exact SX6_find_b32 (N := N) R rfl rp1 rfl (R.ri t10 (Nat.le_of_ble_eq_true rfl) rfl) hF
def FX6_kern (this : Nat) (p0 : Int) (s : fS) : Option (Int × fS) :=
  (uK 5 s this).bind fun _ =>
  (s.o this 1).bind fun a1 =>
  (uK 5 s this).bind fun _ =>
  (s.o this 2).bind fun a3 =>
  (uKA 100 s a3).bind fun _ =>
  (uRI s a3 7).bind fun x5 =>
  (uKA 100 s a1).bind fun _ =>
  (uRI s a1 (isub (iadd x5 p0) 32768)).bind fun x7 =>
  some (x7, s)
theorem SX6_kern {m b : Nat} {φ0 : Nat → Nat} {σo : fS} {q : Int × fS} {φ : Nat → Nat} {h : eH} {s : fS} {this : Nat} {p0' : Int32} {p0 : Int} (R : fC m b φ0 σo φ h s) (ep0 : p0' = iI p0) (rp0 : r32 p0) (hF : FX6_kern this p0 s = some q) : gG m b φ0 σo lI q (fX6_kern this p0' h) := by
  subst ep0
  unfold FX6_kern at hF
  unfold fX6_kern
  refine s_K hF (fun t2 hF => ?_)
  refine s_oo hF (fun a1 e1 hF => ?_)
  refine s_gA R t2 (Nat.le_of_ble_eq_true rfl) rfl e1 (fun x1_ y1_ => ?_)
  refine s_K hF (fun t4 hF => ?_)
  refine s_oo hF (fun a3 e3 hF => ?_)
  refine s_gA R t4 (Nat.le_of_ble_eq_true rfl) rfl e3 (fun x3_ y3_ => ?_)
  refine s_KA hF (fun y6 z6 hF => ?_)
  refine s_rI R y6 z6 (by decide) rfl (c_lit 7 7 rfl) ⟨by decide, by decide⟩ hF (fun x5 ra5 hF => ?_)
  refine s_KA hF (fun y8 z8 hF => ?_)
  refine s_rI R y8 z8 (by decide) rfl (c_sub (c_add rfl rfl) (c_lit 32768 32768 rfl)) (rr_I _) hF (fun x7 ra7 hF => ?_)
  exact g_ret R hF ⟨rfl, ra7⟩
def FX18_join_b104 (N : Nat) (l7 : Int) (s : fS) : Option (Int × fS) :=
  some (l7, s)
theorem SX18_join_b104 {m b : Nat} {φ0 : Nat → Nat} {σo : fS} {N : Nat} {q : Int × fS} {φ : Nat → Nat} {h : eH} {s : fS} {l7' : Int32} {l7 : Int} (R : fC m b φ0 σo φ h s) (el7 : l7' = iI l7) (rl7 : r32 l7) (hF : FX18_join_b104 N l7 s = some q) : gG m b φ0 σo lI q (fX18_join_b104 N l7' h) := by
  subst el7
  unfold FX18_join_b104 at hF
  unfold fX18_join_b104
  exact g_ret R hF ⟨rfl, rl7⟩
def FX18_join_b68 (N : Nat) : Nat → Int → Int → fS → Option (Int × fS)
  | 0, _, _, _ => none
  | n + 1, l7, l8, s =>
    if l8 ≤ 0 then
      FX18_join_b104 N l7 s
    else
      (uRI s 92 l7).bind fun x6 =>
      (uRI s 92 x6).bind fun x8 =>
      if x8 = (-1) then
        FX18_join_b104 N l7 s
      else
        (uRI s 92 l7).bind fun x13 =>
        FX18_join_b68 N n x13 (iadd l8 (-1)) s
theorem SX18_join_b68 {m b : Nat} {φ0 : Nat → Nat} {σo : fS} {N : Nat} {q : Int × fS} : ∀ {n : Nat} {φ : Nat → Nat} {h : eH} {s : fS} {l7' : Int32} {l7 : Int} {l8' : Int32} {l8 : Int}, fC m b φ0 σo φ h s → l7' = iI l7 → r32 l7 → l8' = iI l8 → r32 l8 → FX18_join_b68 N n l7 l8 s = some q → gG m b φ0 σo lI q (fX18_join_b68 N n 89 l7' l8' h) := by
  intro n
  induction n with
 | zero => intro φ h s l7' l7 l8' l8 R el7 rl7 el8 rl8 hF; simp [FX18_join_b68] at hF
  | succ n ih =>
    intro φ h s l7' l7 l8' l8 R el7 rl7 el8 rl8 hF
    subst el7; subst el8
    rw [FX18_join_b68] at hF
    rw [fX18_join_b68]
    refine s_if (i_le rfl (c_lit 0 0 rfl) rl8 ⟨by decide, by decide⟩) hF (fun c1 hF => ?_) (fun c1 hF => ?_)
    ·
      exact SX18_join_b104 (N := N) R rfl rl7 hF
    ·
      refine s_gAs R (t_89 R.S) (Nat.le_of_ble_eq_true rfl) rfl (o_89_2 R.S) (a_92 R) ?_
      refine s_gAs R (t_89 R.S) (Nat.le_of_ble_eq_true rfl) rfl (o_89_2 R.S) (a_92 R) ?_
      refine s_rI R (u_92 R.S).1 (u_92 R.S).2 (by decide) (a_92 R) rfl rl7 hF (fun x6 ra4 hF => ?_)
      refine s_rI R (u_92 R.S).1 (u_92 R.S).2 (by decide) (a_92 R) rfl ra4 hF (fun x8 ra5 hF => ?_)
      refine s_if (i_eq rfl (c_lit (-1) (-1) rfl) ra5 ⟨by decide, by decide⟩) hF (fun c6 hF => ?_) (fun c6 hF => ?_)
      ·
        exact SX18_join_b104 (N := N) R rfl rl7 hF
      ·
        refine s_gAs R (t_89 R.S) (Nat.le_of_ble_eq_true rfl) rfl (o_89_2 R.S) (a_92 R) ?_
        refine s_rI R (u_92 R.S).1 (u_92 R.S).2 (by decide) (a_92 R) rfl rl7 hF (fun x13 ra8 hF => ?_)
        exact ih R rfl ra8 (c_add rfl (c_lit (-1) (-1) rfl)) (rr_I _) hF
def FX18_join_b60 (N : Nat) (l1 : Int) (l2 : Int) (s : fS) : Option (Int × fS) :=
  FX18_join_b68 N N l1 (ishr l2 2) s
theorem SX18_join_b60 {m b : Nat} {φ0 : Nat → Nat} {σo : fS} {N : Nat} {q : Int × fS} {φ : Nat → Nat} {h : eH} {s : fS} {l1' : Int32} {l1 : Int} {l2' : Int32} {l2 : Int} (R : fC m b φ0 σo φ h s) (el1 : l1' = iI l1) (rl1 : r32 l1) (el2 : l2' = iI l2) (rl2 : r32 l2) (hF : FX18_join_b60 N l1 l2 s = some q) : gG m b φ0 σo lI q (fX18_join_b60 N 89 l1' l2' h) := by
  subst el1; subst el2
  unfold FX18_join_b60 at hF
  unfold fX18_join_b60
  exact SX18_join_b68 (N := N) R rfl rl1 (c_shr rfl (c_lit 2 2 rfl)) (rr_I _) hF
def FX18_join_b40 (N : Nat) (l1 : Int) (l2 : Int) (l5 : Int) (l6 : Int) (s : fS) : Option (Int × fS) :=
  if ¬ ((iand l2 1) = 0) then
    FX18_join_b60 N l1 l2 s
  else
    (uRI s 92 l5).bind fun x6 =>
    (uQI s 92 l6 x6).bind fun σ8 =>
    FX18_join_b60 N l1 l2 σ8
theorem SX18_join_b40 {m b : Nat} {φ0 : Nat → Nat} {σo : fS} {N : Nat} {q : Int × fS} {φ : Nat → Nat} {h : eH} {s : fS} {l1' : Int32} {l1 : Int} {l2' : Int32} {l2 : Int} {l5' : Int32} {l5 : Int} {l6' : Int32} {l6 : Int} (R : fC m b φ0 σo φ h s) (el1 : l1' = iI l1) (rl1 : r32 l1) (el2 : l2' = iI l2) (rl2 : r32 l2) (el5 : l5' = iI l5) (rl5 : r32 l5) (el6 : l6' = iI l6) (rl6 : r32 l6) (hF : FX18_join_b40 N l1 l2 l5 l6 s = some q) : gG m b φ0 σo lI q (fX18_join_b40 N 89 l1' l2' l5' l6' h) := by
  subst el1; subst el2; subst el5; subst el6
  unfold FX18_join_b40 at hF
  unfold fX18_join_b40
  refine s_if (not_congr (i_eq (c_and rfl (c_lit 1 1 rfl)) (c_lit 0 0 rfl) (rr_I _) ⟨by decide, by decide⟩)) hF (fun c1 hF => ?_) (fun c1 hF => ?_)
  ·
    exact SX18_join_b60 (N := N) R rfl rl1 rfl rl2 hF
  ·
    refine s_gAs R (t_89 R.S) (Nat.le_of_ble_eq_true rfl) rfl (o_89_2 R.S) (a_92 R) ?_
    refine s_gAs R (t_89 R.S) (Nat.le_of_ble_eq_true rfl) rfl (o_89_2 R.S) (a_92 R) ?_
    refine s_rI R (u_92 R.S).1 (u_92 R.S).2 (by decide) (a_92 R) rfl rl5 hF (fun x6 ra4 hF => ?_)
    refine s_qI R (u_92 R.S).1 (u_92 R.S).2 (by decide) (a_92 R) rfl rl6 rfl ra4 hF (fun h5 σ8 R5 T5 hF => ?_)
    exact SX18_join_b60 (N := N) R5 rfl rl1 rfl rl2 hF
def FX18_join (N : Nat) (p0 : Int) (p1 : Int) (p2 : Int) (s : fS) : Option (Int × fS) :=
  (uRI s 92 p0).bind fun x3 =>
  (uRI s 92 x3).bind fun x7 =>
  (FX18_link p2 x3 s).bind fun q10 =>
  if ¬ ((iand p1 2) = 0) then
    FX18_join_b40 N p0 p1 x7 q10.1 q10.2
  else
    (uQI q10.2 92 p0 q10.1).bind fun σ14 =>
    FX18_join_b40 N p0 p1 x7 q10.1 σ14
theorem SX18_join {m b : Nat} {φ0 : Nat → Nat} {σo : fS} {N : Nat} {q : Int × fS} {φ : Nat → Nat} {h : eH} {s : fS} {p0' : Int32} {p0 : Int} {p1' : Int32} {p1 : Int} {p2' : Int32} {p2 : Int} (R : fC m b φ0 σo φ h s) (ep0 : p0' = iI p0) (rp0 : r32 p0) (ep1 : p1' = iI p1) (rp1 : r32 p1) (ep2 : p2' = iI p2) (rp2 : r32 p2) (hF : FX18_join N p0 p1 p2 s = some q) : gG m b φ0 σo lI q (fX18_join N 89 p0' p1' p2' h) := by
  subst ep0; subst ep1; subst ep2
  unfold FX18_join at hF
  unfold fX18_join
  refine s_gAs R (t_89 R.S) (Nat.le_of_ble_eq_true rfl) rfl (o_89_2 R.S) (a_92 R) ?_
  refine s_rI R (u_92 R.S).1 (u_92 R.S).2 (by decide) (a_92 R) rfl rp0 hF (fun x3 ra2 hF => ?_)
  refine s_gAs R (t_89 R.S) (Nat.le_of_ble_eq_true rfl) rfl (o_89_2 R.S) (a_92 R) ?_
  refine s_rI R (u_92 R.S).1 (u_92 R.S).2 (by decide) (a_92 R) rfl ra2 hF (fun x7 ra4 hF => ?_)
  refine s_kok R (t_89 R.S) (Nat.le_of_ble_eq_true rfl) ?_
  refine s_call R (Nat.zero_le _) (fun _ hq => SX18_link (b := 0) (R.rf) rfl rp2 rfl ra2 hq) hF (fun f6 rv6 h6 q10 R6 e6 E6 hF => ?_)
  refine s_if (not_congr (i_eq (c_and rfl (c_lit 2 2 rfl)) (c_lit 0 0 rfl) (rr_I _) ⟨by decide, by decide⟩)) hF (fun c7 hF => ?_) (fun c7 hF => ?_)
  ·
    exact SX18_join_b40 (N := N) R6 rfl rp0 rfl rp1 rfl ra4 e6.1 e6.2 hF
  ·
    refine s_gAs R6 (t_89 R6.S) (Nat.le_of_ble_eq_true rfl) rfl (o_89_2 R6.S) (a_92 R6) ?_
    refine s_qI R6 (u_92 R6.S).1 (u_92 R6.S).2 (by decide) (a_92 R6) rfl rp0 e6.1 e6.2 hF (fun h9 σ14 R9 T9 hF => ?_)
    exact SX18_join_b40 (N := N) R9 rfl rp0 rfl rp1 rfl ra4 e6.1 e6.2 hF
def FX18_gather_b39 (N : Nat) (K9 : Int → Int → fS → Option (Int × fS)) (l1 : Int) (l2 : Int) (s : fS) : Option (Int × fS) :=
  (uRI s 92 l2).bind fun x3 =>
  K9 l1 x3 s
theorem SX18_gather_b39 {m b : Nat} {φ0 : Nat → Nat} {σo : fS} {N : Nat} {k9 : Nat → Int32 → Int32 → eH → Option (Int32 × eH)} {K9 : Int → Int → fS → Option (Int × fS)} {q : Int × fS} (hk9 : ∀ {φ : Nat → Nat} {h : eH} {s : fS} {l1' : Int32} {l1 : Int} {l2' : Int32} {l2 : Int}, fC m b φ0 σo φ h s → l1' = iI l1 → r32 l1 → l2' = iI l2 → r32 l2 → K9 l1 l2 s = some q → gG m b φ0 σo lI q (k9 89 l1' l2' h)) {φ : Nat → Nat} {h : eH} {s : fS} {l1' : Int32} {l1 : Int} {l2' : Int32} {l2 : Int} (R : fC m b φ0 σo φ h s) (el1 : l1' = iI l1) (rl1 : r32 l1) (el2 : l2' = iI l2) (rl2 : r32 l2) (hF : FX18_gather_b39 N K9 l1 l2 s = some q) : gG m b φ0 σo lI q (fX18_gather_b39 N k9 89 l1' l2' h) := by
  subst el1; subst el2
  unfold FX18_gather_b39 at hF
  unfold fX18_gather_b39
  refine s_gAs R (t_89 R.S) (Nat.le_of_ble_eq_true rfl) rfl (o_89_2 R.S) (a_92 R) ?_
  refine s_rI R (u_92 R.S).1 (u_92 R.S).2 (by decide) (a_92 R) rfl rl2 hF (fun x3 ra2 hF => ?_)
  exact hk9 R rfl rl1 rfl ra2 hF
def FX18_gather_b9 (N : Nat) : Nat → Int → Int → fS → Option (Int × fS)
  | 0, _, _, _ => none
  | n + 1, l1, l2, s =>
    if l2 = (-1) then
      some (l1, s)
    else
      (uRI s 90 l2).bind fun x4 =>
      if ¬ (x4 = 256) then
        (uQI s 93 l1 l2).bind fun σ9 =>
        FX18_gather_b39 N (FX18_gather_b9 N n) (iadd l1 1) l2 σ9
      else
        FX18_gather_b39 N (FX18_gather_b9 N n) l1 l2 s
theorem SX18_gather_b9 {m b : Nat} {φ0 : Nat → Nat} {σo : fS} {N : Nat} {q : Int × fS} : ∀ {n : Nat} {φ : Nat → Nat} {h : eH} {s : fS} {l1' : Int32} {l1 : Int} {l2' : Int32} {l2 : Int}, fC m b φ0 σo φ h s → l1' = iI l1 → r32 l1 → l2' = iI l2 → r32 l2 → FX18_gather_b9 N n l1 l2 s = some q → gG m b φ0 σo lI q (fX18_gather_b9 N n 89 l1' l2' h) := by
  intro n
  induction n with
 | zero => intro φ h s l1' l1 l2' l2 R el1 rl1 el2 rl2 hF; simp [FX18_gather_b9] at hF
  | succ n ih =>
    intro φ h s l1' l1 l2' l2 R el1 rl1 el2 rl2 hF
    subst el1; subst el2
    rw [FX18_gather_b9] at hF
    rw [fX18_gather_b9]
    refine s_if (i_eq rfl (c_lit (-1) (-1) rfl) rl2 ⟨by decide, by decide⟩) hF (fun c1 hF => ?_) (fun c1 hF => ?_)
    ·
      exact g_ret R hF ⟨rfl, rl1⟩
    ·
      refine s_gAs R (t_89 R.S) (Nat.le_of_ble_eq_true rfl) rfl (o_89_0 R.S) (a_90 R) ?_
      refine s_rI R (u_90 R.S).1 (u_90 R.S).2 (by decide) (a_90 R) rfl rl2 hF (fun x4 ra3 hF => ?_)
      refine s_if (not_congr (i_eq rfl (c_lit 256 256 rfl) ra3 ⟨by decide, by decide⟩)) hF (fun c4 hF => ?_) (fun c4 hF => ?_)
      ·
        refine s_gAs R (t_89 R.S) (Nat.le_of_ble_eq_true rfl) rfl (o_89_5 R.S) (a_93 R) ?_
        refine s_qI R (u_93 R.S).1 (u_93 R.S).2 (by decide) (a_93 R) rfl rl1 rfl rl2 hF (fun h6 σ9 R6 T6 hF => ?_)
        exact SX18_gather_b39 (N := N) (k9 := fX18_gather_b9 N n) (K9 := FX18_gather_b9 N n) @ih R6 (c_add rfl (c_lit 1 1 rfl)) (rr_I _) rfl rl2 hF
      ·
        exact SX18_gather_b39 (N := N) (k9 := fX18_gather_b9 N n) (K9 := FX18_gather_b9 N n) @ih R rfl rl1 rfl rl2 hF
def FX18_gather (N : Nat) (s : fS) : Option (Int × fS) :=
  (uRI s 92 0).bind fun x3 =>
  FX18_gather_b9 N N 0 x3 s
theorem SX18_gather {m b : Nat} {φ0 : Nat → Nat} {σo : fS} {N : Nat} {q : Int × fS} {φ : Nat → Nat} {h : eH} {s : fS} (R : fC m b φ0 σo φ h s) (hF : FX18_gather N s = some q) : gG m b φ0 σo lI q (fX18_gather N 89 h) := by
  unfold FX18_gather at hF
  unfold fX18_gather
  refine s_gAs R (t_89 R.S) (Nat.le_of_ble_eq_true rfl) rfl (o_89_2 R.S) (a_92 R) ?_
  refine s_rI R (u_92 R.S).1 (u_92 R.S).2 (by decide) (a_92 R) (c_lit 0 0 rfl) ⟨by decide, by decide⟩ hF (fun x3 ra2 hF => ?_)
  exact SX18_gather_b9 (N := N) R (c_lit 0 0 rfl) ⟨by decide, by decide⟩ rfl ra2 hF
def FX18_set_b243 (N : Nat) (K95 : Nat → Int → Int → fS → Option (Int × fS)) (l1 : Nat) (l5 : Int) (l6 : Int) (s : fS) : Option (Int × fS) :=
  K95 l1 l5 l6 s
theorem SX18_set_b243 {m b : Nat} {φ0 : Nat → Nat} {σo : fS} {N : Nat} {k95 : Nat → Nat → Int32 → Int32 → eH → Option (Int32 × eH)} {K95 : Nat → Int → Int → fS → Option (Int × fS)} {q : Int × fS} (hk95 : ∀ {φ : Nat → Nat} {h : eH} {s : fS} {l1 : Nat} {l5' : Int32} {l5 : Int} {l6' : Int32} {l6 : Int}, fC m b φ0 σo φ h s → l5' = iI l5 → r32 l5 → l6' = iI l6 → r32 l6 → K95 l1 l5 l6 s = some q → gG m b φ0 σo lI q (k95 89 l1 l5' l6' h)) {φ : Nat → Nat} {h : eH} {s : fS} {l1 : Nat} {l5' : Int32} {l5 : Int} {l6' : Int32} {l6 : Int} (R : fC m b φ0 σo φ h s) (el5 : l5' = iI l5) (rl5 : r32 l5) (el6 : l6' = iI l6) (rl6 : r32 l6) (hF : FX18_set_b243 N K95 l1 l5 l6 s = some q) : gG m b φ0 σo lI q (fX18_set_b243 N k95 89 l1 l5' l6' h) := by
  subst el5; subst el6
  unfold FX18_set_b243 at hF
  unfold fX18_set_b243
  exact hk95 R rfl rl5 rfl rl6 hF
def FX18_set_b246 (N : Nat) (s : fS) : Option (Int × fS) :=
  (FX18_gather N s).bind fun q2 =>
  (uPI q2.2 89 4 q2.1).bind fun σ3 =>
  some (1, σ3)
theorem SX18_set_b246 {m b : Nat} {φ0 : Nat → Nat} {σo : fS} {N : Nat} {q : Int × fS} {φ : Nat → Nat} {h : eH} {s : fS} (R : fC m b φ0 σo φ h s) (hF : FX18_set_b246 N s = some q) : gG m b φ0 σo lI q (fX18_set_b246 N 89 h) := by
  unfold FX18_set_b246 at hF
  unfold fX18_set_b246
  refine s_kok R (t_89 R.S) (Nat.le_of_ble_eq_true rfl) ?_
  refine s_call R (Nat.zero_le _) (fun _ hq => SX18_gather (b := 0) (N := N) (R.rf) hq) hF (fun f2 rv2 h2 q2 R2 e2 E2 hF => ?_)
  refine s_pI R2 (t_89 R2.S) (Nat.le_of_ble_eq_true rfl) rfl e2.1 e2.2 hF (fun h3 σ3 R3 T3 hF => ?_)
  exact g_ret R3 hF ⟨(c_lit 1 1 rfl), ⟨by decide, by decide⟩⟩
def FX18_set_b95 (N : Nat) : Nat → Nat → Int → Int → fS → Option (Int × fS)
  | 0, _, _, _, _ => none
  | n + 1, l1, l5, l6, s =>
    (uRI s 92 l5).bind fun x3 =>
    if x3 = (-1) then
      FX18_set_b246 N s
    else
      (uRI s 92 l5).bind fun x10 =>
      (uRI s 92 x10).bind fun x12 =>
      if x12 = (-1) then
        FX18_set_b246 N s
      else
        if ¬ (l6 = 1000) then
          (uRI s 92 l5).bind fun x18 =>
          (uRI s 92 x18).bind fun x22 =>
          (uRI s 90 x18).bind fun x26 =>
          (uRI s 90 x22).bind fun x30 =>
          (uK 5 s l1).bind fun _ =>
          (FX6_find N l1 x26 x30 s).bind fun q33 =>
          if ¬ (q33.1 = (-1)) then
            if q33.1 < 32768 then
              (FX18_join N l5 (ishr q33.1 8) (iand q33.1 255) q33.2).bind fun q37 =>
              FX18_set_b243 N (FX18_set_b95 N n) l1 q37.1 (iadd l6 1) q37.2
            else
              (FX18_link 257 x18 q33.2).bind fun q39 =>
              (uK 5 q39.2 l1).bind fun _ =>
              (FX6_kern l1 q33.1 q39.2).bind fun q43 =>
              (uQI q43.2 91 q39.1 q43.1).bind fun σ44 =>
              FX18_set_b243 N (FX18_set_b95 N n) l1 q39.1 (iadd l6 1) σ44
          else
            FX18_set_b243 N (FX18_set_b95 N n) l1 x18 (iadd l6 1) q33.2
        else
          some (0, s)
theorem SX18_set_b95 {m b : Nat} {φ0 : Nat → Nat} {σo : fS} {N : Nat} {q : Int × fS} : ∀ {n : Nat} {φ : Nat → Nat} {h : eH} {s : fS} {l1 : Nat} {l5' : Int32} {l5 : Int} {l6' : Int32} {l6 : Int}, fC m b φ0 σo φ h s → l5' = iI l5 → r32 l5 → l6' = iI l6 → r32 l6 → FX18_set_b95 N n l1 l5 l6 s = some q → gG m b φ0 σo lI q (fX18_set_b95 N n 89 l1 l5' l6' h) := by
  intro n
  induction n with
 | zero => intro φ h s l1 l5' l5 l6' l6 R el5 rl5 el6 rl6 hF; simp [FX18_set_b95] at hF
  | succ n ih =>
    intro φ h s l1 l5' l5 l6' l6 R el5 rl5 el6 rl6 hF
    subst el5; subst el6
    rw [FX18_set_b95] at hF
    rw [fX18_set_b95]
    refine s_gAs R (t_89 R.S) (Nat.le_of_ble_eq_true rfl) rfl (o_89_2 R.S) (a_92 R) ?_
    refine s_rI R (u_92 R.S).1 (u_92 R.S).2 (by decide) (a_92 R) rfl rl5 hF (fun x3 ra2 hF => ?_)
    refine s_if (i_eq rfl (c_lit (-1) (-1) rfl) ra2 ⟨by decide, by decide⟩) hF (fun c3 hF => ?_) (fun c3 hF => ?_)
    ·
      exact SX18_set_b246 (N := N) R hF
    ·
      refine s_gAs R (t_89 R.S) (Nat.le_of_ble_eq_true rfl) rfl (o_89_2 R.S) (a_92 R) ?_
      refine s_gAs R (t_89 R.S) (Nat.le_of_ble_eq_true rfl) rfl (o_89_2 R.S) (a_92 R) ?_
      refine s_rI R (u_92 R.S).1 (u_92 R.S).2 (by decide) (a_92 R) rfl rl5 hF (fun x10 ra6 hF => ?_)
      refine s_rI R (u_92 R.S).1 (u_92 R.S).2 (by decide) (a_92 R) rfl ra6 hF (fun x12 ra7 hF => ?_)
      refine s_if (i_eq rfl (c_lit (-1) (-1) rfl) ra7 ⟨by decide, by decide⟩) hF (fun c8 hF => ?_) (fun c8 hF => ?_)
      ·
        exact SX18_set_b246 (N := N) R hF
      ·
        refine s_if (not_congr (i_eq rfl (c_lit 1000 1000 rfl) rl6 ⟨by decide, by decide⟩)) hF (fun c9 hF => ?_) (fun c9 hF => ?_)
        ·
          refine s_gAs R (t_89 R.S) (Nat.le_of_ble_eq_true rfl) rfl (o_89_2 R.S) (a_92 R) ?_
          refine s_rI R (u_92 R.S).1 (u_92 R.S).2 (by decide) (a_92 R) rfl rl5 hF (fun x18 ra11 hF => ?_)
          refine s_gAs R (t_89 R.S) (Nat.le_of_ble_eq_true rfl) rfl (o_89_2 R.S) (a_92 R) ?_
          refine s_rI R (u_92 R.S).1 (u_92 R.S).2 (by decide) (a_92 R) rfl ra11 hF (fun x22 ra13 hF => ?_)
          refine s_gAs R (t_89 R.S) (Nat.le_of_ble_eq_true rfl) rfl (o_89_0 R.S) (a_90 R) ?_
          refine s_rI R (u_90 R.S).1 (u_90 R.S).2 (by decide) (a_90 R) rfl ra11 hF (fun x26 ra15 hF => ?_)
          refine s_gAs R (t_89 R.S) (Nat.le_of_ble_eq_true rfl) rfl (o_89_0 R.S) (a_90 R) ?_
          refine s_rI R (u_90 R.S).1 (u_90 R.S).2 (by decide) (a_90 R) rfl ra13 hF (fun x30 ra17 hF => ?_)
          refine s_K hF (fun t19 hF => ?_)
          refine s_kok R t19 (Nat.le_of_ble_eq_true rfl) ?_
          refine s_call R (Nat.zero_le _) (fun _ hq => SX6_find (b := 0) (N := N) (R.rf) rfl ra15 rfl ra17 hq) hF (fun f20 rv20 h20 q33 R20 e20 E20 hF => ?_)
          refine s_if (not_congr (i_eq e20.1 (c_lit (-1) (-1) rfl) e20.2 ⟨by decide, by decide⟩)) hF (fun c21 hF => ?_) (fun c21 hF => ?_)
          ·
            refine s_if (i_lt e20.1 (c_lit 32768 32768 rfl) e20.2 ⟨by decide, by decide⟩) hF (fun c22 hF => ?_) (fun c22 hF => ?_)
            ·
              refine s_kok R20 (t_89 R20.S) (Nat.le_of_ble_eq_true rfl) ?_
              refine s_call R20 (Nat.zero_le _) (fun _ hq => SX18_join (b := 0) (N := N) (R20.rf) rfl rl5 (c_shr e20.1 (c_lit 8 8 rfl)) (rr_I _) (c_and e20.1 (c_lit 255 255 rfl)) (rr_I _) hq) hF (fun f24 rv24 h24 q37 R24 e24 E24 hF => ?_)
              exact SX18_set_b243 (N := N) (k95 := fX18_set_b95 N n) (K95 := FX18_set_b95 N n) @ih R24 e24.1 e24.2 (c_add rfl (c_lit 1 1 rfl)) (rr_I _) hF
            ·
              refine s_kok R20 (t_89 R20.S) (Nat.le_of_ble_eq_true rfl) ?_
              refine s_call R20 (Nat.zero_le _) (fun _ hq => SX18_link (b := 0) (R20.rf) (c_lit 257 257 rfl) ⟨by decide, by decide⟩ rfl ra11 hq) hF (fun f26 rv26 h26 q39 R26 e26 E26 hF => ?_)
              refine s_gAs R26 (t_89 R26.S) (Nat.le_of_ble_eq_true rfl) rfl (o_89_1 R26.S) (a_91 R26) ?_
              refine s_K hF (fun t29 hF => ?_)
              refine s_kok R26 t29 (Nat.le_of_ble_eq_true rfl) ?_
              refine s_call R26 (Nat.zero_le _) (fun _ hq => SX6_kern (b := 0) (R26.rf) e20.1 e20.2 hq) hF (fun f30 rv30 h30 q43 R30 e30 E30 hF => ?_)
              refine s_qI R30 (u_91 R30.S).1 (u_91 R30.S).2 (by decide) (a_91 R30) e26.1 e26.2 e30.1 e30.2 hF (fun h31 σ44 R31 T31 hF => ?_)
              exact SX18_set_b243 (N := N) (k95 := fX18_set_b95 N n) (K95 := FX18_set_b95 N n) @ih R31 e26.1 e26.2 (c_add rfl (c_lit 1 1 rfl)) (rr_I _) hF
          ·
            exact SX18_set_b243 (N := N) (k95 := fX18_set_b95 N n) (K95 := FX18_set_b95 N n) @ih R20 rfl ra11 (c_add rfl (c_lit 1 1 rfl)) (rr_I _) hF
        ·
          exact g_ret R hF ⟨(c_lit 0 0 rfl), ⟨by decide, by decide⟩⟩
def FX18_set_b89 (N : Nat) (l1 : Nat) (s : fS) : Option (Int × fS) :=
  FX18_set_b95 N N l1 0 0 s
theorem SX18_set_b89 {m b : Nat} {φ0 : Nat → Nat} {σo : fS} {N : Nat} {q : Int × fS} {φ : Nat → Nat} {h : eH} {s : fS} {l1 : Nat} (R : fC m b φ0 σo φ h s) (hF : FX18_set_b89 N l1 s = some q) : gG m b φ0 σo lI q (fX18_set_b89 N 89 l1 h) := by
  unfold FX18_set_b89 at hF
  unfold fX18_set_b89
  exact SX18_set_b95 (N := N) R (c_lit 0 0 rfl) ⟨by decide, by decide⟩ (c_lit 0 0 rfl) ⟨by decide, by decide⟩ hF
def FX18_set_b42 (N : Nat) : Nat → Nat → Nat → Int → Int → Int → fS → Option (Int × fS)
  | 0, _, _, _, _, _, _ => none
  | n + 1, l1, l2, l3, l4, l5, s =>
    if l3 ≤ l5 then
      (uK 5 s l1).bind fun _ =>
      if (s.i l1 8) = (-1) then
        FX18_set_b89 N l1 s
      else
        (FX18_link 256 l4 s).bind fun q6 =>
        FX18_set_b89 N l1 q6.2
    else
      (uKA 102 s l2).bind fun _ =>
      (uRI s l2 l5).bind fun x7 =>
      (FX18_link (iand x7 255) l4 s).bind fun q10 =>
      FX18_set_b42 N n l1 l2 l3 q10.1 (iadd l5 1) q10.2
theorem SX18_set_b42 {m b : Nat} {φ0 : Nat → Nat} {σo : fS} {N : Nat} {q : Int × fS} : ∀ {n : Nat} {φ : Nat → Nat} {h : eH} {s : fS} {l1 : Nat} {l2' : Nat} {l2 : Nat} {l3' : Int32} {l3 : Int} {l4' : Int32} {l4 : Int} {l5' : Int32} {l5 : Int}, fC m b φ0 σo φ h s → l2' = φ l2 → s.t l2 < 128 → l3' = iI l3 → r32 l3 → l4' = iI l4 → r32 l4 → l5' = iI l5 → r32 l5 → FX18_set_b42 N n l1 l2 l3 l4 l5 s = some q → gG m b φ0 σo lI q (fX18_set_b42 N n 89 l1 l2' l3' l4' l5' h) := by
  intro n
  induction n with
 | zero => intro φ h s l1 l2' l2 l3' l3 l4' l4 l5' l5 R el2 al2 el3 rl3 el4 rl4 el5 rl5 hF; simp [FX18_set_b42] at hF
  | succ n ih =>
    intro φ h s l1 l2' l2 l3' l3 l4' l4 l5' l5 R el2 al2 el3 rl3 el4 rl4 el5 rl5 hF
    subst el3; subst el4; subst el5
    rw [FX18_set_b42] at hF
    rw [fX18_set_b42]
    refine s_if (i_le rfl rfl rl3 rl5) hF (fun c1 hF => ?_) (fun c1 hF => ?_)
    ·
      refine s_K hF (fun t3 hF => ?_)
      refine s_gI R t3 (Nat.le_of_ble_eq_true rfl) rfl ?_
      refine s_if (i_eq rfl (c_lit (-1) (-1) rfl) (R.ri t3 (Nat.le_of_ble_eq_true rfl) rfl) ⟨by decide, by decide⟩) hF (fun c4 hF => ?_) (fun c4 hF => ?_)
      ·
        exact SX18_set_b89 (N := N) R hF
      ·
        refine s_kok R (t_89 R.S) (Nat.le_of_ble_eq_true rfl) ?_
        refine s_call R (Nat.zero_le _) (fun _ hq => SX18_link (b := 0) (R.rf) (c_lit 256 256 rfl) ⟨by decide, by decide⟩ rfl rl4 hq) hF (fun f6 rv6 h6 q6 R6 e6 E6 hF => ?_)
        exact SX18_set_b89 (N := N) R6 hF
    ·
      refine s_KA hF (fun y8 z8 hF => ?_)
      refine s_rI R y8 z8 (by decide) el2 rfl rl5 hF (fun x7 ra7 hF => ?_)
      refine s_kok R (t_89 R.S) (Nat.le_of_ble_eq_true rfl) ?_
      refine s_call R (Nat.zero_le _) (fun _ hq => SX18_link (b := 0) (R.rf) (c_and rfl (c_lit 255 255 rfl)) (rr_I _) rfl rl4 hq) hF (fun f10 rv10 h10 q10 R10 e10 E10 hF => ?_)
      exact ih R10 (el2.trans (E10.k0 rfl _ y8).1.symm) (by rw [(E10.k0 rfl _ y8).2]; exact y8) rfl rl3 e10.1 e10.2 (c_add rfl (c_lit 1 1 rfl)) (rr_I _) hF
def FX18_set_b39 (N : Nat) (l1 : Nat) (l2 : Nat) (l3 : Int) (l4 : Int) (s : fS) : Option (Int × fS) :=
  FX18_set_b42 N N l1 l2 l3 l4 0 s
theorem SX18_set_b39 {m b : Nat} {φ0 : Nat → Nat} {σo : fS} {N : Nat} {q : Int × fS} {φ : Nat → Nat} {h : eH} {s : fS} {l1 : Nat} {l2' : Nat} {l2 : Nat} {l3' : Int32} {l3 : Int} {l4' : Int32} {l4 : Int} (R : fC m b φ0 σo φ h s) (el2 : l2' = φ l2) (al2 : s.t l2 < 128) (el3 : l3' = iI l3) (rl3 : r32 l3) (el4 : l4' = iI l4) (rl4 : r32 l4) (hF : FX18_set_b39 N l1 l2 l3 l4 s = some q) : gG m b φ0 σo lI q (fX18_set_b39 N 89 l1 l2' l3' l4' h) := by
  subst el3; subst el4
  unfold FX18_set_b39 at hF
  unfold fX18_set_b39
  exact SX18_set_b42 (N := N) R el2 al2 rfl rl3 rfl rl4 (c_lit 0 0 rfl) ⟨by decide, by decide⟩ hF
def FX18_set (N : Nat) (p0 : Nat) (p1 : Nat) (p2 : Int) (s : fS) : Option (Int × fS) :=
  (uPI s 89 3 0).bind fun σ1 =>
  (uPI σ1 89 4 0).bind fun σ3 =>
  (FX18_link 257 (-1) σ3).bind fun q6 =>
  (uK 5 q6.2 p0).bind fun _ =>
  if (q6.2.i p0 9) = (-1) then
    FX18_set_b39 N p0 p1 p2 q6.1 q6.2
  else
    (FX18_link 256 q6.1 q6.2).bind fun q11 =>
    FX18_set_b39 N p0 p1 p2 q11.1 q11.2
theorem SX18_set {m b : Nat} {φ0 : Nat → Nat} {σo : fS} {N : Nat} {q : Int × fS} {φ : Nat → Nat} {h : eH} {s : fS} {p0 : Nat} {p1' : Nat} {p1 : Nat} {p2' : Int32} {p2 : Int} (R : fC m b φ0 σo φ h s) (ep1 : p1' = φ p1) (ap1 : s.t p1 < 128) (ep2 : p2' = iI p2) (rp2 : r32 p2) (hF : FX18_set N p0 p1 p2 s = some q) : gG m b φ0 σo lI q (fX18_set N 89 p0 p1' p2' h) := by
  subst ep2
  unfold FX18_set at hF
  unfold fX18_set
  refine s_pI R (t_89 R.S) (Nat.le_of_ble_eq_true rfl) rfl (c_lit 0 0 rfl) ⟨by decide, by decide⟩ hF (fun h1 σ1 R1 T1 hF => ?_)
  refine s_pI R1 (t_89 R1.S) (Nat.le_of_ble_eq_true rfl) rfl (c_lit 0 0 rfl) ⟨by decide, by decide⟩ hF (fun h2 σ3 R2 T2 hF => ?_)
  refine s_kok R2 (t_89 R2.S) (Nat.le_of_ble_eq_true rfl) ?_
  refine s_call R2 (Nat.zero_le _) (fun _ hq => SX18_link (b := 0) (R2.rf) (c_lit 257 257 rfl) ⟨by decide, by decide⟩ (c_lit (-1) (-1) rfl) ⟨by decide, by decide⟩ hq) hF (fun f4 rv4 h4 q6 R4 e4 E4 hF => ?_)
  refine s_K hF (fun t6 hF => ?_)
  refine s_gI R4 t6 (Nat.le_of_ble_eq_true rfl) rfl ?_
  refine s_if (i_eq rfl (c_lit (-1) (-1) rfl) (R4.ri t6 (Nat.le_of_ble_eq_true rfl) rfl) ⟨by decide, by decide⟩) hF (fun c7 hF => ?_) (fun c7 hF => ?_)
  ·
    exact SX18_set_b39 (N := N) R4 (ep1.trans (E4.k0 rfl _ (by rw [T2]; exact (by rw [T1]; exact ap1))).1.symm) (by rw [(E4.k0 rfl _ (by rw [T2]; exact (by rw [T1]; exact ap1))).2]; exact (by rw [T2]; exact (by rw [T1]; exact ap1))) rfl rp2 e4.1 e4.2 hF
  ·
    refine s_kok R4 (t_89 R4.S) (Nat.le_of_ble_eq_true rfl) ?_
    refine s_call R4 (Nat.zero_le _) (fun _ hq => SX18_link (b := 0) (R4.rf) (c_lit 256 256 rfl) ⟨by decide, by decide⟩ e4.1 e4.2 hq) hF (fun f9 rv9 h9 q11 R9 e9 E9 hF => ?_)
    exact SX18_set_b39 (N := N) R9 ((ep1.trans (E4.k0 rfl _ (by rw [T2]; exact (by rw [T1]; exact ap1))).1.symm).trans (E9.k0 rfl _ (by rw [(E4.k0 rfl _ (by rw [T2]; exact (by rw [T1]; exact ap1))).2]; exact (by rw [T2]; exact (by rw [T1]; exact ap1)))).1.symm) (by rw [(E9.k0 rfl _ (by rw [(E4.k0 rfl _ (by rw [T2]; exact (by rw [T1]; exact ap1))).2]; exact (by rw [T2]; exact (by rw [T1]; exact ap1)))).2]; exact (by rw [(E4.k0 rfl _ (by rw [T2]; exact (by rw [T1]; exact ap1))).2]; exact (by rw [T2]; exact (by rw [T1]; exact ap1)))) rfl rp2 e9.1 e9.2 hF
def FX18_item_b34 (s0 : Int) (s : fS) : Option (Int × fS) :=
  some (s0, s)
theorem SX18_item_b34 {m b : Nat} {φ0 : Nat → Nat} {σo : fS} {q : Int × fS} {φ : Nat → Nat} {h : eH} {s : fS} {s0' : Int32} {s0 : Int} (R : fC m b φ0 σo φ h s) (es0 : s0' = iI s0) (rs0 : r32 s0) (hF : FX18_item_b34 s0 s = some q) : gG m b φ0 σo lI q (fX18_item_b34 s0' h) := by
  subst es0
  unfold FX18_item_b34 at hF
  unfold fX18_item_b34
  exact g_ret R hF ⟨rfl, rs0⟩
def FX18_item (p0 : Int) (s : fS) : Option (Int × fS) :=
  (uRI s 93 p0).bind fun x3 =>
  (uRI s 90 x3).bind fun x7 =>
  if ¬ (x7 = 257) then
    (uRI s 90 x3).bind fun x12 =>
    FX18_item_b34 x12 s
  else
    (uRI s 91 x3).bind fun x16 =>
    FX18_item_b34 x16 s
theorem SX18_item {m b : Nat} {φ0 : Nat → Nat} {σo : fS} {q : Int × fS} {φ : Nat → Nat} {h : eH} {s : fS} {p0' : Int32} {p0 : Int} (R : fC m b φ0 σo φ h s) (ep0 : p0' = iI p0) (rp0 : r32 p0) (hF : FX18_item p0 s = some q) : gG m b φ0 σo lI q (fX18_item 89 p0' h) := by
  subst ep0
  unfold FX18_item at hF
  unfold fX18_item
  refine s_gAs R (t_89 R.S) (Nat.le_of_ble_eq_true rfl) rfl (o_89_5 R.S) (a_93 R) ?_
  refine s_rI R (u_93 R.S).1 (u_93 R.S).2 (by decide) (a_93 R) rfl rp0 hF (fun x3 ra2 hF => ?_)
  refine s_gAs R (t_89 R.S) (Nat.le_of_ble_eq_true rfl) rfl (o_89_0 R.S) (a_90 R) ?_
  refine s_rI R (u_90 R.S).1 (u_90 R.S).2 (by decide) (a_90 R) rfl ra2 hF (fun x7 ra4 hF => ?_)
  refine s_if (not_congr (i_eq rfl (c_lit 257 257 rfl) ra4 ⟨by decide, by decide⟩)) hF (fun c5 hF => ?_) (fun c5 hF => ?_)
  ·
    refine s_gAs R (t_89 R.S) (Nat.le_of_ble_eq_true rfl) rfl (o_89_0 R.S) (a_90 R) ?_
    refine s_rI R (u_90 R.S).1 (u_90 R.S).2 (by decide) (a_90 R) rfl ra2 hF (fun x12 ra7 hF => ?_)
    exact SX18_item_b34 R rfl ra7 hF
  ·
    refine s_gAs R (t_89 R.S) (Nat.le_of_ble_eq_true rfl) rfl (o_89_1 R.S) (a_91 R) ?_
    refine s_rI R (u_91 R.S).1 (u_91 R.S).2 (by decide) (a_91 R) rfl ra2 hF (fun x16 ra9 hF => ?_)
    exact SX18_item_b34 R rfl ra9 hF
def FX18_isKern_b22 (s0 : Int) (s : fS) : Option (Int × fS) :=
  uZ s0 (s0, s)
theorem SX18_isKern_b22 {m b : Nat} {φ0 : Nat → Nat} {σo : fS} {q : Int × fS} {φ : Nat → Nat} {h : eH} {s : fS} {s0' : Int32} {s0 : Int} (R : fC m b φ0 σo φ h s) (es0 : s0' = iI s0) (rs0 : r32 s0) (hF : FX18_isKern_b22 s0 s = some q) : gG m b φ0 σo lI q (fX18_isKern_b22 s0' h) := by
  subst es0
  unfold FX18_isKern_b22 at hF
  unfold fX18_isKern_b22
  exact g_z R rfl hF ⟨rfl, rs0⟩
def FX18_isKern (p0 : Int) (s : fS) : Option (Int × fS) :=
  (uRI s 93 p0).bind fun x5 =>
  (uRI s 90 x5).bind fun x7 =>
  if ¬ (x7 = 257) then
    FX18_isKern_b22 0 s
  else
    FX18_isKern_b22 1 s
theorem SX18_isKern {m b : Nat} {φ0 : Nat → Nat} {σo : fS} {q : Int × fS} {φ : Nat → Nat} {h : eH} {s : fS} {p0' : Int32} {p0 : Int} (R : fC m b φ0 σo φ h s) (ep0 : p0' = iI p0) (rp0 : r32 p0) (hF : FX18_isKern p0 s = some q) : gG m b φ0 σo lI q (fX18_isKern 89 p0' h) := by
  subst ep0
  unfold FX18_isKern at hF
  unfold fX18_isKern
  refine s_gAs R (t_89 R.S) (Nat.le_of_ble_eq_true rfl) rfl (o_89_0 R.S) (a_90 R) ?_
  refine s_gAs R (t_89 R.S) (Nat.le_of_ble_eq_true rfl) rfl (o_89_5 R.S) (a_93 R) ?_
  refine s_rI R (u_93 R.S).1 (u_93 R.S).2 (by decide) (a_93 R) rfl rp0 hF (fun x5 ra3 hF => ?_)
  refine s_rI R (u_90 R.S).1 (u_90 R.S).2 (by decide) (a_90 R) rfl ra3 hF (fun x7 ra4 hF => ?_)
  refine s_if (not_congr (i_eq rfl (c_lit 257 257 rfl) ra4 ⟨by decide, by decide⟩)) hF (fun c5 hF => ?_) (fun c5 hF => ?_)
  ·
    exact SX18_isKern_b22 R (c_lit 0 0 rfl) ⟨by decide, by decide⟩ hF
  ·
    exact SX18_isKern_b22 R (c_lit 1 1 rfl) ⟨by decide, by decide⟩ hF
def FX34_add (this : Nat) (p0 : Int) (p1 : Int) (p2 : Int) (p3 : Int) (p4 : Int) (p5 : Int) (s : fS) : Option (Unit × fS) :=
  (uK 33 s this).bind fun _ =>
  (s.o this 0).bind fun a1 =>
  (uK 33 s this).bind fun _ =>
  (FX1_grown a1 (imul 6 (iadd (s.i this 1) 1)) s).bind fun q5 =>
  (uK 33 q5.2 this).bind fun _ =>
  (q5.2.o this 0).bind fun g6 =>
  (uMV q5.2 g6 q5.1).bind fun σ6 =>
  (uK 33 σ6 this).bind fun _ =>
  (uK 33 σ6 this).bind fun _ =>
  (uPI σ6 this 1 (iadd (σ6.i this 1) 1)).bind fun σ10 =>
  (uK 33 σ10 this).bind fun _ =>
  (σ10.o this 0).bind fun a12 =>
  (uKA 100 σ10 a12).bind fun _ =>
  (uQI σ10 a12 (imul 6 (σ6.i this 1)) p0).bind fun σ14 =>
  (uK 33 σ14 this).bind fun _ =>
  (σ14.o this 0).bind fun a16 =>
  (uKA 100 σ14 a16).bind fun _ =>
  (uQI σ14 a16 (iadd (imul 6 (σ6.i this 1)) 1) p1).bind fun σ18 =>
  (uK 33 σ18 this).bind fun _ =>
  (σ18.o this 0).bind fun a20 =>
  (uKA 100 σ18 a20).bind fun _ =>
  (uQI σ18 a20 (iadd (imul 6 (σ6.i this 1)) 2) p2).bind fun σ22 =>
  (uK 33 σ22 this).bind fun _ =>
  (σ22.o this 0).bind fun a24 =>
  (uKA 100 σ22 a24).bind fun _ =>
  (uQI σ22 a24 (iadd (imul 6 (σ6.i this 1)) 3) p3).bind fun σ26 =>
  (uK 33 σ26 this).bind fun _ =>
  (σ26.o this 0).bind fun a28 =>
  (uKA 100 σ26 a28).bind fun _ =>
  (uQI σ26 a28 (iadd (imul 6 (σ6.i this 1)) 4) p4).bind fun σ30 =>
  (uK 33 σ30 this).bind fun _ =>
  (σ30.o this 0).bind fun a32 =>
  (uKA 100 σ30 a32).bind fun _ =>
  (uQI σ30 a32 (iadd (imul 6 (σ6.i this 1)) 5) p5).bind fun σ34 =>
  some ((), σ34)
theorem SX34_add {m b : Nat} {φ0 : Nat → Nat} {σo : fS} (hb : 1 ≤ b) {q : Unit × fS} {φ : Nat → Nat} {h : eH} {s : fS} {this : Nat} {p0' : Int32} {p0 : Int} {p1' : Int32} {p1 : Int} {p2' : Int32} {p2 : Int} {p3' : Int32} {p3 : Int} {p4' : Int32} {p4 : Int} {p5' : Int32} {p5 : Int} (R : fC m b φ0 σo φ h s) (ep0 : p0' = iI p0) (rp0 : r32 p0) (ep1 : p1' = iI p1) (rp1 : r32 p1) (ep2 : p2' = iI p2) (rp2 : r32 p2) (ep3 : p3' = iI p3) (rp3 : r32 p3) (ep4 : p4' = iI p4) (rp4 : r32 p4) (ep5 : p5' = iI p5) (rp5 : r32 p5) (hF : FX34_add this p0 p1 p2 p3 p4 p5 s = some q) : gG m b φ0 σo lU q (fX34_add this p0' p1' p2' p3' p4' p5' h) := by
  subst ep0; subst ep1; subst ep2; subst ep3; subst ep4; subst ep5
  unfold FX34_add at hF
  unfold fX34_add
  refine s_K hF (fun t2 hF => ?_)
  refine s_oo hF (fun a1 e1 hF => ?_)
  refine s_gA R t2 (Nat.le_of_ble_eq_true rfl) rfl e1 (fun x1_ y1_ => ?_)
  refine s_K hF (fun t4 hF => ?_)
  refine s_gI R t4 (Nat.le_of_ble_eq_true rfl) rfl ?_
  refine s_call R (Nat.zero_le _) (fun _ hq => SX1_grown (b := 0) (R.rf) rfl (Nat.lt_trans y1_ (Nat.le_of_ble_eq_true rfl)) (c_mul (c_lit 6 6 rfl) (c_add rfl (c_lit 1 1 rfl))) (rr_I _) hq) hF (fun f5 rv5 h5 q5 R5 e5 E5 hF => ?_)
  refine s_K hF (fun t7 hF => ?_)
  refine s_oo hF (fun g6 e6 hF => ?_)
  refine s_mv R5 t7 (Nat.le_of_ble_eq_true rfl) rfl e6 (lists_g R5.S t7 e6).1 (f_mv_1 hb (lists_g R5.S t7 e6).1 (lists_g R5.S t7 e6).2) e5 hF (fun f6 h6 σ6 R6 E6 K6 hF => ?_)
  refine s_K hF (fun t9 hF => ?_)
  refine s_gI R6 t9 (Nat.le_of_ble_eq_true rfl) rfl ?_
  refine s_K hF (fun t11 hF => ?_)
  refine s_pI R6 t11 (Nat.le_of_ble_eq_true rfl) rfl (c_add rfl (c_lit 1 1 rfl)) (rr_I _) hF (fun h10 σ10 R10 T10 hF => ?_)
  refine s_K hF (fun t13 hF => ?_)
  refine s_oo hF (fun a12 e12 hF => ?_)
  refine s_gA R10 t13 (Nat.le_of_ble_eq_true rfl) rfl e12 (fun x12_ y12_ => ?_)
  refine s_KA hF (fun y15 z15 hF => ?_)
  refine s_qI R10 y15 z15 (by decide) rfl (c_mul (c_lit 6 6 rfl) rfl) (rr_I _) rfl rp0 hF (fun h14 σ14 R14 T14 hF => ?_)
  refine s_K hF (fun t17 hF => ?_)
  refine s_oo hF (fun a16 e16 hF => ?_)
  refine s_gA R14 t17 (Nat.le_of_ble_eq_true rfl) rfl e16 (fun x16_ y16_ => ?_)
  refine s_KA hF (fun y19 z19 hF => ?_)
  refine s_qI R14 y19 z19 (by decide) rfl (c_add (c_mul (c_lit 6 6 rfl) rfl) (c_lit 1 1 rfl)) (rr_I _) rfl rp1 hF (fun h18 σ18 R18 T18 hF => ?_)
  refine s_K hF (fun t21 hF => ?_)
  refine s_oo hF (fun a20 e20 hF => ?_)
  refine s_gA R18 t21 (Nat.le_of_ble_eq_true rfl) rfl e20 (fun x20_ y20_ => ?_)
  refine s_KA hF (fun y23 z23 hF => ?_)
  refine s_qI R18 y23 z23 (by decide) rfl (c_add (c_mul (c_lit 6 6 rfl) rfl) (c_lit 2 2 rfl)) (rr_I _) rfl rp2 hF (fun h22 σ22 R22 T22 hF => ?_)
  refine s_K hF (fun t25 hF => ?_)
  refine s_oo hF (fun a24 e24 hF => ?_)
  refine s_gA R22 t25 (Nat.le_of_ble_eq_true rfl) rfl e24 (fun x24_ y24_ => ?_)
  refine s_KA hF (fun y27 z27 hF => ?_)
  refine s_qI R22 y27 z27 (by decide) rfl (c_add (c_mul (c_lit 6 6 rfl) rfl) (c_lit 3 3 rfl)) (rr_I _) rfl rp3 hF (fun h26 σ26 R26 T26 hF => ?_)
  refine s_K hF (fun t29 hF => ?_)
  refine s_oo hF (fun a28 e28 hF => ?_)
  refine s_gA R26 t29 (Nat.le_of_ble_eq_true rfl) rfl e28 (fun x28_ y28_ => ?_)
  refine s_KA hF (fun y31 z31 hF => ?_)
  refine s_qI R26 y31 z31 (by decide) rfl (c_add (c_mul (c_lit 6 6 rfl) rfl) (c_lit 4 4 rfl)) (rr_I _) rfl rp4 hF (fun h30 σ30 R30 T30 hF => ?_)
  refine s_K hF (fun t33 hF => ?_)
  refine s_oo hF (fun a32 e32 hF => ?_)
  refine s_gA R30 t33 (Nat.le_of_ble_eq_true rfl) rfl e32 (fun x32_ y32_ => ?_)
  refine s_KA hF (fun y35 z35 hF => ?_)
  refine s_qI R30 y35 z35 (by decide) rfl (c_add (c_mul (c_lit 6 6 rfl) rfl) (c_lit 5 5 rfl)) (rr_I _) rfl rp5 hF (fun h34 σ34 R34 T34 hF => ?_)
  exact g_ret R34 hF trivial
def FX6_of (this : Nat) (p0 : Int) (p1 : Int) (s : fS) : Option (Int × fS) :=
  (uK 5 s this).bind fun _ =>
  (uK 5 s this).bind fun _ =>
  (FX6_word this 1 (isub p0 (s.i this 4)) s).bind fun q4 =>
  if p1 = 0 then
    (uK 5 q4.2 this).bind fun _ =>
    (q4.2.o this 1).bind fun a6 =>
    (uK 5 q4.2 this).bind fun _ =>
    (q4.2.o this 2).bind fun a8 =>
    (uKA 100 q4.2 a8).bind fun _ =>
    (uRI q4.2 a8 2).bind fun x10 =>
    (FX6_a q4.1 q4.2).bind fun q12 =>
    (uKA 100 q12.2 a6).bind fun _ =>
    (uRI q12.2 a6 (iadd x10 q12.1)).bind fun x13 =>
    some (x13, q12.2)
  else
    if p1 = 1 then
      (uK 5 q4.2 this).bind fun _ =>
      (q4.2.o this 1).bind fun a16 =>
      (uK 5 q4.2 this).bind fun _ =>
      (q4.2.o this 2).bind fun a18 =>
      (uKA 100 q4.2 a18).bind fun _ =>
      (uRI q4.2 a18 3).bind fun x20 =>
      (FX6_b q4.1 q4.2).bind fun q22 =>
      (uKA 100 q22.2 a16).bind fun _ =>
      (uRI q22.2 a16 (iadd x20 (idiv q22.1 16))).bind fun x23 =>
      some (x23, q22.2)
    else
      if p1 = 2 then
        (uK 5 q4.2 this).bind fun _ =>
        (q4.2.o this 1).bind fun a26 =>
        (uK 5 q4.2 this).bind fun _ =>
        (q4.2.o this 2).bind fun a28 =>
        (uKA 100 q4.2 a28).bind fun _ =>
        (uRI q4.2 a28 4).bind fun x30 =>
        (FX6_b q4.1 q4.2).bind fun q32 =>
        (uKA 100 q32.2 a26).bind fun _ =>
        (uRI q32.2 a26 (iadd x30 (irem q32.1 16))).bind fun x33 =>
        some (x33, q32.2)
      else
        if p1 = 3 then
          (uK 5 q4.2 this).bind fun _ =>
          (q4.2.o this 1).bind fun a36 =>
          (uK 5 q4.2 this).bind fun _ =>
          (q4.2.o this 2).bind fun a38 =>
          (uKA 100 q4.2 a38).bind fun _ =>
          (uRI q4.2 a38 5).bind fun x40 =>
          (FX6_c q4.1 q4.2).bind fun q42 =>
          (uKA 100 q42.2 a36).bind fun _ =>
          (uRI q42.2 a36 (iadd x40 (idiv q42.1 4))).bind fun x43 =>
          some (x43, q42.2)
        else
          if p1 = 4 then
            (uK 5 q4.2 this).bind fun _ =>
            (FX6_tag this p0 q4.2).bind fun q47 =>
            some (q47.1, q47.2)
          else
            (uK 5 q4.2 this).bind fun _ =>
            (FX6_rest this p0 q4.2).bind fun q49 =>
            some (q49.1, q49.2)
theorem SX6_of {m b : Nat} {φ0 : Nat → Nat} {σo : fS} {q : Int × fS} {φ : Nat → Nat} {h : eH} {s : fS} {this : Nat} {p0' : Int32} {p0 : Int} {p1' : Int32} {p1 : Int} (R : fC m b φ0 σo φ h s) (ep0 : p0' = iI p0) (rp0 : r32 p0) (ep1 : p1' = iI p1) (rp1 : r32 p1) (hF : FX6_of this p0 p1 s = some q) : gG m b φ0 σo lI q (fX6_of this p0' p1' h) := by
  subst ep0; subst ep1
  unfold FX6_of at hF
  unfold fX6_of
  refine s_K hF (fun t2 hF => ?_)
  refine s_gI R t2 (Nat.le_of_ble_eq_true rfl) rfl ?_
  refine s_K hF (fun t4 hF => ?_)
  refine s_kok R t4 (Nat.le_of_ble_eq_true rfl) ?_
  refine s_call R (Nat.zero_le _) (fun _ hq => SX6_word (b := 0) (R.rf) (c_lit 1 1 rfl) ⟨by decide, by decide⟩ (c_sub rfl rfl) (rr_I _) hq) hF (fun f5 rv5 h5 q4 R5 e5 E5 hF => ?_)
  refine s_if (i_eq rfl (c_lit 0 0 rfl) rp1 ⟨by decide, by decide⟩) hF (fun c6 hF => ?_) (fun c6 hF => ?_)
  ·
    refine s_K hF (fun t8 hF => ?_)
    refine s_oo hF (fun a6 e7 hF => ?_)
    refine s_gA R5 t8 (Nat.le_of_ble_eq_true rfl) rfl e7 (fun x7_ y7_ => ?_)
    refine s_K hF (fun t10 hF => ?_)
    refine s_oo hF (fun a8 e9 hF => ?_)
    refine s_gA R5 t10 (Nat.le_of_ble_eq_true rfl) rfl e9 (fun x9_ y9_ => ?_)
    refine s_KA hF (fun y12 z12 hF => ?_)
    refine s_rI R5 y12 z12 (by decide) rfl (c_lit 2 2 rfl) ⟨by decide, by decide⟩ hF (fun x10 ra11 hF => ?_)
    refine s_call R5 (Nat.zero_le _) (fun _ hq => SX6_a (b := 0) (R5.rf) e5.1 e5.2 hq) hF (fun f13 rv13 h13 q12 R13 e13 E13 hF => ?_)
    refine s_KA hF (fun y15 z15 hF => ?_)
    refine s_rI R13 y15 z15 (by decide) (rfl.trans (E13.k0 rfl _ (Nat.lt_trans y7_ (Nat.le_of_ble_eq_true rfl))).1.symm) (c_add rfl e13.1) (rr_I _) hF (fun x13 ra14 hF => ?_)
    exact g_ret R13 hF ⟨rfl, ra14⟩
  ·
    refine s_if (i_eq rfl (c_lit 1 1 rfl) rp1 ⟨by decide, by decide⟩) hF (fun c16 hF => ?_) (fun c16 hF => ?_)
    ·
      refine s_K hF (fun t18 hF => ?_)
      refine s_oo hF (fun a16 e17 hF => ?_)
      refine s_gA R5 t18 (Nat.le_of_ble_eq_true rfl) rfl e17 (fun x17_ y17_ => ?_)
      refine s_K hF (fun t20 hF => ?_)
      refine s_oo hF (fun a18 e19 hF => ?_)
      refine s_gA R5 t20 (Nat.le_of_ble_eq_true rfl) rfl e19 (fun x19_ y19_ => ?_)
      refine s_KA hF (fun y22 z22 hF => ?_)
      refine s_rI R5 y22 z22 (by decide) rfl (c_lit 3 3 rfl) ⟨by decide, by decide⟩ hF (fun x20 ra21 hF => ?_)
      refine s_call R5 (Nat.zero_le _) (fun _ hq => SX6_b (b := 0) (R5.rf) e5.1 e5.2 hq) hF (fun f23 rv23 h23 q22 R23 e23 E23 hF => ?_)
      refine s_KA hF (fun y25 z25 hF => ?_)
      refine s_rI R23 y25 z25 (by decide) (rfl.trans (E23.k0 rfl _ (Nat.lt_trans y17_ (Nat.le_of_ble_eq_true rfl))).1.symm) (c_add rfl (c_div e23.1 (c_lit 16 16 rfl))) (rr_I _) hF (fun x23 ra24 hF => ?_)
      exact g_ret R23 hF ⟨rfl, ra24⟩
    ·
      refine s_if (i_eq rfl (c_lit 2 2 rfl) rp1 ⟨by decide, by decide⟩) hF (fun c26 hF => ?_) (fun c26 hF => ?_)
      ·
        refine s_K hF (fun t28 hF => ?_)
        refine s_oo hF (fun a26 e27 hF => ?_)
        refine s_gA R5 t28 (Nat.le_of_ble_eq_true rfl) rfl e27 (fun x27_ y27_ => ?_)
        refine s_K hF (fun t30 hF => ?_)
        refine s_oo hF (fun a28 e29 hF => ?_)
        refine s_gA R5 t30 (Nat.le_of_ble_eq_true rfl) rfl e29 (fun x29_ y29_ => ?_)
        refine s_KA hF (fun y32 z32 hF => ?_)
        refine s_rI R5 y32 z32 (by decide) rfl (c_lit 4 4 rfl) ⟨by decide, by decide⟩ hF (fun x30 ra31 hF => ?_)
        refine s_call R5 (Nat.zero_le _) (fun _ hq => SX6_b (b := 0) (R5.rf) e5.1 e5.2 hq) hF (fun f33 rv33 h33 q32 R33 e33 E33 hF => ?_)
        refine s_KA hF (fun y35 z35 hF => ?_)
        refine s_rI R33 y35 z35 (by decide) (rfl.trans (E33.k0 rfl _ (Nat.lt_trans y27_ (Nat.le_of_ble_eq_true rfl))).1.symm) (c_add rfl (c_rem e33.1 (c_lit 16 16 rfl))) (rr_I _) hF (fun x33 ra34 hF => ?_)
        exact g_ret R33 hF ⟨rfl, ra34⟩
      ·
        refine s_if (i_eq rfl (c_lit 3 3 rfl) rp1 ⟨by decide, by decide⟩) hF (fun c36 hF => ?_) (fun c36 hF => ?_)
        ·
          refine s_K hF (fun t38 hF => ?_)
          refine s_oo hF (fun a36 e37 hF => ?_)
          refine s_gA R5 t38 (Nat.le_of_ble_eq_true rfl) rfl e37 (fun x37_ y37_ => ?_)
          refine s_K hF (fun t40 hF => ?_)
          refine s_oo hF (fun a38 e39 hF => ?_)
          refine s_gA R5 t40 (Nat.le_of_ble_eq_true rfl) rfl e39 (fun x39_ y39_ => ?_)
          refine s_KA hF (fun y42 z42 hF => ?_)
          refine s_rI R5 y42 z42 (by decide) rfl (c_lit 5 5 rfl) ⟨by decide, by decide⟩ hF (fun x40 ra41 hF => ?_)
          refine s_call R5 (Nat.zero_le _) (fun _ hq => SX6_c (b := 0) (R5.rf) e5.1 e5.2 hq) hF (fun f43 rv43 h43 q42 R43 e43 E43 hF => ?_)
          refine s_KA hF (fun y45 z45 hF => ?_)
          refine s_rI R43 y45 z45 (by decide) (rfl.trans (E43.k0 rfl _ (Nat.lt_trans y37_ (Nat.le_of_ble_eq_true rfl))).1.symm) (c_add rfl (c_div e43.1 (c_lit 4 4 rfl))) (rr_I _) hF (fun x43 ra44 hF => ?_)
          exact g_ret R43 hF ⟨rfl, ra44⟩
        ·
          refine s_if (i_eq rfl (c_lit 4 4 rfl) rp1 ⟨by decide, by decide⟩) hF (fun c46 hF => ?_) (fun c46 hF => ?_)
          ·
            refine s_K hF (fun t48 hF => ?_)
            refine s_kok R5 t48 (Nat.le_of_ble_eq_true rfl) ?_
            refine s_call R5 (Nat.zero_le _) (fun _ hq => SX6_tag (b := 0) (R5.rf) rfl rp0 hq) hF (fun f49 rv49 h49 q47 R49 e49 E49 hF => ?_)
            exact g_ret R49 hF ⟨e49.1, e49.2⟩
          ·
            refine s_K hF (fun t51 hF => ?_)
            refine s_kok R5 t51 (Nat.le_of_ble_eq_true rfl) ?_
            refine s_call R5 (Nat.zero_le _) (fun _ hq => SX6_rest (b := 0) (R5.rf) rfl rp0 hq) hF (fun f52 rv52 h52 q49 R52 e52 E52 hF => ?_)
            exact g_ret R52 hF ⟨e52.1, e52.2⟩
def FX3_setRow_b122 (N : Nat) (K33 : Nat → Nat → Int → fS → Option (Int × fS)) (l3 : Nat) (l4 : Nat) (l5 : Int) (s : fS) : Option (Int × fS) :=
  K33 l3 l4 (iadd l5 1) s
theorem SX3_setRow_b122 {m b : Nat} {φ0 : Nat → Nat} {σo : fS} (hb : 1 ≤ b) {N : Nat} {k33 : Nat → Nat → Nat → Int32 → eH → Option (Int32 × eH)} {K33 : Nat → Nat → Int → fS → Option (Int × fS)} {q : Int × fS} (hk33 : ∀ {φ : Nat → Nat} {h : eH} {s : fS} {l3 : Nat} {l4 : Nat} {l5' : Int32} {l5 : Int}, fC m b φ0 σo φ h s → l5' = iI l5 → r32 l5 → K33 l3 l4 l5 s = some q → gG m b φ0 σo lI q (k33 4 l3 l4 l5' h)) {φ : Nat → Nat} {h : eH} {s : fS} {l3 : Nat} {l4 : Nat} {l5' : Int32} {l5 : Int} (R : fC m b φ0 σo φ h s) (el5 : l5' = iI l5) (rl5 : r32 l5) (hF : FX3_setRow_b122 N K33 l3 l4 l5 s = some q) : gG m b φ0 σo lI q (fX3_setRow_b122 N k33 4 l3 l4 l5' h) := by
  subst el5
  unfold FX3_setRow_b122 at hF
  unfold fX3_setRow_b122
  exact hk33 R (c_add rfl (c_lit 1 1 rfl)) (rr_I _) hF
def FX3_setRow_b33 (N : Nat) : Nat → Nat → Nat → Int → fS → Option (Int × fS)
  | 0, _, _, _, _ => none
  | n + 1, l3, l4, l5, s =>
    if (s.i 89 4) ≤ l5 then
      some (1, s)
    else
      (FX18_item l5 s).bind fun q9 =>
      (FX18_isKern l5 q9.2).bind fun q13 =>
      if q13.1 = 0 then
        (uK 5 q13.2 l4).bind fun _ =>
        (FX6_of l4 q9.1 0 q13.2).bind fun q18 =>
        (uK 5 q18.2 l4).bind fun _ =>
        (FX6_of l4 q9.1 1 q18.2).bind fun q20 =>
        (uK 5 q20.2 l4).bind fun _ =>
        (FX6_of l4 q9.1 2 q20.2).bind fun q22 =>
        (uK 33 q22.2 l3).bind fun _ =>
        (FX34_add l3 0 (ior (ishl (q13.2.i 4 31) 8) q9.1) q18.1 q20.1 q22.1 0 q22.2).bind fun q24 =>
        FX3_setRow_b122 N (FX3_setRow_b33 N n) l3 l4 l5 q24.2
      else
        (uK 33 q13.2 l3).bind fun _ =>
        (FX34_add l3 3 q9.1 0 0 0 0 q13.2).bind fun q26 =>
        FX3_setRow_b122 N (FX3_setRow_b33 N n) l3 l4 l5 q26.2
theorem SX3_setRow_b33 {m b : Nat} {φ0 : Nat → Nat} {σo : fS} (hb : 1 ≤ b) {N : Nat} {q : Int × fS} : ∀ {n : Nat} {φ : Nat → Nat} {h : eH} {s : fS} {l3 : Nat} {l4 : Nat} {l5' : Int32} {l5 : Int}, fC m b φ0 σo φ h s → l5' = iI l5 → r32 l5 → FX3_setRow_b33 N n l3 l4 l5 s = some q → gG m b φ0 σo lI q (fX3_setRow_b33 N n 4 l3 l4 l5' h) := by
  intro n
  induction n with
 | zero => intro φ h s l3 l4 l5' l5 R el5 rl5 hF; simp [FX3_setRow_b33] at hF
  | succ n ih =>
    intro φ h s l3 l4 l5' l5 R el5 rl5 hF
    subst el5
    rw [FX3_setRow_b33] at hF
    rw [fX3_setRow_b33]
    refine s_gO R (t_4 R.S) (Nat.le_of_ble_eq_true rfl) rfl (o_4_8 R.S) ?_
    refine s_gI R (t_89 R.S) (Nat.le_of_ble_eq_true rfl) rfl ?_
    refine s_if (i_le rfl rfl (R.ri (t_89 R.S) (Nat.le_of_ble_eq_true rfl) rfl) rl5) hF (fun c3 hF => ?_) (fun c3 hF => ?_)
    ·
      exact g_ret R hF ⟨(c_lit 1 1 rfl), ⟨by decide, by decide⟩⟩
    ·
      refine s_gO R (t_4 R.S) (Nat.le_of_ble_eq_true rfl) rfl (o_4_8 R.S) ?_
      refine s_kok R (t_89 R.S) (Nat.le_of_ble_eq_true rfl) ?_
      refine s_call R (Nat.zero_le _) (fun _ hq => SX18_item (b := 0) (R.rf) rfl rl5 hq) hF (fun f6 rv6 h6 q9 R6 e6 E6 hF => ?_)
      refine s_gO R6 (t_4 R6.S) (Nat.le_of_ble_eq_true rfl) rfl (o_4_8 R6.S) ?_
      refine s_kok R6 (t_89 R6.S) (Nat.le_of_ble_eq_true rfl) ?_
      refine s_call R6 (Nat.zero_le _) (fun _ hq => SX18_isKern (b := 0) (R6.rf) rfl rl5 hq) hF (fun f9 rv9 h9 q13 R9 e9 E9 hF => ?_)
      refine s_if (i_eq e9.1 (c_lit 0 0 rfl) e9.2 ⟨by decide, by decide⟩) hF (fun c10 hF => ?_) (fun c10 hF => ?_)
      ·
        refine s_gI R9 (t_4 R9.S) (Nat.le_of_ble_eq_true rfl) rfl ?_
        refine s_K hF (fun t13 hF => ?_)
        refine s_kok R9 t13 (Nat.le_of_ble_eq_true rfl) ?_
        refine s_call R9 (Nat.zero_le _) (fun _ hq => SX6_of (b := 0) (R9.rf) e6.1 e6.2 (c_lit 0 0 rfl) ⟨by decide, by decide⟩ hq) hF (fun f14 rv14 h14 q18 R14 e14 E14 hF => ?_)
        refine s_K hF (fun t16 hF => ?_)
        refine s_kok R14 t16 (Nat.le_of_ble_eq_true rfl) ?_
        refine s_call R14 (Nat.zero_le _) (fun _ hq => SX6_of (b := 0) (R14.rf) e6.1 e6.2 (c_lit 1 1 rfl) ⟨by decide, by decide⟩ hq) hF (fun f17 rv17 h17 q20 R17 e17 E17 hF => ?_)
        refine s_K hF (fun t19 hF => ?_)
        refine s_kok R17 t19 (Nat.le_of_ble_eq_true rfl) ?_
        refine s_call R17 (Nat.zero_le _) (fun _ hq => SX6_of (b := 0) (R17.rf) e6.1 e6.2 (c_lit 2 2 rfl) ⟨by decide, by decide⟩ hq) hF (fun f20 rv20 h20 q22 R20 e20 E20 hF => ?_)
        refine s_K hF (fun t22 hF => ?_)
        refine s_kok R20 t22 (Nat.le_of_ble_eq_true rfl) ?_
        refine s_call R20 hb (fun _ hq => SX34_add (b := 1) (Nat.le_of_ble_eq_true rfl) (R20.rf) (c_lit 0 0 rfl) ⟨by decide, by decide⟩ (c_or (c_shl rfl (c_lit 8 8 rfl)) e6.1) (rr_I _) e14.1 e14.2 e17.1 e17.2 e20.1 e20.2 (c_lit 0 0 rfl) ⟨by decide, by decide⟩ hq) hF (fun f23 rv23 h23 q24 R23 e23 E23 hF => ?_)
        exact SX3_setRow_b122 (N := N) (k33 := fX3_setRow_b33 N n) (K33 := FX3_setRow_b33 N n) hb @ih R23 rfl rl5 hF
      ·
        refine s_K hF (fun t25 hF => ?_)
        refine s_kok R9 t25 (Nat.le_of_ble_eq_true rfl) ?_
        refine s_call R9 hb (fun _ hq => SX34_add (b := 1) (Nat.le_of_ble_eq_true rfl) (R9.rf) (c_lit 3 3 rfl) ⟨by decide, by decide⟩ e6.1 e6.2 (c_lit 0 0 rfl) ⟨by decide, by decide⟩ (c_lit 0 0 rfl) ⟨by decide, by decide⟩ (c_lit 0 0 rfl) ⟨by decide, by decide⟩ (c_lit 0 0 rfl) ⟨by decide, by decide⟩ hq) hF (fun f26 rv26 h26 q26 R26 e26 E26 hF => ?_)
        exact SX3_setRow_b122 (N := N) (k33 := fX3_setRow_b33 N n) (K33 := FX3_setRow_b33 N n) hb @ih R26 rfl rl5 hF
def FX3_setRow (N : Nat) (p0 : Nat) (p1 : Int) (p2 : Nat) (s : fS) : Option (Int × fS) :=
  (uRO s 8 (s.i 4 31)).bind fun a7 =>
  (FX18_set N a7 p0 p1 s).bind fun q12 =>
  if ¬ (q12.1 = 0) then
    FX3_setRow_b33 N N p2 a7 0 q12.2
  else
    some (0, q12.2)
theorem SX3_setRow {m b : Nat} {φ0 : Nat → Nat} {σo : fS} (hb : 1 ≤ b) {N : Nat} {q : Int × fS} {φ : Nat → Nat} {h : eH} {s : fS} {p0' : Nat} {p0 : Nat} {p1' : Int32} {p1 : Int} {p2 : Nat} (R : fC m b φ0 σo φ h s) (ep0 : p0' = φ p0) (ap0 : s.t p0 < 128) (ep1 : p1' = iI p1) (rp1 : r32 p1) (hF : FX3_setRow N p0 p1 p2 s = some q) : gG m b φ0 σo lI q (fX3_setRow N 4 p0' p1' p2 h) := by
  subst ep1
  unfold FX3_setRow at hF
  unfold fX3_setRow
  refine s_gO R (t_4 R.S) (Nat.le_of_ble_eq_true rfl) rfl (o_4_1 R.S) ?_
  refine s_gAs R (t_6 R.S) (Nat.le_of_ble_eq_true rfl) rfl (o_6_1 R.S) (a_8 R) ?_
  refine s_gI R (t_4 R.S) (Nat.le_of_ble_eq_true rfl) rfl ?_
  refine s_rO R (u_8 R.S).1 (u_8 R.S).2 rfl (fun _ => rfl) (Nat.le_of_ble_eq_true rfl) (a_8 R) rfl (R.ri (t_4 R.S) (Nat.le_of_ble_eq_true rfl) rfl) hF (fun a7 y4 hF => ?_)
  refine s_gO R (t_4 R.S) (Nat.le_of_ble_eq_true rfl) rfl (o_4_8 R.S) ?_
  refine s_kok R (t_89 R.S) (Nat.le_of_ble_eq_true rfl) ?_
  refine s_call R (Nat.zero_le _) (fun _ hq => SX18_set (b := 0) (N := N) (R.rf) ep0 ap0 rfl rp1 hq) hF (fun f7 rv7 h7 q12 R7 e7 E7 hF => ?_)
  refine s_if (not_congr (i_eq e7.1 (c_lit 0 0 rfl) e7.2 ⟨by decide, by decide⟩)) hF (fun c8 hF => ?_) (fun c8 hF => ?_)
  ·
    exact SX3_setRow_b33 (N := N) hb R7 (c_lit 0 0 rfl) ⟨by decide, by decide⟩ hF
  ·
    exact g_ret R7 hF ⟨(c_lit 0 0 rfl), ⟨by decide, by decide⟩⟩
def FX15_widen_b59 (s : fS) : Option (Unit × fS) :=
  some ((), s)
theorem SX15_widen_b59 {m b : Nat} {φ0 : Nat → Nat} {σo : fS} {q : Unit × fS} {φ : Nat → Nat} {h : eH} {s : fS} (R : fC m b φ0 σo φ h s) (hF : FX15_widen_b59 s = some q) : gG m b φ0 σo lU q (fX15_widen_b59 h) := by
  unfold FX15_widen_b59 at hF
  unfold fX15_widen_b59
  exact g_ret R hF trivial
def FX15_widen (p0 : Int) (s : fS) : Option (Unit × fS) :=
  (FX1_grown 70 p0 s).bind fun q3 =>
  (uMV q3.2 70 q3.1).bind fun σ4 =>
  (FX1_grown 71 p0 σ4).bind fun q8 =>
  (uMV q8.2 71 q8.1).bind fun σ9 =>
  if p0 ≤ (σ9.n 73 : Int) then
    FX15_widen_b59 σ9
  else
    (uNA 113 0 σ9 (imul 2 p0)).bind fun q16 =>
    (uKA 103 q16.2 q16.1).bind fun _ =>
    (uCP q16.2 73 0 q16.1 0 (q16.2.n 73 : Int)).bind fun σ24 =>
    (uMV σ24 73 q16.1).bind fun σ26 =>
    FX15_widen_b59 σ26
theorem SX15_widen {m b : Nat} {φ0 : Nat → Nat} {σo : fS} (hb : 1 ≤ b) {q : Unit × fS} {φ : Nat → Nat} {h : eH} {s : fS} {p0' : Int32} {p0 : Int} (R : fC m b φ0 σo φ h s) (ep0 : p0' = iI p0) (rp0 : r32 p0) (hF : FX15_widen p0 s = some q) : gG m b φ0 σo lU q (fX15_widen 61 p0' h) := by
  subst ep0
  unfold FX15_widen at hF
  unfold fX15_widen
  refine s_gA R (t_61 R.S) (Nat.le_of_ble_eq_true rfl) rfl (o_61_10 R.S) (fun _ _ => ?_)
  refine s_call R (Nat.zero_le _) (fun _ hq => SX1_grown (b := 0) (R.rf) rfl (u_70 R.S).1 rfl rp0 hq) hF (fun f2 rv2 h2 q3 R2 e2 E2 hF => ?_)
  refine s_mv R2 (t_61 R2.S) (Nat.le_of_ble_eq_true rfl) rfl (o_61_10 R2.S) (by decide) (f_mv_1 hb (by decide) (by decide)) e2 hF (fun f3 h3 σ4 R3 E3 K3 hF => ?_)
  refine s_gA R3 (t_61 R3.S) (Nat.le_of_ble_eq_true rfl) rfl (o_61_11 R3.S) (fun _ _ => ?_)
  refine s_call R3 (Nat.zero_le _) (fun _ hq => SX1_grown (b := 0) (R3.rf) rfl (u_71 R3.S).1 rfl rp0 hq) hF (fun f5 rv5 h5 q8 R5 e5 E5 hF => ?_)
  refine s_mv R5 (t_61 R5.S) (Nat.le_of_ble_eq_true rfl) rfl (o_61_11 R5.S) (by decide) (f_mv_1 hb (by decide) (by decide)) e5 hF (fun f6 h6 σ9 R6 E6 K6 hF => ?_)
  refine s_gA R6 (t_61 R6.S) (Nat.le_of_ble_eq_true rfl) rfl (o_61_13 R6.S) (fun _ _ => ?_)
  refine s_len R6 (by rw [(t_73 R6.S)]; decide) (by rw [(t_73 R6.S)]; decide) rfl ?_
  refine s_if (i_le rfl rfl rp0 (R6.rn (by rw [(t_73 R6.S)]; decide) (by rw [(t_73 R6.S)]; decide))) hF (fun c9 hF => ?_) (fun c9 hF => ?_)
  ·
    exact SX15_widen_b59 R6 hF
  ·
    refine s_nA (tmp := 10) R6 (Or.inl ⟨by decide, rfl⟩) (by decide) (c_mul (c_lit 2 2 rfl) rfl) (rr_I _) hF (fun h10 s10_ R10 E10 y10 z10 w10 hF => ?_)
    refine s_gA R10 (t_61 R10.S) (Nat.le_of_ble_eq_true rfl) rfl (o_61_13 R10.S) (fun _ _ => ?_)
    refine s_gA R10 (t_61 R10.S) (Nat.le_of_ble_eq_true rfl) rfl (o_61_13 R10.S) (fun _ _ => ?_)
    refine s_len R10 (by rw [(t_73 R10.S)]; decide) (by rw [(t_73 R10.S)]; decide) rfl ?_
    refine s_KA hF (fun y15 z15 hF => ?_)
    refine s_cp R10 (u_73 R10.S).1 y15 (by rw [z15]; decide) rfl y10 (c_lit 0 0 rfl) ⟨by decide, by decide⟩ (c_lit 0 0 rfl) ⟨by decide, by decide⟩ rfl (R10.rn (by rw [(t_73 R10.S)]; decide) (by rw [(t_73 R10.S)]; decide)) hF (fun h14 σ24 R14 T14 hF => ?_)
    refine s_mv R14 (t_61 R14.S) (Nat.le_of_ble_eq_true rfl) rfl (o_61_13 R14.S) (by decide) (f_mv_1 hb (by decide) (by decide)) y10 hF (fun f16 h16 σ26 R16 E16 K16 hF => ?_)
    exact SX15_widen_b59 R16 hF
def FX15_fits_b55 (N : Nat) (K23 : Int → Int → Int → fS → Option (Int × fS)) (l2 : Int) (l4 : Int) (s0 : Int) (s : fS) : Option (Int × fS) :=
  (uRI s 63 l4).bind fun x3 =>
  K23 l2 s0 x3 s
theorem SX15_fits_b55 {m b : Nat} {φ0 : Nat → Nat} {σo : fS} {N : Nat} {k23 : Nat → Int32 → Int32 → Int32 → eH → Option (Int32 × eH)} {K23 : Int → Int → Int → fS → Option (Int × fS)} {q : Int × fS} (hk23 : ∀ {φ : Nat → Nat} {h : eH} {s : fS} {l2' : Int32} {l2 : Int} {l3' : Int32} {l3 : Int} {l4' : Int32} {l4 : Int}, fC m b φ0 σo φ h s → l2' = iI l2 → r32 l2 → l3' = iI l3 → r32 l3 → l4' = iI l4 → r32 l4 → K23 l2 l3 l4 s = some q → gG m b φ0 σo lI q (k23 61 l2' l3' l4' h)) {φ : Nat → Nat} {h : eH} {s : fS} {l2' : Int32} {l2 : Int} {l4' : Int32} {l4 : Int} {s0' : Int32} {s0 : Int} (R : fC m b φ0 σo φ h s) (el2 : l2' = iI l2) (rl2 : r32 l2) (el4 : l4' = iI l4) (rl4 : r32 l4) (es0 : s0' = iI s0) (rs0 : r32 s0) (hF : FX15_fits_b55 N K23 l2 l4 s0 s = some q) : gG m b φ0 σo lI q (fX15_fits_b55 N k23 61 l2' l4' s0' h) := by
  subst el2; subst el4; subst es0
  unfold FX15_fits_b55 at hF
  unfold fX15_fits_b55
  refine s_gA R (t_61 R.S) (Nat.le_of_ble_eq_true rfl) rfl (o_61_1 R.S) (fun _ _ => ?_)
  refine s_rI R (u_63 R.S).1 (u_63 R.S).2 (by decide) rfl rfl rl4 hF (fun x3 ra2 hF => ?_)
  exact hk23 R rfl rl2 rfl rs0 rfl ra2 hF
def FX15_fits_b68 (N : Nat) (l3 : Int) (s : fS) : Option (Int × fS) :=
  uZ l3 (l3, s)
theorem SX15_fits_b68 {m b : Nat} {φ0 : Nat → Nat} {σo : fS} {N : Nat} {q : Int × fS} {φ : Nat → Nat} {h : eH} {s : fS} {l3' : Int32} {l3 : Int} (R : fC m b φ0 σo φ h s) (el3 : l3' = iI l3) (rl3 : r32 l3) (hF : FX15_fits_b68 N l3 s = some q) : gG m b φ0 σo lI q (fX15_fits_b68 N l3' h) := by
  subst el3
  unfold FX15_fits_b68 at hF
  unfold fX15_fits_b68
  exact g_z R rfl hF ⟨rfl, rl3⟩
def FX15_fits_b23 (N : Nat) : Nat → Int → Int → Int → fS → Option (Int × fS)
  | 0, _, _, _, _ => none
  | n + 1, l2, l3, l4, s =>
    if l4 = (-1) then
      FX15_fits_b68 N l3 s
    else
      if l3 = 0 then
        FX15_fits_b68 N l3 s
      else
        (uRI s 64 l4).bind fun x7 =>
        (uRI s 70 (iadd l2 x7)).bind fun x9 =>
        if ¬ (x9 = 0) then
          FX15_fits_b55 N (FX15_fits_b23 N n) l2 l4 0 s
        else
          FX15_fits_b55 N (FX15_fits_b23 N n) l2 l4 1 s
theorem SX15_fits_b23 {m b : Nat} {φ0 : Nat → Nat} {σo : fS} {N : Nat} {q : Int × fS} : ∀ {n : Nat} {φ : Nat → Nat} {h : eH} {s : fS} {l2' : Int32} {l2 : Int} {l3' : Int32} {l3 : Int} {l4' : Int32} {l4 : Int}, fC m b φ0 σo φ h s → l2' = iI l2 → r32 l2 → l3' = iI l3 → r32 l3 → l4' = iI l4 → r32 l4 → FX15_fits_b23 N n l2 l3 l4 s = some q → gG m b φ0 σo lI q (fX15_fits_b23 N n 61 l2' l3' l4' h) := by
  intro n
  induction n with
 | zero => intro φ h s l2' l2 l3' l3 l4' l4 R el2 rl2 el3 rl3 el4 rl4 hF; simp [FX15_fits_b23] at hF
  | succ n ih =>
    intro φ h s l2' l2 l3' l3 l4' l4 R el2 rl2 el3 rl3 el4 rl4 hF
    subst el2; subst el3; subst el4
    rw [FX15_fits_b23] at hF
    rw [fX15_fits_b23]
    refine s_if (i_eq rfl (c_lit (-1) (-1) rfl) rl4 ⟨by decide, by decide⟩) hF (fun c1 hF => ?_) (fun c1 hF => ?_)
    ·
      exact SX15_fits_b68 (N := N) R rfl rl3 hF
    ·
      refine s_if (i_eq rfl (c_lit 0 0 rfl) rl3 ⟨by decide, by decide⟩) hF (fun c2 hF => ?_) (fun c2 hF => ?_)
      ·
        exact SX15_fits_b68 (N := N) R rfl rl3 hF
      ·
        refine s_gA R (t_61 R.S) (Nat.le_of_ble_eq_true rfl) rfl (o_61_10 R.S) (fun _ _ => ?_)
        refine s_gA R (t_61 R.S) (Nat.le_of_ble_eq_true rfl) rfl (o_61_2 R.S) (fun _ _ => ?_)
        refine s_rI R (u_64 R.S).1 (u_64 R.S).2 (by decide) rfl rfl rl4 hF (fun x7 ra5 hF => ?_)
        refine s_rI R (u_70 R.S).1 (u_70 R.S).2 (by decide) rfl (c_add rfl rfl) (rr_I _) hF (fun x9 ra6 hF => ?_)
        refine s_if (not_congr (i_eq rfl (c_lit 0 0 rfl) ra6 ⟨by decide, by decide⟩)) hF (fun c7 hF => ?_) (fun c7 hF => ?_)
        ·
          exact SX15_fits_b55 (N := N) (k23 := fX15_fits_b23 N n) (K23 := FX15_fits_b23 N n) @ih R rfl rl2 rfl rl4 (c_lit 0 0 rfl) ⟨by decide, by decide⟩ hF
        ·
          exact SX15_fits_b55 (N := N) (k23 := fX15_fits_b23 N n) (K23 := FX15_fits_b23 N n) @ih R rfl rl2 rfl rl4 (c_lit 1 1 rfl) ⟨by decide, by decide⟩ hF
def FX15_fits_b14 (N : Nat) (l1 : Int) (l2 : Int) (s0 : Int) (s : fS) : Option (Int × fS) :=
  (uRI s 62 l1).bind fun x3 =>
  FX15_fits_b23 N N l2 s0 x3 s
theorem SX15_fits_b14 {m b : Nat} {φ0 : Nat → Nat} {σo : fS} {N : Nat} {q : Int × fS} {φ : Nat → Nat} {h : eH} {s : fS} {l1' : Int32} {l1 : Int} {l2' : Int32} {l2 : Int} {s0' : Int32} {s0 : Int} (R : fC m b φ0 σo φ h s) (el1 : l1' = iI l1) (rl1 : r32 l1) (el2 : l2' = iI l2) (rl2 : r32 l2) (es0 : s0' = iI s0) (rs0 : r32 s0) (hF : FX15_fits_b14 N l1 l2 s0 s = some q) : gG m b φ0 σo lI q (fX15_fits_b14 N 61 l1' l2' s0' h) := by
  subst el1; subst el2; subst es0
  unfold FX15_fits_b14 at hF
  unfold fX15_fits_b14
  refine s_gA R (t_61 R.S) (Nat.le_of_ble_eq_true rfl) rfl (o_61_0 R.S) (fun _ _ => ?_)
  refine s_rI R (u_62 R.S).1 (u_62 R.S).2 (by decide) rfl rfl rl1 hF (fun x3 ra2 hF => ?_)
  exact SX15_fits_b23 (N := N) R rfl rl2 rfl rs0 rfl ra2 hF
def FX15_fits (N : Nat) (p0 : Int) (p1 : Int) (s : fS) : Option (Int × fS) :=
  (uRI s 73 p1).bind fun x3 =>
  if ¬ (x3 = 0) then
    FX15_fits_b14 N p0 p1 0 s
  else
    FX15_fits_b14 N p0 p1 1 s
theorem SX15_fits {m b : Nat} {φ0 : Nat → Nat} {σo : fS} {N : Nat} {q : Int × fS} {φ : Nat → Nat} {h : eH} {s : fS} {p0' : Int32} {p0 : Int} {p1' : Int32} {p1 : Int} (R : fC m b φ0 σo φ h s) (ep0 : p0' = iI p0) (rp0 : r32 p0) (ep1 : p1' = iI p1) (rp1 : r32 p1) (hF : FX15_fits N p0 p1 s = some q) : gG m b φ0 σo lI q (fX15_fits N 61 p0' p1' h) := by
  subst ep0; subst ep1
  unfold FX15_fits at hF
  unfold fX15_fits
  refine s_gA R (t_61 R.S) (Nat.le_of_ble_eq_true rfl) rfl (o_61_13 R.S) (fun _ _ => ?_)
  refine s_rI R (u_73 R.S).1 (u_73 R.S).2 (by decide) rfl rfl rp1 hF (fun x3 ra2 hF => ?_)
  refine s_if (not_congr (i_eq rfl (c_lit 0 0 rfl) ra2 ⟨by decide, by decide⟩)) hF (fun c3 hF => ?_) (fun c3 hF => ?_)
  ·
    exact SX15_fits_b14 (N := N) R rfl rp0 rfl rp1 (c_lit 0 0 rfl) ⟨by decide, by decide⟩ hF
  ·
    exact SX15_fits_b14 (N := N) R rfl rp0 rfl rp1 (c_lit 1 1 rfl) ⟨by decide, by decide⟩ hF
def FX15_lay_b75 (N : Nat) : Nat → Int → Int → fS → Option (Unit × fS)
  | 0, _, _, _ => none
  | n + 1, l2, l3, s =>
    if l3 = (-1) then
      some ((), s)
    else
      (uRI s 64 l3).bind fun x6 =>
      (uRI s 64 l3).bind fun x10 =>
      (uQI s 70 (iadd l2 x6) (iadd x10 1)).bind fun σ12 =>
      (uRI σ12 64 l3).bind fun x18 =>
      (uQI σ12 71 (iadd l2 x18) l3).bind fun σ20 =>
      (uRI σ20 63 l3).bind fun x24 =>
      FX15_lay_b75 N n l2 x24 σ20
theorem SX15_lay_b75 {m b : Nat} {φ0 : Nat → Nat} {σo : fS} {N : Nat} {q : Unit × fS} : ∀ {n : Nat} {φ : Nat → Nat} {h : eH} {s : fS} {l2' : Int32} {l2 : Int} {l3' : Int32} {l3 : Int}, fC m b φ0 σo φ h s → l2' = iI l2 → r32 l2 → l3' = iI l3 → r32 l3 → FX15_lay_b75 N n l2 l3 s = some q → gG m b φ0 σo lU q (fX15_lay_b75 N n 61 l2' l3' h) := by
  intro n
  induction n with
 | zero => intro φ h s l2' l2 l3' l3 R el2 rl2 el3 rl3 hF; simp [FX15_lay_b75] at hF
  | succ n ih =>
    intro φ h s l2' l2 l3' l3 R el2 rl2 el3 rl3 hF
    subst el2; subst el3
    rw [FX15_lay_b75] at hF
    rw [fX15_lay_b75]
    refine s_if (i_eq rfl (c_lit (-1) (-1) rfl) rl3 ⟨by decide, by decide⟩) hF (fun c1 hF => ?_) (fun c1 hF => ?_)
    ·
      exact g_ret R hF trivial
    ·
      refine s_gA R (t_61 R.S) (Nat.le_of_ble_eq_true rfl) rfl (o_61_10 R.S) (fun _ _ => ?_)
      refine s_gA R (t_61 R.S) (Nat.le_of_ble_eq_true rfl) rfl (o_61_2 R.S) (fun _ _ => ?_)
      refine s_rI R (u_64 R.S).1 (u_64 R.S).2 (by decide) rfl rfl rl3 hF (fun x6 ra4 hF => ?_)
      refine s_gA R (t_61 R.S) (Nat.le_of_ble_eq_true rfl) rfl (o_61_2 R.S) (fun _ _ => ?_)
      refine s_rI R (u_64 R.S).1 (u_64 R.S).2 (by decide) rfl rfl rl3 hF (fun x10 ra6 hF => ?_)
      refine s_qI R (u_70 R.S).1 (u_70 R.S).2 (by decide) rfl (c_add rfl rfl) (rr_I _) (c_add rfl (c_lit 1 1 rfl)) (rr_I _) hF (fun h7 σ12 R7 T7 hF => ?_)
      refine s_gA R7 (t_61 R7.S) (Nat.le_of_ble_eq_true rfl) rfl (o_61_11 R7.S) (fun _ _ => ?_)
      refine s_gA R7 (t_61 R7.S) (Nat.le_of_ble_eq_true rfl) rfl (o_61_2 R7.S) (fun _ _ => ?_)
      refine s_rI R7 (u_64 R7.S).1 (u_64 R7.S).2 (by decide) rfl rfl rl3 hF (fun x18 ra10 hF => ?_)
      refine s_qI R7 (u_71 R7.S).1 (u_71 R7.S).2 (by decide) rfl (c_add rfl rfl) (rr_I _) rfl rl3 hF (fun h11 σ20 R11 T11 hF => ?_)
      refine s_gA R11 (t_61 R11.S) (Nat.le_of_ble_eq_true rfl) rfl (o_61_1 R11.S) (fun _ _ => ?_)
      refine s_rI R11 (u_63 R11.S).1 (u_63 R11.S).2 (by decide) rfl rfl rl3 hF (fun x24 ra13 hF => ?_)
      exact ih R11 rfl rl2 rfl ra13 hF
def FX15_lay_b12 (N : Nat) : Nat → Int → Int → fS → Option (Unit × fS)
  | 0, _, _, _ => none
  | n + 1, l1, l2, s =>
    (FX15_fits N l1 l2 s).bind fun q2 =>
    if ¬ (q2.1 = 0) then
      (uQI q2.2 72 l1 l2).bind fun σ6 =>
      (uQI σ6 73 l2 (iand 1 1)).bind fun σ10 =>
      (uPI σ10 61 14 (imax (σ10.i 61 14) (iadd (iadd l2 63) 1))).bind fun σ14 =>
      (uRI σ14 62 l1).bind fun x18 =>
      FX15_lay_b75 N N l2 x18 σ14
    else
      (FX15_widen (iadd (iadd (iadd l2 1) 63) 1) q2.2).bind fun q21 =>
      FX15_lay_b12 N n l1 (iadd l2 1) q21.2
theorem SX15_lay_b12 {m b : Nat} {φ0 : Nat → Nat} {σo : fS} (hb : 1 ≤ b) {N : Nat} {q : Unit × fS} : ∀ {n : Nat} {φ : Nat → Nat} {h : eH} {s : fS} {l1' : Int32} {l1 : Int} {l2' : Int32} {l2 : Int}, fC m b φ0 σo φ h s → l1' = iI l1 → r32 l1 → l2' = iI l2 → r32 l2 → FX15_lay_b12 N n l1 l2 s = some q → gG m b φ0 σo lU q (fX15_lay_b12 N n 61 l1' l2' h) := by
  intro n
  induction n with
 | zero => intro φ h s l1' l1 l2' l2 R el1 rl1 el2 rl2 hF; simp [FX15_lay_b12] at hF
  | succ n ih =>
    intro φ h s l1' l1 l2' l2 R el1 rl1 el2 rl2 hF
    subst el1; subst el2
    rw [FX15_lay_b12] at hF
    rw [fX15_lay_b12]
    refine s_kok R (t_61 R.S) (Nat.le_of_ble_eq_true rfl) ?_
    refine s_call R (Nat.zero_le _) (fun _ hq => SX15_fits (b := 0) (N := N) (R.rf) rfl rl1 rfl rl2 hq) hF (fun f2 rv2 h2 q2 R2 e2 E2 hF => ?_)
    refine s_if (not_congr (i_eq e2.1 (c_lit 0 0 rfl) e2.2 ⟨by decide, by decide⟩)) hF (fun c3 hF => ?_) (fun c3 hF => ?_)
    ·
      refine s_gA R2 (t_61 R2.S) (Nat.le_of_ble_eq_true rfl) rfl (o_61_12 R2.S) (fun _ _ => ?_)
      refine s_qI R2 (u_72 R2.S).1 (u_72 R2.S).2 (by decide) rfl rfl rl1 rfl rl2 hF (fun h5 σ6 R5 T5 hF => ?_)
      refine s_gA R5 (t_61 R5.S) (Nat.le_of_ble_eq_true rfl) rfl (o_61_13 R5.S) (fun _ _ => ?_)
      refine s_qI R5 (u_73 R5.S).1 (u_73 R5.S).2 (by decide) rfl rfl rl2 (c_and (c_lit 1 1 rfl) (c_lit 1 1 rfl)) (rr_I _) hF (fun h7 σ10 R7 T7 hF => ?_)
      refine s_gI R7 (t_61 R7.S) (Nat.le_of_ble_eq_true rfl) rfl ?_
      refine s_pI R7 (t_61 R7.S) (Nat.le_of_ble_eq_true rfl) rfl (c_max rfl (c_add (c_add rfl (c_lit 63 63 rfl)) (c_lit 1 1 rfl)) (R7.ri (t_61 R7.S) (Nat.le_of_ble_eq_true rfl) rfl) (rr_I _)) (r_max (R7.ri (t_61 R7.S) (Nat.le_of_ble_eq_true rfl) rfl) (rr_I _)) hF (fun h9 σ14 R9 T9 hF => ?_)
      refine s_gA R9 (t_61 R9.S) (Nat.le_of_ble_eq_true rfl) rfl (o_61_0 R9.S) (fun _ _ => ?_)
      refine s_rI R9 (u_62 R9.S).1 (u_62 R9.S).2 (by decide) rfl rfl rl1 hF (fun x18 ra11 hF => ?_)
      exact SX15_lay_b75 (N := N) R9 rfl rl2 rfl ra11 hF
    ·
      refine s_kok R2 (t_61 R2.S) (Nat.le_of_ble_eq_true rfl) ?_
      refine s_call R2 hb (fun _ hq => SX15_widen (b := 1) (Nat.le_of_ble_eq_true rfl) (R2.rf) (c_add (c_add (c_add rfl (c_lit 1 1 rfl)) (c_lit 63 63 rfl)) (c_lit 1 1 rfl)) (rr_I _) hq) hF (fun f13 rv13 h13 q21 R13 e13 E13 hF => ?_)
      exact ih R13 rfl rl1 (c_add rfl (c_lit 1 1 rfl)) (rr_I _) hF
def FX15_lay (N : Nat) (p0 : Int) (s : fS) : Option (Unit × fS) :=
  (FX15_widen (iadd (iadd 0 63) 1) s).bind fun q2 =>
  FX15_lay_b12 N N p0 0 q2.2
theorem SX15_lay {m b : Nat} {φ0 : Nat → Nat} {σo : fS} (hb : 1 ≤ b) {N : Nat} {q : Unit × fS} {φ : Nat → Nat} {h : eH} {s : fS} {p0' : Int32} {p0 : Int} (R : fC m b φ0 σo φ h s) (ep0 : p0' = iI p0) (rp0 : r32 p0) (hF : FX15_lay N p0 s = some q) : gG m b φ0 σo lU q (fX15_lay N 61 p0' h) := by
  subst ep0
  unfold FX15_lay at hF
  unfold fX15_lay
  refine s_kok R (t_61 R.S) (Nat.le_of_ble_eq_true rfl) ?_
  refine s_call R hb (fun _ hq => SX15_widen (b := 1) (Nat.le_of_ble_eq_true rfl) (R.rf) (c_add (c_add (c_lit 0 0 rfl) (c_lit 63 63 rfl)) (c_lit 1 1 rfl)) (rr_I _) hq) hF (fun f2 rv2 h2 q2 R2 e2 E2 hF => ?_)
  exact SX15_lay_b12 (N := N) hb R2 rfl rp0 (c_lit 0 0 rfl) ⟨by decide, by decide⟩ hF
def FX15_pack_b60 (N : Nat) (K37 : Int → fS → Option (Unit × fS)) (l1 : Int) (s : fS) : Option (Unit × fS) :=
  K37 (iadd l1 1) s
theorem SX15_pack_b60 {m b : Nat} {φ0 : Nat → Nat} {σo : fS} (hb : 1 ≤ b) {N : Nat} {k37 : Nat → Int32 → eH → Option (Unit × eH)} {K37 : Int → fS → Option (Unit × fS)} {q : Unit × fS} (hk37 : ∀ {φ : Nat → Nat} {h : eH} {s : fS} {l1' : Int32} {l1 : Int}, fC m b φ0 σo φ h s → l1' = iI l1 → r32 l1 → K37 l1 s = some q → gG m b φ0 σo lU q (k37 61 l1' h)) {φ : Nat → Nat} {h : eH} {s : fS} {l1' : Int32} {l1 : Int} (R : fC m b φ0 σo φ h s) (el1 : l1' = iI l1) (rl1 : r32 l1) (hF : FX15_pack_b60 N K37 l1 s = some q) : gG m b φ0 σo lU q (fX15_pack_b60 N k37 61 l1' h) := by
  subst el1
  unfold FX15_pack_b60 at hF
  unfold fX15_pack_b60
  exact hk37 R (c_add rfl (c_lit 1 1 rfl)) (rr_I _) hF
def FX15_pack_b37 (N : Nat) : Nat → Int → fS → Option (Unit × fS)
  | 0, _, _ => none
  | n + 1, l1, s =>
    if (s.i 61 5) ≤ l1 then
      (uPZ s 61 15 1).bind fun σ4 =>
      some ((), σ4)
    else
      (uRI s 62 l1).bind fun x8 =>
      if x8 = (-1) then
        FX15_pack_b60 N (FX15_pack_b37 N n) l1 s
      else
        (FX15_lay N l1 s).bind fun q12 =>
        FX15_pack_b60 N (FX15_pack_b37 N n) l1 q12.2
theorem SX15_pack_b37 {m b : Nat} {φ0 : Nat → Nat} {σo : fS} (hb : 1 ≤ b) {N : Nat} {q : Unit × fS} : ∀ {n : Nat} {φ : Nat → Nat} {h : eH} {s : fS} {l1' : Int32} {l1 : Int}, fC m b φ0 σo φ h s → l1' = iI l1 → r32 l1 → FX15_pack_b37 N n l1 s = some q → gG m b φ0 σo lU q (fX15_pack_b37 N n 61 l1' h) := by
  intro n
  induction n with
 | zero => intro φ h s l1' l1 R el1 rl1 hF; simp [FX15_pack_b37] at hF
  | succ n ih =>
    intro φ h s l1' l1 R el1 rl1 hF
    subst el1
    rw [FX15_pack_b37] at hF
    rw [fX15_pack_b37]
    refine s_gI R (t_61 R.S) (Nat.le_of_ble_eq_true rfl) rfl ?_
    refine s_if (i_le rfl rfl (R.ri (t_61 R.S) (Nat.le_of_ble_eq_true rfl) rfl) rl1) hF (fun c2 hF => ?_) (fun c2 hF => ?_)
    ·
      refine s_pZ R (t_61 R.S) (Nat.le_of_ble_eq_true rfl) rfl (c_lit 1 1 rfl) ⟨by decide, by decide⟩ hF (fun h3 σ4 R3 T3 hF => ?_)
      exact g_ret R3 hF trivial
    ·
      refine s_gA R (t_61 R.S) (Nat.le_of_ble_eq_true rfl) rfl (o_61_0 R.S) (fun _ _ => ?_)
      refine s_rI R (u_62 R.S).1 (u_62 R.S).2 (by decide) rfl rfl rl1 hF (fun x8 ra5 hF => ?_)
      refine s_if (i_eq rfl (c_lit (-1) (-1) rfl) ra5 ⟨by decide, by decide⟩) hF (fun c6 hF => ?_) (fun c6 hF => ?_)
      ·
        exact SX15_pack_b60 (N := N) (k37 := fX15_pack_b37 N n) (K37 := FX15_pack_b37 N n) hb @ih R rfl rl1 hF
      ·
        refine s_kok R (t_61 R.S) (Nat.le_of_ble_eq_true rfl) ?_
        refine s_call R hb (fun _ hq => SX15_lay (b := 1) (N := N) (Nat.le_of_ble_eq_true rfl) (R.rf) rfl rl1 hq) hF (fun f8 rv8 h8 q12 R8 e8 E8 hF => ?_)
        exact SX15_pack_b60 (N := N) (k37 := fX15_pack_b37 N n) (K37 := FX15_pack_b37 N n) hb @ih R8 rfl rl1 hF
def FX15_pack_b2 (N : Nat) : Nat → Int → fS → Option (Unit × fS)
  | 0, _, _ => none
  | n + 1, l1, s =>
    if (s.i 61 14) ≤ l1 then
      (uPI s 61 14 0).bind fun σ4 =>
      FX15_pack_b37 N N 0 σ4
    else
      (uQI s 70 l1 0).bind fun σ8 =>
      (uQI σ8 73 l1 (iand 0 1)).bind fun σ12 =>
      FX15_pack_b2 N n (iadd l1 1) σ12
theorem SX15_pack_b2 {m b : Nat} {φ0 : Nat → Nat} {σo : fS} (hb : 1 ≤ b) {N : Nat} {q : Unit × fS} : ∀ {n : Nat} {φ : Nat → Nat} {h : eH} {s : fS} {l1' : Int32} {l1 : Int}, fC m b φ0 σo φ h s → l1' = iI l1 → r32 l1 → FX15_pack_b2 N n l1 s = some q → gG m b φ0 σo lU q (fX15_pack_b2 N n 61 l1' h) := by
  intro n
  induction n with
 | zero => intro φ h s l1' l1 R el1 rl1 hF; simp [FX15_pack_b2] at hF
  | succ n ih =>
    intro φ h s l1' l1 R el1 rl1 hF
    subst el1
    rw [FX15_pack_b2] at hF
    rw [fX15_pack_b2]
    refine s_gI R (t_61 R.S) (Nat.le_of_ble_eq_true rfl) rfl ?_
    refine s_if (i_le rfl rfl (R.ri (t_61 R.S) (Nat.le_of_ble_eq_true rfl) rfl) rl1) hF (fun c2 hF => ?_) (fun c2 hF => ?_)
    ·
      refine s_pI R (t_61 R.S) (Nat.le_of_ble_eq_true rfl) rfl (c_lit 0 0 rfl) ⟨by decide, by decide⟩ hF (fun h3 σ4 R3 T3 hF => ?_)
      exact SX15_pack_b37 (N := N) hb R3 (c_lit 0 0 rfl) ⟨by decide, by decide⟩ hF
    ·
      refine s_gA R (t_61 R.S) (Nat.le_of_ble_eq_true rfl) rfl (o_61_10 R.S) (fun _ _ => ?_)
      refine s_qI R (u_70 R.S).1 (u_70 R.S).2 (by decide) rfl rfl rl1 (c_lit 0 0 rfl) ⟨by decide, by decide⟩ hF (fun h5 σ8 R5 T5 hF => ?_)
      refine s_gA R5 (t_61 R5.S) (Nat.le_of_ble_eq_true rfl) rfl (o_61_13 R5.S) (fun _ _ => ?_)
      refine s_qI R5 (u_73 R5.S).1 (u_73 R5.S).2 (by decide) rfl rfl rl1 (c_and (c_lit 0 0 rfl) (c_lit 1 1 rfl)) (rr_I _) hF (fun h7 σ12 R7 T7 hF => ?_)
      exact ih R7 (c_add rfl (c_lit 1 1 rfl)) (rr_I _) hF
def FX15_pack (N : Nat) (s : fS) : Option (Unit × fS) :=
  FX15_pack_b2 N N 0 s
theorem SX15_pack {m b : Nat} {φ0 : Nat → Nat} {σo : fS} (hb : 1 ≤ b) {N : Nat} {q : Unit × fS} {φ : Nat → Nat} {h : eH} {s : fS} (R : fC m b φ0 σo φ h s) (hF : FX15_pack N s = some q) : gG m b φ0 σo lU q (fX15_pack N 61 h) := by
  unfold FX15_pack at hF
  unfold fX15_pack
  exact SX15_pack_b2 (N := N) hb R (c_lit 0 0 rfl) ⟨by decide, by decide⟩ hF
def FX15_say_b12 (N : Nat) : Nat → Int → Int → fS → Option (Unit × fS)
  | 0, _, _, _ => none
  | n + 1, l2, l4, s =>
    if l4 ≤ 0 then
      some ((), s)
    else
      (uRI s 67 l4).bind fun x4 =>
      (uRI s 88 (isub l2 x4)).bind fun x10 =>
      (uRI s 68 l4).bind fun x14 =>
      (uQI s 88 (isub l2 x4) (i2b (i2b (imax x10 x14)))).bind fun σ16 =>
      (uRI σ16 69 l4).bind fun x20 =>
      FX15_say_b12 N n l2 x20 σ16
theorem SX15_say_b12 {m b : Nat} {φ0 : Nat → Nat} {σo : fS} {N : Nat} {q : Unit × fS} : ∀ {n : Nat} {φ : Nat → Nat} {h : eH} {s : fS} {l2' : Int32} {l2 : Int} {l4' : Int32} {l4 : Int}, fC m b φ0 σo φ h s → l2' = iI l2 → r32 l2 → l4' = iI l4 → r32 l4 → FX15_say_b12 N n l2 l4 s = some q → gG m b φ0 σo lU q (fX15_say_b12 N n 61 l2' 86 l4' h) := by
  intro n
  induction n with
 | zero => intro φ h s l2' l2 l4' l4 R el2 rl2 el4 rl4 hF; simp [FX15_say_b12] at hF
  | succ n ih =>
    intro φ h s l2' l2 l4' l4 R el2 rl2 el4 rl4 hF
    subst el2; subst el4
    rw [FX15_say_b12] at hF
    rw [fX15_say_b12]
    refine s_if (i_le rfl (c_lit 0 0 rfl) rl4 ⟨by decide, by decide⟩) hF (fun c1 hF => ?_) (fun c1 hF => ?_)
    ·
      exact g_ret R hF trivial
    ·
      refine s_gA R (t_61 R.S) (Nat.le_of_ble_eq_true rfl) rfl (o_61_6 R.S) (fun _ _ => ?_)
      refine s_rI R (u_67 R.S).1 (u_67 R.S).2 (by decide) rfl rfl rl4 hF (fun x4 ra3 hF => ?_)
      refine s_gAs R (t_86 R.S) (Nat.le_of_ble_eq_true rfl) rfl (o_86_1 R.S) (a_88 R) ?_
      refine s_gAs R (t_86 R.S) (Nat.le_of_ble_eq_true rfl) rfl (o_86_1 R.S) (a_88 R) ?_
      refine s_rI R (u_88 R.S).1 (u_88 R.S).2 (by decide) (a_88 R) (c_sub rfl rfl) (rr_I _) hF (fun x10 ra6 hF => ?_)
      refine s_gA R (t_61 R.S) (Nat.le_of_ble_eq_true rfl) rfl (o_61_7 R.S) (fun _ _ => ?_)
      refine s_rI R (u_68 R.S).1 (u_68 R.S).2 (by decide) rfl rfl rl4 hF (fun x14 ra8 hF => ?_)
      refine s_qI R (u_88 R.S).1 (u_88 R.S).2 (by decide) (a_88 R) (c_sub rfl rfl) (rr_I _) (c_2b (c_2b (c_max rfl rfl ra6 ra8))) (rr_I _) hF (fun h9 σ16 R9 T9 hF => ?_)
      refine s_gA R9 (t_61 R9.S) (Nat.le_of_ble_eq_true rfl) rfl (o_61_8 R9.S) (fun _ _ => ?_)
      refine s_rI R9 (u_69 R9.S).1 (u_69 R9.S).2 (by decide) rfl rfl rl4 hF (fun x20 ra11 hF => ?_)
      exact ih R9 rfl rl2 rfl ra11 hF
def FX15_say (N : Nat) (p0 : Int) (p1 : Int) (s : fS) : Option (Unit × fS) :=
  (uRI s 65 p0).bind fun x3 =>
  FX15_say_b12 N N p1 (imax 0 x3) s
theorem SX15_say {m b : Nat} {φ0 : Nat → Nat} {σo : fS} {N : Nat} {q : Unit × fS} {φ : Nat → Nat} {h : eH} {s : fS} {p0' : Int32} {p0 : Int} {p1' : Int32} {p1 : Int} (R : fC m b φ0 σo φ h s) (ep0 : p0' = iI p0) (rp0 : r32 p0) (ep1 : p1' = iI p1) (rp1 : r32 p1) (hF : FX15_say N p0 p1 s = some q) : gG m b φ0 σo lU q (fX15_say N 61 p0' p1' 86 h) := by
  subst ep0; subst ep1
  unfold FX15_say at hF
  unfold fX15_say
  refine s_gA R (t_61 R.S) (Nat.le_of_ble_eq_true rfl) rfl (o_61_3 R.S) (fun _ _ => ?_)
  refine s_rI R (u_65 R.S).1 (u_65 R.S).2 (by decide) rfl rfl rp0 hF (fun x3 ra2 hF => ?_)
  exact SX15_say_b12 (N := N) R rfl rp1 (c_max (c_lit 0 0 rfl) rfl ⟨by decide, by decide⟩ ra2) (r_max ⟨by decide, by decide⟩ ra2) hF
def FX15_raise_b140 (N : Nat) (K43 : Int → Int → Int → Int → fS → Option (Unit × fS)) (l2 : Int) (l3 : Int) (l4 : Int) (l5 : Int) (s : fS) : Option (Unit × fS) :=
  K43 l2 l3 l4 l5 s
theorem SX15_raise_b140 {m b : Nat} {φ0 : Nat → Nat} {σo : fS} {N : Nat} {k43 : Nat → Nat → Int32 → Int32 → Int32 → Int32 → eH → Option (Unit × eH)} {K43 : Int → Int → Int → Int → fS → Option (Unit × fS)} {q : Unit × fS} (hk43 : ∀ {φ : Nat → Nat} {h : eH} {s : fS} {l2' : Int32} {l2 : Int} {l3' : Int32} {l3 : Int} {l4' : Int32} {l4 : Int} {l5' : Int32} {l5 : Int}, fC m b φ0 σo φ h s → l2' = iI l2 → r32 l2 → l3' = iI l3 → r32 l3 → l4' = iI l4 → r32 l4 → l5' = iI l5 → r32 l5 → K43 l2 l3 l4 l5 s = some q → gG m b φ0 σo lU q (k43 61 86 l2' l3' l4' l5' h)) {φ : Nat → Nat} {h : eH} {s : fS} {l2' : Int32} {l2 : Int} {l3' : Int32} {l3 : Int} {l4' : Int32} {l4 : Int} {l5' : Int32} {l5 : Int} (R : fC m b φ0 σo φ h s) (el2 : l2' = iI l2) (rl2 : r32 l2) (el3 : l3' = iI l3) (rl3 : r32 l3) (el4 : l4' = iI l4) (rl4 : r32 l4) (el5 : l5' = iI l5) (rl5 : r32 l5) (hF : FX15_raise_b140 N K43 l2 l3 l4 l5 s = some q) : gG m b φ0 σo lU q (fX15_raise_b140 N k43 61 86 l2' l3' l4' l5' h) := by
  subst el2; subst el3; subst el4; subst el5
  unfold FX15_raise_b140 at hF
  unfold fX15_raise_b140
  exact hk43 R rfl rl2 rfl rl3 rfl rl4 rfl rl5 hF
def FX15_raise_b138 (N : Nat) (K43 : Int → Int → Int → Int → fS → Option (Unit × fS)) (l2 : Int) (l3 : Int) (l4 : Int) (s0 : Int) (s : fS) : Option (Unit × fS) :=
  FX15_raise_b140 N K43 l2 l3 l4 s0 s
theorem SX15_raise_b138 {m b : Nat} {φ0 : Nat → Nat} {σo : fS} {N : Nat} {k43 : Nat → Nat → Int32 → Int32 → Int32 → Int32 → eH → Option (Unit × eH)} {K43 : Int → Int → Int → Int → fS → Option (Unit × fS)} {q : Unit × fS} (hk43 : ∀ {φ : Nat → Nat} {h : eH} {s : fS} {l2' : Int32} {l2 : Int} {l3' : Int32} {l3 : Int} {l4' : Int32} {l4 : Int} {l5' : Int32} {l5 : Int}, fC m b φ0 σo φ h s → l2' = iI l2 → r32 l2 → l3' = iI l3 → r32 l3 → l4' = iI l4 → r32 l4 → l5' = iI l5 → r32 l5 → K43 l2 l3 l4 l5 s = some q → gG m b φ0 σo lU q (k43 61 86 l2' l3' l4' l5' h)) {φ : Nat → Nat} {h : eH} {s : fS} {l2' : Int32} {l2 : Int} {l3' : Int32} {l3 : Int} {l4' : Int32} {l4 : Int} {s0' : Int32} {s0 : Int} (R : fC m b φ0 σo φ h s) (el2 : l2' = iI l2) (rl2 : r32 l2) (el3 : l3' = iI l3) (rl3 : r32 l3) (el4 : l4' = iI l4) (rl4 : r32 l4) (es0 : s0' = iI s0) (rs0 : r32 s0) (hF : FX15_raise_b138 N K43 l2 l3 l4 s0 s = some q) : gG m b φ0 σo lU q (fX15_raise_b138 N k43 61 86 l2' l3' l4' s0' h) := by
  subst el2; subst el3; subst el4; subst es0
  unfold FX15_raise_b138 at hF
  unfold fX15_raise_b138
  exact SX15_raise_b140 (N := N) (k43 := k43) (K43 := K43) @hk43 R rfl rl2 rfl rl3 rfl rl4 rfl rs0 hF
def FX15_raise_b97 (N : Nat) (K43 : Int → Int → Int → Int → fS → Option (Unit × fS)) (l2 : Int) (l3 : Int) (l4 : Int) (l6 : Int) (s0 : Int) (s : fS) : Option (Unit × fS) :=
  if s0 = 0 then
    FX15_raise_b140 N K43 l2 l3 l4 s0 s
  else
    (uRI s 71 l6).bind fun x4 =>
    (FX15_say N x4 (iadd l4 1) s).bind fun q7 =>
    (uRI q7.2 62 x4).bind fun x10 =>
    if x10 = (-1) then
      FX15_raise_b138 N K43 l2 x4 (iadd l4 1) 0 q7.2
    else
      FX15_raise_b138 N K43 l2 x4 (iadd l4 1) 1 q7.2
theorem SX15_raise_b97 {m b : Nat} {φ0 : Nat → Nat} {σo : fS} {N : Nat} {k43 : Nat → Nat → Int32 → Int32 → Int32 → Int32 → eH → Option (Unit × eH)} {K43 : Int → Int → Int → Int → fS → Option (Unit × fS)} {q : Unit × fS} (hk43 : ∀ {φ : Nat → Nat} {h : eH} {s : fS} {l2' : Int32} {l2 : Int} {l3' : Int32} {l3 : Int} {l4' : Int32} {l4 : Int} {l5' : Int32} {l5 : Int}, fC m b φ0 σo φ h s → l2' = iI l2 → r32 l2 → l3' = iI l3 → r32 l3 → l4' = iI l4 → r32 l4 → l5' = iI l5 → r32 l5 → K43 l2 l3 l4 l5 s = some q → gG m b φ0 σo lU q (k43 61 86 l2' l3' l4' l5' h)) {φ : Nat → Nat} {h : eH} {s : fS} {l2' : Int32} {l2 : Int} {l3' : Int32} {l3 : Int} {l4' : Int32} {l4 : Int} {l6' : Int32} {l6 : Int} {s0' : Int32} {s0 : Int} (R : fC m b φ0 σo φ h s) (el2 : l2' = iI l2) (rl2 : r32 l2) (el3 : l3' = iI l3) (rl3 : r32 l3) (el4 : l4' = iI l4) (rl4 : r32 l4) (el6 : l6' = iI l6) (rl6 : r32 l6) (es0 : s0' = iI s0) (rs0 : r32 s0) (hF : FX15_raise_b97 N K43 l2 l3 l4 l6 s0 s = some q) : gG m b φ0 σo lU q (fX15_raise_b97 N k43 61 86 l2' l3' l4' l6' s0' h) := by
  subst el2; subst el3; subst el4; subst el6; subst es0
  unfold FX15_raise_b97 at hF
  unfold fX15_raise_b97
  refine s_if (i_eq rfl (c_lit 0 0 rfl) rs0 ⟨by decide, by decide⟩) hF (fun c1 hF => ?_) (fun c1 hF => ?_)
  ·
    exact SX15_raise_b140 (N := N) (k43 := k43) (K43 := K43) @hk43 R rfl rl2 rfl rl3 rfl rl4 rfl rs0 hF
  ·
    refine s_gA R (t_61 R.S) (Nat.le_of_ble_eq_true rfl) rfl (o_61_11 R.S) (fun _ _ => ?_)
    refine s_rI R (u_71 R.S).1 (u_71 R.S).2 (by decide) rfl rfl rl6 hF (fun x4 ra3 hF => ?_)
    refine s_kok R (t_61 R.S) (Nat.le_of_ble_eq_true rfl) ?_
    refine s_call R (Nat.zero_le _) (fun _ hq => SX15_say (b := 0) (N := N) (R.rf) rfl ra3 (c_add rfl (c_lit 1 1 rfl)) (rr_I _) hq) hF (fun f5 rv5 h5 q7 R5 e5 E5 hF => ?_)
    refine s_gA R5 (t_61 R5.S) (Nat.le_of_ble_eq_true rfl) rfl (o_61_0 R5.S) (fun _ _ => ?_)
    refine s_rI R5 (u_62 R5.S).1 (u_62 R5.S).2 (by decide) rfl rfl ra3 hF (fun x10 ra7 hF => ?_)
    refine s_if (i_eq rfl (c_lit (-1) (-1) rfl) ra7 ⟨by decide, by decide⟩) hF (fun c8 hF => ?_) (fun c8 hF => ?_)
    ·
      exact SX15_raise_b138 (N := N) (k43 := k43) (K43 := K43) @hk43 R5 rfl rl2 rfl ra3 (c_add rfl (c_lit 1 1 rfl)) (rr_I _) (c_lit 0 0 rfl) ⟨by decide, by decide⟩ hF
    ·
      exact SX15_raise_b138 (N := N) (k43 := k43) (K43 := K43) @hk43 R5 rfl rl2 rfl ra3 (c_add rfl (c_lit 1 1 rfl)) (rr_I _) (c_lit 1 1 rfl) ⟨by decide, by decide⟩ hF
def FX15_raise_b143 (N : Nat) (K13 : Int → fS → Option (Unit × fS)) (l2 : Int) (s : fS) : Option (Unit × fS) :=
  K13 (iadd l2 1) s
theorem SX15_raise_b143 {m b : Nat} {φ0 : Nat → Nat} {σo : fS} {N : Nat} {k13 : Nat → Nat → Int32 → eH → Option (Unit × eH)} {K13 : Int → fS → Option (Unit × fS)} {q : Unit × fS} (hk13 : ∀ {φ : Nat → Nat} {h : eH} {s : fS} {l2' : Int32} {l2 : Int}, fC m b φ0 σo φ h s → l2' = iI l2 → r32 l2 → K13 l2 s = some q → gG m b φ0 σo lU q (k13 61 86 l2' h)) {φ : Nat → Nat} {h : eH} {s : fS} {l2' : Int32} {l2 : Int} (R : fC m b φ0 σo φ h s) (el2 : l2' = iI l2) (rl2 : r32 l2) (hF : FX15_raise_b143 N K13 l2 s = some q) : gG m b φ0 σo lU q (fX15_raise_b143 N k13 61 86 l2' h) := by
  subst el2
  unfold FX15_raise_b143 at hF
  unfold fX15_raise_b143
  exact hk13 R (c_add rfl (c_lit 1 1 rfl)) (rr_I _) hF
def FX15_raise_b43 (N : Nat) (K13 : Int → fS → Option (Unit × fS)) : Nat → Int → Int → Int → Int → fS → Option (Unit × fS)
  | 0, _, _, _, _, _ => none
  | n + 1, l2, l3, l4, l5, s =>
    if l5 = 0 then
      FX15_raise_b143 N K13 l2 s
    else
      if (s.i 86 2) ≤ l4 then
        FX15_raise_b143 N K13 l2 s
      else
        (uRI s 72 l3).bind fun x7 =>
        (uRI s 87 l4).bind fun x11 =>
        (uRI s 70 (iadd x7 x11)).bind fun x15 =>
        (uRI s 87 l4).bind fun x19 =>
        if ¬ (x15 = (iadd x19 1)) then
          FX15_raise_b97 N (FX15_raise_b43 N K13 n) l2 l3 l4 (iadd x7 x11) 0 s
        else
          FX15_raise_b97 N (FX15_raise_b43 N K13 n) l2 l3 l4 (iadd x7 x11) 1 s
theorem SX15_raise_b43 {m b : Nat} {φ0 : Nat → Nat} {σo : fS} {N : Nat} {k13 : Nat → Nat → Int32 → eH → Option (Unit × eH)} {K13 : Int → fS → Option (Unit × fS)} {q : Unit × fS} (hk13 : ∀ {φ : Nat → Nat} {h : eH} {s : fS} {l2' : Int32} {l2 : Int}, fC m b φ0 σo φ h s → l2' = iI l2 → r32 l2 → K13 l2 s = some q → gG m b φ0 σo lU q (k13 61 86 l2' h)) : ∀ {n : Nat} {φ : Nat → Nat} {h : eH} {s : fS} {l2' : Int32} {l2 : Int} {l3' : Int32} {l3 : Int} {l4' : Int32} {l4 : Int} {l5' : Int32} {l5 : Int}, fC m b φ0 σo φ h s → l2' = iI l2 → r32 l2 → l3' = iI l3 → r32 l3 → l4' = iI l4 → r32 l4 → l5' = iI l5 → r32 l5 → FX15_raise_b43 N K13 n l2 l3 l4 l5 s = some q → gG m b φ0 σo lU q (fX15_raise_b43 N k13 n 61 86 l2' l3' l4' l5' h) := by
  intro n
  induction n with
 | zero => intro φ h s l2' l2 l3' l3 l4' l4 l5' l5 R el2 rl2 el3 rl3 el4 rl4 el5 rl5 hF; simp [FX15_raise_b43] at hF
  | succ n ih =>
    intro φ h s l2' l2 l3' l3 l4' l4 l5' l5 R el2 rl2 el3 rl3 el4 rl4 el5 rl5 hF
    subst el2; subst el3; subst el4; subst el5
    rw [FX15_raise_b43] at hF
    rw [fX15_raise_b43]
    refine s_if (i_eq rfl (c_lit 0 0 rfl) rl5 ⟨by decide, by decide⟩) hF (fun c1 hF => ?_) (fun c1 hF => ?_)
    ·
      exact SX15_raise_b143 (N := N) (k13 := k13) (K13 := K13) @hk13 R rfl rl2 hF
    ·
      refine s_gI R (t_86 R.S) (Nat.le_of_ble_eq_true rfl) rfl ?_
      refine s_if (i_le rfl rfl (R.ri (t_86 R.S) (Nat.le_of_ble_eq_true rfl) rfl) rl4) hF (fun c3 hF => ?_) (fun c3 hF => ?_)
      ·
        exact SX15_raise_b143 (N := N) (k13 := k13) (K13 := K13) @hk13 R rfl rl2 hF
      ·
        refine s_gA R (t_61 R.S) (Nat.le_of_ble_eq_true rfl) rfl (o_61_12 R.S) (fun _ _ => ?_)
        refine s_rI R (u_72 R.S).1 (u_72 R.S).2 (by decide) rfl rfl rl3 hF (fun x7 ra5 hF => ?_)
        refine s_gAs R (t_86 R.S) (Nat.le_of_ble_eq_true rfl) rfl (o_86_0 R.S) (a_87 R) ?_
        refine s_rI R (u_87 R.S).1 (u_87 R.S).2 (by decide) (a_87 R) rfl rl4 hF (fun x11 ra7 hF => ?_)
        refine s_gA R (t_61 R.S) (Nat.le_of_ble_eq_true rfl) rfl (o_61_10 R.S) (fun _ _ => ?_)
        refine s_rI R (u_70 R.S).1 (u_70 R.S).2 (by decide) rfl (c_add rfl rfl) (rr_I _) hF (fun x15 ra9 hF => ?_)
        refine s_gAs R (t_86 R.S) (Nat.le_of_ble_eq_true rfl) rfl (o_86_0 R.S) (a_87 R) ?_
        refine s_rI R (u_87 R.S).1 (u_87 R.S).2 (by decide) (a_87 R) rfl rl4 hF (fun x19 ra11 hF => ?_)
        refine s_if (not_congr (i_eq rfl (c_add rfl (c_lit 1 1 rfl)) ra9 (rr_I _))) hF (fun c12 hF => ?_) (fun c12 hF => ?_)
        ·
          exact SX15_raise_b97 (N := N) (k43 := fX15_raise_b43 N k13 n) (K43 := FX15_raise_b43 N K13 n) @ih R rfl rl2 rfl rl3 rfl rl4 (c_add rfl rfl) (rr_I _) (c_lit 0 0 rfl) ⟨by decide, by decide⟩ hF
        ·
          exact SX15_raise_b97 (N := N) (k43 := fX15_raise_b43 N k13 n) (K43 := FX15_raise_b43 N K13 n) @ih R rfl rl2 rfl rl3 rfl rl4 (c_add rfl rfl) (rr_I _) (c_lit 1 1 rfl) ⟨by decide, by decide⟩ hF
def FX15_raise_b41 (N : Nat) (K13 : Int → fS → Option (Unit × fS)) (l2 : Int) (l3 : Int) (l4 : Int) (s0 : Int) (s : fS) : Option (Unit × fS) :=
  FX15_raise_b43 N K13 N l2 l3 l4 s0 s
theorem SX15_raise_b41 {m b : Nat} {φ0 : Nat → Nat} {σo : fS} {N : Nat} {k13 : Nat → Nat → Int32 → eH → Option (Unit × eH)} {K13 : Int → fS → Option (Unit × fS)} {q : Unit × fS} (hk13 : ∀ {φ : Nat → Nat} {h : eH} {s : fS} {l2' : Int32} {l2 : Int}, fC m b φ0 σo φ h s → l2' = iI l2 → r32 l2 → K13 l2 s = some q → gG m b φ0 σo lU q (k13 61 86 l2' h)) {φ : Nat → Nat} {h : eH} {s : fS} {l2' : Int32} {l2 : Int} {l3' : Int32} {l3 : Int} {l4' : Int32} {l4 : Int} {s0' : Int32} {s0 : Int} (R : fC m b φ0 σo φ h s) (el2 : l2' = iI l2) (rl2 : r32 l2) (el3 : l3' = iI l3) (rl3 : r32 l3) (el4 : l4' = iI l4) (rl4 : r32 l4) (es0 : s0' = iI s0) (rs0 : r32 s0) (hF : FX15_raise_b41 N K13 l2 l3 l4 s0 s = some q) : gG m b φ0 σo lU q (fX15_raise_b41 N k13 61 86 l2' l3' l4' s0' h) := by
  subst el2; subst el3; subst el4; subst es0
  unfold FX15_raise_b41 at hF
  unfold fX15_raise_b41
  exact SX15_raise_b43 (N := N) (k13 := k13) (K13 := K13) @hk13 R rfl rl2 rfl rl3 rfl rl4 rfl rs0 hF
def FX15_raise_b13 (N : Nat) : Nat → Int → fS → Option (Unit × fS)
  | 0, _, _ => none
  | n + 1, l2, s =>
    if (s.i 86 2) ≤ l2 then
      some ((), s)
    else
      (uRI s 62 0).bind fun x6 =>
      if x6 = (-1) then
        FX15_raise_b41 N (FX15_raise_b13 N n) l2 0 l2 0 s
      else
        FX15_raise_b41 N (FX15_raise_b13 N n) l2 0 l2 1 s
theorem SX15_raise_b13 {m b : Nat} {φ0 : Nat → Nat} {σo : fS} {N : Nat} {q : Unit × fS} : ∀ {n : Nat} {φ : Nat → Nat} {h : eH} {s : fS} {l2' : Int32} {l2 : Int}, fC m b φ0 σo φ h s → l2' = iI l2 → r32 l2 → FX15_raise_b13 N n l2 s = some q → gG m b φ0 σo lU q (fX15_raise_b13 N n 61 86 l2' h) := by
  intro n
  induction n with
 | zero => intro φ h s l2' l2 R el2 rl2 hF; simp [FX15_raise_b13] at hF
  | succ n ih =>
    intro φ h s l2' l2 R el2 rl2 hF
    subst el2
    rw [FX15_raise_b13] at hF
    rw [fX15_raise_b13]
    refine s_gI R (t_86 R.S) (Nat.le_of_ble_eq_true rfl) rfl ?_
    refine s_if (i_le rfl rfl (R.ri (t_86 R.S) (Nat.le_of_ble_eq_true rfl) rfl) rl2) hF (fun c2 hF => ?_) (fun c2 hF => ?_)
    ·
      exact g_ret R hF trivial
    ·
      refine s_gA R (t_61 R.S) (Nat.le_of_ble_eq_true rfl) rfl (o_61_0 R.S) (fun _ _ => ?_)
      refine s_rI R (u_62 R.S).1 (u_62 R.S).2 (by decide) rfl (c_lit 0 0 rfl) ⟨by decide, by decide⟩ hF (fun x6 ra4 hF => ?_)
      refine s_if (i_eq rfl (c_lit (-1) (-1) rfl) ra4 ⟨by decide, by decide⟩) hF (fun c5 hF => ?_) (fun c5 hF => ?_)
      ·
        exact SX15_raise_b41 (N := N) (k13 := fX15_raise_b13 N n) (K13 := FX15_raise_b13 N n) @ih R rfl rl2 (c_lit 0 0 rfl) ⟨by decide, by decide⟩ rfl rl2 (c_lit 0 0 rfl) ⟨by decide, by decide⟩ hF
      ·
        exact SX15_raise_b41 (N := N) (k13 := fX15_raise_b13 N n) (K13 := FX15_raise_b13 N n) @ih R rfl rl2 (c_lit 0 0 rfl) ⟨by decide, by decide⟩ rfl rl2 (c_lit 1 1 rfl) ⟨by decide, by decide⟩ hF
def FX15_raise_b11 (N : Nat) (s : fS) : Option (Unit × fS) :=
  FX15_raise_b13 N N 0 s
theorem SX15_raise_b11 {m b : Nat} {φ0 : Nat → Nat} {σo : fS} {N : Nat} {q : Unit × fS} {φ : Nat → Nat} {h : eH} {s : fS} (R : fC m b φ0 σo φ h s) (hF : FX15_raise_b11 N s = some q) : gG m b φ0 σo lU q (fX15_raise_b11 N 61 86 h) := by
  unfold FX15_raise_b11 at hF
  unfold fX15_raise_b11
  exact SX15_raise_b13 (N := N) R (c_lit 0 0 rfl) ⟨by decide, by decide⟩ hF
def FX15_raise (N : Nat) (s : fS) : Option (Unit × fS) :=
  if ¬ ((s.i 61 15) = 0) then
    FX15_raise_b11 N s
  else
    (FX15_pack N s).bind fun q5 =>
    FX15_raise_b11 N q5.2
theorem SX15_raise {m b : Nat} {φ0 : Nat → Nat} {σo : fS} (hb : 1 ≤ b) {N : Nat} {q : Unit × fS} {φ : Nat → Nat} {h : eH} {s : fS} (R : fC m b φ0 σo φ h s) (hF : FX15_raise N s = some q) : gG m b φ0 σo lU q (fX15_raise N 61 86 h) := by
  unfold FX15_raise at hF
  unfold fX15_raise
  refine s_gI R (t_61 R.S) (Nat.le_of_ble_eq_true rfl) rfl ?_
  refine s_if (not_congr (i_eq rfl (c_lit 0 0 rfl) (R.ri (t_61 R.S) (Nat.le_of_ble_eq_true rfl) rfl) ⟨by decide, by decide⟩)) hF (fun c2 hF => ?_) (fun c2 hF => ?_)
  ·
    exact SX15_raise_b11 (N := N) R hF
  ·
    refine s_kok R (t_61 R.S) (Nat.le_of_ble_eq_true rfl) ?_
    refine s_call R hb (fun _ hq => SX15_pack (b := 1) (N := N) (Nat.le_of_ble_eq_true rfl) (R.rf) hq) hF (fun f4 rv4 h4 q5 R4 e4 E4 hF => ?_)
    exact SX15_raise_b11 (N := N) R4 hF
def FX16_hasHyphen_b20 (s0 : Int) (s : fS) : Option (Int × fS) :=
  uZ s0 (s0, s)
theorem SX16_hasHyphen_b20 {m b : Nat} {φ0 : Nat → Nat} {σo : fS} {q : Int × fS} {φ : Nat → Nat} {h : eH} {s : fS} {s0' : Int32} {s0 : Int} (R : fC m b φ0 σo φ h s) (es0 : s0' = iI s0) (rs0 : r32 s0) (hF : FX16_hasHyphen_b20 s0 s = some q) : gG m b φ0 σo lI q (fX16_hasHyphen_b20 s0' h) := by
  subst es0
  unfold FX16_hasHyphen_b20 at hF
  unfold fX16_hasHyphen_b20
  exact g_z R rfl hF ⟨rfl, rs0⟩
def FX16_hasHyphen (p0 : Int) (p1 : Int) (s : fS) : Option (Int × fS) :=
  (uRJ s 79 p0).bind fun x3 =>
  if ¬ ((land (lshr x3 p1) 1) = 1) then
    FX16_hasHyphen_b20 0 s
  else
    FX16_hasHyphen_b20 1 s
theorem SX16_hasHyphen {m b : Nat} {φ0 : Nat → Nat} {σo : fS} {q : Int × fS} {φ : Nat → Nat} {h : eH} {s : fS} {p0' : Int32} {p0 : Int} {p1' : Int32} {p1 : Int} (R : fC m b φ0 σo φ h s) (ep0 : p0' = iI p0) (rp0 : r32 p0) (ep1 : p1' = iI p1) (rp1 : r32 p1) (hF : FX16_hasHyphen p0 p1 s = some q) : gG m b φ0 σo lI q (fX16_hasHyphen 75 p0' p1' h) := by
  subst ep0; subst ep1
  unfold FX16_hasHyphen at hF
  unfold fX16_hasHyphen
  refine s_gAs R (t_75 R.S) (Nat.le_of_ble_eq_true rfl) rfl (o_75_3 R.S) (a_79 R) ?_
  refine s_rJ R (u_79 R.S).1 (u_79 R.S).2 (a_79 R) rfl rp0 hF (fun x3 ra2 hF => ?_)
  refine s_if (not_congr (lg_eq.trans (j_eq (d_and (d_shr rfl (c_2l rfl rp1)) (d_lit 1 1 rfl)) (d_lit 1 1 rfl) (rr_J _) ⟨by decide, by decide⟩))) hF (fun c3 hF => ?_) (fun c3 hF => ?_)
  ·
    exact SX16_hasHyphen_b20 R (c_lit 0 0 rfl) ⟨by decide, by decide⟩ hF
  ·
    exact SX16_hasHyphen_b20 R (c_lit 1 1 rfl) ⟨by decide, by decide⟩ hF
def FX14_look_b136 (N : Nat) (K101 : Int → Int → Int → fS → Option (Unit × fS)) (l2 : Int) (l3 : Int) (l4 : Int) (s1 : Int) (s2 : Int) (s : fS) : Option (Unit × fS) :=
  (uQI s 88 s1 (i2b (i2b s2))).bind fun σ1 =>
  K101 l2 l3 (iadd l4 1) σ1
theorem SX14_look_b136 {m b : Nat} {φ0 : Nat → Nat} {σo : fS} {N : Nat} {k101 : Nat → Int32 → Int32 → Int32 → eH → Option (Unit × eH)} {K101 : Int → Int → Int → fS → Option (Unit × fS)} {q : Unit × fS} (hk101 : ∀ {φ : Nat → Nat} {h : eH} {s : fS} {l2' : Int32} {l2 : Int} {l3' : Int32} {l3 : Int} {l4' : Int32} {l4 : Int}, fC m b φ0 σo φ h s → l2' = iI l2 → r32 l2 → l3' = iI l3 → r32 l3 → l4' = iI l4 → r32 l4 → K101 l2 l3 l4 s = some q → gG m b φ0 σo lU q (k101 60 l2' l3' l4' h)) {φ : Nat → Nat} {h : eH} {s : fS} {l2' : Int32} {l2 : Int} {l3' : Int32} {l3 : Int} {l4' : Int32} {l4 : Int} {s1' : Int32} {s1 : Int} {s2' : Int32} {s2 : Int} (R : fC m b φ0 σo φ h s) (el2 : l2' = iI l2) (rl2 : r32 l2) (el3 : l3' = iI l3) (rl3 : r32 l3) (el4 : l4' = iI l4) (rl4 : r32 l4) (es1 : s1' = iI s1) (rs1 : r32 s1) (es2 : s2' = iI s2) (rs2 : r32 s2) (hF : FX14_look_b136 N K101 l2 l3 l4 s1 s2 s = some q) : gG m b φ0 σo lU q (fX14_look_b136 N k101 60 l2' l3' l4' 88 s1' s2' h) := by
  subst el2; subst el3; subst el4; subst es1; subst es2
  unfold FX14_look_b136 at hF
  unfold fX14_look_b136
  refine s_qI R (u_88 R.S).1 (u_88 R.S).2 (by decide) (a_88 R) rfl rs1 (c_2b (c_2b rfl)) (rr_I _) hF (fun h1 σ1 R1 T1 hF => ?_)
  exact hk101 R1 rfl rl2 rfl rl3 (c_add rfl (c_lit 1 1 rfl)) (rr_I _) hF
def FX14_look_b101 (N : Nat) : Nat → Int → Int → Int → fS → Option (Unit × fS)
  | 0, _, _, _, _ => none
  | n + 1, l2, l3, l4, s =>
    if l2 ≤ l4 then
      some ((), s)
    else
      (FX16_hasHyphen l3 l4 s).bind fun q9 =>
      if q9.1 = 0 then
        FX14_look_b136 N (FX14_look_b101 N n) l2 l3 l4 (iadd l4 1) 0 q9.2
      else
        FX14_look_b136 N (FX14_look_b101 N n) l2 l3 l4 (iadd l4 1) 1 q9.2
theorem SX14_look_b101 {m b : Nat} {φ0 : Nat → Nat} {σo : fS} {N : Nat} {q : Unit × fS} : ∀ {n : Nat} {φ : Nat → Nat} {h : eH} {s : fS} {l2' : Int32} {l2 : Int} {l3' : Int32} {l3 : Int} {l4' : Int32} {l4 : Int}, fC m b φ0 σo φ h s → l2' = iI l2 → r32 l2 → l3' = iI l3 → r32 l3 → l4' = iI l4 → r32 l4 → FX14_look_b101 N n l2 l3 l4 s = some q → gG m b φ0 σo lU q (fX14_look_b101 N n 60 l2' l3' l4' h) := by
  intro n
  induction n with
 | zero => intro φ h s l2' l2 l3' l3 l4' l4 R el2 rl2 el3 rl3 el4 rl4 hF; simp [FX14_look_b101] at hF
  | succ n ih =>
    intro φ h s l2' l2 l3' l3 l4' l4 R el2 rl2 el3 rl3 el4 rl4 hF
    subst el2; subst el3; subst el4
    rw [FX14_look_b101] at hF
    rw [fX14_look_b101]
    refine s_if (i_le rfl rfl rl2 rl4) hF (fun c1 hF => ?_) (fun c1 hF => ?_)
    ·
      exact g_ret R hF trivial
    ·
      refine s_gO R (t_60 R.S) (Nat.le_of_ble_eq_true rfl) rfl (o_60_3 R.S) ?_
      refine s_gAs R (t_86 R.S) (Nat.le_of_ble_eq_true rfl) rfl (o_86_1 R.S) (a_88 R) ?_
      refine s_gO R (t_60 R.S) (Nat.le_of_ble_eq_true rfl) rfl (o_60_1 R.S) ?_
      refine s_kok R (t_75 R.S) (Nat.le_of_ble_eq_true rfl) ?_
      refine s_call R (Nat.zero_le _) (fun _ hq => SX16_hasHyphen (b := 0) (R.rf) rfl rl3 rfl rl4 hq) hF (fun f6 rv6 h6 q9 R6 e6 E6 hF => ?_)
      refine s_if (i_eq e6.1 (c_lit 0 0 rfl) e6.2 ⟨by decide, by decide⟩) hF (fun c7 hF => ?_) (fun c7 hF => ?_)
      ·
        exact SX14_look_b136 (N := N) (k101 := fX14_look_b101 N n) (K101 := FX14_look_b101 N n) @ih R6 rfl rl2 rfl rl3 rfl rl4 (c_add rfl (c_lit 1 1 rfl)) (rr_I _) (c_lit 0 0 rfl) ⟨by decide, by decide⟩ hF
      ·
        exact SX14_look_b136 (N := N) (k101 := fX14_look_b101 N n) (K101 := FX14_look_b101 N n) @ih R6 rfl rl2 rfl rl3 rfl rl4 (c_add rfl (c_lit 1 1 rfl)) (rr_I _) (c_lit 1 1 rfl) ⟨by decide, by decide⟩ hF
def FX14_look_b24 (N : Nat) : Nat → Int → Int → fS → Option (Unit × fS)
  | 0, _, _, _ => none
  | n + 1, l2, l3, s =>
    if l2 ≤ l3 then
      (FX17_add 86 0 s).bind fun q5 =>
      (FX16_find N q5.2).bind fun q11 =>
      if ¬ (q11.1 = (-1)) then
        FX14_look_b101 N N l2 q11.1 1 q11.2
      else
        (FX15_raise N q11.2).bind fun q18 =>
        some ((), q18.2)
    else
      (uRI s 184 l3).bind fun x21 =>
      (FX14_letter x21 s).bind fun q23 =>
      (FX17_add 83 q23.1 q23.2).bind fun q25 =>
      (uRI q25.2 184 l3).bind fun x28 =>
      (FX14_letter x28 q25.2).bind fun q30 =>
      (FX17_add 86 q30.1 q30.2).bind fun q32 =>
      FX14_look_b24 N n l2 (iadd l3 1) q32.2
theorem SX14_look_b24 {m b : Nat} {φ0 : Nat → Nat} {σo : fS} (hb : 1 ≤ b) {N : Nat} {q : Unit × fS} : ∀ {n : Nat} {φ : Nat → Nat} {h : eH} {s : fS} {l2' : Int32} {l2 : Int} {l3' : Int32} {l3 : Int}, fC m b φ0 σo φ h s → l2' = iI l2 → r32 l2 → l3' = iI l3 → r32 l3 → FX14_look_b24 N n l2 l3 s = some q → gG m b φ0 σo lU q (fX14_look_b24 N n 60 184 l2' l3' h) := by
  intro n
  induction n with
 | zero => intro φ h s l2' l2 l3' l3 R el2 rl2 el3 rl3 hF; simp [FX14_look_b24] at hF
  | succ n ih =>
    intro φ h s l2' l2 l3' l3 R el2 rl2 el3 rl3 hF
    subst el2; subst el3
    rw [FX14_look_b24] at hF
    rw [fX14_look_b24]
    refine s_if (i_le rfl rfl rl2 rl3) hF (fun c1 hF => ?_) (fun c1 hF => ?_)
    ·
      refine s_gO R (t_60 R.S) (Nat.le_of_ble_eq_true rfl) rfl (o_60_3 R.S) ?_
      refine s_kok R (t_86 R.S) (Nat.le_of_ble_eq_true rfl) ?_
      refine s_call R (Nat.zero_le _) (fun _ hq => SX17_add (b := 0) (R.rf) (c_lit 0 0 rfl) ⟨by decide, by decide⟩ hq) hF (fun f4 rv4 h4 q5 R4 e4 E4 hF => ?_)
      refine s_gO R4 (t_60 R4.S) (Nat.le_of_ble_eq_true rfl) rfl (o_60_1 R4.S) ?_
      refine s_gO R4 (t_60 R4.S) (Nat.le_of_ble_eq_true rfl) rfl (o_60_2 R4.S) ?_
      refine s_kok R4 (t_75 R4.S) (Nat.le_of_ble_eq_true rfl) ?_
      refine s_call R4 (Nat.zero_le _) (fun _ hq => SX16_find (b := 0) (N := N) (R4.rf) hq) hF (fun f8 rv8 h8 q11 R8 e8 E8 hF => ?_)
      refine s_if (not_congr (i_eq e8.1 (c_lit (-1) (-1) rfl) e8.2 ⟨by decide, by decide⟩)) hF (fun c9 hF => ?_) (fun c9 hF => ?_)
      ·
        exact SX14_look_b101 (N := N) R8 rfl rl2 e8.1 e8.2 (c_lit 1 1 rfl) ⟨by decide, by decide⟩ hF
      ·
        refine s_gO R8 (t_60 R8.S) (Nat.le_of_ble_eq_true rfl) rfl (o_60_0 R8.S) ?_
        refine s_gO R8 (t_60 R8.S) (Nat.le_of_ble_eq_true rfl) rfl (o_60_3 R8.S) ?_
        refine s_kok R8 (t_61 R8.S) (Nat.le_of_ble_eq_true rfl) ?_
        refine s_call R8 hb (fun _ hq => SX15_raise (b := 1) (N := N) (Nat.le_of_ble_eq_true rfl) (R8.rf) hq) hF (fun f13 rv13 h13 q18 R13 e13 E13 hF => ?_)
        exact g_ret R13 hF trivial
    ·
      refine s_gO R (t_60 R.S) (Nat.le_of_ble_eq_true rfl) rfl (o_60_2 R.S) ?_
      refine s_rI R (u_184 R.S).1 (u_184 R.S).2 (by decide) (a_184 R) rfl rl3 hF (fun x21 ra15 hF => ?_)
      refine s_call R (Nat.zero_le _) (fun _ hq => SX14_letter (b := 0) (R.rf) rfl ra15 hq) hF (fun f16 rv16 h16 q23 R16 e16 E16 hF => ?_)
      refine s_kok R16 (t_83 R16.S) (Nat.le_of_ble_eq_true rfl) ?_
      refine s_call R16 (Nat.zero_le _) (fun _ hq => SX17_add (b := 0) (R16.rf) e16.1 e16.2 hq) hF (fun f18 rv18 h18 q25 R18 e18 E18 hF => ?_)
      refine s_gO R18 (t_60 R18.S) (Nat.le_of_ble_eq_true rfl) rfl (o_60_3 R18.S) ?_
      refine s_rI R18 (u_184 R18.S).1 (u_184 R18.S).2 (by decide) (a_184 R18) rfl rl3 hF (fun x28 ra20 hF => ?_)
      refine s_call R18 (Nat.zero_le _) (fun _ hq => SX14_letter (b := 0) (R18.rf) rfl ra20 hq) hF (fun f21 rv21 h21 q30 R21 e21 E21 hF => ?_)
      refine s_kok R21 (t_86 R21.S) (Nat.le_of_ble_eq_true rfl) ?_
      refine s_call R21 (Nat.zero_le _) (fun _ hq => SX17_add (b := 0) (R21.rf) e21.1 e21.2 hq) hF (fun f23 rv23 h23 q32 R23 e23 E23 hF => ?_)
      exact ih R23 rfl rl2 (c_add rfl (c_lit 1 1 rfl)) (rr_I _) hF
def FX14_look (N : Nat) (p1 : Int) (s : fS) : Option (Unit × fS) :=
  (FX17_clear 83 s).bind fun q4 =>
  (FX17_clear 86 q4.2).bind fun q8 =>
  (FX17_add 86 0 q8.2).bind fun q12 =>
  FX14_look_b24 N N p1 0 q12.2
theorem SX14_look {m b : Nat} {φ0 : Nat → Nat} {σo : fS} (hb : 1 ≤ b) {N : Nat} {q : Unit × fS} {φ : Nat → Nat} {h : eH} {s : fS} {p1' : Int32} {p1 : Int} (R : fC m b φ0 σo φ h s) (ep1 : p1' = iI p1) (rp1 : r32 p1) (hF : FX14_look N p1 s = some q) : gG m b φ0 σo lU q (fX14_look N 60 184 p1' h) := by
  subst ep1
  unfold FX14_look at hF
  unfold fX14_look
  refine s_gO R (t_60 R.S) (Nat.le_of_ble_eq_true rfl) rfl (o_60_2 R.S) ?_
  refine s_kok R (t_83 R.S) (Nat.le_of_ble_eq_true rfl) ?_
  refine s_call R (Nat.zero_le _) (fun _ hq => SX17_clear (b := 0) (R.rf) hq) hF (fun f3 rv3 h3 q4 R3 e3 E3 hF => ?_)
  refine s_gO R3 (t_60 R3.S) (Nat.le_of_ble_eq_true rfl) rfl (o_60_3 R3.S) ?_
  refine s_kok R3 (t_86 R3.S) (Nat.le_of_ble_eq_true rfl) ?_
  refine s_call R3 (Nat.zero_le _) (fun _ hq => SX17_clear (b := 0) (R3.rf) hq) hF (fun f6 rv6 h6 q8 R6 e6 E6 hF => ?_)
  refine s_gO R6 (t_60 R6.S) (Nat.le_of_ble_eq_true rfl) rfl (o_60_3 R6.S) ?_
  refine s_kok R6 (t_86 R6.S) (Nat.le_of_ble_eq_true rfl) ?_
  refine s_call R6 (Nat.zero_le _) (fun _ hq => SX17_add (b := 0) (R6.rf) (c_lit 0 0 rfl) ⟨by decide, by decide⟩ hq) hF (fun f9 rv9 h9 q12 R9 e9 E9 hF => ?_)
  exact SX14_look_b24 (N := N) hb R9 rfl rp1 (c_lit 0 0 rfl) ⟨by decide, by decide⟩ hF
def FX14_isBroken_b40 (s0 : Int) (s : fS) : Option (Int × fS) :=
  uZ s0 (s0, s)
theorem SX14_isBroken_b40 {m b : Nat} {φ0 : Nat → Nat} {σo : fS} {q : Int × fS} {φ : Nat → Nat} {h : eH} {s : fS} {s0' : Int32} {s0 : Int} (R : fC m b φ0 σo φ h s) (es0 : s0' = iI s0) (rs0 : r32 s0) (hF : FX14_isBroken_b40 s0 s = some q) : gG m b φ0 σo lI q (fX14_isBroken_b40 s0' h) := by
  subst es0
  unfold FX14_isBroken_b40 at hF
  unfold fX14_isBroken_b40
  exact g_z R rfl hF ⟨rfl, rs0⟩
def FX14_isBroken_b39 (s : fS) : Option (Int × fS) :=
  FX14_isBroken_b40 0 s
theorem SX14_isBroken_b39 {m b : Nat} {φ0 : Nat → Nat} {σo : fS} {q : Int × fS} {φ : Nat → Nat} {h : eH} {s : fS} (R : fC m b φ0 σo φ h s) (hF : FX14_isBroken_b39 s = some q) : gG m b φ0 σo lI q (fX14_isBroken_b39 h) := by
  unfold FX14_isBroken_b39 at hF
  unfold fX14_isBroken_b39
  exact SX14_isBroken_b40 R (c_lit 0 0 rfl) ⟨by decide, by decide⟩ hF
def FX14_isBroken (p0 : Int) (s : fS) : Option (Int × fS) :=
  (uRI s 88 (iadd p0 1)).bind fun x5 =>
  if ¬ ((irem x5 2) = 1) then
    FX14_isBroken_b39 s
  else
    if p0 < 2 then
      FX14_isBroken_b39 s
    else
      if (isub (s.i 83 2) p0) < 3 then
        FX14_isBroken_b39 s
      else
        FX14_isBroken_b40 1 s
theorem SX14_isBroken {m b : Nat} {φ0 : Nat → Nat} {σo : fS} {q : Int × fS} {φ : Nat → Nat} {h : eH} {s : fS} {p0' : Int32} {p0 : Int} (R : fC m b φ0 σo φ h s) (ep0 : p0' = iI p0) (rp0 : r32 p0) (hF : FX14_isBroken p0 s = some q) : gG m b φ0 σo lI q (fX14_isBroken 60 p0' h) := by
  subst ep0
  unfold FX14_isBroken at hF
  unfold fX14_isBroken
  refine s_gO R (t_60 R.S) (Nat.le_of_ble_eq_true rfl) rfl (o_60_3 R.S) ?_
  refine s_gAs R (t_86 R.S) (Nat.le_of_ble_eq_true rfl) rfl (o_86_1 R.S) (a_88 R) ?_
  refine s_rI R (u_88 R.S).1 (u_88 R.S).2 (by decide) (a_88 R) (c_add rfl (c_lit 1 1 rfl)) (rr_I _) hF (fun x5 ra3 hF => ?_)
  refine s_if (not_congr (i_eq (c_rem rfl (c_lit 2 2 rfl)) (c_lit 1 1 rfl) (rr_I _) ⟨by decide, by decide⟩)) hF (fun c4 hF => ?_) (fun c4 hF => ?_)
  ·
    exact SX14_isBroken_b39 R hF
  ·
    refine s_if (i_lt rfl (c_lit 2 2 rfl) rp0 ⟨by decide, by decide⟩) hF (fun c5 hF => ?_) (fun c5 hF => ?_)
    ·
      exact SX14_isBroken_b39 R hF
    ·
      refine s_gO R (t_60 R.S) (Nat.le_of_ble_eq_true rfl) rfl (o_60_2 R.S) ?_
      refine s_gI R (t_83 R.S) (Nat.le_of_ble_eq_true rfl) rfl ?_
      refine s_if (i_lt (c_sub rfl rfl) (c_lit 3 3 rfl) (rr_I _) ⟨by decide, by decide⟩) hF (fun c8 hF => ?_) (fun c8 hF => ?_)
      ·
        exact SX14_isBroken_b39 R hF
      ·
        exact SX14_isBroken_b40 R (c_lit 1 1 rfl) ⟨by decide, by decide⟩ hF
def FX34_kind (this : Nat) (p0 : Int) (s : fS) : Option (Int × fS) :=
  (uK 33 s this).bind fun _ =>
  (s.o this 0).bind fun a1 =>
  (uKA 100 s a1).bind fun _ =>
  (uRI s a1 (imul 6 p0)).bind fun x3 =>
  some (x3, s)
theorem SX34_kind {m b : Nat} {φ0 : Nat → Nat} {σo : fS} {q : Int × fS} {φ : Nat → Nat} {h : eH} {s : fS} {this : Nat} {p0' : Int32} {p0 : Int} (R : fC m b φ0 σo φ h s) (ep0 : p0' = iI p0) (rp0 : r32 p0) (hF : FX34_kind this p0 s = some q) : gG m b φ0 σo lI q (fX34_kind this p0' h) := by
  subst ep0
  unfold FX34_kind at hF
  unfold fX34_kind
  refine s_K hF (fun t2 hF => ?_)
  refine s_oo hF (fun a1 e1 hF => ?_)
  refine s_gA R t2 (Nat.le_of_ble_eq_true rfl) rfl e1 (fun x1_ y1_ => ?_)
  refine s_KA hF (fun y4 z4 hF => ?_)
  refine s_rI R y4 z4 (by decide) rfl (c_mul (c_lit 6 6 rfl) rfl) (rr_I _) hF (fun x3 ra3 hF => ?_)
  exact g_ret R hF ⟨rfl, ra3⟩
def FX34_of (this : Nat) (p0 : Int) (p1 : Int) (s : fS) : Option (Int × fS) :=
  (uK 33 s this).bind fun _ =>
  (s.o this 0).bind fun a1 =>
  (uKA 100 s a1).bind fun _ =>
  (uRI s a1 (iadd (iadd (imul 6 p0) 1) p1)).bind fun x3 =>
  some (x3, s)
theorem SX34_of {m b : Nat} {φ0 : Nat → Nat} {σo : fS} {q : Int × fS} {φ : Nat → Nat} {h : eH} {s : fS} {this : Nat} {p0' : Int32} {p0 : Int} {p1' : Int32} {p1 : Int} (R : fC m b φ0 σo φ h s) (ep0 : p0' = iI p0) (rp0 : r32 p0) (ep1 : p1' = iI p1) (rp1 : r32 p1) (hF : FX34_of this p0 p1 s = some q) : gG m b φ0 σo lI q (fX34_of this p0' p1' h) := by
  subst ep0; subst ep1
  unfold FX34_of at hF
  unfold fX34_of
  refine s_K hF (fun t2 hF => ?_)
  refine s_oo hF (fun a1 e1 hF => ?_)
  refine s_gA R t2 (Nat.le_of_ble_eq_true rfl) rfl e1 (fun x1_ y1_ => ?_)
  refine s_KA hF (fun y4 z4 hF => ?_)
  refine s_rI R y4 z4 (by decide) rfl (c_add (c_add (c_mul (c_lit 6 6 rfl) rfl) (c_lit 1 1 rfl)) rfl) (rr_I _) hF (fun x3 ra3 hF => ?_)
  exact g_ret R hF ⟨rfl, ra3⟩
def FX3_areSame_b33 (s0 : Int) (s : fS) : Option (Int × fS) :=
  uZ s0 (s0, s)
theorem SX3_areSame_b33 {m b : Nat} {φ0 : Nat → Nat} {σo : fS} {q : Int × fS} {φ : Nat → Nat} {h : eH} {s : fS} {s0' : Int32} {s0 : Int} (R : fC m b φ0 σo φ h s) (es0 : s0' = iI s0) (rs0 : r32 s0) (hF : FX3_areSame_b33 s0 s = some q) : gG m b φ0 σo lI q (fX3_areSame_b33 s0' h) := by
  subst es0
  unfold FX3_areSame_b33 at hF
  unfold fX3_areSame_b33
  exact g_z R rfl hF ⟨rfl, rs0⟩
def FX3_areSame_b32 (s : fS) : Option (Int × fS) :=
  FX3_areSame_b33 0 s
theorem SX3_areSame_b32 {m b : Nat} {φ0 : Nat → Nat} {σo : fS} {q : Int × fS} {φ : Nat → Nat} {h : eH} {s : fS} (R : fC m b φ0 σo φ h s) (hF : FX3_areSame_b32 s = some q) : gG m b φ0 σo lI q (fX3_areSame_b32 h) := by
  unfold FX3_areSame_b32 at hF
  unfold fX3_areSame_b32
  exact SX3_areSame_b33 R (c_lit 0 0 rfl) ⟨by decide, by decide⟩ hF
def FX3_areSame (p1 : Int) (p3 : Int) (s : fS) : Option (Int × fS) :=
  (FX34_kind 186 p1 s).bind fun q2 =>
  (FX34_kind 188 p3 q2.2).bind fun q4 =>
  if ¬ (q2.1 = q4.1) then
    FX3_areSame_b32 q4.2
  else
    (FX34_of 186 p1 0 q4.2).bind fun q7 =>
    (FX34_of 188 p3 0 q7.2).bind fun q9 =>
    if ¬ (q7.1 = q9.1) then
      FX3_areSame_b32 q9.2
    else
      FX3_areSame_b33 1 q9.2
theorem SX3_areSame {m b : Nat} {φ0 : Nat → Nat} {σo : fS} {q : Int × fS} {φ : Nat → Nat} {h : eH} {s : fS} {p1' : Int32} {p1 : Int} {p3' : Int32} {p3 : Int} (R : fC m b φ0 σo φ h s) (ep1 : p1' = iI p1) (rp1 : r32 p1) (ep3 : p3' = iI p3) (rp3 : r32 p3) (hF : FX3_areSame p1 p3 s = some q) : gG m b φ0 σo lI q (fX3_areSame 186 p1' 188 p3' h) := by
  subst ep1; subst ep3
  unfold FX3_areSame at hF
  unfold fX3_areSame
  refine s_kok R (t_186 R.S) (Nat.le_of_ble_eq_true rfl) ?_
  refine s_call R (Nat.zero_le _) (fun _ hq => SX34_kind (b := 0) (R.rf) rfl rp1 hq) hF (fun f2 rv2 h2 q2 R2 e2 E2 hF => ?_)
  refine s_kok R2 (t_188 R2.S) (Nat.le_of_ble_eq_true rfl) ?_
  refine s_call R2 (Nat.zero_le _) (fun _ hq => SX34_kind (b := 0) (R2.rf) rfl rp3 hq) hF (fun f4 rv4 h4 q4 R4 e4 E4 hF => ?_)
  refine s_if (not_congr (i_eq e2.1 e4.1 e2.2 e4.2)) hF (fun c5 hF => ?_) (fun c5 hF => ?_)
  ·
    exact SX3_areSame_b32 R4 hF
  ·
    refine s_kok R4 (t_186 R4.S) (Nat.le_of_ble_eq_true rfl) ?_
    refine s_call R4 (Nat.zero_le _) (fun _ hq => SX34_of (b := 0) (R4.rf) rfl rp1 (c_lit 0 0 rfl) ⟨by decide, by decide⟩ hq) hF (fun f7 rv7 h7 q7 R7 e7 E7 hF => ?_)
    refine s_kok R7 (t_188 R7.S) (Nat.le_of_ble_eq_true rfl) ?_
    refine s_call R7 (Nat.zero_le _) (fun _ hq => SX34_of (b := 0) (R7.rf) rfl rp3 (c_lit 0 0 rfl) ⟨by decide, by decide⟩ hq) hF (fun f9 rv9 h9 q9 R9 e9 E9 hF => ?_)
    refine s_if (not_congr (i_eq e7.1 e9.1 e7.2 e9.2)) hF (fun c10 hF => ?_) (fun c10 hF => ?_)
    ·
      exact SX3_areSame_b32 R9 hF
    ·
      exact SX3_areSame_b33 R9 (c_lit 1 1 rfl) ⟨by decide, by decide⟩ hF
def FX3_ends_b60 (N : Nat) (l4 : Int) (s : fS) : Option (Int × fS) :=
  uZ l4 (l4, s)
theorem SX3_ends_b60 {m b : Nat} {φ0 : Nat → Nat} {σo : fS} {N : Nat} {q : Int × fS} {φ : Nat → Nat} {h : eH} {s : fS} {l4' : Int32} {l4 : Int} (R : fC m b φ0 σo φ h s) (el4 : l4' = iI l4) (rl4 : r32 l4) (hF : FX3_ends_b60 N l4 s = some q) : gG m b φ0 σo lI q (fX3_ends_b60 N l4' h) := by
  subst el4
  unfold FX3_ends_b60 at hF
  unfold fX3_ends_b60
  exact g_z R rfl hF ⟨rfl, rl4⟩
def FX3_ends_b25 (N : Nat) : Nat → Int → Int → Int → Int → fS → Option (Int × fS)
  | 0, _, _, _, _, _ => none
  | n + 1, l1, l3, l4, l5, s =>
    if l4 = 0 then
      FX3_ends_b60 N l4 s
    else
      if (s.i 186 1) ≤ l5 then
        FX3_ends_b60 N l4 s
      else
        (FX3_areSame l5 (isub (iadd l3 l5) l1) s).bind fun q5 =>
        FX3_ends_b25 N n l1 l3 q5.1 (iadd l5 1) q5.2
theorem SX3_ends_b25 {m b : Nat} {φ0 : Nat → Nat} {σo : fS} {N : Nat} {q : Int × fS} : ∀ {n : Nat} {φ : Nat → Nat} {h : eH} {s : fS} {l1' : Int32} {l1 : Int} {l3' : Int32} {l3 : Int} {l4' : Int32} {l4 : Int} {l5' : Int32} {l5 : Int}, fC m b φ0 σo φ h s → l1' = iI l1 → r32 l1 → l3' = iI l3 → r32 l3 → l4' = iI l4 → r32 l4 → l5' = iI l5 → r32 l5 → FX3_ends_b25 N n l1 l3 l4 l5 s = some q → gG m b φ0 σo lI q (fX3_ends_b25 N n 186 l1' 188 l3' l4' l5' h) := by
  intro n
  induction n with
 | zero => intro φ h s l1' l1 l3' l3 l4' l4 l5' l5 R el1 rl1 el3 rl3 el4 rl4 el5 rl5 hF; simp [FX3_ends_b25] at hF
  | succ n ih =>
    intro φ h s l1' l1 l3' l3 l4' l4 l5' l5 R el1 rl1 el3 rl3 el4 rl4 el5 rl5 hF
    subst el1; subst el3; subst el4; subst el5
    rw [FX3_ends_b25] at hF
    rw [fX3_ends_b25]
    refine s_if (i_eq rfl (c_lit 0 0 rfl) rl4 ⟨by decide, by decide⟩) hF (fun c1 hF => ?_) (fun c1 hF => ?_)
    ·
      exact SX3_ends_b60 (N := N) R rfl rl4 hF
    ·
      refine s_gI R (t_186 R.S) (Nat.le_of_ble_eq_true rfl) rfl ?_
      refine s_if (i_le rfl rfl (R.ri (t_186 R.S) (Nat.le_of_ble_eq_true rfl) rfl) rl5) hF (fun c3 hF => ?_) (fun c3 hF => ?_)
      ·
        exact SX3_ends_b60 (N := N) R rfl rl4 hF
      ·
        refine s_call R (Nat.zero_le _) (fun _ hq => SX3_areSame (b := 0) (R.rf) rfl rl5 (c_sub (c_add rfl rfl) rfl) (rr_I _) hq) hF (fun f4 rv4 h4 q5 R4 e4 E4 hF => ?_)
        exact ih R4 rfl rl1 rfl rl3 e4.1 e4.2 (c_add rfl (c_lit 1 1 rfl)) (rr_I _) hF
def FX3_ends_b20 (N : Nat) (l1 : Int) (l3 : Int) (s0 : Int) (s : fS) : Option (Int × fS) :=
  FX3_ends_b25 N N l1 l3 s0 l1 s
theorem SX3_ends_b20 {m b : Nat} {φ0 : Nat → Nat} {σo : fS} {N : Nat} {q : Int × fS} {φ : Nat → Nat} {h : eH} {s : fS} {l1' : Int32} {l1 : Int} {l3' : Int32} {l3 : Int} {s0' : Int32} {s0 : Int} (R : fC m b φ0 σo φ h s) (el1 : l1' = iI l1) (rl1 : r32 l1) (el3 : l3' = iI l3) (rl3 : r32 l3) (es0 : s0' = iI s0) (rs0 : r32 s0) (hF : FX3_ends_b20 N l1 l3 s0 s = some q) : gG m b φ0 σo lI q (fX3_ends_b20 N 186 l1' 188 l3' s0' h) := by
  subst el1; subst el3; subst es0
  unfold FX3_ends_b20 at hF
  unfold fX3_ends_b20
  exact SX3_ends_b25 (N := N) R rfl rl1 rfl rl3 rfl rs0 rfl rl1 hF
def FX3_ends (N : Nat) (p1 : Int) (p3 : Int) (s : fS) : Option (Int × fS) :=
  if ¬ ((isub (s.i 186 1) p1) = (isub (s.i 188 1) p3)) then
    FX3_ends_b20 N p1 p3 0 s
  else
    FX3_ends_b20 N p1 p3 1 s
theorem SX3_ends {m b : Nat} {φ0 : Nat → Nat} {σo : fS} {N : Nat} {q : Int × fS} {φ : Nat → Nat} {h : eH} {s : fS} {p1' : Int32} {p1 : Int} {p3' : Int32} {p3 : Int} (R : fC m b φ0 σo φ h s) (ep1 : p1' = iI p1) (rp1 : r32 p1) (ep3 : p3' = iI p3) (rp3 : r32 p3) (hF : FX3_ends N p1 p3 s = some q) : gG m b φ0 σo lI q (fX3_ends N 186 p1' 188 p3' h) := by
  subst ep1; subst ep3
  unfold FX3_ends at hF
  unfold fX3_ends
  refine s_gI R (t_186 R.S) (Nat.le_of_ble_eq_true rfl) rfl ?_
  refine s_gI R (t_188 R.S) (Nat.le_of_ble_eq_true rfl) rfl ?_
  refine s_if (not_congr (i_eq (c_sub rfl rfl) (c_sub rfl rfl) (rr_I _) (rr_I _))) hF (fun c3 hF => ?_) (fun c3 hF => ?_)
  ·
    exact SX3_ends_b20 (N := N) R rfl rp1 rfl rp3 (c_lit 0 0 rfl) ⟨by decide, by decide⟩ hF
  ·
    exact SX3_ends_b20 (N := N) R rfl rp1 rfl rp3 (c_lit 1 1 rfl) ⟨by decide, by decide⟩ hF
def FX3_noteHyphen_b215 (N : Nat) (s : fS) : Option (Unit × fS) :=
  some ((), s)
theorem SX3_noteHyphen_b215 {m b : Nat} {φ0 : Nat → Nat} {σo : fS} {N : Nat} {q : Unit × fS} {φ : Nat → Nat} {h : eH} {s : fS} (R : fC m b φ0 σo φ h s) (hF : FX3_noteHyphen_b215 N s = some q) : gG m b φ0 σo lU q (fX3_noteHyphen_b215 N h) := by
  unfold FX3_noteHyphen_b215 at hF
  unfold fX3_noteHyphen_b215
  exact g_ret R hF trivial
def FX3_noteHyphen_b241 (N : Nat) (s : fS) : Option (Unit × fS) :=
  some ((), s)
theorem SX3_noteHyphen_b241 {m b : Nat} {φ0 : Nat → Nat} {σo : fS} {N : Nat} {q : Unit × fS} {φ : Nat → Nat} {h : eH} {s : fS} (R : fC m b φ0 σo φ h s) (hF : FX3_noteHyphen_b241 N s = some q) : gG m b φ0 σo lU q (fX3_noteHyphen_b241 N h) := by
  unfold FX3_noteHyphen_b241 at hF
  unfold fX3_noteHyphen_b241
  exact g_ret R hF trivial
def FX3_noteHyphen_b240 (N : Nat) (s1 : Int) (s2 : Int) (s : fS) : Option (Unit × fS) :=
  (uQI s 190 s1 s2).bind fun σ1 =>
  FX3_noteHyphen_b241 N σ1
theorem SX3_noteHyphen_b240 {m b : Nat} {φ0 : Nat → Nat} {σo : fS} {N : Nat} {q : Unit × fS} {φ : Nat → Nat} {h : eH} {s : fS} {s1' : Int32} {s1 : Int} {s2' : Int32} {s2 : Int} (R : fC m b φ0 σo φ h s) (es1 : s1' = iI s1) (rs1 : r32 s1) (es2 : s2' = iI s2) (rs2 : r32 s2) (hF : FX3_noteHyphen_b240 N s1 s2 s = some q) : gG m b φ0 σo lU q (fX3_noteHyphen_b240 N 190 s1' s2' h) := by
  subst es1; subst es2
  unfold FX3_noteHyphen_b240 at hF
  unfold fX3_noteHyphen_b240
  refine s_qI R (u_190 R.S).1 (u_190 R.S).2 (by decide) (a_190 R) rfl rs1 rfl rs2 hF (fun h1 σ1 R1 T1 hF => ?_)
  exact SX3_noteHyphen_b241 (N := N) R1 hF
def FX3_noteHyphen_b216 (N : Nat) (l2 : Int) (l5 : Int) (s : fS) : Option (Unit × fS) :=
  (uRI s 190 l2).bind fun x3 =>
  if ¬ (x3 = 0) then
    FX3_noteHyphen_b241 N s
  else
    if l5 = 0 then
      FX3_noteHyphen_b240 N l2 2 s
    else
      FX3_noteHyphen_b240 N l2 1 s
theorem SX3_noteHyphen_b216 {m b : Nat} {φ0 : Nat → Nat} {σo : fS} {N : Nat} {q : Unit × fS} {φ : Nat → Nat} {h : eH} {s : fS} {l2' : Int32} {l2 : Int} {l5' : Int32} {l5 : Int} (R : fC m b φ0 σo φ h s) (el2 : l2' = iI l2) (rl2 : r32 l2) (el5 : l5' = iI l5) (rl5 : r32 l5) (hF : FX3_noteHyphen_b216 N l2 l5 s = some q) : gG m b φ0 σo lU q (fX3_noteHyphen_b216 N 4 l2' l5' h) := by
  subst el2; subst el5
  unfold FX3_noteHyphen_b216 at hF
  unfold fX3_noteHyphen_b216
  refine s_gAs R (t_4 R.S) (Nat.le_of_ble_eq_true rfl) rfl (o_4_34 R.S) (a_190 R) ?_
  refine s_rI R (u_190 R.S).1 (u_190 R.S).2 (by decide) (a_190 R) rfl rl2 hF (fun x3 ra2 hF => ?_)
  refine s_if (not_congr (i_eq rfl (c_lit 0 0 rfl) ra2 ⟨by decide, by decide⟩)) hF (fun c3 hF => ?_) (fun c3 hF => ?_)
  ·
    exact SX3_noteHyphen_b241 (N := N) R hF
  ·
    refine s_gAs R (t_4 R.S) (Nat.le_of_ble_eq_true rfl) rfl (o_4_34 R.S) (a_190 R) ?_
    refine s_if (i_eq rfl (c_lit 0 0 rfl) rl5 ⟨by decide, by decide⟩) hF (fun c5 hF => ?_) (fun c5 hF => ?_)
    ·
      exact SX3_noteHyphen_b240 (N := N) R rfl rl2 (c_lit 2 2 rfl) ⟨by decide, by decide⟩ hF
    ·
      exact SX3_noteHyphen_b240 (N := N) R rfl rl2 (c_lit 1 1 rfl) ⟨by decide, by decide⟩ hF
def FX3_noteHyphen_b170 (N : Nat) (l2 : Int) (s0 : Int) (s : fS) : Option (Unit × fS) :=
  (FX3_ends N l2 l2 s).bind fun q5 =>
  if ¬ (q5.1 = 0) then
    FX3_noteHyphen_b216 N l2 q5.1 q5.2
  else
    if s0 = 0 then
      FX3_noteHyphen_b215 N q5.2
    else
      (FX3_ends N (iadd l2 1) l2 q5.2).bind fun q12 =>
      if ¬ (q12.1 = 0) then
        FX3_noteHyphen_b216 N l2 q5.1 q12.2
      else
        FX3_noteHyphen_b215 N q12.2
theorem SX3_noteHyphen_b170 {m b : Nat} {φ0 : Nat → Nat} {σo : fS} {N : Nat} {q : Unit × fS} {φ : Nat → Nat} {h : eH} {s : fS} {l2' : Int32} {l2 : Int} {s0' : Int32} {s0 : Int} (R : fC m b φ0 σo φ h s) (el2 : l2' = iI l2) (rl2 : r32 l2) (es0 : s0' = iI s0) (rs0 : r32 s0) (hF : FX3_noteHyphen_b170 N l2 s0 s = some q) : gG m b φ0 σo lU q (fX3_noteHyphen_b170 N 4 l2' s0' h) := by
  subst el2; subst es0
  unfold FX3_noteHyphen_b170 at hF
  unfold fX3_noteHyphen_b170
  refine s_gO R (t_4 R.S) (Nat.le_of_ble_eq_true rfl) rfl (o_4_32 R.S) ?_
  refine s_gO R (t_4 R.S) (Nat.le_of_ble_eq_true rfl) rfl (o_4_33 R.S) ?_
  refine s_call R (Nat.zero_le _) (fun _ hq => SX3_ends (b := 0) (N := N) (R.rf) rfl rl2 rfl rl2 hq) hF (fun f3 rv3 h3 q5 R3 e3 E3 hF => ?_)
  refine s_if (not_congr (i_eq e3.1 (c_lit 0 0 rfl) e3.2 ⟨by decide, by decide⟩)) hF (fun c4 hF => ?_) (fun c4 hF => ?_)
  ·
    exact SX3_noteHyphen_b216 (N := N) R3 rfl rl2 e3.1 e3.2 hF
  ·
    refine s_if (i_eq rfl (c_lit 0 0 rfl) rs0 ⟨by decide, by decide⟩) hF (fun c5 hF => ?_) (fun c5 hF => ?_)
    ·
      exact SX3_noteHyphen_b215 (N := N) R3 hF
    ·
      refine s_gO R3 (t_4 R3.S) (Nat.le_of_ble_eq_true rfl) rfl (o_4_32 R3.S) ?_
      refine s_gO R3 (t_4 R3.S) (Nat.le_of_ble_eq_true rfl) rfl (o_4_33 R3.S) ?_
      refine s_call R3 (Nat.zero_le _) (fun _ hq => SX3_ends (b := 0) (N := N) (R3.rf) (c_add rfl (c_lit 1 1 rfl)) (rr_I _) rfl rl2 hq) hF (fun f8 rv8 h8 q12 R8 e8 E8 hF => ?_)
      refine s_if (not_congr (i_eq e8.1 (c_lit 0 0 rfl) e8.2 ⟨by decide, by decide⟩)) hF (fun c9 hF => ?_) (fun c9 hF => ?_)
      ·
        exact SX3_noteHyphen_b216 (N := N) R8 rfl rl2 e3.1 e3.2 hF
      ·
        exact SX3_noteHyphen_b215 (N := N) R8 hF
def FX3_noteHyphen_b169 (N : Nat) (l2 : Int) (s : fS) : Option (Unit × fS) :=
  FX3_noteHyphen_b170 N l2 0 s
theorem SX3_noteHyphen_b169 {m b : Nat} {φ0 : Nat → Nat} {σo : fS} {N : Nat} {q : Unit × fS} {φ : Nat → Nat} {h : eH} {s : fS} {l2' : Int32} {l2 : Int} (R : fC m b φ0 σo φ h s) (el2 : l2' = iI l2) (rl2 : r32 l2) (hF : FX3_noteHyphen_b169 N l2 s = some q) : gG m b φ0 σo lU q (fX3_noteHyphen_b169 N 4 l2' h) := by
  subst el2
  unfold FX3_noteHyphen_b169 at hF
  unfold fX3_noteHyphen_b169
  exact SX3_noteHyphen_b170 (N := N) R rfl rl2 (c_lit 0 0 rfl) ⟨by decide, by decide⟩ hF
def FX3_noteHyphen_b137 (N : Nat) (l2 : Int) (l3 : Int) (s : fS) : Option (Unit × fS) :=
  if ¬ (l3 = 0) then
    if (s.i 186 1) ≤ l2 then
      FX3_noteHyphen_b169 N l2 s
    else
      (FX34_kind 186 l2 s).bind fun q10 =>
      if ¬ (q10.1 = 3) then
        FX3_noteHyphen_b169 N l2 q10.2
      else
        FX3_noteHyphen_b170 N l2 1 q10.2
  else
    some ((), s)
theorem SX3_noteHyphen_b137 {m b : Nat} {φ0 : Nat → Nat} {σo : fS} {N : Nat} {q : Unit × fS} {φ : Nat → Nat} {h : eH} {s : fS} {l2' : Int32} {l2 : Int} {l3' : Int32} {l3 : Int} (R : fC m b φ0 σo φ h s) (el2 : l2' = iI l2) (rl2 : r32 l2) (el3 : l3' = iI l3) (rl3 : r32 l3) (hF : FX3_noteHyphen_b137 N l2 l3 s = some q) : gG m b φ0 σo lU q (fX3_noteHyphen_b137 N 4 l2' l3' h) := by
  subst el2; subst el3
  unfold FX3_noteHyphen_b137 at hF
  unfold fX3_noteHyphen_b137
  refine s_if (not_congr (i_eq rfl (c_lit 0 0 rfl) rl3 ⟨by decide, by decide⟩)) hF (fun c1 hF => ?_) (fun c1 hF => ?_)
  ·
    refine s_gO R (t_4 R.S) (Nat.le_of_ble_eq_true rfl) rfl (o_4_32 R.S) ?_
    refine s_gI R (t_186 R.S) (Nat.le_of_ble_eq_true rfl) rfl ?_
    refine s_if (i_le rfl rfl (R.ri (t_186 R.S) (Nat.le_of_ble_eq_true rfl) rfl) rl2) hF (fun c4 hF => ?_) (fun c4 hF => ?_)
    ·
      exact SX3_noteHyphen_b169 (N := N) R rfl rl2 hF
    ·
      refine s_gO R (t_4 R.S) (Nat.le_of_ble_eq_true rfl) rfl (o_4_32 R.S) ?_
      refine s_kok R (t_186 R.S) (Nat.le_of_ble_eq_true rfl) ?_
      refine s_call R (Nat.zero_le _) (fun _ hq => SX34_kind (b := 0) (R.rf) rfl rl2 hq) hF (fun f7 rv7 h7 q10 R7 e7 E7 hF => ?_)
      refine s_if (not_congr (i_eq e7.1 (c_lit 3 3 rfl) e7.2 ⟨by decide, by decide⟩)) hF (fun c8 hF => ?_) (fun c8 hF => ?_)
      ·
        exact SX3_noteHyphen_b169 (N := N) R7 rfl rl2 hF
      ·
        exact SX3_noteHyphen_b170 (N := N) R7 rfl rl2 (c_lit 1 1 rfl) ⟨by decide, by decide⟩ hF
  ·
    exact g_ret R hF trivial
def FX3_noteHyphen_b105 (N : Nat) : Nat → Int → Int → Int → fS → Option (Unit × fS)
  | 0, _, _, _, _ => none
  | n + 1, l2, l3, l4, s =>
    if l3 = 0 then
      FX3_noteHyphen_b137 N l2 l3 s
    else
      if l2 ≤ l4 then
        FX3_noteHyphen_b137 N l2 l3 s
      else
        (FX3_areSame l4 l4 s).bind fun q7 =>
        FX3_noteHyphen_b105 N n l2 q7.1 (iadd l4 1) q7.2
theorem SX3_noteHyphen_b105 {m b : Nat} {φ0 : Nat → Nat} {σo : fS} {N : Nat} {q : Unit × fS} : ∀ {n : Nat} {φ : Nat → Nat} {h : eH} {s : fS} {l2' : Int32} {l2 : Int} {l3' : Int32} {l3 : Int} {l4' : Int32} {l4 : Int}, fC m b φ0 σo φ h s → l2' = iI l2 → r32 l2 → l3' = iI l3 → r32 l3 → l4' = iI l4 → r32 l4 → FX3_noteHyphen_b105 N n l2 l3 l4 s = some q → gG m b φ0 σo lU q (fX3_noteHyphen_b105 N n 4 l2' l3' l4' h) := by
  intro n
  induction n with
 | zero => intro φ h s l2' l2 l3' l3 l4' l4 R el2 rl2 el3 rl3 el4 rl4 hF; simp [FX3_noteHyphen_b105] at hF
  | succ n ih =>
    intro φ h s l2' l2 l3' l3 l4' l4 R el2 rl2 el3 rl3 el4 rl4 hF
    subst el2; subst el3; subst el4
    rw [FX3_noteHyphen_b105] at hF
    rw [fX3_noteHyphen_b105]
    refine s_if (i_eq rfl (c_lit 0 0 rfl) rl3 ⟨by decide, by decide⟩) hF (fun c1 hF => ?_) (fun c1 hF => ?_)
    ·
      exact SX3_noteHyphen_b137 (N := N) R rfl rl2 rfl rl3 hF
    ·
      refine s_if (i_le rfl rfl rl2 rl4) hF (fun c2 hF => ?_) (fun c2 hF => ?_)
      ·
        exact SX3_noteHyphen_b137 (N := N) R rfl rl2 rfl rl3 hF
      ·
        refine s_gO R (t_4 R.S) (Nat.le_of_ble_eq_true rfl) rfl (o_4_32 R.S) ?_
        refine s_gO R (t_4 R.S) (Nat.le_of_ble_eq_true rfl) rfl (o_4_33 R.S) ?_
        refine s_call R (Nat.zero_le _) (fun _ hq => SX3_areSame (b := 0) (R.rf) rfl rl4 rfl rl4 hq) hF (fun f5 rv5 h5 q7 R5 e5 E5 hF => ?_)
        exact ih R5 rfl rl2 e5.1 e5.2 (c_add rfl (c_lit 1 1 rfl)) (rr_I _) hF
def FX3_noteHyphen_b101 (N : Nat) (l2 : Int) (s0 : Int) (s : fS) : Option (Unit × fS) :=
  FX3_noteHyphen_b105 N N l2 s0 0 s
theorem SX3_noteHyphen_b101 {m b : Nat} {φ0 : Nat → Nat} {σo : fS} {N : Nat} {q : Unit × fS} {φ : Nat → Nat} {h : eH} {s : fS} {l2' : Int32} {l2 : Int} {s0' : Int32} {s0 : Int} (R : fC m b φ0 σo φ h s) (el2 : l2' = iI l2) (rl2 : r32 l2) (es0 : s0' = iI s0) (rs0 : r32 s0) (hF : FX3_noteHyphen_b101 N l2 s0 s = some q) : gG m b φ0 σo lU q (fX3_noteHyphen_b101 N 4 l2' s0' h) := by
  subst el2; subst es0
  unfold FX3_noteHyphen_b101 at hF
  unfold fX3_noteHyphen_b101
  exact SX3_noteHyphen_b105 (N := N) R rfl rl2 rfl rs0 (c_lit 0 0 rfl) ⟨by decide, by decide⟩ hF
def FX3_noteHyphen_b35 (N : Nat) : Nat → Int → Int → Int → fS → Option (Unit × fS)
  | 0, _, _, _, _ => none
  | n + 1, l1, l2, l3, s =>
    if (s.i 4 30) ≤ l3 then
      (FX3_setRow N 185 (isub (s.i 4 30) l1) 188 s).bind fun q11 =>
      if ¬ (q11.1 = 0) then
        if (q11.2.i 186 1) < l2 then
          FX3_noteHyphen_b101 N l2 0 q11.2
        else
          FX3_noteHyphen_b101 N l2 1 q11.2
      else
        some ((), q11.2)
    else
      (uRI s 184 l3).bind fun x22 =>
      (uQI s 185 (isub l3 l1) (i2b x22)).bind fun σ24 =>
      FX3_noteHyphen_b35 N n l1 l2 (iadd l3 1) σ24
theorem SX3_noteHyphen_b35 {m b : Nat} {φ0 : Nat → Nat} {σo : fS} (hb : 1 ≤ b) {N : Nat} {q : Unit × fS} : ∀ {n : Nat} {φ : Nat → Nat} {h : eH} {s : fS} {l1' : Int32} {l1 : Int} {l2' : Int32} {l2 : Int} {l3' : Int32} {l3 : Int}, fC m b φ0 σo φ h s → l1' = iI l1 → r32 l1 → l2' = iI l2 → r32 l2 → l3' = iI l3 → r32 l3 → FX3_noteHyphen_b35 N n l1 l2 l3 s = some q → gG m b φ0 σo lU q (fX3_noteHyphen_b35 N n 4 l1' l2' l3' h) := by
  intro n
  induction n with
 | zero => intro φ h s l1' l1 l2' l2 l3' l3 R el1 rl1 el2 rl2 el3 rl3 hF; simp [FX3_noteHyphen_b35] at hF
  | succ n ih =>
    intro φ h s l1' l1 l2' l2 l3' l3 R el1 rl1 el2 rl2 el3 rl3 hF
    subst el1; subst el2; subst el3
    rw [FX3_noteHyphen_b35] at hF
    rw [fX3_noteHyphen_b35]
    refine s_gI R (t_4 R.S) (Nat.le_of_ble_eq_true rfl) rfl ?_
    refine s_if (i_le rfl rfl (R.ri (t_4 R.S) (Nat.le_of_ble_eq_true rfl) rfl) rl3) hF (fun c2 hF => ?_) (fun c2 hF => ?_)
    ·
      refine s_gAs R (t_4 R.S) (Nat.le_of_ble_eq_true rfl) rfl (o_4_29 R.S) (a_185 R) ?_
      refine s_gI R (t_4 R.S) (Nat.le_of_ble_eq_true rfl) rfl ?_
      refine s_gO R (t_4 R.S) (Nat.le_of_ble_eq_true rfl) rfl (o_4_33 R.S) ?_
      refine s_kok R (t_4 R.S) (Nat.le_of_ble_eq_true rfl) ?_
      refine s_call R hb (fun _ hq => SX3_setRow (b := 1) (N := N) (Nat.le_of_ble_eq_true rfl) (R.rf) (a_185 R) (u_185 R.S).1 (c_sub rfl rfl) (rr_I _) hq) hF (fun f7 rv7 h7 q11 R7 e7 E7 hF => ?_)
      refine s_if (not_congr (i_eq e7.1 (c_lit 0 0 rfl) e7.2 ⟨by decide, by decide⟩)) hF (fun c8 hF => ?_) (fun c8 hF => ?_)
      ·
        refine s_gO R7 (t_4 R7.S) (Nat.le_of_ble_eq_true rfl) rfl (o_4_32 R7.S) ?_
        refine s_gI R7 (t_186 R7.S) (Nat.le_of_ble_eq_true rfl) rfl ?_
        refine s_if (i_lt rfl rfl (R7.ri (t_186 R7.S) (Nat.le_of_ble_eq_true rfl) rfl) rl2) hF (fun c11 hF => ?_) (fun c11 hF => ?_)
        ·
          exact SX3_noteHyphen_b101 (N := N) R7 rfl rl2 (c_lit 0 0 rfl) ⟨by decide, by decide⟩ hF
        ·
          exact SX3_noteHyphen_b101 (N := N) R7 rfl rl2 (c_lit 1 1 rfl) ⟨by decide, by decide⟩ hF
      ·
        exact g_ret R7 hF trivial
    ·
      refine s_gAs R (t_4 R.S) (Nat.le_of_ble_eq_true rfl) rfl (o_4_29 R.S) (a_185 R) ?_
      refine s_gAs R (t_4 R.S) (Nat.le_of_ble_eq_true rfl) rfl (o_4_28 R.S) (a_184 R) ?_
      refine s_rI R (u_184 R.S).1 (u_184 R.S).2 (by decide) (a_184 R) rfl rl3 hF (fun x22 ra14 hF => ?_)
      refine s_qI R (u_185 R.S).1 (u_185 R.S).2 (by decide) (a_185 R) (c_sub rfl rfl) (rr_I _) (c_2b rfl) (rr_I _) hF (fun h15 σ24 R15 T15 hF => ?_)
      exact ih R15 rfl rl1 rfl rl2 (c_add rfl (c_lit 1 1 rfl)) (rr_I _) hF
def FX3_noteHyphen (N : Nat) (p0 : Int) (s : fS) : Option (Unit × fS) :=
  (uPI s 188 1 0).bind fun σ3 =>
  (FX3_setRow N 184 p0 188 σ3).bind fun q10 =>
  if ¬ (q10.1 = 0) then
    FX3_noteHyphen_b35 N N p0 (q10.2.i 188 1) p0 q10.2
  else
    some ((), q10.2)
theorem SX3_noteHyphen {m b : Nat} {φ0 : Nat → Nat} {σo : fS} (hb : 1 ≤ b) {N : Nat} {q : Unit × fS} {φ : Nat → Nat} {h : eH} {s : fS} {p0' : Int32} {p0 : Int} (R : fC m b φ0 σo φ h s) (ep0 : p0' = iI p0) (rp0 : r32 p0) (hF : FX3_noteHyphen N p0 s = some q) : gG m b φ0 σo lU q (fX3_noteHyphen N 4 p0' h) := by
  subst ep0
  unfold FX3_noteHyphen at hF
  unfold fX3_noteHyphen
  refine s_gO R (t_4 R.S) (Nat.le_of_ble_eq_true rfl) rfl (o_4_33 R.S) ?_
  refine s_pI R (t_188 R.S) (Nat.le_of_ble_eq_true rfl) rfl (c_lit 0 0 rfl) ⟨by decide, by decide⟩ hF (fun h2 σ3 R2 T2 hF => ?_)
  refine s_gAs R2 (t_4 R2.S) (Nat.le_of_ble_eq_true rfl) rfl (o_4_28 R2.S) (a_184 R2) ?_
  refine s_gO R2 (t_4 R2.S) (Nat.le_of_ble_eq_true rfl) rfl (o_4_33 R2.S) ?_
  refine s_kok R2 (t_4 R2.S) (Nat.le_of_ble_eq_true rfl) ?_
  refine s_call R2 hb (fun _ hq => SX3_setRow (b := 1) (N := N) (Nat.le_of_ble_eq_true rfl) (R2.rf) (a_184 R2) (u_184 R2.S).1 rfl rp0 hq) hF (fun f6 rv6 h6 q10 R6 e6 E6 hF => ?_)
  refine s_if (not_congr (i_eq e6.1 (c_lit 0 0 rfl) e6.2 ⟨by decide, by decide⟩)) hF (fun c7 hF => ?_) (fun c7 hF => ?_)
  ·
    refine s_gO R6 (t_4 R6.S) (Nat.le_of_ble_eq_true rfl) rfl (o_4_33 R6.S) ?_
    refine s_gI R6 (t_188 R6.S) (Nat.le_of_ble_eq_true rfl) rfl ?_
    exact SX3_noteHyphen_b35 (N := N) hb R6 rfl rp0 rfl (R6.ri (t_188 R6.S) (Nat.le_of_ble_eq_true rfl) rfl) rfl rp0 hF
  ·
    exact g_ret R6 hF trivial
def FX3_findHyphens_b94 (N : Nat) (K68 : Int → Int → fS → Option (Unit × fS)) (l2 : Int) (s0 : Int) (s1 : Int) (s : fS) : Option (Unit × fS) :=
  K68 (iand s0 s1) (iadd l2 1) s
theorem SX3_findHyphens_b94 {m b : Nat} {φ0 : Nat → Nat} {σo : fS} (hb : 1 ≤ b) {N : Nat} {k68 : Nat → Int32 → Int32 → eH → Option (Unit × eH)} {K68 : Int → Int → fS → Option (Unit × fS)} {q : Unit × fS} (hk68 : ∀ {φ : Nat → Nat} {h : eH} {s : fS} {l1' : Int32} {l1 : Int} {l2' : Int32} {l2 : Int}, fC m b φ0 σo φ h s → l1' = iI l1 → r32 l1 → l2' = iI l2 → r32 l2 → K68 l1 l2 s = some q → gG m b φ0 σo lU q (k68 4 l1' l2' h)) {φ : Nat → Nat} {h : eH} {s : fS} {l2' : Int32} {l2 : Int} {s0' : Int32} {s0 : Int} {s1' : Int32} {s1 : Int} (R : fC m b φ0 σo φ h s) (el2 : l2' = iI l2) (rl2 : r32 l2) (es0 : s0' = iI s0) (rs0 : r32 s0) (es1 : s1' = iI s1) (rs1 : r32 s1) (hF : FX3_findHyphens_b94 N K68 l2 s0 s1 s = some q) : gG m b φ0 σo lU q (fX3_findHyphens_b94 N k68 4 l2' s0' s1' h) := by
  subst el2; subst es0; subst es1
  unfold FX3_findHyphens_b94 at hF
  unfold fX3_findHyphens_b94
  exact hk68 R (c_and rfl rfl) (rr_I _) (c_add rfl (c_lit 1 1 rfl)) (rr_I _) hF
def FX3_findHyphens_b148 (N : Nat) (K124 : Int → fS → Option (Unit × fS)) (l2 : Int) (s : fS) : Option (Unit × fS) :=
  K124 (iadd l2 1) s
theorem SX3_findHyphens_b148 {m b : Nat} {φ0 : Nat → Nat} {σo : fS} (hb : 1 ≤ b) {N : Nat} {k124 : Nat → Int32 → eH → Option (Unit × eH)} {K124 : Int → fS → Option (Unit × fS)} {q : Unit × fS} (hk124 : ∀ {φ : Nat → Nat} {h : eH} {s : fS} {l2' : Int32} {l2 : Int}, fC m b φ0 σo φ h s → l2' = iI l2 → r32 l2 → K124 l2 s = some q → gG m b φ0 σo lU q (k124 4 l2' h)) {φ : Nat → Nat} {h : eH} {s : fS} {l2' : Int32} {l2 : Int} (R : fC m b φ0 σo φ h s) (el2 : l2' = iI l2) (rl2 : r32 l2) (hF : FX3_findHyphens_b148 N K124 l2 s = some q) : gG m b φ0 σo lU q (fX3_findHyphens_b148 N k124 4 l2' h) := by
  subst el2
  unfold FX3_findHyphens_b148 at hF
  unfold fX3_findHyphens_b148
  exact hk124 R (c_add rfl (c_lit 1 1 rfl)) (rr_I _) hF
def FX3_findHyphens_b124 (N : Nat) : Nat → Int → fS → Option (Unit × fS)
  | 0, _, _ => none
  | n + 1, l2, s =>
    if (s.i 4 30) ≤ l2 then
      some ((), s)
    else
      (FX14_isBroken l2 s).bind fun q7 =>
      if q7.1 = 0 then
        FX3_findHyphens_b148 N (FX3_findHyphens_b124 N n) l2 q7.2
      else
        (FX3_noteHyphen N l2 q7.2).bind fun q10 =>
        FX3_findHyphens_b148 N (FX3_findHyphens_b124 N n) l2 q10.2
theorem SX3_findHyphens_b124 {m b : Nat} {φ0 : Nat → Nat} {σo : fS} (hb : 1 ≤ b) {N : Nat} {q : Unit × fS} : ∀ {n : Nat} {φ : Nat → Nat} {h : eH} {s : fS} {l2' : Int32} {l2 : Int}, fC m b φ0 σo φ h s → l2' = iI l2 → r32 l2 → FX3_findHyphens_b124 N n l2 s = some q → gG m b φ0 σo lU q (fX3_findHyphens_b124 N n 4 l2' h) := by
  intro n
  induction n with
 | zero => intro φ h s l2' l2 R el2 rl2 hF; simp [FX3_findHyphens_b124] at hF
  | succ n ih =>
    intro φ h s l2' l2 R el2 rl2 hF
    subst el2
    rw [FX3_findHyphens_b124] at hF
    rw [fX3_findHyphens_b124]
    refine s_gI R (t_4 R.S) (Nat.le_of_ble_eq_true rfl) rfl ?_
    refine s_if (i_le rfl rfl (R.ri (t_4 R.S) (Nat.le_of_ble_eq_true rfl) rfl) rl2) hF (fun c2 hF => ?_) (fun c2 hF => ?_)
    ·
      exact g_ret R hF trivial
    ·
      refine s_gO R (t_4 R.S) (Nat.le_of_ble_eq_true rfl) rfl (o_4_7 R.S) ?_
      refine s_kok R (t_60 R.S) (Nat.le_of_ble_eq_true rfl) ?_
      refine s_call R (Nat.zero_le _) (fun _ hq => SX14_isBroken (b := 0) (R.rf) rfl rl2 hq) hF (fun f5 rv5 h5 q7 R5 e5 E5 hF => ?_)
      refine s_if (i_eq e5.1 (c_lit 0 0 rfl) e5.2 ⟨by decide, by decide⟩) hF (fun c6 hF => ?_) (fun c6 hF => ?_)
      ·
        exact SX3_findHyphens_b148 (N := N) (k124 := fX3_findHyphens_b124 N n) (K124 := FX3_findHyphens_b124 N n) hb @ih R5 rfl rl2 hF
      ·
        refine s_kok R5 (t_4 R5.S) (Nat.le_of_ble_eq_true rfl) ?_
        refine s_call R5 hb (fun _ hq => SX3_noteHyphen (b := 1) (N := N) (Nat.le_of_ble_eq_true rfl) (R5.rf) rfl rl2 hq) hF (fun f8 rv8 h8 q10 R8 e8 E8 hF => ?_)
        exact SX3_findHyphens_b148 (N := N) (k124 := fX3_findHyphens_b124 N n) (K124 := FX3_findHyphens_b124 N n) hb @ih R8 rfl rl2 hF
def FX3_findHyphens_b68 (N : Nat) : Nat → Int → Int → fS → Option (Unit × fS)
  | 0, _, _, _ => none
  | n + 1, l1, l2, s =>
    if (s.i 4 30) ≤ l2 then
      if ¬ (l1 = 0) then
        (FX14_look N (s.i 4 30) s).bind fun q12 =>
        FX3_findHyphens_b124 N N 1 q12.2
      else
        some ((), s)
    else
      (uRI s 184 l2).bind fun x15 =>
      (FX14_letter x15 s).bind fun q17 =>
      if q17.1 ≤ 0 then
        FX3_findHyphens_b94 N (FX3_findHyphens_b68 N n) l2 l1 0 q17.2
      else
        FX3_findHyphens_b94 N (FX3_findHyphens_b68 N n) l2 l1 1 q17.2
theorem SX3_findHyphens_b68 {m b : Nat} {φ0 : Nat → Nat} {σo : fS} (hb : 1 ≤ b) {N : Nat} {q : Unit × fS} : ∀ {n : Nat} {φ : Nat → Nat} {h : eH} {s : fS} {l1' : Int32} {l1 : Int} {l2' : Int32} {l2 : Int}, fC m b φ0 σo φ h s → l1' = iI l1 → r32 l1 → l2' = iI l2 → r32 l2 → FX3_findHyphens_b68 N n l1 l2 s = some q → gG m b φ0 σo lU q (fX3_findHyphens_b68 N n 4 l1' l2' h) := by
  intro n
  induction n with
 | zero => intro φ h s l1' l1 l2' l2 R el1 rl1 el2 rl2 hF; simp [FX3_findHyphens_b68] at hF
  | succ n ih =>
    intro φ h s l1' l1 l2' l2 R el1 rl1 el2 rl2 hF
    subst el1; subst el2
    rw [FX3_findHyphens_b68] at hF
    rw [fX3_findHyphens_b68]
    refine s_gI R (t_4 R.S) (Nat.le_of_ble_eq_true rfl) rfl ?_
    refine s_if (i_le rfl rfl (R.ri (t_4 R.S) (Nat.le_of_ble_eq_true rfl) rfl) rl2) hF (fun c2 hF => ?_) (fun c2 hF => ?_)
    ·
      refine s_if (not_congr (i_eq rfl (c_lit 0 0 rfl) rl1 ⟨by decide, by decide⟩)) hF (fun c3 hF => ?_) (fun c3 hF => ?_)
      ·
        refine s_gO R (t_4 R.S) (Nat.le_of_ble_eq_true rfl) rfl (o_4_7 R.S) ?_
        refine s_gAs R (t_4 R.S) (Nat.le_of_ble_eq_true rfl) rfl (o_4_28 R.S) (a_184 R) ?_
        refine s_gI R (t_4 R.S) (Nat.le_of_ble_eq_true rfl) rfl ?_
        refine s_kok R (t_60 R.S) (Nat.le_of_ble_eq_true rfl) ?_
        refine s_call R hb (fun _ hq => SX14_look (b := 1) (N := N) (Nat.le_of_ble_eq_true rfl) (R.rf) rfl (R.ri (t_4 R.S) (Nat.le_of_ble_eq_true rfl) rfl) hq) hF (fun f8 rv8 h8 q12 R8 e8 E8 hF => ?_)
        exact SX3_findHyphens_b124 (N := N) hb R8 (c_lit 1 1 rfl) ⟨by decide, by decide⟩ hF
      ·
        exact g_ret R hF trivial
    ·
      refine s_gAs R (t_4 R.S) (Nat.le_of_ble_eq_true rfl) rfl (o_4_28 R.S) (a_184 R) ?_
      refine s_rI R (u_184 R.S).1 (u_184 R.S).2 (by decide) (a_184 R) rfl rl2 hF (fun x15 ra10 hF => ?_)
      refine s_call R (Nat.zero_le _) (fun _ hq => SX14_letter (b := 0) (R.rf) rfl ra10 hq) hF (fun f11 rv11 h11 q17 R11 e11 E11 hF => ?_)
      refine s_if (i_le e11.1 (c_lit 0 0 rfl) e11.2 ⟨by decide, by decide⟩) hF (fun c12 hF => ?_) (fun c12 hF => ?_)
      ·
        exact SX3_findHyphens_b94 (N := N) (k68 := fX3_findHyphens_b68 N n) (K68 := FX3_findHyphens_b68 N n) hb @ih R11 rfl rl2 rfl rl1 (c_lit 0 0 rfl) ⟨by decide, by decide⟩ hF
      ·
        exact SX3_findHyphens_b94 (N := N) (k68 := fX3_findHyphens_b68 N n) (K68 := FX3_findHyphens_b68 N n) hb @ih R11 rfl rl2 rfl rl1 (c_lit 1 1 rfl) ⟨by decide, by decide⟩ hF
def FX3_findHyphens_b65 (N : Nat) (s0 : Int) (s : fS) : Option (Unit × fS) :=
  FX3_findHyphens_b68 N N s0 0 s
theorem SX3_findHyphens_b65 {m b : Nat} {φ0 : Nat → Nat} {σo : fS} (hb : 1 ≤ b) {N : Nat} {q : Unit × fS} {φ : Nat → Nat} {h : eH} {s : fS} {s0' : Int32} {s0 : Int} (R : fC m b φ0 σo φ h s) (es0 : s0' = iI s0) (rs0 : r32 s0) (hF : FX3_findHyphens_b65 N s0 s = some q) : gG m b φ0 σo lU q (fX3_findHyphens_b65 N 4 s0' h) := by
  subst es0
  unfold FX3_findHyphens_b65 at hF
  unfold fX3_findHyphens_b65
  exact SX3_findHyphens_b68 (N := N) hb R rfl rs0 (c_lit 0 0 rfl) ⟨by decide, by decide⟩ hF
def FX3_findHyphens_b64 (N : Nat) (s : fS) : Option (Unit × fS) :=
  FX3_findHyphens_b65 N 0 s
theorem SX3_findHyphens_b64 {m b : Nat} {φ0 : Nat → Nat} {σo : fS} (hb : 1 ≤ b) {N : Nat} {q : Unit × fS} {φ : Nat → Nat} {h : eH} {s : fS} (R : fC m b φ0 σo φ h s) (hF : FX3_findHyphens_b64 N s = some q) : gG m b φ0 σo lU q (fX3_findHyphens_b64 N 4 h) := by
  unfold FX3_findHyphens_b64 at hF
  unfold fX3_findHyphens_b64
  exact SX3_findHyphens_b65 (N := N) hb R (c_lit 0 0 rfl) ⟨by decide, by decide⟩ hF
def FX3_findHyphens (N : Nat) (s : fS) : Option (Unit × fS) :=
  (FJ0_fill_3 N 0 (iadd (s.i 186 1) 1) 0 s).bind fun q7 =>
  (uRI q7.2 176 (q7.2.i 4 27)).bind fun x12 =>
  if ¬ (x12 = 2) then
    FX3_findHyphens_b64 N q7.2
  else
    if 63 < (q7.2.i 4 30) then
      FX3_findHyphens_b64 N q7.2
    else
      (uRO q7.2 8 (q7.2.i 4 31)).bind fun a24 =>
      (uK 5 q7.2 a24).bind fun _ =>
      (FX6_has a24 45 q7.2).bind fun q27 =>
      if q27.1 = 0 then
        FX3_findHyphens_b64 N q27.2
      else
        FX3_findHyphens_b65 N 1 q27.2
theorem SX3_findHyphens {m b : Nat} {φ0 : Nat → Nat} {σo : fS} (hb : 1 ≤ b) {N : Nat} {q : Unit × fS} {φ : Nat → Nat} {h : eH} {s : fS} (R : fC m b φ0 σo φ h s) (hF : FX3_findHyphens N s = some q) : gG m b φ0 σo lU q (fX3_findHyphens N 4 h) := by
  unfold FX3_findHyphens at hF
  unfold fX3_findHyphens
  refine s_gAs R (t_4 R.S) (Nat.le_of_ble_eq_true rfl) rfl (o_4_34 R.S) (a_190 R) ?_
  refine s_gO R (t_4 R.S) (Nat.le_of_ble_eq_true rfl) rfl (o_4_32 R.S) ?_
  refine s_gI R (t_186 R.S) (Nat.le_of_ble_eq_true rfl) rfl ?_
  refine s_call R (Nat.zero_le _) (fun _ hq => SJ0_fill_3 (b := 0) (N := N) (R.rf) (c_lit 0 0 rfl) ⟨by decide, by decide⟩ (c_add rfl (c_lit 1 1 rfl)) (rr_I _) (c_lit 0 0 rfl) ⟨by decide, by decide⟩ hq) hF (fun f4 rv4 h4 q7 R4 e4 E4 hF => ?_)
  refine s_gAs R4 (t_4 R4.S) (Nat.le_of_ble_eq_true rfl) rfl (o_4_19 R4.S) (a_176 R4) ?_
  refine s_gI R4 (t_4 R4.S) (Nat.le_of_ble_eq_true rfl) rfl ?_
  refine s_rI R4 (u_176 R4.S).1 (u_176 R4.S).2 (by decide) (a_176 R4) rfl (R4.ri (t_4 R4.S) (Nat.le_of_ble_eq_true rfl) rfl) hF (fun x12 ra7 hF => ?_)
  refine s_if (not_congr (i_eq rfl (c_lit 2 2 rfl) ra7 ⟨by decide, by decide⟩)) hF (fun c8 hF => ?_) (fun c8 hF => ?_)
  ·
    exact SX3_findHyphens_b64 (N := N) hb R4 hF
  ·
    refine s_gI R4 (t_4 R4.S) (Nat.le_of_ble_eq_true rfl) rfl ?_
    refine s_if (i_lt (c_lit 63 63 rfl) rfl ⟨by decide, by decide⟩ (R4.ri (t_4 R4.S) (Nat.le_of_ble_eq_true rfl) rfl)) hF (fun c10 hF => ?_) (fun c10 hF => ?_)
    ·
      exact SX3_findHyphens_b64 (N := N) hb R4 hF
    ·
      refine s_gO R4 (t_4 R4.S) (Nat.le_of_ble_eq_true rfl) rfl (o_4_1 R4.S) ?_
      refine s_gAs R4 (t_6 R4.S) (Nat.le_of_ble_eq_true rfl) rfl (o_6_1 R4.S) (a_8 R4) ?_
      refine s_gI R4 (t_4 R4.S) (Nat.le_of_ble_eq_true rfl) rfl ?_
      refine s_rO R4 (u_8 R4.S).1 (u_8 R4.S).2 rfl (fun _ => rfl) (Nat.le_of_ble_eq_true rfl) (a_8 R4) rfl (R4.ri (t_4 R4.S) (Nat.le_of_ble_eq_true rfl) rfl) hF (fun a24 y14 hF => ?_)
      refine s_K hF (fun t16 hF => ?_)
      refine s_kok R4 t16 (Nat.le_of_ble_eq_true rfl) ?_
      refine s_call R4 (Nat.zero_le _) (fun _ hq => SX6_has (b := 0) (R4.rf) (c_lit 45 45 rfl) ⟨by decide, by decide⟩ hq) hF (fun f17 rv17 h17 q27 R17 e17 E17 hF => ?_)
      refine s_if (i_eq e17.1 (c_lit 0 0 rfl) e17.2 ⟨by decide, by decide⟩) hF (fun c18 hF => ?_) (fun c18 hF => ?_)
      ·
        exact SX3_findHyphens_b64 (N := N) hb R17 hF
      ·
        exact SX3_findHyphens_b65 (N := N) hb R17 (c_lit 1 1 rfl) ⟨by decide, by decide⟩ hF
def FX5_width (p0 : Int) (p1 : Int) (s : fS) : Option (Int × fS) :=
  (uRO s 8 p0).bind fun a3 =>
  (uK 5 s a3).bind fun _ =>
  (FX6_of a3 p1 0 s).bind fun q6 =>
  some (q6.1, q6.2)
theorem SX5_width {m b : Nat} {φ0 : Nat → Nat} {σo : fS} {q : Int × fS} {φ : Nat → Nat} {h : eH} {s : fS} {p0' : Int32} {p0 : Int} {p1' : Int32} {p1 : Int} (R : fC m b φ0 σo φ h s) (ep0 : p0' = iI p0) (rp0 : r32 p0) (ep1 : p1' = iI p1) (rp1 : r32 p1) (hF : FX5_width p0 p1 s = some q) : gG m b φ0 σo lI q (fX5_width 6 p0' p1' h) := by
  subst ep0; subst ep1
  unfold FX5_width at hF
  unfold fX5_width
  refine s_gAs R (t_6 R.S) (Nat.le_of_ble_eq_true rfl) rfl (o_6_1 R.S) (a_8 R) ?_
  refine s_rO R (u_8 R.S).1 (u_8 R.S).2 rfl (fun _ => rfl) (Nat.le_of_ble_eq_true rfl) (a_8 R) rfl rp0 hF (fun a3 y2 hF => ?_)
  refine s_K hF (fun t4 hF => ?_)
  refine s_kok R t4 (Nat.le_of_ble_eq_true rfl) ?_
  refine s_call R (Nat.zero_le _) (fun _ hq => SX6_of (b := 0) (R.rf) rfl rp1 (c_lit 0 0 rfl) ⟨by decide, by decide⟩ hq) hF (fun f5 rv5 h5 q6 R5 e5 E5 hF => ?_)
  exact g_ret R5 hF ⟨e5.1, e5.2⟩
def FX3_put_b22 (l1 : Int) (l2 : Int) (l3 : Int) (l4 : Int) (l5 : Int) (l6 : Int) (s1 : Int) (s : fS) : Option ((Unit ⊕ Nat) × fS) :=
  tB (FX4_want s1 2 s) fun x2 σ3 =>
  (FX34_add 170 l1 l2 l3 l4 l5 l6 σ3).bind fun q7 =>
  some (.inl (), q7.2)
theorem SX3_put_b22 {m b : Nat} {φ0 : Nat → Nat} {σo : fS} (hb : 1 ≤ b) {q : (Unit ⊕ Nat) × fS} {φ : Nat → Nat} {h : eH} {s : fS} {l1' : Int32} {l1 : Int} {l2' : Int32} {l2 : Int} {l3' : Int32} {l3 : Int} {l4' : Int32} {l4 : Int} {l5' : Int32} {l5 : Int} {l6' : Int32} {l6 : Int} {s1' : Int32} {s1 : Int} (R : fC m b φ0 σo φ h s) (el1 : l1' = iI l1) (rl1 : r32 l1) (el2 : l2' = iI l2) (rl2 : r32 l2) (el3 : l3' = iI l3) (rl3 : r32 l3) (el4 : l4' = iI l4) (rl4 : r32 l4) (el5 : l5' = iI l5) (rl5 : r32 l5) (el6 : l6' = iI l6) (rl6 : r32 l6) (es1 : s1' = iI s1) (rs1 : r32 s1) (hF : FX3_put_b22 l1 l2 l3 l4 l5 l6 s1 s = some q) : gG m b φ0 σo (lT lU) q (fX3_put_b22 4 l1' l2' l3' l4' l5' l6' 5 s1' h) := by
  subst el1; subst el2; subst el3; subst el4; subst el5; subst el6; subst es1
  unfold FX3_put_b22 at hF
  unfold fX3_put_b22
  refine s_kok R (t_5 R.S) (Nat.le_of_ble_eq_true rfl) ?_
  refine s_tB R (Nat.zero_le _) (fun _ hq => SX4_want (b := 0) (R.rf) rfl rs1 (c_lit 2 2 rfl) ⟨by decide, by decide⟩ hq) hF (fun f2 rv2 h2 x2 σ3 R2 e2 E2 hF => ?_)
  refine s_gO R2 (t_4 R2.S) (Nat.le_of_ble_eq_true rfl) rfl (o_4_16 R2.S) ?_
  refine s_kok R2 (t_170 R2.S) (Nat.le_of_ble_eq_true rfl) ?_
  refine s_call R2 hb (fun _ hq => SX34_add (b := 1) (Nat.le_of_ble_eq_true rfl) (R2.rf) rfl rl1 rfl rl2 rfl rl3 rfl rl4 rfl rl5 rfl rl6 hq) hF (fun f5 rv5 h5 q7 R5 e5 E5 hF => ?_)
  exact g_ret R5 hF trivial
def FX3_put (p0 : Int) (p1 : Int) (p2 : Int) (p3 : Int) (p4 : Int) (p5 : Int) (s : fS) : Option ((Unit ⊕ Nat) × fS) :=
  if 20000 ≤ (s.i 170 1) then
    FX3_put_b22 p0 p1 p2 p3 p4 p5 0 s
  else
    FX3_put_b22 p0 p1 p2 p3 p4 p5 1 s
theorem SX3_put {m b : Nat} {φ0 : Nat → Nat} {σo : fS} (hb : 1 ≤ b) {q : (Unit ⊕ Nat) × fS} {φ : Nat → Nat} {h : eH} {s : fS} {p0' : Int32} {p0 : Int} {p1' : Int32} {p1 : Int} {p2' : Int32} {p2 : Int} {p3' : Int32} {p3 : Int} {p4' : Int32} {p4 : Int} {p5' : Int32} {p5 : Int} (R : fC m b φ0 σo φ h s) (ep0 : p0' = iI p0) (rp0 : r32 p0) (ep1 : p1' = iI p1) (rp1 : r32 p1) (ep2 : p2' = iI p2) (rp2 : r32 p2) (ep3 : p3' = iI p3) (rp3 : r32 p3) (ep4 : p4' = iI p4) (rp4 : r32 p4) (ep5 : p5' = iI p5) (rp5 : r32 p5) (hF : FX3_put p0 p1 p2 p3 p4 p5 s = some q) : gG m b φ0 σo (lT lU) q (fX3_put 4 p0' p1' p2' p3' p4' p5' h) := by
  subst ep0; subst ep1; subst ep2; subst ep3; subst ep4; subst ep5
  unfold FX3_put at hF
  unfold fX3_put
  refine s_gO R (t_4 R.S) (Nat.le_of_ble_eq_true rfl) rfl (o_4_0 R.S) ?_
  refine s_gO R (t_4 R.S) (Nat.le_of_ble_eq_true rfl) rfl (o_4_16 R.S) ?_
  refine s_gI R (t_170 R.S) (Nat.le_of_ble_eq_true rfl) rfl ?_
  refine s_if (i_le (c_lit 20000 20000 rfl) rfl ⟨by decide, by decide⟩ (R.ri (t_170 R.S) (Nat.le_of_ble_eq_true rfl) rfl)) hF (fun c4 hF => ?_) (fun c4 hF => ?_)
  ·
    exact SX3_put_b22 hb R rfl rp0 rfl rp1 rfl rp2 rfl rp3 rfl rp4 rfl rp5 (c_lit 0 0 rfl) ⟨by decide, by decide⟩ hF
  ·
    exact SX3_put_b22 hb R rfl rp0 rfl rp1 rfl rp2 rfl rp3 rfl rp4 rfl rp5 (c_lit 1 1 rfl) ⟨by decide, by decide⟩ hF
def FX3_addHyphen (p0 : Int) (p1 : Int) (s : fS) : Option ((Unit ⊕ Nat) × fS) :=
  (FX5_width p0 45 s).bind fun q4 =>
  tB (FX3_put 6 q4.1 (ior (ishl p0 8) 45) p1 1 0 q4.2) fun x6 σ7 =>
  some (.inl (), σ7)
theorem SX3_addHyphen {m b : Nat} {φ0 : Nat → Nat} {σo : fS} (hb : 1 ≤ b) {q : (Unit ⊕ Nat) × fS} {φ : Nat → Nat} {h : eH} {s : fS} {p0' : Int32} {p0 : Int} {p1' : Int32} {p1 : Int} (R : fC m b φ0 σo φ h s) (ep0 : p0' = iI p0) (rp0 : r32 p0) (ep1 : p1' = iI p1) (rp1 : r32 p1) (hF : FX3_addHyphen p0 p1 s = some q) : gG m b φ0 σo (lT lU) q (fX3_addHyphen 4 p0' p1' h) := by
  subst ep0; subst ep1
  unfold FX3_addHyphen at hF
  unfold fX3_addHyphen
  refine s_gO R (t_4 R.S) (Nat.le_of_ble_eq_true rfl) rfl (o_4_1 R.S) ?_
  refine s_kok R (t_6 R.S) (Nat.le_of_ble_eq_true rfl) ?_
  refine s_call R (Nat.zero_le _) (fun _ hq => SX5_width (b := 0) (R.rf) rfl rp0 (c_lit 45 45 rfl) ⟨by decide, by decide⟩ hq) hF (fun f3 rv3 h3 q4 R3 e3 E3 hF => ?_)
  refine s_kok R3 (t_4 R3.S) (Nat.le_of_ble_eq_true rfl) ?_
  refine s_tB R3 hb (fun _ hq => SX3_put (b := 1) (Nat.le_of_ble_eq_true rfl) (R3.rf) (c_lit 6 6 rfl) ⟨by decide, by decide⟩ e3.1 e3.2 (c_or (c_shl rfl (c_lit 8 8 rfl)) (c_lit 45 45 rfl)) (rr_I _) rfl rp1 (c_lit 1 1 rfl) ⟨by decide, by decide⟩ (c_lit 0 0 rfl) ⟨by decide, by decide⟩ hq) hF (fun f5 rv5 h5 x6 σ7 R5 e5 E5 hF => ?_)
  exact g_ret R5 hF trivial
