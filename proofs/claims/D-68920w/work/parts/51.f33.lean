set_option maxRecDepth 100000
set_option maxHeartbeats 4000000
def FX8_decide_b162 (N : Nat) (RE : Int → fS → Option ((Unit ⊕ Nat) × fS)) (RN : fS → Option ((Int ⊕ Nat) × fS)) (s : fS) : Option ((Unit ⊕ Nat) × fS) :=
  some (.inl (), s)
theorem SX8_decide_b162 {m b : Nat} {φ0 : Nat → Nat} {σo : fS} {N : Nat} {rE : Nat → Int32 → eH → Option ((Unit ⊕ Nat) × eH)} {RE : Int → fS → Option ((Unit ⊕ Nat) × fS)} {rN : Nat → eH → Option ((Int32 ⊕ Nat) × eH)} {RN : fS → Option ((Int ⊕ Nat) × fS)} {q : (Unit ⊕ Nat) × fS} (hrE : ∀ {φ : Nat → Nat} {h : eH} {s : fS} {x1' : Int32} {x1 : Int} {q}, fC m 3 φ s φ h s → x1' = iI x1 → r32 x1 → RE x1 s = some q → gG m 3 φ s (lT lU) q (rE 22 x1' h)) (hrN : ∀ {φ : Nat → Nat} {h : eH} {s : fS} {q}, fC m 3 φ s φ h s → RN s = some q → gG m 3 φ s (lT lI) q (rN 22 h)) {φ : Nat → Nat} {h : eH} {s : fS} (R : fC m b φ0 σo φ h s) (hF : FX8_decide_b162 N RE RN s = some q) : gG m b φ0 σo (lT lU) q (fX8_decide_b162 N rE rN h) := by
  unfold FX8_decide_b162 at hF
  unfold fX8_decide_b162
  exact g_ret R hF trivial
def FX8_decide_b144 (N : Nat) (RE : Int → fS → Option ((Unit ⊕ Nat) × fS)) (RN : fS → Option ((Int ⊕ Nat) × fS)) (l4 : Int) (s1 : Int) (s2 : Int) (s : fS) : Option ((Unit ⊕ Nat) × fS) :=
  (uQI s 36 s1 (iand s2 1)).bind fun σ1 =>
  if ¬ (l4 = 21) then
    FX8_decide_b162 N RE RN σ1
  else
    (uPI σ1 22 15 (isub (σ1.i 22 15) 1)).bind fun σ6 =>
    FX8_decide_b162 N RE RN σ6
theorem SX8_decide_b144 {m b : Nat} {φ0 : Nat → Nat} {σo : fS} {N : Nat} {rE : Nat → Int32 → eH → Option ((Unit ⊕ Nat) × eH)} {RE : Int → fS → Option ((Unit ⊕ Nat) × fS)} {rN : Nat → eH → Option ((Int32 ⊕ Nat) × eH)} {RN : fS → Option ((Int ⊕ Nat) × fS)} {q : (Unit ⊕ Nat) × fS} (hrE : ∀ {φ : Nat → Nat} {h : eH} {s : fS} {x1' : Int32} {x1 : Int} {q}, fC m 3 φ s φ h s → x1' = iI x1 → r32 x1 → RE x1 s = some q → gG m 3 φ s (lT lU) q (rE 22 x1' h)) (hrN : ∀ {φ : Nat → Nat} {h : eH} {s : fS} {q}, fC m 3 φ s φ h s → RN s = some q → gG m 3 φ s (lT lI) q (rN 22 h)) {φ : Nat → Nat} {h : eH} {s : fS} {l4' : Int32} {l4 : Int} {s1' : Int32} {s1 : Int} {s2' : Int32} {s2 : Int} (R : fC m b φ0 σo φ h s) (el4 : l4' = iI l4) (rl4 : r32 l4) (es1 : s1' = iI s1) (rs1 : r32 s1) (es2 : s2' = iI s2) (rs2 : r32 s2) (hF : FX8_decide_b144 N RE RN l4 s1 s2 s = some q) : gG m b φ0 σo (lT lU) q (fX8_decide_b144 N rE rN 22 l4' 36 s1' s2' h) := by
  subst el4; subst es1; subst es2
  unfold FX8_decide_b144 at hF
  unfold fX8_decide_b144
  refine s_qI R (u_36 R.S).1 (u_36 R.S).2 (by decide) (a_36 R) rfl rs1 (c_and rfl (c_lit 1 1 rfl)) (rr_I _) hF (fun h1 σ1 R1 T1 hF => ?_)
  refine s_if (not_congr (i_eq rfl (c_lit 21 21 rfl) rl4 ⟨by decide, by decide⟩)) hF (fun c2 hF => ?_) (fun c2 hF => ?_)
  ·
    exact SX8_decide_b162 (N := N) (rE := rE) (RE := RE) (rN := rN) (RN := RN) @hrE @hrN R1 hF
  ·
    refine s_gI R1 (t_22 R1.S) (Nat.le_of_ble_eq_true rfl) rfl ?_
    refine s_pI R1 (t_22 R1.S) (Nat.le_of_ble_eq_true rfl) rfl (c_sub rfl (c_lit 1 1 rfl)) (rr_I _) hF (fun h4 σ6 R4 T4 hF => ?_)
    exact SX8_decide_b162 (N := N) (rE := rE) (RE := RE) (rN := rN) (RN := RN) @hrE @hrN R4 hF
def FX8_decide_b122 (N : Nat) (RE : Int → fS → Option ((Unit ⊕ Nat) × fS)) (RN : fS → Option ((Int ⊕ Nat) × fS)) (l2 : Int) (l4 : Int) (s1 : Int) (s : fS) : Option ((Unit ⊕ Nat) × fS) :=
  tB (FX4_want s1 8 s) fun x2 σ3 =>
  if ¬ (l4 = 19) then
    FX8_decide_b144 N RE RN l4 l2 0 σ3
  else
    FX8_decide_b144 N RE RN l4 l2 1 σ3
theorem SX8_decide_b122 {m b : Nat} {φ0 : Nat → Nat} {σo : fS} {N : Nat} {rE : Nat → Int32 → eH → Option ((Unit ⊕ Nat) × eH)} {RE : Int → fS → Option ((Unit ⊕ Nat) × fS)} {rN : Nat → eH → Option ((Int32 ⊕ Nat) × eH)} {RN : fS → Option ((Int ⊕ Nat) × fS)} {q : (Unit ⊕ Nat) × fS} (hrE : ∀ {φ : Nat → Nat} {h : eH} {s : fS} {x1' : Int32} {x1 : Int} {q}, fC m 3 φ s φ h s → x1' = iI x1 → r32 x1 → RE x1 s = some q → gG m 3 φ s (lT lU) q (rE 22 x1' h)) (hrN : ∀ {φ : Nat → Nat} {h : eH} {s : fS} {q}, fC m 3 φ s φ h s → RN s = some q → gG m 3 φ s (lT lI) q (rN 22 h)) {φ : Nat → Nat} {h : eH} {s : fS} {l2' : Int32} {l2 : Int} {l4' : Int32} {l4 : Int} {s1' : Int32} {s1 : Int} (R : fC m b φ0 σo φ h s) (el2 : l2' = iI l2) (rl2 : r32 l2) (el4 : l4' = iI l4) (rl4 : r32 l4) (es1 : s1' = iI s1) (rs1 : r32 s1) (hF : FX8_decide_b122 N RE RN l2 l4 s1 s = some q) : gG m b φ0 σo (lT lU) q (fX8_decide_b122 N rE rN 22 l2' l4' 5 s1' h) := by
  subst el2; subst el4; subst es1
  unfold FX8_decide_b122 at hF
  unfold fX8_decide_b122
  refine s_kok R (t_5 R.S) (Nat.le_of_ble_eq_true rfl) ?_
  refine s_tB R (Nat.zero_le _) (fun _ hq => SX4_want (b := 0) (R.rf) rfl rs1 (c_lit 8 8 rfl) ⟨by decide, by decide⟩ hq) hF (fun f2 rv2 h2 x2 σ3 R2 e2 E2 hF => ?_)
  refine s_gAs R2 (t_22 R2.S) (Nat.le_of_ble_eq_true rfl) rfl (o_22_14 R2.S) (a_36 R2) ?_
  refine s_if (not_congr (i_eq rfl (c_lit 19 19 rfl) rl4 ⟨by decide, by decide⟩)) hF (fun c4 hF => ?_) (fun c4 hF => ?_)
  ·
    exact SX8_decide_b144 (N := N) (rE := rE) (RE := RE) (rN := rN) (RN := RN) @hrE @hrN R2 rfl rl4 rfl rl2 (c_lit 0 0 rfl) ⟨by decide, by decide⟩ hF
  ·
    exact SX8_decide_b144 (N := N) (rE := rE) (RE := RE) (rN := rN) (RN := RN) @hrE @hrN R2 rfl rl4 rfl rl2 (c_lit 1 1 rfl) ⟨by decide, by decide⟩ hF
def FX8_decide_b57 (N : Nat) (RE : Int → fS → Option ((Unit ⊕ Nat) × fS)) (RN : fS → Option ((Int ⊕ Nat) × fS)) (l1 : Int) (l2 : Int) (s1 : Int) (s2 : Int) (s : fS) : Option ((Unit ⊕ Nat) × fS) :=
  (uQI s 35 s1 (iand s2 1)).bind fun σ1 =>
  (uQI σ1 36 l2 (iand 0 1)).bind fun σ5 =>
  if ¬ (l1 = 18) then
    tB (FX8_test N RE RN l1 σ5) fun x9 σ10 =>
    (uQI σ10 34 l2 (iand 1 1)).bind fun σ13 =>
    if x9 = 0 then
      tB (FX8_passOwn N l2 σ13) fun x17 σ18 =>
      if x17 = 20 then
        FX8_decide_b122 N RE RN l2 x17 0 σ18
      else
        FX8_decide_b122 N RE RN l2 x17 1 σ18
    else
      some (.inl (), σ13)
  else
    tB (RN σ5) fun x23 σ24 =>
    tB (FX8_chooseCase N l2 x23 σ24) fun x26 σ27 =>
    some (.inl (), σ27)
theorem SX8_decide_b57 {m b : Nat} {φ0 : Nat → Nat} {σo : fS} (hb : 3 ≤ b) {N : Nat} {rE : Nat → Int32 → eH → Option ((Unit ⊕ Nat) × eH)} {RE : Int → fS → Option ((Unit ⊕ Nat) × fS)} {rN : Nat → eH → Option ((Int32 ⊕ Nat) × eH)} {RN : fS → Option ((Int ⊕ Nat) × fS)} {q : (Unit ⊕ Nat) × fS} (hrE : ∀ {φ : Nat → Nat} {h : eH} {s : fS} {x1' : Int32} {x1 : Int} {q}, fC m 3 φ s φ h s → x1' = iI x1 → r32 x1 → RE x1 s = some q → gG m 3 φ s (lT lU) q (rE 22 x1' h)) (hrN : ∀ {φ : Nat → Nat} {h : eH} {s : fS} {q}, fC m 3 φ s φ h s → RN s = some q → gG m 3 φ s (lT lI) q (rN 22 h)) {φ : Nat → Nat} {h : eH} {s : fS} {l1' : Int32} {l1 : Int} {l2' : Int32} {l2 : Int} {s1' : Int32} {s1 : Int} {s2' : Int32} {s2 : Int} (R : fC m b φ0 σo φ h s) (el1 : l1' = iI l1) (rl1 : r32 l1) (el2 : l2' = iI l2) (rl2 : r32 l2) (es1 : s1' = iI s1) (rs1 : r32 s1) (es2 : s2' = iI s2) (rs2 : r32 s2) (hF : FX8_decide_b57 N RE RN l1 l2 s1 s2 s = some q) : gG m b φ0 σo (lT lU) q (fX8_decide_b57 N rE rN 22 l1' l2' 35 s1' s2' h) := by
  subst el1; subst el2; subst es1; subst es2
  unfold FX8_decide_b57 at hF
  unfold fX8_decide_b57
  refine s_qI R (u_35 R.S).1 (u_35 R.S).2 (by decide) (a_35 R) rfl rs1 (c_and rfl (c_lit 1 1 rfl)) (rr_I _) hF (fun h1 σ1 R1 T1 hF => ?_)
  refine s_gAs R1 (t_22 R1.S) (Nat.le_of_ble_eq_true rfl) rfl (o_22_14 R1.S) (a_36 R1) ?_
  refine s_qI R1 (u_36 R1.S).1 (u_36 R1.S).2 (by decide) (a_36 R1) rfl rl2 (c_and (c_lit 0 0 rfl) (c_lit 1 1 rfl)) (rr_I _) hF (fun h3 σ5 R3 T3 hF => ?_)
  refine s_if (not_congr (i_eq rfl (c_lit 18 18 rfl) rl1 ⟨by decide, by decide⟩)) hF (fun c4 hF => ?_) (fun c4 hF => ?_)
  ·
    refine s_kok R3 (t_22 R3.S) (Nat.le_of_ble_eq_true rfl) ?_
    refine s_tB R3 hb (fun _ hq => SX8_test (b := 3) (N := N) (rE := rE) (RE := RE) (rN := rN) (RN := RN) (Nat.le_of_ble_eq_true rfl) @hrE @hrN (R3.rf) rfl rl1 hq) hF (fun f6 rv6 h6 x9 σ10 R6 e6 E6 hF => ?_)
    refine s_gAs R6 (t_22 R6.S) (Nat.le_of_ble_eq_true rfl) rfl (o_22_12 R6.S) (a_34 R6) ?_
    refine s_qI R6 (u_34 R6.S).1 (u_34 R6.S).2 (by decide) (a_34 R6) rfl rl2 (c_and (c_lit 1 1 rfl) (c_lit 1 1 rfl)) (rr_I _) hF (fun h8 σ13 R8 T8 hF => ?_)
    refine s_if (i_eq e6.1 (c_lit 0 0 rfl) e6.2 ⟨by decide, by decide⟩) hF (fun c9 hF => ?_) (fun c9 hF => ?_)
    ·
      refine s_kok R8 (t_22 R8.S) (Nat.le_of_ble_eq_true rfl) ?_
      refine s_tB R8 (Nat.le_trans (Nat.le_of_ble_eq_true rfl) hb) (fun _ hq => SX8_passOwn (b := 2) (N := N) (Nat.le_of_ble_eq_true rfl) (R8.rf) rfl rl2 hq) hF (fun f11 rv11 h11 x17 σ18 R11 e11 E11 hF => ?_)
      refine s_gO R11 (t_22 R11.S) (Nat.le_of_ble_eq_true rfl) rfl (o_22_0 R11.S) ?_
      refine s_if (i_eq e11.1 (c_lit 20 20 rfl) e11.2 ⟨by decide, by decide⟩) hF (fun c13 hF => ?_) (fun c13 hF => ?_)
      ·
        exact SX8_decide_b122 (N := N) (rE := rE) (RE := RE) (rN := rN) (RN := RN) @hrE @hrN R11 rfl rl2 e11.1 e11.2 (c_lit 0 0 rfl) ⟨by decide, by decide⟩ hF
      ·
        exact SX8_decide_b122 (N := N) (rE := rE) (RE := RE) (rN := rN) (RN := RN) @hrE @hrN R11 rfl rl2 e11.1 e11.2 (c_lit 1 1 rfl) ⟨by decide, by decide⟩ hF
    ·
      exact g_ret R8 hF trivial
  ·
    refine s_kok R3 (t_22 R3.S) (Nat.le_of_ble_eq_true rfl) ?_
    refine s_tB R3 hb (fun _ hq => hrN (R3.rf)  hq) hF (fun f15 rv15 h15 x23 σ24 R15 e15 E15 hF => ?_)
    refine s_kok R15 (t_22 R15.S) (Nat.le_of_ble_eq_true rfl) ?_
    refine s_tB R15 (Nat.le_trans (Nat.le_of_ble_eq_true rfl) hb) (fun _ hq => SX8_chooseCase (b := 2) (N := N) (Nat.le_of_ble_eq_true rfl) (R15.rf) rfl rl2 e15.1 e15.2 hq) hF (fun f17 rv17 h17 x26 σ27 R17 e17 E17 hF => ?_)
    exact g_ret R17 hF trivial
def FX8_decide_b18 (N : Nat) (RE : Int → fS → Option ((Unit ⊕ Nat) × fS)) (RN : fS → Option ((Int ⊕ Nat) × fS)) (l1 : Int) (s1 : Int) (s : fS) : Option ((Unit ⊕ Nat) × fS) :=
  tB (FX4_want s1 2 s) fun x2 σ3 =>
  (uPI σ3 22 15 (iadd (σ3.i 22 15) 1)).bind fun σ6 =>
  (uQI σ6 34 (σ3.i 22 15) (iand 0 1)).bind fun σ10 =>
  if ¬ (l1 = 18) then
    FX8_decide_b57 N RE RN l1 (σ3.i 22 15) (σ3.i 22 15) 0 σ10
  else
    FX8_decide_b57 N RE RN l1 (σ3.i 22 15) (σ3.i 22 15) 1 σ10
theorem SX8_decide_b18 {m b : Nat} {φ0 : Nat → Nat} {σo : fS} (hb : 3 ≤ b) {N : Nat} {rE : Nat → Int32 → eH → Option ((Unit ⊕ Nat) × eH)} {RE : Int → fS → Option ((Unit ⊕ Nat) × fS)} {rN : Nat → eH → Option ((Int32 ⊕ Nat) × eH)} {RN : fS → Option ((Int ⊕ Nat) × fS)} {q : (Unit ⊕ Nat) × fS} (hrE : ∀ {φ : Nat → Nat} {h : eH} {s : fS} {x1' : Int32} {x1 : Int} {q}, fC m 3 φ s φ h s → x1' = iI x1 → r32 x1 → RE x1 s = some q → gG m 3 φ s (lT lU) q (rE 22 x1' h)) (hrN : ∀ {φ : Nat → Nat} {h : eH} {s : fS} {q}, fC m 3 φ s φ h s → RN s = some q → gG m 3 φ s (lT lI) q (rN 22 h)) {φ : Nat → Nat} {h : eH} {s : fS} {l1' : Int32} {l1 : Int} {s1' : Int32} {s1 : Int} (R : fC m b φ0 σo φ h s) (el1 : l1' = iI l1) (rl1 : r32 l1) (es1 : s1' = iI s1) (rs1 : r32 s1) (hF : FX8_decide_b18 N RE RN l1 s1 s = some q) : gG m b φ0 σo (lT lU) q (fX8_decide_b18 N rE rN 22 l1' 5 s1' h) := by
  subst el1; subst es1
  unfold FX8_decide_b18 at hF
  unfold fX8_decide_b18
  refine s_kok R (t_5 R.S) (Nat.le_of_ble_eq_true rfl) ?_
  refine s_tB R (Nat.zero_le _) (fun _ hq => SX4_want (b := 0) (R.rf) rfl rs1 (c_lit 2 2 rfl) ⟨by decide, by decide⟩ hq) hF (fun f2 rv2 h2 x2 σ3 R2 e2 E2 hF => ?_)
  refine s_gI R2 (t_22 R2.S) (Nat.le_of_ble_eq_true rfl) rfl ?_
  refine s_pI R2 (t_22 R2.S) (Nat.le_of_ble_eq_true rfl) rfl (c_add rfl (c_lit 1 1 rfl)) (rr_I _) hF (fun h4 σ6 R4 T4 hF => ?_)
  refine s_gAs R4 (t_22 R4.S) (Nat.le_of_ble_eq_true rfl) rfl (o_22_12 R4.S) (a_34 R4) ?_
  refine s_qI R4 (u_34 R4.S).1 (u_34 R4.S).2 (by decide) (a_34 R4) rfl (R2.ri (t_22 R2.S) (Nat.le_of_ble_eq_true rfl) rfl) (c_and (c_lit 0 0 rfl) (c_lit 1 1 rfl)) (rr_I _) hF (fun h6 σ10 R6 T6 hF => ?_)
  refine s_gAs R6 (t_22 R6.S) (Nat.le_of_ble_eq_true rfl) rfl (o_22_13 R6.S) (a_35 R6) ?_
  refine s_if (not_congr (i_eq rfl (c_lit 18 18 rfl) rl1 ⟨by decide, by decide⟩)) hF (fun c8 hF => ?_) (fun c8 hF => ?_)
  ·
    exact SX8_decide_b57 (N := N) (rE := rE) (RE := RE) (rN := rN) (RN := RN) hb @hrE @hrN R6 rfl rl1 rfl (R2.ri (t_22 R2.S) (Nat.le_of_ble_eq_true rfl) rfl) rfl (R2.ri (t_22 R2.S) (Nat.le_of_ble_eq_true rfl) rfl) (c_lit 0 0 rfl) ⟨by decide, by decide⟩ hF
  ·
    exact SX8_decide_b57 (N := N) (rE := rE) (RE := RE) (rN := rN) (RN := RN) hb @hrE @hrN R6 rfl rl1 rfl (R2.ri (t_22 R2.S) (Nat.le_of_ble_eq_true rfl) rfl) rfl (R2.ri (t_22 R2.S) (Nat.le_of_ble_eq_true rfl) rfl) (c_lit 1 1 rfl) ⟨by decide, by decide⟩ hF
def FX8_decide (N : Nat) (RE : Int → fS → Option ((Unit ⊕ Nat) × fS)) (RN : fS → Option ((Int ⊕ Nat) × fS)) (p0 : Int) (s : fS) : Option ((Unit ⊕ Nat) × fS) :=
  if 100 ≤ (s.i 22 15) then
    FX8_decide_b18 N RE RN p0 0 s
  else
    FX8_decide_b18 N RE RN p0 1 s
theorem SX8_decide {m b : Nat} {φ0 : Nat → Nat} {σo : fS} (hb : 3 ≤ b) {N : Nat} {rE : Nat → Int32 → eH → Option ((Unit ⊕ Nat) × eH)} {RE : Int → fS → Option ((Unit ⊕ Nat) × fS)} {rN : Nat → eH → Option ((Int32 ⊕ Nat) × eH)} {RN : fS → Option ((Int ⊕ Nat) × fS)} {q : (Unit ⊕ Nat) × fS} (hrE : ∀ {φ : Nat → Nat} {h : eH} {s : fS} {x1' : Int32} {x1 : Int} {q}, fC m 3 φ s φ h s → x1' = iI x1 → r32 x1 → RE x1 s = some q → gG m 3 φ s (lT lU) q (rE 22 x1' h)) (hrN : ∀ {φ : Nat → Nat} {h : eH} {s : fS} {q}, fC m 3 φ s φ h s → RN s = some q → gG m 3 φ s (lT lI) q (rN 22 h)) {φ : Nat → Nat} {h : eH} {s : fS} {p0' : Int32} {p0 : Int} (R : fC m b φ0 σo φ h s) (ep0 : p0' = iI p0) (rp0 : r32 p0) (hF : FX8_decide N RE RN p0 s = some q) : gG m b φ0 σo (lT lU) q (fX8_decide N rE rN 22 p0' h) := by
  subst ep0
  unfold FX8_decide at hF
  unfold fX8_decide
  refine s_gO R (t_22 R.S) (Nat.le_of_ble_eq_true rfl) rfl (o_22_0 R.S) ?_
  refine s_gI R (t_22 R.S) (Nat.le_of_ble_eq_true rfl) rfl ?_
  refine s_if (i_le (c_lit 100 100 rfl) rfl ⟨by decide, by decide⟩ (R.ri (t_22 R.S) (Nat.le_of_ble_eq_true rfl) rfl)) hF (fun c3 hF => ?_) (fun c3 hF => ?_)
  ·
    exact SX8_decide_b18 (N := N) (rE := rE) (RE := RE) (rN := rN) (RN := RN) hb @hrE @hrN R rfl rp0 (c_lit 0 0 rfl) ⟨by decide, by decide⟩ hF
  ·
    exact SX8_decide_b18 (N := N) (rE := rE) (RE := RE) (rN := rN) (RN := RN) hb @hrE @hrN R rfl rp0 (c_lit 1 1 rfl) ⟨by decide, by decide⟩ hF
def FX8_decimal_b50 (N : Nat) (RE : Int → fS → Option ((Unit ⊕ Nat) × fS)) (K12 : Int → Int → fS → Option ((Int ⊕ Nat) × fS)) (l2 : Int) (s1 : Int) (s : fS) : Option ((Int ⊕ Nat) × fS) :=
  tB (FX4_want s1 7 s) fun x2 σ3 =>
  tB (FX8_getExpanded N RE σ3) fun x5 σ6 =>
  K12 l2 x5 σ6
theorem SX8_decimal_b50 {m b : Nat} {φ0 : Nat → Nat} {σo : fS} (hb : 3 ≤ b) {N : Nat} {rE : Nat → Int32 → eH → Option ((Unit ⊕ Nat) × eH)} {RE : Int → fS → Option ((Unit ⊕ Nat) × fS)} {k12 : Nat → Int64 → Int32 → eH → Option ((Int32 ⊕ Nat) × eH)} {K12 : Int → Int → fS → Option ((Int ⊕ Nat) × fS)} {q : (Int ⊕ Nat) × fS} (hrE : ∀ {φ : Nat → Nat} {h : eH} {s : fS} {x1' : Int32} {x1 : Int} {q}, fC m 3 φ s φ h s → x1' = iI x1 → r32 x1 → RE x1 s = some q → gG m 3 φ s (lT lU) q (rE 22 x1' h)) (hk12 : ∀ {φ : Nat → Nat} {h : eH} {s : fS} {l2' : Int64} {l2 : Int} {l4' : Int32} {l4 : Int}, fC m b φ0 σo φ h s → l2' = iJ l2 → r64 l2 → l4' = iI l4 → r32 l4 → K12 l2 l4 s = some q → gG m b φ0 σo (lT lI) q (k12 22 l2' l4' h)) {φ : Nat → Nat} {h : eH} {s : fS} {l2' : Int64} {l2 : Int} {s1' : Int32} {s1 : Int} (R : fC m b φ0 σo φ h s) (el2 : l2' = iJ l2) (rl2 : r64 l2) (es1 : s1' = iI s1) (rs1 : r32 s1) (hF : FX8_decimal_b50 N RE K12 l2 s1 s = some q) : gG m b φ0 σo (lT lI) q (fX8_decimal_b50 N rE k12 22 l2' 5 s1' h) := by
  subst el2; subst es1
  unfold FX8_decimal_b50 at hF
  unfold fX8_decimal_b50
  refine s_kok R (t_5 R.S) (Nat.le_of_ble_eq_true rfl) ?_
  refine s_tB R (Nat.zero_le _) (fun _ hq => SX4_want (b := 0) (R.rf) rfl rs1 (c_lit 7 7 rfl) ⟨by decide, by decide⟩ hq) hF (fun f2 rv2 h2 x2 σ3 R2 e2 E2 hF => ?_)
  refine s_kok R2 (t_22 R2.S) (Nat.le_of_ble_eq_true rfl) ?_
  refine s_tB R2 hb (fun _ hq => SX8_getExpanded (b := 3) (N := N) (rE := rE) (RE := RE) (Nat.le_of_ble_eq_true rfl) @hrE (R2.rf) hq) hF (fun f4 rv4 h4 x5 σ6 R4 e4 E4 hF => ?_)
  exact hk12 R4 rfl rl2 e4.1 e4.2 hF
def FX8_decimal_b80 (N : Nat) (RE : Int → fS → Option ((Unit ⊕ Nat) × fS)) (l2 : Int) (s : fS) : Option ((Int ⊕ Nat) × fS) :=
  some (.inl (l2i l2), s)
theorem SX8_decimal_b80 {m b : Nat} {φ0 : Nat → Nat} {σo : fS} {N : Nat} {rE : Nat → Int32 → eH → Option ((Unit ⊕ Nat) × eH)} {RE : Int → fS → Option ((Unit ⊕ Nat) × fS)} {q : (Int ⊕ Nat) × fS} (hrE : ∀ {φ : Nat → Nat} {h : eH} {s : fS} {x1' : Int32} {x1 : Int} {q}, fC m 3 φ s φ h s → x1' = iI x1 → r32 x1 → RE x1 s = some q → gG m 3 φ s (lT lU) q (rE 22 x1' h)) {φ : Nat → Nat} {h : eH} {s : fS} {l2' : Int64} {l2 : Int} (R : fC m b φ0 σo φ h s) (el2 : l2' = iJ l2) (rl2 : r64 l2) (hF : FX8_decimal_b80 N RE l2 s = some q) : gG m b φ0 σo (lT lI) q (fX8_decimal_b80 N rE l2' h) := by
  subst el2
  unfold FX8_decimal_b80 at hF
  unfold fX8_decimal_b80
  exact g_ret R hF ⟨(d_2i rfl), (rr_I _)⟩
def FX8_decimal_b12 (N : Nat) (RE : Int → fS → Option ((Unit ⊕ Nat) × fS)) : Nat → Int → Int → fS → Option ((Int ⊕ Nat) × fS)
  | 0, _, _, _ => none
  | n + 1, l2, l4, s =>
    (FX1_isDigit l4 s).bind fun q1 =>
    if q1.1 = 0 then
      (FX1_is l4 10 q1.2).bind fun q3 =>
      if ¬ (q3.1 = 0) then
        FX8_decimal_b80 N RE l2 q3.2
      else
        (FX8_putBack l4 q3.2).bind fun q6 =>
        FX8_decimal_b80 N RE l2 q6.2
    else
      if 2147483647 < (ladd (lmul 10 l2) (iand l4 15)) then
        FX8_decimal_b50 N RE (FX8_decimal_b12 N RE n) (ladd (lmul 10 l2) (iand l4 15)) 0 q1.2
      else
        FX8_decimal_b50 N RE (FX8_decimal_b12 N RE n) (ladd (lmul 10 l2) (iand l4 15)) 1 q1.2
theorem SX8_decimal_b12 {m b : Nat} {φ0 : Nat → Nat} {σo : fS} (hb : 3 ≤ b) {N : Nat} {rE : Nat → Int32 → eH → Option ((Unit ⊕ Nat) × eH)} {RE : Int → fS → Option ((Unit ⊕ Nat) × fS)} {q : (Int ⊕ Nat) × fS} (hrE : ∀ {φ : Nat → Nat} {h : eH} {s : fS} {x1' : Int32} {x1 : Int} {q}, fC m 3 φ s φ h s → x1' = iI x1 → r32 x1 → RE x1 s = some q → gG m 3 φ s (lT lU) q (rE 22 x1' h)) : ∀ {n : Nat} {φ : Nat → Nat} {h : eH} {s : fS} {l2' : Int64} {l2 : Int} {l4' : Int32} {l4 : Int}, fC m b φ0 σo φ h s → l2' = iJ l2 → r64 l2 → l4' = iI l4 → r32 l4 → FX8_decimal_b12 N RE n l2 l4 s = some q → gG m b φ0 σo (lT lI) q (fX8_decimal_b12 N rE n 22 l2' l4' h) := by
  intro n
  induction n with
 | zero => intro φ h s l2' l2 l4' l4 R el2 rl2 el4 rl4 hF; simp [FX8_decimal_b12] at hF
  | succ n ih =>
    intro φ h s l2' l2 l4' l4 R el2 rl2 el4 rl4 hF
    subst el2; subst el4
    rw [FX8_decimal_b12] at hF
    rw [fX8_decimal_b12]
    refine s_call R (Nat.zero_le _) (fun _ hq => SX1_isDigit (b := 0) (R.rf) rfl rl4 hq) hF (fun f1 rv1 h1 q1 R1 e1 E1 hF => ?_)
    refine s_if (i_eq e1.1 (c_lit 0 0 rfl) e1.2 ⟨by decide, by decide⟩) hF (fun c2 hF => ?_) (fun c2 hF => ?_)
    ·
      refine s_call R1 (Nat.zero_le _) (fun _ hq => SX1_is (b := 0) (R1.rf) rfl rl4 (c_lit 10 10 rfl) ⟨by decide, by decide⟩ hq) hF (fun f3 rv3 h3 q3 R3 e3 E3 hF => ?_)
      refine s_if (not_congr (i_eq e3.1 (c_lit 0 0 rfl) e3.2 ⟨by decide, by decide⟩)) hF (fun c4 hF => ?_) (fun c4 hF => ?_)
      ·
        exact SX8_decimal_b80 (N := N) (rE := rE) (RE := RE) @hrE R3 rfl rl2 hF
      ·
        refine s_kok R3 (t_22 R3.S) (Nat.le_of_ble_eq_true rfl) ?_
        refine s_call R3 (Nat.le_trans (Nat.le_of_ble_eq_true rfl) hb) (fun _ hq => SX8_putBack (b := 1) (Nat.le_of_ble_eq_true rfl) (R3.rf) rfl rl4 hq) hF (fun f6 rv6 h6 q6 R6 e6 E6 hF => ?_)
        exact SX8_decimal_b80 (N := N) (rE := rE) (RE := RE) @hrE R6 rfl rl2 hF
    ·
      refine s_gO R1 (t_22 R1.S) (Nat.le_of_ble_eq_true rfl) rfl (o_22_0 R1.S) ?_
      refine s_if ((lg_cmp_gt _ _).trans (j_lt (d_lit 2147483647 2147483647 rfl) (d_add (d_mul (d_lit 10 10 rfl) rfl) (c_2l (c_and rfl (c_lit 15 15 rfl)) (rr_I _))) ⟨by decide, by decide⟩ (rr_J _))) hF (fun c8 hF => ?_) (fun c8 hF => ?_)
      ·
        exact SX8_decimal_b50 (N := N) (rE := rE) (RE := RE) (k12 := fX8_decimal_b12 N rE n) (K12 := FX8_decimal_b12 N RE n) hb @hrE @ih R1 (d_add (d_mul (d_lit 10 10 rfl) rfl) (c_2l (c_and rfl (c_lit 15 15 rfl)) (rr_I _))) (rr_J _) (c_lit 0 0 rfl) ⟨by decide, by decide⟩ hF
      ·
        exact SX8_decimal_b50 (N := N) (rE := rE) (RE := RE) (k12 := fX8_decimal_b12 N rE n) (K12 := FX8_decimal_b12 N RE n) hb @hrE @ih R1 (d_add (d_mul (d_lit 10 10 rfl) rfl) (c_2l (c_and rfl (c_lit 15 15 rfl)) (rr_I _))) (rr_J _) (c_lit 1 1 rfl) ⟨by decide, by decide⟩ hF
def FX8_decimal (N : Nat) (RE : Int → fS → Option ((Unit ⊕ Nat) × fS)) (p0 : Int) (s : fS) : Option ((Int ⊕ Nat) × fS) :=
  tB (FX8_getExpanded N RE s) fun x2 σ3 =>
  FX8_decimal_b12 N RE N (iand p0 15) x2 σ3
theorem SX8_decimal {m b : Nat} {φ0 : Nat → Nat} {σo : fS} (hb : 3 ≤ b) {N : Nat} {rE : Nat → Int32 → eH → Option ((Unit ⊕ Nat) × eH)} {RE : Int → fS → Option ((Unit ⊕ Nat) × fS)} {q : (Int ⊕ Nat) × fS} (hrE : ∀ {φ : Nat → Nat} {h : eH} {s : fS} {x1' : Int32} {x1 : Int} {q}, fC m 3 φ s φ h s → x1' = iI x1 → r32 x1 → RE x1 s = some q → gG m 3 φ s (lT lU) q (rE 22 x1' h)) {φ : Nat → Nat} {h : eH} {s : fS} {p0' : Int32} {p0 : Int} (R : fC m b φ0 σo φ h s) (ep0 : p0' = iI p0) (rp0 : r32 p0) (hF : FX8_decimal N RE p0 s = some q) : gG m b φ0 σo (lT lI) q (fX8_decimal N rE 22 p0' h) := by
  subst ep0
  unfold FX8_decimal at hF
  unfold fX8_decimal
  refine s_kok R (t_22 R.S) (Nat.le_of_ble_eq_true rfl) ?_
  refine s_tB R hb (fun _ hq => SX8_getExpanded (b := 3) (N := N) (rE := rE) (RE := RE) (Nat.le_of_ble_eq_true rfl) @hrE (R.rf) hq) hF (fun f2 rv2 h2 x2 σ3 R2 e2 E2 hF => ?_)
  exact SX8_decimal_b12 (N := N) (rE := rE) (RE := RE) hb @hrE R2 (c_2l (c_and rfl (c_lit 15 15 rfl)) (rr_I _)) (r32.w (rr_I _)) e2.1 e2.2 hF
def FX8_makeName_b53 (N : Nat) (RE : Int → fS → Option ((Unit ⊕ Nat) × fS)) (K10 : Int → Int → fS → Option ((Unit ⊕ Nat) × fS)) (l1 : Int) (l2 : Int) (s1 : Int) (s : fS) : Option ((Unit ⊕ Nat) × fS) :=
  tB (FX4_want s1 2 s) fun x2 σ3 =>
  (uPI σ3 22 22 (iadd (σ3.i 22 22) 1)).bind fun σ8 =>
  (uQI σ8 41 (σ3.i 22 22) (i2b (i2b l2))).bind fun σ10 =>
  tB (FX8_needExpanded N RE σ10) fun x13 σ14 =>
  K10 l1 x13 σ14
theorem SX8_makeName_b53 {m b : Nat} {φ0 : Nat → Nat} {σo : fS} (hb : 3 ≤ b) {N : Nat} {rE : Nat → Int32 → eH → Option ((Unit ⊕ Nat) × eH)} {RE : Int → fS → Option ((Unit ⊕ Nat) × fS)} {k10 : Nat → Int32 → Int32 → eH → Option ((Unit ⊕ Nat) × eH)} {K10 : Int → Int → fS → Option ((Unit ⊕ Nat) × fS)} {q : (Unit ⊕ Nat) × fS} (hrE : ∀ {φ : Nat → Nat} {h : eH} {s : fS} {x1' : Int32} {x1 : Int} {q}, fC m 3 φ s φ h s → x1' = iI x1 → r32 x1 → RE x1 s = some q → gG m 3 φ s (lT lU) q (rE 22 x1' h)) (hk10 : ∀ {φ : Nat → Nat} {h : eH} {s : fS} {l1' : Int32} {l1 : Int} {l2' : Int32} {l2 : Int}, fC m b φ0 σo φ h s → l1' = iI l1 → r32 l1 → l2' = iI l2 → r32 l2 → K10 l1 l2 s = some q → gG m b φ0 σo (lT lU) q (k10 22 l1' l2' h)) {φ : Nat → Nat} {h : eH} {s : fS} {l1' : Int32} {l1 : Int} {l2' : Int32} {l2 : Int} {s1' : Int32} {s1 : Int} (R : fC m b φ0 σo φ h s) (el1 : l1' = iI l1) (rl1 : r32 l1) (el2 : l2' = iI l2) (rl2 : r32 l2) (es1 : s1' = iI s1) (rs1 : r32 s1) (hF : FX8_makeName_b53 N RE K10 l1 l2 s1 s = some q) : gG m b φ0 σo (lT lU) q (fX8_makeName_b53 N rE k10 22 l1' l2' 5 s1' h) := by
  subst el1; subst el2; subst es1
  unfold FX8_makeName_b53 at hF
  unfold fX8_makeName_b53
  refine s_kok R (t_5 R.S) (Nat.le_of_ble_eq_true rfl) ?_
  refine s_tB R (Nat.zero_le _) (fun _ hq => SX4_want (b := 0) (R.rf) rfl rs1 (c_lit 2 2 rfl) ⟨by decide, by decide⟩ hq) hF (fun f2 rv2 h2 x2 σ3 R2 e2 E2 hF => ?_)
  refine s_gAs R2 (t_22 R2.S) (Nat.le_of_ble_eq_true rfl) rfl (o_22_21 R2.S) (a_41 R2) ?_
  refine s_gI R2 (t_22 R2.S) (Nat.le_of_ble_eq_true rfl) rfl ?_
  refine s_pI R2 (t_22 R2.S) (Nat.le_of_ble_eq_true rfl) rfl (c_add rfl (c_lit 1 1 rfl)) (rr_I _) hF (fun h5 σ8 R5 T5 hF => ?_)
  refine s_qI R5 (u_41 R5.S).1 (u_41 R5.S).2 (by decide) (a_41 R5) rfl (R2.ri (t_22 R2.S) (Nat.le_of_ble_eq_true rfl) rfl) (c_2b (c_2b rfl)) (rr_I _) hF (fun h6 σ10 R6 T6 hF => ?_)
  refine s_kok R6 (t_22 R6.S) (Nat.le_of_ble_eq_true rfl) ?_
  refine s_tB R6 hb (fun _ hq => SX8_needExpanded (b := 3) (N := N) (rE := rE) (RE := RE) (Nat.le_of_ble_eq_true rfl) @hrE (R6.rf) hq) hF (fun f8 rv8 h8 x13 σ14 R8 e8 E8 hF => ?_)
  exact hk10 R8 rfl rl1 e8.1 e8.2 hF
def FX8_makeName_b170 (N : Nat) (RE : Int → fS → Option ((Unit ⊕ Nat) × fS)) (l3 : Int) (s : fS) : Option ((Unit ⊕ Nat) × fS) :=
  (FX13_put (iadd 4096 l3) s).bind fun q4 =>
  some (.inl (), q4.2)
theorem SX8_makeName_b170 {m b : Nat} {φ0 : Nat → Nat} {σo : fS} (hb : 1 ≤ b) {N : Nat} {rE : Nat → Int32 → eH → Option ((Unit ⊕ Nat) × eH)} {RE : Int → fS → Option ((Unit ⊕ Nat) × fS)} {q : (Unit ⊕ Nat) × fS} (hrE : ∀ {φ : Nat → Nat} {h : eH} {s : fS} {x1' : Int32} {x1 : Int} {q}, fC m 3 φ s φ h s → x1' = iI x1 → r32 x1 → RE x1 s = some q → gG m 3 φ s (lT lU) q (rE 22 x1' h)) {φ : Nat → Nat} {h : eH} {s : fS} {l3' : Int32} {l3 : Int} (R : fC m b φ0 σo φ h s) (el3 : l3' = iI l3) (rl3 : r32 l3) (hF : FX8_makeName_b170 N RE l3 s = some q) : gG m b φ0 σo (lT lU) q (fX8_makeName_b170 N rE 22 l3' h) := by
  subst el3
  unfold FX8_makeName_b170 at hF
  unfold fX8_makeName_b170
  refine s_gO R (t_22 R.S) (Nat.le_of_ble_eq_true rfl) rfl (o_22_7 R.S) ?_
  refine s_kok R (t_58 R.S) (Nat.le_of_ble_eq_true rfl) ?_
  refine s_call R hb (fun _ hq => SX13_put (b := 1) (Nat.le_of_ble_eq_true rfl) (R.rf) (c_add (c_lit 4096 4096 rfl) rfl) (rr_I _) hq) hF (fun f3 rv3 h3 q4 R3 e3 E3 hF => ?_)
  exact g_ret R3 hF trivial
def FX8_makeName_b92 (N : Nat) (RE : Int → fS → Option ((Unit ⊕ Nat) × fS)) : Nat → Int → Int → fS → Option ((Unit ⊕ Nat) × fS)
  | 0, _, _, _ => none
  | n + 1, l1, l3, s =>
    if (s.i 22 22) ≤ l3 then
      (uPI s 22 22 l1).bind fun σ4 =>
      tB (FX10_slot N σ4) fun x9 σ10 =>
      (FX9_reach (σ10.i 44 6) σ10).bind fun q18 =>
      (uRI q18.2 24 x9).bind fun x23 =>
      if ¬ (x23 = 0) then
        FX8_makeName_b170 N RE x9 q18.2
      else
        (FX9_mean N x9 1 22 0 q18.2).bind fun q29 =>
        FX8_makeName_b170 N RE x9 q29.2
    else
      (uRI s 41 l3).bind fun x34 =>
      tB (FX10_add x34 s) fun x37 σ38 =>
      FX8_makeName_b92 N RE n l1 (iadd l3 1) σ38
theorem SX8_makeName_b92 {m b : Nat} {φ0 : Nat → Nat} {σo : fS} (hb : 2 ≤ b) {N : Nat} {rE : Nat → Int32 → eH → Option ((Unit ⊕ Nat) × eH)} {RE : Int → fS → Option ((Unit ⊕ Nat) × fS)} {q : (Unit ⊕ Nat) × fS} (hrE : ∀ {φ : Nat → Nat} {h : eH} {s : fS} {x1' : Int32} {x1 : Int} {q}, fC m 3 φ s φ h s → x1' = iI x1 → r32 x1 → RE x1 s = some q → gG m 3 φ s (lT lU) q (rE 22 x1' h)) : ∀ {n : Nat} {φ : Nat → Nat} {h : eH} {s : fS} {l1' : Int32} {l1 : Int} {l3' : Int32} {l3 : Int}, fC m b φ0 σo φ h s → l1' = iI l1 → r32 l1 → l3' = iI l3 → r32 l3 → FX8_makeName_b92 N RE n l1 l3 s = some q → gG m b φ0 σo (lT lU) q (fX8_makeName_b92 N rE n 22 l1' l3' h) := by
  intro n
  induction n with
 | zero => intro φ h s l1' l1 l3' l3 R el1 rl1 el3 rl3 hF; simp [FX8_makeName_b92] at hF
  | succ n ih =>
    intro φ h s l1' l1 l3' l3 R el1 rl1 el3 rl3 hF
    subst el1; subst el3
    rw [FX8_makeName_b92] at hF
    rw [fX8_makeName_b92]
    refine s_gI R (t_22 R.S) (Nat.le_of_ble_eq_true rfl) rfl ?_
    refine s_if (i_le rfl rfl (R.ri (t_22 R.S) (Nat.le_of_ble_eq_true rfl) rfl) rl3) hF (fun c2 hF => ?_) (fun c2 hF => ?_)
    ·
      refine s_pI R (t_22 R.S) (Nat.le_of_ble_eq_true rfl) rfl rfl rl1 hF (fun h3 σ4 R3 T3 hF => ?_)
      refine s_gO R3 (t_22 R3.S) (Nat.le_of_ble_eq_true rfl) rfl (o_22_3 R3.S) ?_
      refine s_kok R3 (t_44 R3.S) (Nat.le_of_ble_eq_true rfl) ?_
      refine s_tB R3 (Nat.le_trans (Nat.le_of_ble_eq_true rfl) hb) (fun _ hq => SX10_slot (b := 1) (N := N) (Nat.le_of_ble_eq_true rfl) (R3.rf) hq) hF (fun f6 rv6 h6 x9 σ10 R6 e6 E6 hF => ?_)
      refine s_gO R6 (t_22 R6.S) (Nat.le_of_ble_eq_true rfl) rfl (o_22_4 R6.S) ?_
      refine s_gO R6 (t_22 R6.S) (Nat.le_of_ble_eq_true rfl) rfl (o_22_3 R6.S) ?_
      refine s_gI R6 (t_44 R6.S) (Nat.le_of_ble_eq_true rfl) rfl ?_
      refine s_kok R6 (t_23 R6.S) (Nat.le_of_ble_eq_true rfl) ?_
      refine s_call R6 hb (fun _ hq => SX9_reach (b := 2) (Nat.le_of_ble_eq_true rfl) (R6.rf) rfl (R6.ri (t_44 R6.S) (Nat.le_of_ble_eq_true rfl) rfl) hq) hF (fun f11 rv11 h11 q18 R11 e11 E11 hF => ?_)
      refine s_gO R11 (t_22 R11.S) (Nat.le_of_ble_eq_true rfl) rfl (o_22_4 R11.S) ?_
      refine s_gA R11 (t_23 R11.S) (Nat.le_of_ble_eq_true rfl) rfl (o_23_0 R11.S) (fun _ _ => ?_)
      refine s_rI R11 (u_24 R11.S).1 (u_24 R11.S).2 (by decide) rfl e6.1 e6.2 hF (fun x23 ra14 hF => ?_)
      refine s_if (not_congr (i_eq rfl (c_lit 0 0 rfl) ra14 ⟨by decide, by decide⟩)) hF (fun c15 hF => ?_) (fun c15 hF => ?_)
      ·
        exact SX8_makeName_b170 (N := N) (rE := rE) (RE := RE) (Nat.le_trans (Nat.le_of_ble_eq_true rfl) hb) @hrE R11 e6.1 e6.2 hF
      ·
        refine s_gO R11 (t_22 R11.S) (Nat.le_of_ble_eq_true rfl) rfl (o_22_4 R11.S) ?_
        refine s_kok R11 (t_23 R11.S) (Nat.le_of_ble_eq_true rfl) ?_
        refine s_call R11 (Nat.le_trans (Nat.le_of_ble_eq_true rfl) hb) (fun _ hq => SX9_mean (b := 1) (N := N) (Nat.le_of_ble_eq_true rfl) (R11.rf) e6.1 e6.2 (c_lit 1 1 rfl) ⟨by decide, by decide⟩ (c_lit 22 22 rfl) ⟨by decide, by decide⟩ (c_lit 0 0 rfl) ⟨by decide, by decide⟩ hq) hF (fun f18 rv18 h18 q29 R18 e18 E18 hF => ?_)
        exact SX8_makeName_b170 (N := N) (rE := rE) (RE := RE) (Nat.le_trans (Nat.le_of_ble_eq_true rfl) hb) @hrE R18 e6.1 e6.2 hF
    ·
      refine s_gO R (t_22 R.S) (Nat.le_of_ble_eq_true rfl) rfl (o_22_3 R.S) ?_
      refine s_gAs R (t_22 R.S) (Nat.le_of_ble_eq_true rfl) rfl (o_22_21 R.S) (a_41 R) ?_
      refine s_rI R (u_41 R.S).1 (u_41 R.S).2 (by decide) (a_41 R) rfl rl3 hF (fun x34 ra21 hF => ?_)
      refine s_kok R (t_44 R.S) (Nat.le_of_ble_eq_true rfl) ?_
      refine s_tB R (Nat.zero_le _) (fun _ hq => SX10_add (b := 0) (R.rf) rfl ra21 hq) hF (fun f23 rv23 h23 x37 σ38 R23 e23 E23 hF => ?_)
      exact ih R23 rfl rl1 (c_add rfl (c_lit 1 1 rfl)) (rr_I _) hF
def FX8_makeName_b10 (N : Nat) (RE : Int → fS → Option ((Unit ⊕ Nat) × fS)) : Nat → Int → Int → fS → Option ((Unit ⊕ Nat) × fS)
  | 0, _, _, _ => none
  | n + 1, l1, l2, s =>
    (FX8_primitive l2 s).bind fun q2 =>
    if q2.1 = 27 then
      (FX10_open q2.2).bind fun q7 =>
      FX8_makeName_b92 N RE N l1 l1 q7.2
    else
      (FX1_isCharacter l2 q2.2).bind fun q10 =>
      tB (FX4_want q10.1 6 q10.2) fun x12 σ13 =>
      if (iadd l1 40) ≤ (σ13.i 22 22) then
        FX8_makeName_b53 N RE (FX8_makeName_b10 N RE n) l1 l2 0 σ13
      else
        FX8_makeName_b53 N RE (FX8_makeName_b10 N RE n) l1 l2 1 σ13
theorem SX8_makeName_b10 {m b : Nat} {φ0 : Nat → Nat} {σo : fS} (hb : 3 ≤ b) {N : Nat} {rE : Nat → Int32 → eH → Option ((Unit ⊕ Nat) × eH)} {RE : Int → fS → Option ((Unit ⊕ Nat) × fS)} {q : (Unit ⊕ Nat) × fS} (hrE : ∀ {φ : Nat → Nat} {h : eH} {s : fS} {x1' : Int32} {x1 : Int} {q}, fC m 3 φ s φ h s → x1' = iI x1 → r32 x1 → RE x1 s = some q → gG m 3 φ s (lT lU) q (rE 22 x1' h)) : ∀ {n : Nat} {φ : Nat → Nat} {h : eH} {s : fS} {l1' : Int32} {l1 : Int} {l2' : Int32} {l2 : Int}, fC m b φ0 σo φ h s → l1' = iI l1 → r32 l1 → l2' = iI l2 → r32 l2 → FX8_makeName_b10 N RE n l1 l2 s = some q → gG m b φ0 σo (lT lU) q (fX8_makeName_b10 N rE n 22 l1' l2' h) := by
  intro n
  induction n with
 | zero => intro φ h s l1' l1 l2' l2 R el1 rl1 el2 rl2 hF; simp [FX8_makeName_b10] at hF
  | succ n ih =>
    intro φ h s l1' l1 l2' l2 R el1 rl1 el2 rl2 hF
    subst el1; subst el2
    rw [FX8_makeName_b10] at hF
    rw [fX8_makeName_b10]
    refine s_kok R (t_22 R.S) (Nat.le_of_ble_eq_true rfl) ?_
    refine s_call R (Nat.zero_le _) (fun _ hq => SX8_primitive (b := 0) (R.rf) rfl rl2 hq) hF (fun f2 rv2 h2 q2 R2 e2 E2 hF => ?_)
    refine s_if (i_eq e2.1 (c_lit 27 27 rfl) e2.2 ⟨by decide, by decide⟩) hF (fun c3 hF => ?_) (fun c3 hF => ?_)
    ·
      refine s_gO R2 (t_22 R2.S) (Nat.le_of_ble_eq_true rfl) rfl (o_22_3 R2.S) ?_
      refine s_kok R2 (t_44 R2.S) (Nat.le_of_ble_eq_true rfl) ?_
      refine s_call R2 (Nat.zero_le _) (fun _ hq => SX10_open (b := 0) (R2.rf) hq) hF (fun f6 rv6 h6 q7 R6 e6 E6 hF => ?_)
      exact SX8_makeName_b92 (N := N) (rE := rE) (RE := RE) (Nat.le_trans (Nat.le_of_ble_eq_true rfl) hb) @hrE R6 rfl rl1 rfl rl1 hF
    ·
      refine s_gO R2 (t_22 R2.S) (Nat.le_of_ble_eq_true rfl) rfl (o_22_0 R2.S) ?_
      refine s_call R2 (Nat.zero_le _) (fun _ hq => SX1_isCharacter (b := 0) (R2.rf) rfl rl2 hq) hF (fun f8 rv8 h8 q10 R8 e8 E8 hF => ?_)
      refine s_kok R8 (t_5 R8.S) (Nat.le_of_ble_eq_true rfl) ?_
      refine s_tB R8 (Nat.zero_le _) (fun _ hq => SX4_want (b := 0) (R8.rf) e8.1 e8.2 (c_lit 6 6 rfl) ⟨by decide, by decide⟩ hq) hF (fun f10 rv10 h10 x12 σ13 R10 e10 E10 hF => ?_)
      refine s_gO R10 (t_22 R10.S) (Nat.le_of_ble_eq_true rfl) rfl (o_22_0 R10.S) ?_
      refine s_gI R10 (t_22 R10.S) (Nat.le_of_ble_eq_true rfl) rfl ?_
      refine s_if (i_le (c_add rfl (c_lit 40 40 rfl)) rfl (rr_I _) (R10.ri (t_22 R10.S) (Nat.le_of_ble_eq_true rfl) rfl)) hF (fun c13 hF => ?_) (fun c13 hF => ?_)
      ·
        exact SX8_makeName_b53 (N := N) (rE := rE) (RE := RE) (k10 := fX8_makeName_b10 N rE n) (K10 := FX8_makeName_b10 N RE n) hb @hrE @ih R10 rfl rl1 rfl rl2 (c_lit 0 0 rfl) ⟨by decide, by decide⟩ hF
      ·
        exact SX8_makeName_b53 (N := N) (rE := rE) (RE := RE) (k10 := fX8_makeName_b10 N rE n) (K10 := FX8_makeName_b10 N RE n) hb @hrE @ih R10 rfl rl1 rfl rl2 (c_lit 1 1 rfl) ⟨by decide, by decide⟩ hF
def FX8_makeName (N : Nat) (RE : Int → fS → Option ((Unit ⊕ Nat) × fS)) (s : fS) : Option ((Unit ⊕ Nat) × fS) :=
  tB (FX8_needExpanded N RE s) fun x4 σ5 =>
  FX8_makeName_b10 N RE N (s.i 22 22) x4 σ5
theorem SX8_makeName {m b : Nat} {φ0 : Nat → Nat} {σo : fS} (hb : 3 ≤ b) {N : Nat} {rE : Nat → Int32 → eH → Option ((Unit ⊕ Nat) × eH)} {RE : Int → fS → Option ((Unit ⊕ Nat) × fS)} {q : (Unit ⊕ Nat) × fS} (hrE : ∀ {φ : Nat → Nat} {h : eH} {s : fS} {x1' : Int32} {x1 : Int} {q}, fC m 3 φ s φ h s → x1' = iI x1 → r32 x1 → RE x1 s = some q → gG m 3 φ s (lT lU) q (rE 22 x1' h)) {φ : Nat → Nat} {h : eH} {s : fS} (R : fC m b φ0 σo φ h s) (hF : FX8_makeName N RE s = some q) : gG m b φ0 σo (lT lU) q (fX8_makeName N rE 22 h) := by
  unfold FX8_makeName at hF
  unfold fX8_makeName
  refine s_gI R (t_22 R.S) (Nat.le_of_ble_eq_true rfl) rfl ?_
  refine s_kok R (t_22 R.S) (Nat.le_of_ble_eq_true rfl) ?_
  refine s_tB R hb (fun _ hq => SX8_needExpanded (b := 3) (N := N) (rE := rE) (RE := RE) (Nat.le_of_ble_eq_true rfl) @hrE (R.rf) hq) hF (fun f3 rv3 h3 x4 σ5 R3 e3 E3 hF => ?_)
  exact SX8_makeName_b10 (N := N) (rE := rE) (RE := RE) hb @hrE R3 rfl (R.ri (t_22 R.S) (Nat.le_of_ble_eq_true rfl) rfl) e3.1 e3.2 hF
def FX13_putAll_b4 (N : Nat) : Nat → Int → fS → Option (Unit × fS)
  | 0, _, _ => none
  | n + 1, l3, s =>
    if l3 < 0 then
      some ((), s)
    else
      (uRI s 39 l3).bind fun x2 =>
      (FX13_put x2 s).bind fun q5 =>
      FX13_putAll_b4 N n (iadd l3 (-1)) q5.2
theorem SX13_putAll_b4 {m b : Nat} {φ0 : Nat → Nat} {σo : fS} (hb : 1 ≤ b) {N : Nat} {q : Unit × fS} : ∀ {n : Nat} {φ : Nat → Nat} {h : eH} {s : fS} {l3' : Int32} {l3 : Int}, fC m b φ0 σo φ h s → l3' = iI l3 → r32 l3 → FX13_putAll_b4 N n l3 s = some q → gG m b φ0 σo lU q (fX13_putAll_b4 N n 58 39 l3' h) := by
  intro n
  induction n with
 | zero => intro φ h s l3' l3 R el3 rl3 hF; simp [FX13_putAll_b4] at hF
  | succ n ih =>
    intro φ h s l3' l3 R el3 rl3 hF
    subst el3
    rw [FX13_putAll_b4] at hF
    rw [fX13_putAll_b4]
    refine s_if (i_lt rfl (c_lit 0 0 rfl) rl3 ⟨by decide, by decide⟩) hF (fun c1 hF => ?_) (fun c1 hF => ?_)
    ·
      exact g_ret R hF trivial
    ·
      refine s_rI R (u_39 R.S).1 (u_39 R.S).2 (by decide) (a_39 R) rfl rl3 hF (fun x2 ra2 hF => ?_)
      refine s_kok R (t_58 R.S) (Nat.le_of_ble_eq_true rfl) ?_
      refine s_call R hb (fun _ hq => SX13_put (b := 1) (Nat.le_of_ble_eq_true rfl) (R.rf) rfl ra2 hq) hF (fun f4 rv4 h4 q5 R4 e4 E4 hF => ?_)
      exact ih R4 (c_add rfl (c_lit (-1) (-1) rfl)) (rr_I _) hF
def FX13_putAll (N : Nat) (p1 : Int) (s : fS) : Option (Unit × fS) :=
  FX13_putAll_b4 N N (isub p1 1) s
theorem SX13_putAll {m b : Nat} {φ0 : Nat → Nat} {σo : fS} (hb : 1 ≤ b) {N : Nat} {q : Unit × fS} {φ : Nat → Nat} {h : eH} {s : fS} {p1' : Int32} {p1 : Int} (R : fC m b φ0 σo φ h s) (ep1 : p1' = iI p1) (rp1 : r32 p1) (hF : FX13_putAll N p1 s = some q) : gG m b φ0 σo lU q (fX13_putAll N 58 39 p1' h) := by
  subst ep1
  unfold FX13_putAll at hF
  unfold fX13_putAll
  exact SX13_putAll_b4 (N := N) hb R (c_sub rfl (c_lit 1 1 rfl)) (rr_I _) hF
def FX8_spell_b121 (N : Nat) (l2 : Int) (s : fS) : Option (Unit × fS) :=
  (FX13_putAll N l2 s).bind fun q6 =>
  some ((), q6.2)
theorem SX8_spell_b121 {m b : Nat} {φ0 : Nat → Nat} {σo : fS} (hb : 1 ≤ b) {N : Nat} {q : Unit × fS} {φ : Nat → Nat} {h : eH} {s : fS} {l2' : Int32} {l2 : Int} (R : fC m b φ0 σo φ h s) (el2 : l2' = iI l2) (rl2 : r32 l2) (hF : FX8_spell_b121 N l2 s = some q) : gG m b φ0 σo lU q (fX8_spell_b121 N 22 l2' h) := by
  subst el2
  unfold FX8_spell_b121 at hF
  unfold fX8_spell_b121
  refine s_gO R (t_22 R.S) (Nat.le_of_ble_eq_true rfl) rfl (o_22_7 R.S) ?_
  refine s_gAs R (t_22 R.S) (Nat.le_of_ble_eq_true rfl) rfl (o_22_19 R.S) (a_39 R) ?_
  refine s_kok R (t_58 R.S) (Nat.le_of_ble_eq_true rfl) ?_
  refine s_call R hb (fun _ hq => SX13_putAll (b := 1) (N := N) (Nat.le_of_ble_eq_true rfl) (R.rf) rfl rl2 hq) hF (fun f4 rv4 h4 q6 R4 e4 E4 hF => ?_)
  exact g_ret R4 hF trivial
def FX8_spell_b79 (N : Nat) : Nat → Int → Int → Int → fS → Option (Unit × fS)
  | 0, _, _, _, _ => none
  | n + 1, l2, l3, l4, s =>
    (uRI s 47 l3).bind fun x5 =>
    if x5 ≤ l4 then
      FX8_spell_b121 N l2 s
    else
      (FX10_letter l3 l4 s).bind fun q13 =>
      (FX1_other q13.1 q13.2).bind fun q14 =>
      (uQI q14.2 39 l2 q14.1).bind fun σ15 =>
      FX8_spell_b79 N n (iadd l2 1) l3 (iadd l4 1) σ15
theorem SX8_spell_b79 {m b : Nat} {φ0 : Nat → Nat} {σo : fS} (hb : 1 ≤ b) {N : Nat} {q : Unit × fS} : ∀ {n : Nat} {φ : Nat → Nat} {h : eH} {s : fS} {l2' : Int32} {l2 : Int} {l3' : Int32} {l3 : Int} {l4' : Int32} {l4 : Int}, fC m b φ0 σo φ h s → l2' = iI l2 → r32 l2 → l3' = iI l3 → r32 l3 → l4' = iI l4 → r32 l4 → FX8_spell_b79 N n l2 l3 l4 s = some q → gG m b φ0 σo lU q (fX8_spell_b79 N n 22 l2' l3' l4' h) := by
  intro n
  induction n with
 | zero => intro φ h s l2' l2 l3' l3 l4' l4 R el2 rl2 el3 rl3 el4 rl4 hF; simp [FX8_spell_b79] at hF
  | succ n ih =>
    intro φ h s l2' l2 l3' l3 l4' l4 R el2 rl2 el3 rl3 el4 rl4 hF
    subst el2; subst el3; subst el4
    rw [FX8_spell_b79] at hF
    rw [fX8_spell_b79]
    refine s_gO R (t_22 R.S) (Nat.le_of_ble_eq_true rfl) rfl (o_22_3 R.S) ?_
    refine s_gA R (t_44 R.S) (Nat.le_of_ble_eq_true rfl) rfl (o_44_3 R.S) (fun _ _ => ?_)
    refine s_rI R (u_47 R.S).1 (u_47 R.S).2 (by decide) rfl rfl rl3 hF (fun x5 ra3 hF => ?_)
    refine s_if (i_le rfl rfl ra3 rl4) hF (fun c4 hF => ?_) (fun c4 hF => ?_)
    ·
      exact SX8_spell_b121 (N := N) hb R rfl rl2 hF
    ·
      refine s_gAs R (t_22 R.S) (Nat.le_of_ble_eq_true rfl) rfl (o_22_19 R.S) (a_39 R) ?_
      refine s_gO R (t_22 R.S) (Nat.le_of_ble_eq_true rfl) rfl (o_22_3 R.S) ?_
      refine s_kok R (t_44 R.S) (Nat.le_of_ble_eq_true rfl) ?_
      refine s_call R (Nat.zero_le _) (fun _ hq => SX10_letter (b := 0) (R.rf) rfl rl3 rfl rl4 hq) hF (fun f8 rv8 h8 q13 R8 e8 E8 hF => ?_)
      refine s_call R8 (Nat.zero_le _) (fun _ hq => SX1_other (b := 0) (R8.rf) e8.1 e8.2 hq) hF (fun f9 rv9 h9 q14 R9 e9 E9 hF => ?_)
      refine s_qI R9 (u_39 R9.S).1 (u_39 R9.S).2 (by decide) (a_39 R9) rfl rl2 e9.1 e9.2 hF (fun h10 σ15 R10 T10 hF => ?_)
      exact ih R10 (c_add rfl (c_lit 1 1 rfl)) (rr_I _) rfl rl3 (c_add rfl (c_lit 1 1 rfl)) (rr_I _) hF
def FX8_spell (N : Nat) (p0 : Int) (s : fS) : Option (Unit × fS) :=
  (FX1_isCharacter p0 s).bind fun q1 =>
  if q1.1 = 0 then
    if 4352 ≤ p0 then
      (FX1_other 92 q1.2).bind fun q6 =>
      (uQI q6.2 39 0 q6.1).bind fun σ7 =>
      FX8_spell_b79 N N (iadd 0 1) (isub p0 4096) 0 σ7
    else
      (FX1_other (isub p0 4096) q1.2).bind fun q11 =>
      (uQI q11.2 39 0 q11.1).bind fun σ12 =>
      FX8_spell_b121 N (iadd 0 1) σ12
  else
    (FX1_other (iand p0 255) q1.2).bind fun q16 =>
    (uQI q16.2 39 0 q16.1).bind fun σ17 =>
    FX8_spell_b121 N (iadd 0 1) σ17
theorem SX8_spell {m b : Nat} {φ0 : Nat → Nat} {σo : fS} (hb : 1 ≤ b) {N : Nat} {q : Unit × fS} {φ : Nat → Nat} {h : eH} {s : fS} {p0' : Int32} {p0 : Int} (R : fC m b φ0 σo φ h s) (ep0 : p0' = iI p0) (rp0 : r32 p0) (hF : FX8_spell N p0 s = some q) : gG m b φ0 σo lU q (fX8_spell N 22 p0' h) := by
  subst ep0
  unfold FX8_spell at hF
  unfold fX8_spell
  refine s_call R (Nat.zero_le _) (fun _ hq => SX1_isCharacter (b := 0) (R.rf) rfl rp0 hq) hF (fun f1 rv1 h1 q1 R1 e1 E1 hF => ?_)
  refine s_if (i_eq e1.1 (c_lit 0 0 rfl) e1.2 ⟨by decide, by decide⟩) hF (fun c2 hF => ?_) (fun c2 hF => ?_)
  ·
    refine s_if (i_le (c_lit 4352 4352 rfl) rfl ⟨by decide, by decide⟩ rp0) hF (fun c3 hF => ?_) (fun c3 hF => ?_)
    ·
      refine s_gAs R1 (t_22 R1.S) (Nat.le_of_ble_eq_true rfl) rfl (o_22_19 R1.S) (a_39 R1) ?_
      refine s_call R1 (Nat.zero_le _) (fun _ hq => SX1_other (b := 0) (R1.rf) (c_lit 92 92 rfl) ⟨by decide, by decide⟩ hq) hF (fun f5 rv5 h5 q6 R5 e5 E5 hF => ?_)
      refine s_qI R5 (u_39 R5.S).1 (u_39 R5.S).2 (by decide) (a_39 R5) (c_lit 0 0 rfl) ⟨by decide, by decide⟩ e5.1 e5.2 hF (fun h6 σ7 R6 T6 hF => ?_)
      exact SX8_spell_b79 (N := N) hb R6 (c_add (c_lit 0 0 rfl) (c_lit 1 1 rfl)) (rr_I _) (c_sub rfl (c_lit 4096 4096 rfl)) (rr_I _) (c_lit 0 0 rfl) ⟨by decide, by decide⟩ hF
    ·
      refine s_gAs R1 (t_22 R1.S) (Nat.le_of_ble_eq_true rfl) rfl (o_22_19 R1.S) (a_39 R1) ?_
      refine s_call R1 (Nat.zero_le _) (fun _ hq => SX1_other (b := 0) (R1.rf) (c_sub rfl (c_lit 4096 4096 rfl)) (rr_I _) hq) hF (fun f8 rv8 h8 q11 R8 e8 E8 hF => ?_)
      refine s_qI R8 (u_39 R8.S).1 (u_39 R8.S).2 (by decide) (a_39 R8) (c_lit 0 0 rfl) ⟨by decide, by decide⟩ e8.1 e8.2 hF (fun h9 σ12 R9 T9 hF => ?_)
      exact SX8_spell_b121 (N := N) hb R9 (c_add (c_lit 0 0 rfl) (c_lit 1 1 rfl)) (rr_I _) hF
  ·
    refine s_gAs R1 (t_22 R1.S) (Nat.le_of_ble_eq_true rfl) rfl (o_22_19 R1.S) (a_39 R1) ?_
    refine s_call R1 (Nat.zero_le _) (fun _ hq => SX1_other (b := 0) (R1.rf) (c_and rfl (c_lit 255 255 rfl)) (rr_I _) hq) hF (fun f11 rv11 h11 q16 R11 e11 E11 hF => ?_)
    refine s_qI R11 (u_39 R11.S).1 (u_39 R11.S).2 (by decide) (a_39 R11) (c_lit 0 0 rfl) ⟨by decide, by decide⟩ e11.1 e11.2 hF (fun h12 σ17 R12 T12 hF => ?_)
    exact SX8_spell_b121 (N := N) hb R12 (c_add (c_lit 0 0 rfl) (c_lit 1 1 rfl)) (rr_I _) hF
def FX8_tellNumber_b58 (N : Nat) : Nat → Int → Int → Int → fS → Option (Unit × fS)
  | 0, _, _, _, _ => none
  | n + 1, l2, l3, l5, s =>
    if l5 ≤ 0 then
      (FX13_putAll N l2 s).bind fun q7 =>
      some ((), q7.2)
    else
      if l5 = 0 then none else
      (FX1_other (iadd 48 (l2i (lrem (ldiv l3 l5) 10))) s).bind fun q11 =>
      (uQI q11.2 39 l2 q11.1).bind fun σ12 =>
      FX8_tellNumber_b58 N n (iadd l2 1) l3 (ldiv l5 10) σ12
theorem SX8_tellNumber_b58 {m b : Nat} {φ0 : Nat → Nat} {σo : fS} (hb : 1 ≤ b) {N : Nat} {q : Unit × fS} : ∀ {n : Nat} {φ : Nat → Nat} {h : eH} {s : fS} {l2' : Int32} {l2 : Int} {l3' : Int64} {l3 : Int} {l5' : Int64} {l5 : Int}, fC m b φ0 σo φ h s → l2' = iI l2 → r32 l2 → l3' = iJ l3 → r64 l3 → l5' = iJ l5 → r64 l5 → FX8_tellNumber_b58 N n l2 l3 l5 s = some q → gG m b φ0 σo lU q (fX8_tellNumber_b58 N n 22 l2' l3' l5' h) := by
  intro n
  induction n with
 | zero => intro φ h s l2' l2 l3' l3 l5' l5 R el2 rl2 el3 rl3 el5 rl5 hF; simp [FX8_tellNumber_b58] at hF
  | succ n ih =>
    intro φ h s l2' l2 l3' l3 l5' l5 R el2 rl2 el3 rl3 el5 rl5 hF
    subst el2; subst el3; subst el5
    rw [FX8_tellNumber_b58] at hF
    rw [fX8_tellNumber_b58]
    refine s_if (lg_le.trans (j_le rfl (d_lit 0 0 rfl) rl5 ⟨by decide, by decide⟩)) hF (fun c1 hF => ?_) (fun c1 hF => ?_)
    ·
      refine s_gO R (t_22 R.S) (Nat.le_of_ble_eq_true rfl) rfl (o_22_7 R.S) ?_
      refine s_gAs R (t_22 R.S) (Nat.le_of_ble_eq_true rfl) rfl (o_22_19 R.S) (a_39 R) ?_
      refine s_kok R (t_58 R.S) (Nat.le_of_ble_eq_true rfl) ?_
      refine s_call R hb (fun _ hq => SX13_putAll (b := 1) (N := N) (Nat.le_of_ble_eq_true rfl) (R.rf) rfl rl2 hq) hF (fun f5 rv5 h5 q7 R5 e5 E5 hF => ?_)
      exact g_ret R5 hF trivial
    ·
      refine s_gAs R (t_22 R.S) (Nat.le_of_ble_eq_true rfl) rfl (o_22_19 R.S) (a_39 R) ?_
      refine s_div (j_eq rfl (d_lit 0 0 rfl) rl5 ⟨by decide, by decide⟩) hF (fun c7 hF => ?_)
      refine s_call R (Nat.zero_le _) (fun _ hq => SX1_other (b := 0) (R.rf) (c_add (c_lit 48 48 rfl) (d_2i (d_rem (d_div rfl rfl) (d_lit 10 10 rfl)))) (rr_I _) hq) hF (fun f8 rv8 h8 q11 R8 e8 E8 hF => ?_)
      refine s_qI R8 (u_39 R8.S).1 (u_39 R8.S).2 (by decide) (a_39 R8) rfl rl2 e8.1 e8.2 hF (fun h9 σ12 R9 T9 hF => ?_)
      exact ih R9 (c_add rfl (c_lit 1 1 rfl)) (rr_I _) rfl rl3 (d_div rfl (d_lit 10 10 rfl)) (rr_J _) hF
def FX8_tellNumber_b36 (N : Nat) : Nat → Int → Int → Int → fS → Option (Unit × fS)
  | 0, _, _, _, _ => none
  | n + 1, l2, l3, l5, s =>
    if l3 < (lmul l5 10) then
      FX8_tellNumber_b58 N N l2 l3 l5 s
    else
      FX8_tellNumber_b36 N n l2 l3 (lmul l5 10) s
theorem SX8_tellNumber_b36 {m b : Nat} {φ0 : Nat → Nat} {σo : fS} (hb : 1 ≤ b) {N : Nat} {q : Unit × fS} : ∀ {n : Nat} {φ : Nat → Nat} {h : eH} {s : fS} {l2' : Int32} {l2 : Int} {l3' : Int64} {l3 : Int} {l5' : Int64} {l5 : Int}, fC m b φ0 σo φ h s → l2' = iI l2 → r32 l2 → l3' = iJ l3 → r64 l3 → l5' = iJ l5 → r64 l5 → FX8_tellNumber_b36 N n l2 l3 l5 s = some q → gG m b φ0 σo lU q (fX8_tellNumber_b36 N n 22 l2' l3' l5' h) := by
  intro n
  induction n with
 | zero => intro φ h s l2' l2 l3' l3 l5' l5 R el2 rl2 el3 rl3 el5 rl5 hF; simp [FX8_tellNumber_b36] at hF
  | succ n ih =>
    intro φ h s l2' l2 l3' l3 l5' l5 R el2 rl2 el3 rl3 el5 rl5 hF
    subst el2; subst el3; subst el5
    rw [FX8_tellNumber_b36] at hF
    rw [fX8_tellNumber_b36]
    refine s_if ((lg_cmp_gt _ _).trans (j_lt rfl (d_mul rfl (d_lit 10 10 rfl)) rl3 (rr_J _))) hF (fun c1 hF => ?_) (fun c1 hF => ?_)
    ·
      exact SX8_tellNumber_b58 (N := N) hb R rfl rl2 rfl rl3 rfl rl5 hF
    ·
      exact ih R rfl rl2 rfl rl3 (d_mul rfl (d_lit 10 10 rfl)) (rr_J _) hF
def FX8_tellNumber_b32 (N : Nat) (l2 : Int) (s0 : Int) (s : fS) : Option (Unit × fS) :=
  FX8_tellNumber_b36 N N l2 s0 1 s
theorem SX8_tellNumber_b32 {m b : Nat} {φ0 : Nat → Nat} {σo : fS} (hb : 1 ≤ b) {N : Nat} {q : Unit × fS} {φ : Nat → Nat} {h : eH} {s : fS} {l2' : Int32} {l2 : Int} {s0' : Int64} {s0 : Int} (R : fC m b φ0 σo φ h s) (el2 : l2' = iI l2) (rl2 : r32 l2) (es0 : s0' = iJ s0) (rs0 : r64 s0) (hF : FX8_tellNumber_b32 N l2 s0 s = some q) : gG m b φ0 σo lU q (fX8_tellNumber_b32 N 22 l2' s0' h) := by
  subst el2; subst es0
  unfold FX8_tellNumber_b32 at hF
  unfold fX8_tellNumber_b32
  exact SX8_tellNumber_b36 (N := N) hb R rfl rl2 rfl rs0 (d_lit 1 1 rfl) ⟨by decide, by decide⟩ hF
def FX8_tellNumber_b20 (N : Nat) (l1 : Int) (l2 : Int) (s : fS) : Option (Unit × fS) :=
  if 0 ≤ l1 then
    FX8_tellNumber_b32 N l2 l1 s
  else
    FX8_tellNumber_b32 N l2 (lneg l1) s
theorem SX8_tellNumber_b20 {m b : Nat} {φ0 : Nat → Nat} {σo : fS} (hb : 1 ≤ b) {N : Nat} {q : Unit × fS} {φ : Nat → Nat} {h : eH} {s : fS} {l1' : Int32} {l1 : Int} {l2' : Int32} {l2 : Int} (R : fC m b φ0 σo φ h s) (el1 : l1' = iI l1) (rl1 : r32 l1) (el2 : l2' = iI l2) (rl2 : r32 l2) (hF : FX8_tellNumber_b20 N l1 l2 s = some q) : gG m b φ0 σo lU q (fX8_tellNumber_b20 N 22 l1' l2' h) := by
  subst el1; subst el2
  unfold FX8_tellNumber_b20 at hF
  unfold fX8_tellNumber_b20
  refine s_if (i_le (c_lit 0 0 rfl) rfl ⟨by decide, by decide⟩ rl1) hF (fun c1 hF => ?_) (fun c1 hF => ?_)
  ·
    exact SX8_tellNumber_b32 (N := N) hb R rfl rl2 (c_2l rfl rl1) (r32.w rl1) hF
  ·
    exact SX8_tellNumber_b32 (N := N) hb R rfl rl2 (d_neg (c_2l rfl rl1)) (rr_J _) hF
def FX8_tellNumber (N : Nat) (p0 : Int) (s : fS) : Option (Unit × fS) :=
  if 0 ≤ p0 then
    FX8_tellNumber_b20 N p0 0 s
  else
    (FX1_other 45 s).bind fun q4 =>
    (uQI q4.2 39 0 q4.1).bind fun σ5 =>
    FX8_tellNumber_b20 N p0 (iadd 0 1) σ5
theorem SX8_tellNumber {m b : Nat} {φ0 : Nat → Nat} {σo : fS} (hb : 1 ≤ b) {N : Nat} {q : Unit × fS} {φ : Nat → Nat} {h : eH} {s : fS} {p0' : Int32} {p0 : Int} (R : fC m b φ0 σo φ h s) (ep0 : p0' = iI p0) (rp0 : r32 p0) (hF : FX8_tellNumber N p0 s = some q) : gG m b φ0 σo lU q (fX8_tellNumber N 22 p0' h) := by
  subst ep0
  unfold FX8_tellNumber at hF
  unfold fX8_tellNumber
  refine s_if (i_le (c_lit 0 0 rfl) rfl ⟨by decide, by decide⟩ rp0) hF (fun c1 hF => ?_) (fun c1 hF => ?_)
  ·
    exact SX8_tellNumber_b20 (N := N) hb R rfl rp0 (c_lit 0 0 rfl) ⟨by decide, by decide⟩ hF
  ·
    refine s_gAs R (t_22 R.S) (Nat.le_of_ble_eq_true rfl) rfl (o_22_19 R.S) (a_39 R) ?_
    refine s_call R (Nat.zero_le _) (fun _ hq => SX1_other (b := 0) (R.rf) (c_lit 45 45 rfl) ⟨by decide, by decide⟩ hq) hF (fun f3 rv3 h3 q4 R3 e3 E3 hF => ?_)
    refine s_qI R3 (u_39 R3.S).1 (u_39 R3.S).2 (by decide) (a_39 R3) (c_lit 0 0 rfl) ⟨by decide, by decide⟩ e3.1 e3.2 hF (fun h4 σ5 R4 T4 hF => ?_)
    exact SX8_tellNumber_b20 (N := N) hb R4 rfl rp0 (c_add (c_lit 0 0 rfl) (c_lit 1 1 rfl)) (rr_I _) hF
def FX8_tellRoman_b48 (N : Nat) (K33 : Int → Int → Int → fS → Option ((Unit ⊕ Nat) × fS)) : Nat → Int → Int → Int → Int → fS → Option ((Unit ⊕ Nat) × fS)
  | 0, _, _, _, _, _ => none
  | n + 1, l3, l4, l5, l6, s =>
    (uRI s 40 l5).bind fun x3 =>
    if l4 < x3 then
      K33 l3 l4 (iadd l5 1) s
    else
      (uRI s 40 l5).bind fun x8 =>
      if ¬ ((irem l5 2) = 0) then
        (s_ok 1000000101).bind fun _ =>
        (FJ1_charAt 1000000101 (iadd l6 2) s).bind fun q14 =>
        (FX1_other q14.1 q14.2).bind fun q15 =>
        (uQI q15.2 39 l3 q15.1).bind fun σ16 =>
        (s_ok 1000000101).bind fun _ =>
        (FJ1_charAt 1000000101 (iadd l6 3) σ16).bind fun q21 =>
        (FX1_other q21.1 q21.2).bind fun q22 =>
        (uQI q22.2 39 (iadd l3 1) q22.1).bind fun σ23 =>
        FX8_tellRoman_b48 N K33 n (iadd (iadd l3 1) 1) (isub l4 x8) l5 l6 σ23
      else
        (s_ok 1000000101).bind fun _ =>
        (FJ1_charAt 1000000101 l6 s).bind fun q28 =>
        (FX1_other q28.1 q28.2).bind fun q29 =>
        (uQI q29.2 39 l3 q29.1).bind fun σ30 =>
        FX8_tellRoman_b48 N K33 n (iadd l3 1) (isub l4 x8) l5 l6 σ30
theorem SX8_tellRoman_b48 {m b : Nat} {φ0 : Nat → Nat} {σo : fS} (hb : 1 ≤ b) {N : Nat} {k33 : Nat → Nat → Int32 → Int32 → Int32 → eH → Option ((Unit ⊕ Nat) × eH)} {K33 : Int → Int → Int → fS → Option ((Unit ⊕ Nat) × fS)} {q : (Unit ⊕ Nat) × fS} (hk33 : ∀ {φ : Nat → Nat} {h : eH} {s : fS} {l3' : Int32} {l3 : Int} {l4' : Int32} {l4 : Int} {l5' : Int32} {l5 : Int}, fC m b φ0 σo φ h s → l3' = iI l3 → r32 l3 → l4' = iI l4 → r32 l4 → l5' = iI l5 → r32 l5 → K33 l3 l4 l5 s = some q → gG m b φ0 σo (lT lU) q (k33 22 1000000101 l3' l4' l5' h)) : ∀ {n : Nat} {φ : Nat → Nat} {h : eH} {s : fS} {l3' : Int32} {l3 : Int} {l4' : Int32} {l4 : Int} {l5' : Int32} {l5 : Int} {l6' : Int32} {l6 : Int}, fC m b φ0 σo φ h s → l3' = iI l3 → r32 l3 → l4' = iI l4 → r32 l4 → l5' = iI l5 → r32 l5 → l6' = iI l6 → r32 l6 → FX8_tellRoman_b48 N K33 n l3 l4 l5 l6 s = some q → gG m b φ0 σo (lT lU) q (fX8_tellRoman_b48 N k33 n 22 1000000101 l3' l4' l5' l6' h) := by
  intro n
  induction n with
 | zero => intro φ h s l3' l3 l4' l4 l5' l5 l6' l6 R el3 rl3 el4 rl4 el5 rl5 el6 rl6 hF; simp [FX8_tellRoman_b48] at hF
  | succ n ih =>
    intro φ h s l3' l3 l4' l4 l5' l5 l6' l6 R el3 rl3 el4 rl4 el5 rl5 el6 rl6 hF
    subst el3; subst el4; subst el5; subst el6
    rw [FX8_tellRoman_b48] at hF
    rw [fX8_tellRoman_b48]
    refine s_gAs R (t_22 R.S) (Nat.le_of_ble_eq_true rfl) rfl (o_22_20 R.S) (a_40 R) ?_
    refine s_rI R (u_40 R.S).1 (u_40 R.S).2 (by decide) (a_40 R) rfl rl5 hF (fun x3 ra2 hF => ?_)
    refine s_if (i_lt rfl rfl rl4 ra2) hF (fun c3 hF => ?_) (fun c3 hF => ?_)
    ·
      exact hk33 R rfl rl3 rfl rl4 (c_add rfl (c_lit 1 1 rfl)) (rr_I _) hF
    ·
      refine s_gAs R (t_22 R.S) (Nat.le_of_ble_eq_true rfl) rfl (o_22_20 R.S) (a_40 R) ?_
      refine s_rI R (u_40 R.S).1 (u_40 R.S).2 (by decide) (a_40 R) rfl rl5 hF (fun x8 ra5 hF => ?_)
      refine s_if (not_congr (i_eq (c_rem rfl (c_lit 2 2 rfl)) (c_lit 0 0 rfl) (rr_I _) ⟨by decide, by decide⟩)) hF (fun c6 hF => ?_) (fun c6 hF => ?_)
      ·
        refine s_gAs R (t_22 R.S) (Nat.le_of_ble_eq_true rfl) rfl (o_22_19 R.S) (a_39 R) ?_
        refine s_opt hF (fun _ hF => ?_)
        refine s_call R (Nat.zero_le _) (fun _ hq => SJ1_charAt (b := 0) (R.rf) (c_add rfl (c_lit 2 2 rfl)) (rr_I _) hq) hF (fun f9 rv9 h9 q14 R9 e9 E9 hF => ?_)
        refine s_call R9 (Nat.zero_le _) (fun _ hq => SX1_other (b := 0) (R9.rf) e9.1 e9.2 hq) hF (fun f10 rv10 h10 q15 R10 e10 E10 hF => ?_)
        refine s_qI R10 (u_39 R10.S).1 (u_39 R10.S).2 (by decide) (a_39 R10) rfl rl3 e10.1 e10.2 hF (fun h11 σ16 R11 T11 hF => ?_)
        refine s_gAs R11 (t_22 R11.S) (Nat.le_of_ble_eq_true rfl) rfl (o_22_19 R11.S) (a_39 R11) ?_
        refine s_opt hF (fun _ hF => ?_)
        refine s_call R11 (Nat.zero_le _) (fun _ hq => SJ1_charAt (b := 0) (R11.rf) (c_add rfl (c_lit 3 3 rfl)) (rr_I _) hq) hF (fun f14 rv14 h14 q21 R14 e14 E14 hF => ?_)
        refine s_call R14 (Nat.zero_le _) (fun _ hq => SX1_other (b := 0) (R14.rf) e14.1 e14.2 hq) hF (fun f15 rv15 h15 q22 R15 e15 E15 hF => ?_)
        refine s_qI R15 (u_39 R15.S).1 (u_39 R15.S).2 (by decide) (a_39 R15) (c_add rfl (c_lit 1 1 rfl)) (rr_I _) e15.1 e15.2 hF (fun h16 σ23 R16 T16 hF => ?_)
        exact ih R16 (c_add (c_add rfl (c_lit 1 1 rfl)) (c_lit 1 1 rfl)) (rr_I _) (c_sub rfl rfl) (rr_I _) rfl rl5 rfl rl6 hF
      ·
        refine s_gAs R (t_22 R.S) (Nat.le_of_ble_eq_true rfl) rfl (o_22_19 R.S) (a_39 R) ?_
        refine s_opt hF (fun _ hF => ?_)
        refine s_call R (Nat.zero_le _) (fun _ hq => SJ1_charAt (b := 0) (R.rf) rfl rl6 hq) hF (fun f19 rv19 h19 q28 R19 e19 E19 hF => ?_)
        refine s_call R19 (Nat.zero_le _) (fun _ hq => SX1_other (b := 0) (R19.rf) e19.1 e19.2 hq) hF (fun f20 rv20 h20 q29 R20 e20 E20 hF => ?_)
        refine s_qI R20 (u_39 R20.S).1 (u_39 R20.S).2 (by decide) (a_39 R20) rfl rl3 e20.1 e20.2 hF (fun h21 σ30 R21 T21 hF => ?_)
        exact ih R21 (c_add rfl (c_lit 1 1 rfl)) (rr_I _) (c_sub rfl rfl) (rr_I _) rfl rl5 rfl rl6 hF
def FX8_tellRoman_b33 (N : Nat) : Nat → Int → Int → Int → fS → Option ((Unit ⊕ Nat) × fS)
  | 0, _, _, _, _ => none
  | n + 1, l3, l4, l5, s =>
    if 13 ≤ l5 then
      (FX13_putAll N l3 s).bind fun q7 =>
      some (.inl (), q7.2)
    else
      FX8_tellRoman_b48 N (FX8_tellRoman_b33 N n) N l3 l4 l5 (imul 4 (idiv l5 2)) s
theorem SX8_tellRoman_b33 {m b : Nat} {φ0 : Nat → Nat} {σo : fS} (hb : 1 ≤ b) {N : Nat} {q : (Unit ⊕ Nat) × fS} : ∀ {n : Nat} {φ : Nat → Nat} {h : eH} {s : fS} {l3' : Int32} {l3 : Int} {l4' : Int32} {l4 : Int} {l5' : Int32} {l5 : Int}, fC m b φ0 σo φ h s → l3' = iI l3 → r32 l3 → l4' = iI l4 → r32 l4 → l5' = iI l5 → r32 l5 → FX8_tellRoman_b33 N n l3 l4 l5 s = some q → gG m b φ0 σo (lT lU) q (fX8_tellRoman_b33 N n 22 1000000101 l3' l4' l5' h) := by
  intro n
  induction n with
 | zero => intro φ h s l3' l3 l4' l4 l5' l5 R el3 rl3 el4 rl4 el5 rl5 hF; simp [FX8_tellRoman_b33] at hF
  | succ n ih =>
    intro φ h s l3' l3 l4' l4 l5' l5 R el3 rl3 el4 rl4 el5 rl5 hF
    subst el3; subst el4; subst el5
    rw [FX8_tellRoman_b33] at hF
    rw [fX8_tellRoman_b33]
    refine s_if (i_le (c_lit 13 13 rfl) rfl ⟨by decide, by decide⟩ rl5) hF (fun c1 hF => ?_) (fun c1 hF => ?_)
    ·
      refine s_gO R (t_22 R.S) (Nat.le_of_ble_eq_true rfl) rfl (o_22_7 R.S) ?_
      refine s_gAs R (t_22 R.S) (Nat.le_of_ble_eq_true rfl) rfl (o_22_19 R.S) (a_39 R) ?_
      refine s_kok R (t_58 R.S) (Nat.le_of_ble_eq_true rfl) ?_
      refine s_call R hb (fun _ hq => SX13_putAll (b := 1) (N := N) (Nat.le_of_ble_eq_true rfl) (R.rf) rfl rl3 hq) hF (fun f5 rv5 h5 q7 R5 e5 E5 hF => ?_)
      exact g_ret R5 hF trivial
    ·
      exact SX8_tellRoman_b48 (N := N) (k33 := fX8_tellRoman_b33 N n) (K33 := FX8_tellRoman_b33 N n) hb @ih R rfl rl3 rfl rl4 rfl rl5 (c_mul (c_lit 4 4 rfl) (c_div rfl (c_lit 2 2 rfl))) (rr_I _) hF
def FX8_tellRoman_b16 (N : Nat) (l1 : Int) (s1 : Int) (s : fS) : Option ((Unit ⊕ Nat) × fS) :=
  tB (FX4_want s1 7 s) fun x2 σ3 =>
  FX8_tellRoman_b33 N N 0 l1 0 σ3
theorem SX8_tellRoman_b16 {m b : Nat} {φ0 : Nat → Nat} {σo : fS} (hb : 1 ≤ b) {N : Nat} {q : (Unit ⊕ Nat) × fS} {φ : Nat → Nat} {h : eH} {s : fS} {l1' : Int32} {l1 : Int} {s1' : Int32} {s1 : Int} (R : fC m b φ0 σo φ h s) (el1 : l1' = iI l1) (rl1 : r32 l1) (es1 : s1' = iI s1) (rs1 : r32 s1) (hF : FX8_tellRoman_b16 N l1 s1 s = some q) : gG m b φ0 σo (lT lU) q (fX8_tellRoman_b16 N 22 l1' 5 s1' h) := by
  subst el1; subst es1
  unfold FX8_tellRoman_b16 at hF
  unfold fX8_tellRoman_b16
  refine s_kok R (t_5 R.S) (Nat.le_of_ble_eq_true rfl) ?_
  refine s_tB R (Nat.zero_le _) (fun _ hq => SX4_want (b := 0) (R.rf) rfl rs1 (c_lit 7 7 rfl) ⟨by decide, by decide⟩ hq) hF (fun f2 rv2 h2 x2 σ3 R2 e2 E2 hF => ?_)
  exact SX8_tellRoman_b33 (N := N) hb R2 (c_lit 0 0 rfl) ⟨by decide, by decide⟩ rfl rl1 (c_lit 0 0 rfl) ⟨by decide, by decide⟩ hF
def FX8_tellRoman (N : Nat) (p0 : Int) (s : fS) : Option ((Unit ⊕ Nat) × fS) :=
  if 9999 < p0 then
    FX8_tellRoman_b16 N p0 0 s
  else
    FX8_tellRoman_b16 N p0 1 s
theorem SX8_tellRoman {m b : Nat} {φ0 : Nat → Nat} {σo : fS} (hb : 1 ≤ b) {N : Nat} {q : (Unit ⊕ Nat) × fS} {φ : Nat → Nat} {h : eH} {s : fS} {p0' : Int32} {p0 : Int} (R : fC m b φ0 σo φ h s) (ep0 : p0' = iI p0) (rp0 : r32 p0) (hF : FX8_tellRoman N p0 s = some q) : gG m b φ0 σo (lT lU) q (fX8_tellRoman N 22 p0' h) := by
  subst ep0
  unfold FX8_tellRoman at hF
  unfold fX8_tellRoman
  refine s_gO R (t_22 R.S) (Nat.le_of_ble_eq_true rfl) rfl (o_22_0 R.S) ?_
  refine s_if (i_lt (c_lit 9999 9999 rfl) rfl ⟨by decide, by decide⟩ rp0) hF (fun c2 hF => ?_) (fun c2 hF => ?_)
  ·
    exact SX8_tellRoman_b16 (N := N) hb R rfl rp0 (c_lit 0 0 rfl) ⟨by decide, by decide⟩ hF
  ·
    exact SX8_tellRoman_b16 (N := N) hb R rfl rp0 (c_lit 1 1 rfl) ⟨by decide, by decide⟩ hF
def FX8_tellValue (N : Nat) (RN : fS → Option ((Int ⊕ Nat) × fS)) (p0 : Int) (s : fS) : Option ((Unit ⊕ Nat) × fS) :=
  (FX8_isSized p0 s).bind fun q2 =>
  if q2.1 = 0 then
    tB (FX8_valued RN p0 q2.2) fun x5 σ6 =>
    (FX8_tellNumber N x5 σ6).bind fun q8 =>
    some (.inl (), q8.2)
  else
    tB (FX8_sized RN p0 q2.2) fun x10 σ11 =>
    (FX1_other 112 σ11).bind fun q14 =>
    (FX13_put q14.1 q14.2).bind fun q16 =>
    (FX1_other 115 q16.2).bind fun q19 =>
    (FX13_put q19.1 q19.2).bind fun q21 =>
    (FX8_tellNumber N x10 q21.2).bind fun q23 =>
    some (.inl (), q23.2)
theorem SX8_tellValue {m b : Nat} {φ0 : Nat → Nat} {σo : fS} (hb : 3 ≤ b) {N : Nat} {rN : Nat → eH → Option ((Int32 ⊕ Nat) × eH)} {RN : fS → Option ((Int ⊕ Nat) × fS)} {q : (Unit ⊕ Nat) × fS} (hrN : ∀ {φ : Nat → Nat} {h : eH} {s : fS} {q}, fC m 3 φ s φ h s → RN s = some q → gG m 3 φ s (lT lI) q (rN 22 h)) {φ : Nat → Nat} {h : eH} {s : fS} {p0' : Int32} {p0 : Int} (R : fC m b φ0 σo φ h s) (ep0 : p0' = iI p0) (rp0 : r32 p0) (hF : FX8_tellValue N RN p0 s = some q) : gG m b φ0 σo (lT lU) q (fX8_tellValue N rN 22 p0' h) := by
  subst ep0
  unfold FX8_tellValue at hF
  unfold fX8_tellValue
  refine s_kok R (t_22 R.S) (Nat.le_of_ble_eq_true rfl) ?_
  refine s_call R (Nat.zero_le _) (fun _ hq => SX8_isSized (b := 0) (R.rf) rfl rp0 hq) hF (fun f2 rv2 h2 q2 R2 e2 E2 hF => ?_)
  refine s_if (i_eq e2.1 (c_lit 0 0 rfl) e2.2 ⟨by decide, by decide⟩) hF (fun c3 hF => ?_) (fun c3 hF => ?_)
  ·
    refine s_kok R2 (t_22 R2.S) (Nat.le_of_ble_eq_true rfl) ?_
    refine s_tB R2 hb (fun _ hq => SX8_valued (b := 3) (rN := rN) (RN := RN) (Nat.le_of_ble_eq_true rfl) @hrN (R2.rf) rfl rp0 hq) hF (fun f5 rv5 h5 x5 σ6 R5 e5 E5 hF => ?_)
    refine s_kok R5 (t_22 R5.S) (Nat.le_of_ble_eq_true rfl) ?_
    refine s_call R5 (Nat.le_trans (Nat.le_of_ble_eq_true rfl) hb) (fun _ hq => SX8_tellNumber (b := 1) (N := N) (Nat.le_of_ble_eq_true rfl) (R5.rf) e5.1 e5.2 hq) hF (fun f7 rv7 h7 q8 R7 e7 E7 hF => ?_)
    exact g_ret R7 hF trivial
  ·
    refine s_kok R2 (t_22 R2.S) (Nat.le_of_ble_eq_true rfl) ?_
    refine s_tB R2 hb (fun _ hq => SX8_sized (b := 3) (rN := rN) (RN := RN) (Nat.le_of_ble_eq_true rfl) @hrN (R2.rf) rfl rp0 hq) hF (fun f9 rv9 h9 x10 σ11 R9 e9 E9 hF => ?_)
    refine s_gO R9 (t_22 R9.S) (Nat.le_of_ble_eq_true rfl) rfl (o_22_7 R9.S) ?_
    refine s_call R9 (Nat.zero_le _) (fun _ hq => SX1_other (b := 0) (R9.rf) (c_lit 112 112 rfl) ⟨by decide, by decide⟩ hq) hF (fun f11 rv11 h11 q14 R11 e11 E11 hF => ?_)
    refine s_kok R11 (t_58 R11.S) (Nat.le_of_ble_eq_true rfl) ?_
    refine s_call R11 (Nat.le_trans (Nat.le_of_ble_eq_true rfl) hb) (fun _ hq => SX13_put (b := 1) (Nat.le_of_ble_eq_true rfl) (R11.rf) e11.1 e11.2 hq) hF (fun f13 rv13 h13 q16 R13 e13 E13 hF => ?_)
    refine s_gO R13 (t_22 R13.S) (Nat.le_of_ble_eq_true rfl) rfl (o_22_7 R13.S) ?_
    refine s_call R13 (Nat.zero_le _) (fun _ hq => SX1_other (b := 0) (R13.rf) (c_lit 115 115 rfl) ⟨by decide, by decide⟩ hq) hF (fun f15 rv15 h15 q19 R15 e15 E15 hF => ?_)
    refine s_kok R15 (t_58 R15.S) (Nat.le_of_ble_eq_true rfl) ?_
    refine s_call R15 (Nat.le_trans (Nat.le_of_ble_eq_true rfl) hb) (fun _ hq => SX13_put (b := 1) (Nat.le_of_ble_eq_true rfl) (R15.rf) e15.1 e15.2 hq) hF (fun f17 rv17 h17 q21 R17 e17 E17 hF => ?_)
    refine s_kok R17 (t_22 R17.S) (Nat.le_of_ble_eq_true rfl) ?_
    refine s_call R17 (Nat.le_trans (Nat.le_of_ble_eq_true rfl) hb) (fun _ hq => SX8_tellNumber (b := 1) (N := N) (Nat.le_of_ble_eq_true rfl) (R17.rf) e9.1 e9.2 hq) hF (fun f19 rv19 h19 q23 R19 e19 E19 hF => ?_)
    exact g_ret R19 hF trivial
def FX8_turn_b117 (N : Nat) : Nat → Int → fS → Option ((Unit ⊕ Nat) × fS)
  | 0, _, _ => none
  | n + 1, l4, s =>
    if l4 = 21 then
      (uPI s 22 15 (isub (s.i 22 15) 1)).bind fun σ4 =>
      some (.inl (), σ4)
    else
      tB (FX8_pass N s) fun x7 σ8 =>
      FX8_turn_b117 N n x7 σ8
theorem SX8_turn_b117 {m b : Nat} {φ0 : Nat → Nat} {σo : fS} (hb : 2 ≤ b) {N : Nat} {q : (Unit ⊕ Nat) × fS} : ∀ {n : Nat} {φ : Nat → Nat} {h : eH} {s : fS} {l4' : Int32} {l4 : Int}, fC m b φ0 σo φ h s → l4' = iI l4 → r32 l4 → FX8_turn_b117 N n l4 s = some q → gG m b φ0 σo (lT lU) q (fX8_turn_b117 N n 22 l4' h) := by
  intro n
  induction n with
 | zero => intro φ h s l4' l4 R el4 rl4 hF; simp [FX8_turn_b117] at hF
  | succ n ih =>
    intro φ h s l4' l4 R el4 rl4 hF
    subst el4
    rw [FX8_turn_b117] at hF
    rw [fX8_turn_b117]
    refine s_if (i_eq rfl (c_lit 21 21 rfl) rl4 ⟨by decide, by decide⟩) hF (fun c1 hF => ?_) (fun c1 hF => ?_)
    ·
      refine s_gI R (t_22 R.S) (Nat.le_of_ble_eq_true rfl) rfl ?_
      refine s_pI R (t_22 R.S) (Nat.le_of_ble_eq_true rfl) rfl (c_sub rfl (c_lit 1 1 rfl)) (rr_I _) hF (fun h3 σ4 R3 T3 hF => ?_)
      exact g_ret R3 hF trivial
    ·
      refine s_kok R (t_22 R.S) (Nat.le_of_ble_eq_true rfl) ?_
      refine s_tB R hb (fun _ hq => SX8_pass (b := 2) (N := N) (Nat.le_of_ble_eq_true rfl) (R.rf) hq) hF (fun f5 rv5 h5 x7 σ8 R5 e5 E5 hF => ?_)
      exact ih R5 e5.1 e5.2 hF
def FX8_turn_b106 (N : Nat) (s1 : Int) (s : fS) : Option ((Unit ⊕ Nat) × fS) :=
  tB (FX4_want s1 8 s) fun x2 σ3 =>
  tB (FX8_pass N σ3) fun x5 σ6 =>
  FX8_turn_b117 N N x5 σ6
theorem SX8_turn_b106 {m b : Nat} {φ0 : Nat → Nat} {σo : fS} (hb : 2 ≤ b) {N : Nat} {q : (Unit ⊕ Nat) × fS} {φ : Nat → Nat} {h : eH} {s : fS} {s1' : Int32} {s1 : Int} (R : fC m b φ0 σo φ h s) (es1 : s1' = iI s1) (rs1 : r32 s1) (hF : FX8_turn_b106 N s1 s = some q) : gG m b φ0 σo (lT lU) q (fX8_turn_b106 N 22 5 s1' h) := by
  subst es1
  unfold FX8_turn_b106 at hF
  unfold fX8_turn_b106
  refine s_kok R (t_5 R.S) (Nat.le_of_ble_eq_true rfl) ?_
  refine s_tB R (Nat.zero_le _) (fun _ hq => SX4_want (b := 0) (R.rf) rfl rs1 (c_lit 8 8 rfl) ⟨by decide, by decide⟩ hq) hF (fun f2 rv2 h2 x2 σ3 R2 e2 E2 hF => ?_)
  refine s_kok R2 (t_22 R2.S) (Nat.le_of_ble_eq_true rfl) ?_
  refine s_tB R2 hb (fun _ hq => SX8_pass (b := 2) (N := N) (Nat.le_of_ble_eq_true rfl) (R2.rf) hq) hF (fun f4 rv4 h4 x5 σ6 R4 e4 E4 hF => ?_)
  exact SX8_turn_b117 (N := N) hb R4 e4.1 e4.2 hF
def FX8_turn_b101 (N : Nat) (s : fS) : Option ((Unit ⊕ Nat) × fS) :=
  FX8_turn_b106 N 1 s
theorem SX8_turn_b101 {m b : Nat} {φ0 : Nat → Nat} {σo : fS} (hb : 2 ≤ b) {N : Nat} {q : (Unit ⊕ Nat) × fS} {φ : Nat → Nat} {h : eH} {s : fS} (R : fC m b φ0 σo φ h s) (hF : FX8_turn_b101 N s = some q) : gG m b φ0 σo (lT lU) q (fX8_turn_b101 N 22 5 h) := by
  unfold FX8_turn_b101 at hF
  unfold fX8_turn_b101
  exact SX8_turn_b106 (N := N) hb R (c_lit 1 1 rfl) ⟨by decide, by decide⟩ hF
def FX8_turn_b105 (N : Nat) (s : fS) : Option ((Unit ⊕ Nat) × fS) :=
  FX8_turn_b106 N 0 s
theorem SX8_turn_b105 {m b : Nat} {φ0 : Nat → Nat} {σo : fS} (hb : 2 ≤ b) {N : Nat} {q : (Unit ⊕ Nat) × fS} {φ : Nat → Nat} {h : eH} {s : fS} (R : fC m b φ0 σo φ h s) (hF : FX8_turn_b105 N s = some q) : gG m b φ0 σo (lT lU) q (fX8_turn_b105 N 22 5 h) := by
  unfold FX8_turn_b105 at hF
  unfold fX8_turn_b105
  exact SX8_turn_b106 (N := N) hb R (c_lit 0 0 rfl) ⟨by decide, by decide⟩ hF
def FX8_turn_b16 (N : Nat) (l1 : Int) (l2 : Int) (s1 : Int) (s : fS) : Option ((Unit ⊕ Nat) × fS) :=
  tB (FX4_want s1 8 s) fun x2 σ3 =>
  (uRI σ3 34 (isub (σ3.i 22 15) 1)).bind fun x8 =>
  if ¬ (x8 = 0) then
    if ¬ (l2 = 21) then
      (uRI σ3 36 (isub (σ3.i 22 15) 1)).bind fun x16 =>
      if ¬ (x16 = 0) then
        FX8_turn_b105 N σ3
      else
        if ¬ (l2 = 20) then
          FX8_turn_b101 N σ3
        else
          (uRI σ3 35 (isub (σ3.i 22 15) 1)).bind fun x22 =>
          if x22 = 0 then
            FX8_turn_b105 N σ3
          else
            FX8_turn_b101 N σ3
    else
      (uPI σ3 22 15 (isub (σ3.i 22 15) 1)).bind fun σ27 =>
      some (.inl (), σ27)
  else
    (FX13_put l1 σ3).bind fun q32 =>
    (FX13_put 1052950 q32.2).bind fun q36 =>
    some (.inl (), q36.2)
theorem SX8_turn_b16 {m b : Nat} {φ0 : Nat → Nat} {σo : fS} (hb : 2 ≤ b) {N : Nat} {q : (Unit ⊕ Nat) × fS} {φ : Nat → Nat} {h : eH} {s : fS} {l1' : Int32} {l1 : Int} {l2' : Int32} {l2 : Int} {s1' : Int32} {s1 : Int} (R : fC m b φ0 σo φ h s) (el1 : l1' = iI l1) (rl1 : r32 l1) (el2 : l2' = iI l2) (rl2 : r32 l2) (es1 : s1' = iI s1) (rs1 : r32 s1) (hF : FX8_turn_b16 N l1 l2 s1 s = some q) : gG m b φ0 σo (lT lU) q (fX8_turn_b16 N 22 l1' l2' 5 s1' h) := by
  subst el1; subst el2; subst es1
  unfold FX8_turn_b16 at hF
  unfold fX8_turn_b16
  refine s_kok R (t_5 R.S) (Nat.le_of_ble_eq_true rfl) ?_
  refine s_tB R (Nat.zero_le _) (fun _ hq => SX4_want (b := 0) (R.rf) rfl rs1 (c_lit 8 8 rfl) ⟨by decide, by decide⟩ hq) hF (fun f2 rv2 h2 x2 σ3 R2 e2 E2 hF => ?_)
  refine s_gI R2 (t_22 R2.S) (Nat.le_of_ble_eq_true rfl) rfl ?_
  refine s_gAs R2 (t_22 R2.S) (Nat.le_of_ble_eq_true rfl) rfl (o_22_12 R2.S) (a_34 R2) ?_
  refine s_rI R2 (u_34 R2.S).1 (u_34 R2.S).2 (by decide) (a_34 R2) (c_sub rfl (c_lit 1 1 rfl)) (rr_I _) hF (fun x8 ra5 hF => ?_)
  refine s_if (not_congr (i_eq rfl (c_lit 0 0 rfl) ra5 ⟨by decide, by decide⟩)) hF (fun c6 hF => ?_) (fun c6 hF => ?_)
  ·
    refine s_if (not_congr (i_eq rfl (c_lit 21 21 rfl) rl2 ⟨by decide, by decide⟩)) hF (fun c7 hF => ?_) (fun c7 hF => ?_)
    ·
      refine s_gO R2 (t_22 R2.S) (Nat.le_of_ble_eq_true rfl) rfl (o_22_0 R2.S) ?_
      refine s_gAs R2 (t_22 R2.S) (Nat.le_of_ble_eq_true rfl) rfl (o_22_14 R2.S) (a_36 R2) ?_
      refine s_rI R2 (u_36 R2.S).1 (u_36 R2.S).2 (by decide) (a_36 R2) (c_sub rfl (c_lit 1 1 rfl)) (rr_I _) hF (fun x16 ra10 hF => ?_)
      refine s_if (not_congr (i_eq rfl (c_lit 0 0 rfl) ra10 ⟨by decide, by decide⟩)) hF (fun c11 hF => ?_) (fun c11 hF => ?_)
      ·
        exact SX8_turn_b105 (N := N) hb R2 hF
      ·
        refine s_if (not_congr (i_eq rfl (c_lit 20 20 rfl) rl2 ⟨by decide, by decide⟩)) hF (fun c12 hF => ?_) (fun c12 hF => ?_)
        ·
          exact SX8_turn_b101 (N := N) hb R2 hF
        ·
          refine s_gAs R2 (t_22 R2.S) (Nat.le_of_ble_eq_true rfl) rfl (o_22_13 R2.S) (a_35 R2) ?_
          refine s_rI R2 (u_35 R2.S).1 (u_35 R2.S).2 (by decide) (a_35 R2) (c_sub rfl (c_lit 1 1 rfl)) (rr_I _) hF (fun x22 ra14 hF => ?_)
          refine s_if (i_eq rfl (c_lit 0 0 rfl) ra14 ⟨by decide, by decide⟩) hF (fun c15 hF => ?_) (fun c15 hF => ?_)
          ·
            exact SX8_turn_b105 (N := N) hb R2 hF
          ·
            exact SX8_turn_b101 (N := N) hb R2 hF
    ·
      refine s_gI R2 (t_22 R2.S) (Nat.le_of_ble_eq_true rfl) rfl ?_
      refine s_pI R2 (t_22 R2.S) (Nat.le_of_ble_eq_true rfl) rfl (c_sub rfl (c_lit 1 1 rfl)) (rr_I _) hF (fun h17 σ27 R17 T17 hF => ?_)
      exact g_ret R17 hF trivial
  ·
    refine s_gO R2 (t_22 R2.S) (Nat.le_of_ble_eq_true rfl) rfl (o_22_7 R2.S) ?_
    refine s_kok R2 (t_58 R2.S) (Nat.le_of_ble_eq_true rfl) ?_
    refine s_call R2 (Nat.le_trans (Nat.le_of_ble_eq_true rfl) hb) (fun _ hq => SX13_put (b := 1) (Nat.le_of_ble_eq_true rfl) (R2.rf) rfl rl1 hq) hF (fun f20 rv20 h20 q32 R20 e20 E20 hF => ?_)
    refine s_gO R20 (t_22 R20.S) (Nat.le_of_ble_eq_true rfl) rfl (o_22_7 R20.S) ?_
    refine s_kok R20 (t_58 R20.S) (Nat.le_of_ble_eq_true rfl) ?_
    refine s_call R20 (Nat.le_trans (Nat.le_of_ble_eq_true rfl) hb) (fun _ hq => SX13_put (b := 1) (Nat.le_of_ble_eq_true rfl) (R20.rf) (c_lit 1052950 1052950 rfl) ⟨by decide, by decide⟩ hq) hF (fun f23 rv23 h23 q36 R23 e23 E23 hF => ?_)
    exact g_ret R23 hF trivial
def FX8_turn (N : Nat) (p0 : Int) (p1 : Int) (s : fS) : Option ((Unit ⊕ Nat) × fS) :=
  if (s.i 22 15) ≤ 0 then
    FX8_turn_b16 N p0 p1 0 s
  else
    FX8_turn_b16 N p0 p1 1 s
theorem SX8_turn {m b : Nat} {φ0 : Nat → Nat} {σo : fS} (hb : 2 ≤ b) {N : Nat} {q : (Unit ⊕ Nat) × fS} {φ : Nat → Nat} {h : eH} {s : fS} {p0' : Int32} {p0 : Int} {p1' : Int32} {p1 : Int} (R : fC m b φ0 σo φ h s) (ep0 : p0' = iI p0) (rp0 : r32 p0) (ep1 : p1' = iI p1) (rp1 : r32 p1) (hF : FX8_turn N p0 p1 s = some q) : gG m b φ0 σo (lT lU) q (fX8_turn N 22 p0' p1' h) := by
  subst ep0; subst ep1
  unfold FX8_turn at hF
  unfold fX8_turn
  refine s_gO R (t_22 R.S) (Nat.le_of_ble_eq_true rfl) rfl (o_22_0 R.S) ?_
  refine s_gI R (t_22 R.S) (Nat.le_of_ble_eq_true rfl) rfl ?_
  refine s_if (i_le rfl (c_lit 0 0 rfl) (R.ri (t_22 R.S) (Nat.le_of_ble_eq_true rfl) rfl) ⟨by decide, by decide⟩) hF (fun c3 hF => ?_) (fun c3 hF => ?_)
  ·
    exact SX8_turn_b16 (N := N) hb R rfl rp0 rfl rp1 (c_lit 0 0 rfl) ⟨by decide, by decide⟩ hF
  ·
    exact SX8_turn_b16 (N := N) hb R rfl rp0 rfl rp1 (c_lit 1 1 rfl) ⟨by decide, by decide⟩ hF
def FX8_expandPrimitive_b256 (N : Nat) (RE : Int → fS → Option ((Unit ⊕ Nat) × fS)) (RN : fS → Option ((Int ⊕ Nat) × fS)) (s : fS) : Option ((Unit ⊕ Nat) × fS) :=
  some (.inl (), s)
theorem SX8_expandPrimitive_b256 {m b : Nat} {φ0 : Nat → Nat} {σo : fS} {N : Nat} {rE : Nat → Int32 → eH → Option ((Unit ⊕ Nat) × eH)} {RE : Int → fS → Option ((Unit ⊕ Nat) × fS)} {rN : Nat → eH → Option ((Int32 ⊕ Nat) × eH)} {RN : fS → Option ((Int ⊕ Nat) × fS)} {q : (Unit ⊕ Nat) × fS} (hrE : ∀ {φ : Nat → Nat} {h : eH} {s : fS} {x1' : Int32} {x1 : Int} {q}, fC m 3 φ s φ h s → x1' = iI x1 → r32 x1 → RE x1 s = some q → gG m 3 φ s (lT lU) q (rE 22 x1' h)) (hrN : ∀ {φ : Nat → Nat} {h : eH} {s : fS} {q}, fC m 3 φ s φ h s → RN s = some q → gG m 3 φ s (lT lI) q (rN 22 h)) {φ : Nat → Nat} {h : eH} {s : fS} (R : fC m b φ0 σo φ h s) (hF : FX8_expandPrimitive_b256 N RE RN s = some q) : gG m b φ0 σo (lT lU) q (fX8_expandPrimitive_b256 N rE rN h) := by
  unfold FX8_expandPrimitive_b256 at hF
  unfold fX8_expandPrimitive_b256
  exact g_ret R hF trivial
def FX8_expandPrimitive_b142 (N : Nat) (RE : Int → fS → Option ((Unit ⊕ Nat) × fS)) (RN : fS → Option ((Int ⊕ Nat) × fS)) (l3 : Int) (s : fS) : Option ((Unit ⊕ Nat) × fS) :=
  (FX13_put l3 s).bind fun q4 =>
  FX8_expandPrimitive_b256 N RE RN q4.2
theorem SX8_expandPrimitive_b142 {m b : Nat} {φ0 : Nat → Nat} {σo : fS} (hb : 1 ≤ b) {N : Nat} {rE : Nat → Int32 → eH → Option ((Unit ⊕ Nat) × eH)} {RE : Int → fS → Option ((Unit ⊕ Nat) × fS)} {rN : Nat → eH → Option ((Int32 ⊕ Nat) × eH)} {RN : fS → Option ((Int ⊕ Nat) × fS)} {q : (Unit ⊕ Nat) × fS} (hrE : ∀ {φ : Nat → Nat} {h : eH} {s : fS} {x1' : Int32} {x1 : Int} {q}, fC m 3 φ s φ h s → x1' = iI x1 → r32 x1 → RE x1 s = some q → gG m 3 φ s (lT lU) q (rE 22 x1' h)) (hrN : ∀ {φ : Nat → Nat} {h : eH} {s : fS} {q}, fC m 3 φ s φ h s → RN s = some q → gG m 3 φ s (lT lI) q (rN 22 h)) {φ : Nat → Nat} {h : eH} {s : fS} {l3' : Int32} {l3 : Int} (R : fC m b φ0 σo φ h s) (el3 : l3' = iI l3) (rl3 : r32 l3) (hF : FX8_expandPrimitive_b142 N RE RN l3 s = some q) : gG m b φ0 σo (lT lU) q (fX8_expandPrimitive_b142 N rE rN 22 l3' h) := by
  subst el3
  unfold FX8_expandPrimitive_b142 at hF
  unfold fX8_expandPrimitive_b142
  refine s_gO R (t_22 R.S) (Nat.le_of_ble_eq_true rfl) rfl (o_22_7 R.S) ?_
  refine s_kok R (t_58 R.S) (Nat.le_of_ble_eq_true rfl) ?_
  refine s_call R hb (fun _ hq => SX13_put (b := 1) (Nat.le_of_ble_eq_true rfl) (R.rf) rfl rl3 hq) hF (fun f3 rv3 h3 q4 R3 e3 E3 hF => ?_)
  exact SX8_expandPrimitive_b256 (N := N) (rE := rE) (RE := RE) (rN := rN) (RN := RN) @hrE @hrN R3 hF
def FX8_expandPrimitive_b182 (N : Nat) (RE : Int → fS → Option ((Unit ⊕ Nat) × fS)) (RN : fS → Option ((Int ⊕ Nat) × fS)) (s1 : Int) (s : fS) : Option ((Unit ⊕ Nat) × fS) :=
  (FX13_put s1 s).bind fun q2 =>
  FX8_expandPrimitive_b256 N RE RN q2.2
theorem SX8_expandPrimitive_b182 {m b : Nat} {φ0 : Nat → Nat} {σo : fS} (hb : 1 ≤ b) {N : Nat} {rE : Nat → Int32 → eH → Option ((Unit ⊕ Nat) × eH)} {RE : Int → fS → Option ((Unit ⊕ Nat) × fS)} {rN : Nat → eH → Option ((Int32 ⊕ Nat) × eH)} {RN : fS → Option ((Int ⊕ Nat) × fS)} {q : (Unit ⊕ Nat) × fS} (hrE : ∀ {φ : Nat → Nat} {h : eH} {s : fS} {x1' : Int32} {x1 : Int} {q}, fC m 3 φ s φ h s → x1' = iI x1 → r32 x1 → RE x1 s = some q → gG m 3 φ s (lT lU) q (rE 22 x1' h)) (hrN : ∀ {φ : Nat → Nat} {h : eH} {s : fS} {q}, fC m 3 φ s φ h s → RN s = some q → gG m 3 φ s (lT lI) q (rN 22 h)) {φ : Nat → Nat} {h : eH} {s : fS} {s1' : Int32} {s1 : Int} (R : fC m b φ0 σo φ h s) (es1 : s1' = iI s1) (rs1 : r32 s1) (hF : FX8_expandPrimitive_b182 N RE RN s1 s = some q) : gG m b φ0 σo (lT lU) q (fX8_expandPrimitive_b182 N rE rN 58 s1' h) := by
  subst es1
  unfold FX8_expandPrimitive_b182 at hF
  unfold fX8_expandPrimitive_b182
  refine s_kok R (t_58 R.S) (Nat.le_of_ble_eq_true rfl) ?_
  refine s_call R hb (fun _ hq => SX13_put (b := 1) (Nat.le_of_ble_eq_true rfl) (R.rf) rfl rs1 hq) hF (fun f2 rv2 h2 q2 R2 e2 E2 hF => ?_)
  exact SX8_expandPrimitive_b256 (N := N) (rE := rE) (RE := RE) (rN := rN) (RN := RN) @hrE @hrN R2 hF
def FX8_expandPrimitive (N : Nat) (RE : Int → fS → Option ((Unit ⊕ Nat) × fS)) (RN : fS → Option ((Int ⊕ Nat) × fS)) (p0 : Int) (p1 : Int) (s : fS) : Option ((Unit ⊕ Nat) × fS) :=
  if p1 = 0 then
    tB (FX8_need N s) fun x3 σ4 =>
    tB (FX8_need N σ4) fun x6 σ7 =>
    (FX8_isExpandable x6 σ7).bind fun q9 =>
    if q9.1 = 0 then
      (FX13_put x6 q9.2).bind fun q14 =>
      FX8_expandPrimitive_b142 N RE RN x3 q14.2
    else
      tB (RE x6 q9.2) fun x16 σ17 =>
      FX8_expandPrimitive_b142 N RE RN x3 σ17
  else
    if p1 = 1 then
      tB (FX8_need N s) fun x20 σ21 =>
      (FX8_isExpandable x20 σ21).bind fun q25 =>
      if q25.1 = 0 then
        FX8_expandPrimitive_b182 N RE RN x20 q25.2
      else
        FX8_expandPrimitive_b182 N RE RN (ior x20 1048576) q25.2
    else
      if p1 = 2 then
        tB (FX8_makeName N RE s) fun x29 σ30 =>
        FX8_expandPrimitive_b256 N RE RN σ30
      else
        if p1 = 3 then
          tB (FX8_need N s) fun x33 σ34 =>
          (FX8_bare x33 σ34).bind fun q35 =>
          (FX8_spell N q35.1 q35.2).bind fun q37 =>
          FX8_expandPrimitive_b256 N RE RN q37.2
        else
          if p1 = 4 then
            tB (RN s) fun x40 σ41 =>
            (FX8_tellNumber N x40 σ41).bind fun q43 =>
            FX8_expandPrimitive_b256 N RE RN q43.2
          else
            if p1 = 5 then
              tB (RN s) fun x46 σ47 =>
              tB (FX8_tellRoman N x46 σ47) fun x49 σ50 =>
              FX8_expandPrimitive_b256 N RE RN σ50
            else
              if p1 = 6 then
                tB (FX8_needExpanded N RE s) fun x53 σ54 =>
                tB (FX8_tellValue N RN x53 σ54) fun x56 σ57 =>
                FX8_expandPrimitive_b256 N RE RN σ57
              else
                if p1 = 7 then
                  tB (FX8_decide N RE RN p1 s) fun x60 σ61 =>
                  FX8_expandPrimitive_b256 N RE RN σ61
                else
                  if p1 = 8 then
                    tB (FX8_decide N RE RN p1 s) fun x64 σ65 =>
                    FX8_expandPrimitive_b256 N RE RN σ65
                  else
                    if p1 = 9 then
                      tB (FX8_decide N RE RN p1 s) fun x68 σ69 =>
                      FX8_expandPrimitive_b256 N RE RN σ69
                    else
                      if p1 = 10 then
                        tB (FX8_decide N RE RN p1 s) fun x72 σ73 =>
                        FX8_expandPrimitive_b256 N RE RN σ73
                      else
                        if p1 = 11 then
                          tB (FX8_decide N RE RN p1 s) fun x76 σ77 =>
                          FX8_expandPrimitive_b256 N RE RN σ77
                        else
                          if p1 = 12 then
                            tB (FX8_decide N RE RN p1 s) fun x80 σ81 =>
                            FX8_expandPrimitive_b256 N RE RN σ81
                          else
                            if p1 = 13 then
                              tB (FX8_decide N RE RN p1 s) fun x84 σ85 =>
                              FX8_expandPrimitive_b256 N RE RN σ85
                            else
                              if p1 = 14 then
                                tB (FX8_decide N RE RN p1 s) fun x88 σ89 =>
                                FX8_expandPrimitive_b256 N RE RN σ89
                              else
                                if p1 = 15 then
                                  tB (FX8_decide N RE RN p1 s) fun x92 σ93 =>
                                  FX8_expandPrimitive_b256 N RE RN σ93
                                else
                                  if p1 = 16 then
                                    tB (FX8_decide N RE RN p1 s) fun x96 σ97 =>
                                    FX8_expandPrimitive_b256 N RE RN σ97
                                  else
                                    if p1 = 17 then
                                      tB (FX8_decide N RE RN p1 s) fun x100 σ101 =>
                                      FX8_expandPrimitive_b256 N RE RN σ101
                                    else
                                      if p1 = 18 then
                                        tB (FX8_decide N RE RN p1 s) fun x104 σ105 =>
                                        FX8_expandPrimitive_b256 N RE RN σ105
                                      else
                                        if p1 = 19 then
                                          tB (FX8_turn N p0 p1 s) fun x108 σ109 =>
                                          FX8_expandPrimitive_b256 N RE RN σ109
                                        else
                                          if p1 = 20 then
                                            tB (FX8_turn N p0 p1 s) fun x112 σ113 =>
                                            FX8_expandPrimitive_b256 N RE RN σ113
                                          else
                                            if p1 = 21 then
                                              tB (FX8_turn N p0 p1 s) fun x116 σ117 =>
                                              FX8_expandPrimitive_b256 N RE RN σ117
                                            else
                                              tB (FX8_decide N RE RN p1 s) fun x119 σ120 =>
                                              FX8_expandPrimitive_b256 N RE RN σ120
theorem SX8_expandPrimitive {m b : Nat} {φ0 : Nat → Nat} {σo : fS} (hb : 3 ≤ b) {N : Nat} {rE : Nat → Int32 → eH → Option ((Unit ⊕ Nat) × eH)} {RE : Int → fS → Option ((Unit ⊕ Nat) × fS)} {rN : Nat → eH → Option ((Int32 ⊕ Nat) × eH)} {RN : fS → Option ((Int ⊕ Nat) × fS)} {q : (Unit ⊕ Nat) × fS} (hrE : ∀ {φ : Nat → Nat} {h : eH} {s : fS} {x1' : Int32} {x1 : Int} {q}, fC m 3 φ s φ h s → x1' = iI x1 → r32 x1 → RE x1 s = some q → gG m 3 φ s (lT lU) q (rE 22 x1' h)) (hrN : ∀ {φ : Nat → Nat} {h : eH} {s : fS} {q}, fC m 3 φ s φ h s → RN s = some q → gG m 3 φ s (lT lI) q (rN 22 h)) {φ : Nat → Nat} {h : eH} {s : fS} {p0' : Int32} {p0 : Int} {p1' : Int32} {p1 : Int} (R : fC m b φ0 σo φ h s) (ep0 : p0' = iI p0) (rp0 : r32 p0) (ep1 : p1' = iI p1) (rp1 : r32 p1) (hF : FX8_expandPrimitive N RE RN p0 p1 s = some q) : gG m b φ0 σo (lT lU) q (fX8_expandPrimitive N rE rN 22 p0' p1' h) := by
  subst ep0; subst ep1
  unfold FX8_expandPrimitive at hF
  unfold fX8_expandPrimitive
  refine s_if (i_eq rfl (c_lit 0 0 rfl) rp1 ⟨by decide, by decide⟩) hF (fun c1 hF => ?_) (fun c1 hF => ?_)
  ·
    refine s_kok R (t_22 R.S) (Nat.le_of_ble_eq_true rfl) ?_
    refine s_tB R (Nat.le_trans (Nat.le_of_ble_eq_true rfl) hb) (fun _ hq => SX8_need (b := 2) (N := N) (Nat.le_of_ble_eq_true rfl) (R.rf) hq) hF (fun f3 rv3 h3 x3 σ4 R3 e3 E3 hF => ?_)
    refine s_kok R3 (t_22 R3.S) (Nat.le_of_ble_eq_true rfl) ?_
    refine s_tB R3 (Nat.le_trans (Nat.le_of_ble_eq_true rfl) hb) (fun _ hq => SX8_need (b := 2) (N := N) (Nat.le_of_ble_eq_true rfl) (R3.rf) hq) hF (fun f5 rv5 h5 x6 σ7 R5 e5 E5 hF => ?_)
    refine s_kok R5 (t_22 R5.S) (Nat.le_of_ble_eq_true rfl) ?_
    refine s_call R5 (Nat.zero_le _) (fun _ hq => SX8_isExpandable (b := 0) (R5.rf) e5.1 e5.2 hq) hF (fun f7 rv7 h7 q9 R7 e7 E7 hF => ?_)
    refine s_if (i_eq e7.1 (c_lit 0 0 rfl) e7.2 ⟨by decide, by decide⟩) hF (fun c8 hF => ?_) (fun c8 hF => ?_)
    ·
      refine s_gO R7 (t_22 R7.S) (Nat.le_of_ble_eq_true rfl) rfl (o_22_7 R7.S) ?_
      refine s_kok R7 (t_58 R7.S) (Nat.le_of_ble_eq_true rfl) ?_
      refine s_call R7 (Nat.le_trans (Nat.le_of_ble_eq_true rfl) hb) (fun _ hq => SX13_put (b := 1) (Nat.le_of_ble_eq_true rfl) (R7.rf) e5.1 e5.2 hq) hF (fun f11 rv11 h11 q14 R11 e11 E11 hF => ?_)
      exact SX8_expandPrimitive_b142 (N := N) (rE := rE) (RE := RE) (rN := rN) (RN := RN) (Nat.le_trans (Nat.le_of_ble_eq_true rfl) hb) @hrE @hrN R11 e3.1 e3.2 hF
    ·
      refine s_kok R7 (t_22 R7.S) (Nat.le_of_ble_eq_true rfl) ?_
      refine s_tB R7 hb (fun _ hq => hrE (R7.rf) e5.1 e5.2 hq) hF (fun f13 rv13 h13 x16 σ17 R13 e13 E13 hF => ?_)
      exact SX8_expandPrimitive_b142 (N := N) (rE := rE) (RE := RE) (rN := rN) (RN := RN) (Nat.le_trans (Nat.le_of_ble_eq_true rfl) hb) @hrE @hrN R13 e3.1 e3.2 hF
  ·
    refine s_if (i_eq rfl (c_lit 1 1 rfl) rp1 ⟨by decide, by decide⟩) hF (fun c14 hF => ?_) (fun c14 hF => ?_)
    ·
      refine s_kok R (t_22 R.S) (Nat.le_of_ble_eq_true rfl) ?_
      refine s_tB R (Nat.le_trans (Nat.le_of_ble_eq_true rfl) hb) (fun _ hq => SX8_need (b := 2) (N := N) (Nat.le_of_ble_eq_true rfl) (R.rf) hq) hF (fun f16 rv16 h16 x20 σ21 R16 e16 E16 hF => ?_)
      refine s_gO R16 (t_22 R16.S) (Nat.le_of_ble_eq_true rfl) rfl (o_22_7 R16.S) ?_
      refine s_kok R16 (t_22 R16.S) (Nat.le_of_ble_eq_true rfl) ?_
      refine s_call R16 (Nat.zero_le _) (fun _ hq => SX8_isExpandable (b := 0) (R16.rf) e16.1 e16.2 hq) hF (fun f19 rv19 h19 q25 R19 e19 E19 hF => ?_)
      refine s_if (i_eq e19.1 (c_lit 0 0 rfl) e19.2 ⟨by decide, by decide⟩) hF (fun c20 hF => ?_) (fun c20 hF => ?_)
      ·
        exact SX8_expandPrimitive_b182 (N := N) (rE := rE) (RE := RE) (rN := rN) (RN := RN) (Nat.le_trans (Nat.le_of_ble_eq_true rfl) hb) @hrE @hrN R19 e16.1 e16.2 hF
      ·
        exact SX8_expandPrimitive_b182 (N := N) (rE := rE) (RE := RE) (rN := rN) (RN := RN) (Nat.le_trans (Nat.le_of_ble_eq_true rfl) hb) @hrE @hrN R19 (c_or e16.1 (c_lit 1048576 1048576 rfl)) (rr_I _) hF
    ·
      refine s_if (i_eq rfl (c_lit 2 2 rfl) rp1 ⟨by decide, by decide⟩) hF (fun c21 hF => ?_) (fun c21 hF => ?_)
      ·
        refine s_kok R (t_22 R.S) (Nat.le_of_ble_eq_true rfl) ?_
        refine s_tB R hb (fun _ hq => SX8_makeName (b := 3) (N := N) (rE := rE) (RE := RE) (Nat.le_of_ble_eq_true rfl) @hrE (R.rf) hq) hF (fun f23 rv23 h23 x29 σ30 R23 e23 E23 hF => ?_)
        exact SX8_expandPrimitive_b256 (N := N) (rE := rE) (RE := RE) (rN := rN) (RN := RN) @hrE @hrN R23 hF
      ·
        refine s_if (i_eq rfl (c_lit 3 3 rfl) rp1 ⟨by decide, by decide⟩) hF (fun c24 hF => ?_) (fun c24 hF => ?_)
        ·
          refine s_kok R (t_22 R.S) (Nat.le_of_ble_eq_true rfl) ?_
          refine s_tB R (Nat.le_trans (Nat.le_of_ble_eq_true rfl) hb) (fun _ hq => SX8_need (b := 2) (N := N) (Nat.le_of_ble_eq_true rfl) (R.rf) hq) hF (fun f26 rv26 h26 x33 σ34 R26 e26 E26 hF => ?_)
          refine s_call R26 (Nat.zero_le _) (fun _ hq => SX8_bare (b := 0) (R26.rf) e26.1 e26.2 hq) hF (fun f27 rv27 h27 q35 R27 e27 E27 hF => ?_)
          refine s_kok R27 (t_22 R27.S) (Nat.le_of_ble_eq_true rfl) ?_
          refine s_call R27 (Nat.le_trans (Nat.le_of_ble_eq_true rfl) hb) (fun _ hq => SX8_spell (b := 1) (N := N) (Nat.le_of_ble_eq_true rfl) (R27.rf) e27.1 e27.2 hq) hF (fun f29 rv29 h29 q37 R29 e29 E29 hF => ?_)
          exact SX8_expandPrimitive_b256 (N := N) (rE := rE) (RE := RE) (rN := rN) (RN := RN) @hrE @hrN R29 hF
        ·
          refine s_if (i_eq rfl (c_lit 4 4 rfl) rp1 ⟨by decide, by decide⟩) hF (fun c30 hF => ?_) (fun c30 hF => ?_)
          ·
            refine s_kok R (t_22 R.S) (Nat.le_of_ble_eq_true rfl) ?_
            refine s_tB R hb (fun _ hq => hrN (R.rf)  hq) hF (fun f32 rv32 h32 x40 σ41 R32 e32 E32 hF => ?_)
            refine s_kok R32 (t_22 R32.S) (Nat.le_of_ble_eq_true rfl) ?_
            refine s_call R32 (Nat.le_trans (Nat.le_of_ble_eq_true rfl) hb) (fun _ hq => SX8_tellNumber (b := 1) (N := N) (Nat.le_of_ble_eq_true rfl) (R32.rf) e32.1 e32.2 hq) hF (fun f34 rv34 h34 q43 R34 e34 E34 hF => ?_)
            exact SX8_expandPrimitive_b256 (N := N) (rE := rE) (RE := RE) (rN := rN) (RN := RN) @hrE @hrN R34 hF
          ·
            refine s_if (i_eq rfl (c_lit 5 5 rfl) rp1 ⟨by decide, by decide⟩) hF (fun c35 hF => ?_) (fun c35 hF => ?_)
            ·
              refine s_kok R (t_22 R.S) (Nat.le_of_ble_eq_true rfl) ?_
              refine s_tB R hb (fun _ hq => hrN (R.rf)  hq) hF (fun f37 rv37 h37 x46 σ47 R37 e37 E37 hF => ?_)
              refine s_kok R37 (t_22 R37.S) (Nat.le_of_ble_eq_true rfl) ?_
              refine s_tB R37 (Nat.le_trans (Nat.le_of_ble_eq_true rfl) hb) (fun _ hq => SX8_tellRoman (b := 1) (N := N) (Nat.le_of_ble_eq_true rfl) (R37.rf) e37.1 e37.2 hq) hF (fun f39 rv39 h39 x49 σ50 R39 e39 E39 hF => ?_)
              exact SX8_expandPrimitive_b256 (N := N) (rE := rE) (RE := RE) (rN := rN) (RN := RN) @hrE @hrN R39 hF
            ·
              refine s_if (i_eq rfl (c_lit 6 6 rfl) rp1 ⟨by decide, by decide⟩) hF (fun c40 hF => ?_) (fun c40 hF => ?_)
              ·
                refine s_kok R (t_22 R.S) (Nat.le_of_ble_eq_true rfl) ?_
                refine s_tB R hb (fun _ hq => SX8_needExpanded (b := 3) (N := N) (rE := rE) (RE := RE) (Nat.le_of_ble_eq_true rfl) @hrE (R.rf) hq) hF (fun f42 rv42 h42 x53 σ54 R42 e42 E42 hF => ?_)
                refine s_kok R42 (t_22 R42.S) (Nat.le_of_ble_eq_true rfl) ?_
                refine s_tB R42 hb (fun _ hq => SX8_tellValue (b := 3) (N := N) (rN := rN) (RN := RN) (Nat.le_of_ble_eq_true rfl) @hrN (R42.rf) e42.1 e42.2 hq) hF (fun f44 rv44 h44 x56 σ57 R44 e44 E44 hF => ?_)
                exact SX8_expandPrimitive_b256 (N := N) (rE := rE) (RE := RE) (rN := rN) (RN := RN) @hrE @hrN R44 hF
              ·
                refine s_if (i_eq rfl (c_lit 7 7 rfl) rp1 ⟨by decide, by decide⟩) hF (fun c45 hF => ?_) (fun c45 hF => ?_)
                ·
                  refine s_kok R (t_22 R.S) (Nat.le_of_ble_eq_true rfl) ?_
                  refine s_tB R hb (fun _ hq => SX8_decide (b := 3) (N := N) (rE := rE) (RE := RE) (rN := rN) (RN := RN) (Nat.le_of_ble_eq_true rfl) @hrE @hrN (R.rf) rfl rp1 hq) hF (fun f47 rv47 h47 x60 σ61 R47 e47 E47 hF => ?_)
                  exact SX8_expandPrimitive_b256 (N := N) (rE := rE) (RE := RE) (rN := rN) (RN := RN) @hrE @hrN R47 hF
                ·
                  refine s_if (i_eq rfl (c_lit 8 8 rfl) rp1 ⟨by decide, by decide⟩) hF (fun c48 hF => ?_) (fun c48 hF => ?_)
                  ·
                    refine s_kok R (t_22 R.S) (Nat.le_of_ble_eq_true rfl) ?_
                    refine s_tB R hb (fun _ hq => SX8_decide (b := 3) (N := N) (rE := rE) (RE := RE) (rN := rN) (RN := RN) (Nat.le_of_ble_eq_true rfl) @hrE @hrN (R.rf) rfl rp1 hq) hF (fun f50 rv50 h50 x64 σ65 R50 e50 E50 hF => ?_)
                    exact SX8_expandPrimitive_b256 (N := N) (rE := rE) (RE := RE) (rN := rN) (RN := RN) @hrE @hrN R50 hF
                  ·
                    refine s_if (i_eq rfl (c_lit 9 9 rfl) rp1 ⟨by decide, by decide⟩) hF (fun c51 hF => ?_) (fun c51 hF => ?_)
                    ·
                      refine s_kok R (t_22 R.S) (Nat.le_of_ble_eq_true rfl) ?_
                      refine s_tB R hb (fun _ hq => SX8_decide (b := 3) (N := N) (rE := rE) (RE := RE) (rN := rN) (RN := RN) (Nat.le_of_ble_eq_true rfl) @hrE @hrN (R.rf) rfl rp1 hq) hF (fun f53 rv53 h53 x68 σ69 R53 e53 E53 hF => ?_)
                      exact SX8_expandPrimitive_b256 (N := N) (rE := rE) (RE := RE) (rN := rN) (RN := RN) @hrE @hrN R53 hF
                    ·
                      refine s_if (i_eq rfl (c_lit 10 10 rfl) rp1 ⟨by decide, by decide⟩) hF (fun c54 hF => ?_) (fun c54 hF => ?_)
                      ·
                        refine s_kok R (t_22 R.S) (Nat.le_of_ble_eq_true rfl) ?_
                        refine s_tB R hb (fun _ hq => SX8_decide (b := 3) (N := N) (rE := rE) (RE := RE) (rN := rN) (RN := RN) (Nat.le_of_ble_eq_true rfl) @hrE @hrN (R.rf) rfl rp1 hq) hF (fun f56 rv56 h56 x72 σ73 R56 e56 E56 hF => ?_)
                        exact SX8_expandPrimitive_b256 (N := N) (rE := rE) (RE := RE) (rN := rN) (RN := RN) @hrE @hrN R56 hF
                      ·
                        refine s_if (i_eq rfl (c_lit 11 11 rfl) rp1 ⟨by decide, by decide⟩) hF (fun c57 hF => ?_) (fun c57 hF => ?_)
                        ·
                          refine s_kok R (t_22 R.S) (Nat.le_of_ble_eq_true rfl) ?_
                          refine s_tB R hb (fun _ hq => SX8_decide (b := 3) (N := N) (rE := rE) (RE := RE) (rN := rN) (RN := RN) (Nat.le_of_ble_eq_true rfl) @hrE @hrN (R.rf) rfl rp1 hq) hF (fun f59 rv59 h59 x76 σ77 R59 e59 E59 hF => ?_)
                          exact SX8_expandPrimitive_b256 (N := N) (rE := rE) (RE := RE) (rN := rN) (RN := RN) @hrE @hrN R59 hF
                        ·
                          refine s_if (i_eq rfl (c_lit 12 12 rfl) rp1 ⟨by decide, by decide⟩) hF (fun c60 hF => ?_) (fun c60 hF => ?_)
                          ·
                            refine s_kok R (t_22 R.S) (Nat.le_of_ble_eq_true rfl) ?_
                            refine s_tB R hb (fun _ hq => SX8_decide (b := 3) (N := N) (rE := rE) (RE := RE) (rN := rN) (RN := RN) (Nat.le_of_ble_eq_true rfl) @hrE @hrN (R.rf) rfl rp1 hq) hF (fun f62 rv62 h62 x80 σ81 R62 e62 E62 hF => ?_)
                            exact SX8_expandPrimitive_b256 (N := N) (rE := rE) (RE := RE) (rN := rN) (RN := RN) @hrE @hrN R62 hF
                          ·
                            refine s_if (i_eq rfl (c_lit 13 13 rfl) rp1 ⟨by decide, by decide⟩) hF (fun c63 hF => ?_) (fun c63 hF => ?_)
                            ·
                              refine s_kok R (t_22 R.S) (Nat.le_of_ble_eq_true rfl) ?_
                              refine s_tB R hb (fun _ hq => SX8_decide (b := 3) (N := N) (rE := rE) (RE := RE) (rN := rN) (RN := RN) (Nat.le_of_ble_eq_true rfl) @hrE @hrN (R.rf) rfl rp1 hq) hF (fun f65 rv65 h65 x84 σ85 R65 e65 E65 hF => ?_)
                              exact SX8_expandPrimitive_b256 (N := N) (rE := rE) (RE := RE) (rN := rN) (RN := RN) @hrE @hrN R65 hF
                            ·
                              refine s_if (i_eq rfl (c_lit 14 14 rfl) rp1 ⟨by decide, by decide⟩) hF (fun c66 hF => ?_) (fun c66 hF => ?_)
                              ·
                                refine s_kok R (t_22 R.S) (Nat.le_of_ble_eq_true rfl) ?_
                                refine s_tB R hb (fun _ hq => SX8_decide (b := 3) (N := N) (rE := rE) (RE := RE) (rN := rN) (RN := RN) (Nat.le_of_ble_eq_true rfl) @hrE @hrN (R.rf) rfl rp1 hq) hF (fun f68 rv68 h68 x88 σ89 R68 e68 E68 hF => ?_)
                                exact SX8_expandPrimitive_b256 (N := N) (rE := rE) (RE := RE) (rN := rN) (RN := RN) @hrE @hrN R68 hF
                              ·
                                refine s_if (i_eq rfl (c_lit 15 15 rfl) rp1 ⟨by decide, by decide⟩) hF (fun c69 hF => ?_) (fun c69 hF => ?_)
                                ·
                                  refine s_kok R (t_22 R.S) (Nat.le_of_ble_eq_true rfl) ?_
                                  refine s_tB R hb (fun _ hq => SX8_decide (b := 3) (N := N) (rE := rE) (RE := RE) (rN := rN) (RN := RN) (Nat.le_of_ble_eq_true rfl) @hrE @hrN (R.rf) rfl rp1 hq) hF (fun f71 rv71 h71 x92 σ93 R71 e71 E71 hF => ?_)
                                  exact SX8_expandPrimitive_b256 (N := N) (rE := rE) (RE := RE) (rN := rN) (RN := RN) @hrE @hrN R71 hF
                                ·
                                  refine s_if (i_eq rfl (c_lit 16 16 rfl) rp1 ⟨by decide, by decide⟩) hF (fun c72 hF => ?_) (fun c72 hF => ?_)
                                  ·
                                    refine s_kok R (t_22 R.S) (Nat.le_of_ble_eq_true rfl) ?_
                                    refine s_tB R hb (fun _ hq => SX8_decide (b := 3) (N := N) (rE := rE) (RE := RE) (rN := rN) (RN := RN) (Nat.le_of_ble_eq_true rfl) @hrE @hrN (R.rf) rfl rp1 hq) hF (fun f74 rv74 h74 x96 σ97 R74 e74 E74 hF => ?_)
                                    exact SX8_expandPrimitive_b256 (N := N) (rE := rE) (RE := RE) (rN := rN) (RN := RN) @hrE @hrN R74 hF
                                  ·
                                    refine s_if (i_eq rfl (c_lit 17 17 rfl) rp1 ⟨by decide, by decide⟩) hF (fun c75 hF => ?_) (fun c75 hF => ?_)
                                    ·
                                      refine s_kok R (t_22 R.S) (Nat.le_of_ble_eq_true rfl) ?_
                                      refine s_tB R hb (fun _ hq => SX8_decide (b := 3) (N := N) (rE := rE) (RE := RE) (rN := rN) (RN := RN) (Nat.le_of_ble_eq_true rfl) @hrE @hrN (R.rf) rfl rp1 hq) hF (fun f77 rv77 h77 x100 σ101 R77 e77 E77 hF => ?_)
                                      exact SX8_expandPrimitive_b256 (N := N) (rE := rE) (RE := RE) (rN := rN) (RN := RN) @hrE @hrN R77 hF
                                    ·
                                      refine s_if (i_eq rfl (c_lit 18 18 rfl) rp1 ⟨by decide, by decide⟩) hF (fun c78 hF => ?_) (fun c78 hF => ?_)
                                      ·
                                        refine s_kok R (t_22 R.S) (Nat.le_of_ble_eq_true rfl) ?_
                                        refine s_tB R hb (fun _ hq => SX8_decide (b := 3) (N := N) (rE := rE) (RE := RE) (rN := rN) (RN := RN) (Nat.le_of_ble_eq_true rfl) @hrE @hrN (R.rf) rfl rp1 hq) hF (fun f80 rv80 h80 x104 σ105 R80 e80 E80 hF => ?_)
                                        exact SX8_expandPrimitive_b256 (N := N) (rE := rE) (RE := RE) (rN := rN) (RN := RN) @hrE @hrN R80 hF
                                      ·
                                        refine s_if (i_eq rfl (c_lit 19 19 rfl) rp1 ⟨by decide, by decide⟩) hF (fun c81 hF => ?_) (fun c81 hF => ?_)
                                        ·
                                          refine s_kok R (t_22 R.S) (Nat.le_of_ble_eq_true rfl) ?_
                                          refine s_tB R (Nat.le_trans (Nat.le_of_ble_eq_true rfl) hb) (fun _ hq => SX8_turn (b := 2) (N := N) (Nat.le_of_ble_eq_true rfl) (R.rf) rfl rp0 rfl rp1 hq) hF (fun f83 rv83 h83 x108 σ109 R83 e83 E83 hF => ?_)
                                          exact SX8_expandPrimitive_b256 (N := N) (rE := rE) (RE := RE) (rN := rN) (RN := RN) @hrE @hrN R83 hF
                                        ·
                                          refine s_if (i_eq rfl (c_lit 20 20 rfl) rp1 ⟨by decide, by decide⟩) hF (fun c84 hF => ?_) (fun c84 hF => ?_)
                                          ·
                                            refine s_kok R (t_22 R.S) (Nat.le_of_ble_eq_true rfl) ?_
                                            refine s_tB R (Nat.le_trans (Nat.le_of_ble_eq_true rfl) hb) (fun _ hq => SX8_turn (b := 2) (N := N) (Nat.le_of_ble_eq_true rfl) (R.rf) rfl rp0 rfl rp1 hq) hF (fun f86 rv86 h86 x112 σ113 R86 e86 E86 hF => ?_)
                                            exact SX8_expandPrimitive_b256 (N := N) (rE := rE) (RE := RE) (rN := rN) (RN := RN) @hrE @hrN R86 hF
                                          ·
                                            refine s_if (i_eq rfl (c_lit 21 21 rfl) rp1 ⟨by decide, by decide⟩) hF (fun c87 hF => ?_) (fun c87 hF => ?_)
                                            ·
                                              refine s_kok R (t_22 R.S) (Nat.le_of_ble_eq_true rfl) ?_
                                              refine s_tB R (Nat.le_trans (Nat.le_of_ble_eq_true rfl) hb) (fun _ hq => SX8_turn (b := 2) (N := N) (Nat.le_of_ble_eq_true rfl) (R.rf) rfl rp0 rfl rp1 hq) hF (fun f89 rv89 h89 x116 σ117 R89 e89 E89 hF => ?_)
                                              exact SX8_expandPrimitive_b256 (N := N) (rE := rE) (RE := RE) (rN := rN) (RN := RN) @hrE @hrN R89 hF
                                            ·
                                              refine s_kok R (t_22 R.S) (Nat.le_of_ble_eq_true rfl) ?_
                                              refine s_tB R hb (fun _ hq => SX8_decide (b := 3) (N := N) (rE := rE) (RE := RE) (rN := rN) (RN := RN) (Nat.le_of_ble_eq_true rfl) @hrE @hrN (R.rf) rfl rp1 hq) hF (fun f91 rv91 h91 x119 σ120 R91 e91 E91 hF => ?_)
                                              exact SX8_expandPrimitive_b256 (N := N) (rE := rE) (RE := RE) (rN := rN) (RN := RN) @hrE @hrN R91 hF
def FX8_expand_b99 (N : Nat) (RE : Int → fS → Option ((Unit ⊕ Nat) × fS)) (RN : fS → Option ((Int ⊕ Nat) × fS)) (s1 : Int) (s : fS) : Option ((Unit ⊕ Nat) × fS) :=
  tB (FX4_want s1 2 s) fun x2 σ3 =>
  some (.inl (), σ3)
theorem SX8_expand_b99 {m b : Nat} {φ0 : Nat → Nat} {σo : fS} {N : Nat} {rE : Nat → Int32 → eH → Option ((Unit ⊕ Nat) × eH)} {RE : Int → fS → Option ((Unit ⊕ Nat) × fS)} {rN : Nat → eH → Option ((Int32 ⊕ Nat) × eH)} {RN : fS → Option ((Int ⊕ Nat) × fS)} {q : (Unit ⊕ Nat) × fS} (hrE : ∀ {φ : Nat → Nat} {h : eH} {s : fS} {x1' : Int32} {x1 : Int} {q}, fC m 3 φ s φ h s → x1' = iI x1 → r32 x1 → RE x1 s = some q → gG m 3 φ s (lT lU) q (rE 22 x1' h)) (hrN : ∀ {φ : Nat → Nat} {h : eH} {s : fS} {q}, fC m 3 φ s φ h s → RN s = some q → gG m 3 φ s (lT lI) q (rN 22 h)) {φ : Nat → Nat} {h : eH} {s : fS} {s1' : Int32} {s1 : Int} (R : fC m b φ0 σo φ h s) (es1 : s1' = iI s1) (rs1 : r32 s1) (hF : FX8_expand_b99 N RE RN s1 s = some q) : gG m b φ0 σo (lT lU) q (fX8_expand_b99 N rE rN 5 s1' h) := by
  subst es1
  unfold FX8_expand_b99 at hF
  unfold fX8_expand_b99
  refine s_kok R (t_5 R.S) (Nat.le_of_ble_eq_true rfl) ?_
  refine s_tB R (Nat.zero_le _) (fun _ hq => SX4_want (b := 0) (R.rf) rfl rs1 (c_lit 2 2 rfl) ⟨by decide, by decide⟩ hq) hF (fun f2 rv2 h2 x2 σ3 R2 e2 E2 hF => ?_)
  exact g_ret R2 hF trivial
def FX8_expand_b67 (N : Nat) (RE : Int → fS → Option ((Unit ⊕ Nat) × fS)) (RN : fS → Option ((Int ⊕ Nat) × fS)) (s : fS) : Option ((Unit ⊕ Nat) × fS) :=
  (uPI s 22 10 (isub (s.i 22 10) 1)).bind fun σ3 =>
  if 10000 < (σ3.i 58 3) then
    FX8_expand_b99 N RE RN 0 σ3
  else
    FX8_expand_b99 N RE RN 1 σ3
theorem SX8_expand_b67 {m b : Nat} {φ0 : Nat → Nat} {σo : fS} {N : Nat} {rE : Nat → Int32 → eH → Option ((Unit ⊕ Nat) × eH)} {RE : Int → fS → Option ((Unit ⊕ Nat) × fS)} {rN : Nat → eH → Option ((Int32 ⊕ Nat) × eH)} {RN : fS → Option ((Int ⊕ Nat) × fS)} {q : (Unit ⊕ Nat) × fS} (hrE : ∀ {φ : Nat → Nat} {h : eH} {s : fS} {x1' : Int32} {x1 : Int} {q}, fC m 3 φ s φ h s → x1' = iI x1 → r32 x1 → RE x1 s = some q → gG m 3 φ s (lT lU) q (rE 22 x1' h)) (hrN : ∀ {φ : Nat → Nat} {h : eH} {s : fS} {q}, fC m 3 φ s φ h s → RN s = some q → gG m 3 φ s (lT lI) q (rN 22 h)) {φ : Nat → Nat} {h : eH} {s : fS} (R : fC m b φ0 σo φ h s) (hF : FX8_expand_b67 N RE RN s = some q) : gG m b φ0 σo (lT lU) q (fX8_expand_b67 N rE rN 22 h) := by
  unfold FX8_expand_b67 at hF
  unfold fX8_expand_b67
  refine s_gI R (t_22 R.S) (Nat.le_of_ble_eq_true rfl) rfl ?_
  refine s_pI R (t_22 R.S) (Nat.le_of_ble_eq_true rfl) rfl (c_sub rfl (c_lit 1 1 rfl)) (rr_I _) hF (fun h2 σ3 R2 T2 hF => ?_)
  refine s_gO R2 (t_22 R2.S) (Nat.le_of_ble_eq_true rfl) rfl (o_22_0 R2.S) ?_
  refine s_gO R2 (t_22 R2.S) (Nat.le_of_ble_eq_true rfl) rfl (o_22_7 R2.S) ?_
  refine s_gI R2 (t_58 R2.S) (Nat.le_of_ble_eq_true rfl) rfl ?_
  refine s_if (i_lt (c_lit 10000 10000 rfl) rfl ⟨by decide, by decide⟩ (R2.ri (t_58 R2.S) (Nat.le_of_ble_eq_true rfl) rfl)) hF (fun c6 hF => ?_) (fun c6 hF => ?_)
  ·
    exact SX8_expand_b99 (N := N) (rE := rE) (RE := RE) (rN := rN) (RN := RN) @hrE @hrN R2 (c_lit 0 0 rfl) ⟨by decide, by decide⟩ hF
  ·
    exact SX8_expand_b99 (N := N) (rE := rE) (RE := RE) (rN := rN) (RN := RN) @hrE @hrN R2 (c_lit 1 1 rfl) ⟨by decide, by decide⟩ hF
def FX8_expand_b22 (N : Nat) (RE : Int → fS → Option ((Unit ⊕ Nat) × fS)) (RN : fS → Option ((Int ⊕ Nat) × fS)) (l1 : Int) (s1 : Int) (s : fS) : Option ((Unit ⊕ Nat) × fS) :=
  tB (FX4_want s1 3 s) fun x2 σ3 =>
  (uPI σ3 22 10 (iadd (σ3.i 22 10) 1)).bind fun σ6 =>
  (FX8_kind l1 σ6).bind fun q9 =>
  if ¬ (q9.1 = 2) then
    (FX8_value l1 q9.2).bind fun q12 =>
    tB (FX8_expandPrimitive N RE RN l1 q12.1 q12.2) fun x14 σ15 =>
    FX8_expand_b67 N RE RN σ15
  else
    (FX8_value l1 q9.2).bind fun q17 =>
    tB (FX8_call N q17.1 q17.2) fun x19 σ20 =>
    FX8_expand_b67 N RE RN σ20
theorem SX8_expand_b22 {m b : Nat} {φ0 : Nat → Nat} {σo : fS} (hb : 3 ≤ b) {N : Nat} {rE : Nat → Int32 → eH → Option ((Unit ⊕ Nat) × eH)} {RE : Int → fS → Option ((Unit ⊕ Nat) × fS)} {rN : Nat → eH → Option ((Int32 ⊕ Nat) × eH)} {RN : fS → Option ((Int ⊕ Nat) × fS)} {q : (Unit ⊕ Nat) × fS} (hrE : ∀ {φ : Nat → Nat} {h : eH} {s : fS} {x1' : Int32} {x1 : Int} {q}, fC m 3 φ s φ h s → x1' = iI x1 → r32 x1 → RE x1 s = some q → gG m 3 φ s (lT lU) q (rE 22 x1' h)) (hrN : ∀ {φ : Nat → Nat} {h : eH} {s : fS} {q}, fC m 3 φ s φ h s → RN s = some q → gG m 3 φ s (lT lI) q (rN 22 h)) {φ : Nat → Nat} {h : eH} {s : fS} {l1' : Int32} {l1 : Int} {s1' : Int32} {s1 : Int} (R : fC m b φ0 σo φ h s) (el1 : l1' = iI l1) (rl1 : r32 l1) (es1 : s1' = iI s1) (rs1 : r32 s1) (hF : FX8_expand_b22 N RE RN l1 s1 s = some q) : gG m b φ0 σo (lT lU) q (fX8_expand_b22 N rE rN 22 l1' 5 s1' h) := by
  subst el1; subst es1
  unfold FX8_expand_b22 at hF
  unfold fX8_expand_b22
  refine s_kok R (t_5 R.S) (Nat.le_of_ble_eq_true rfl) ?_
  refine s_tB R (Nat.zero_le _) (fun _ hq => SX4_want (b := 0) (R.rf) rfl rs1 (c_lit 3 3 rfl) ⟨by decide, by decide⟩ hq) hF (fun f2 rv2 h2 x2 σ3 R2 e2 E2 hF => ?_)
  refine s_gI R2 (t_22 R2.S) (Nat.le_of_ble_eq_true rfl) rfl ?_
  refine s_pI R2 (t_22 R2.S) (Nat.le_of_ble_eq_true rfl) rfl (c_add rfl (c_lit 1 1 rfl)) (rr_I _) hF (fun h4 σ6 R4 T4 hF => ?_)
  refine s_kok R4 (t_22 R4.S) (Nat.le_of_ble_eq_true rfl) ?_
  refine s_call R4 (Nat.zero_le _) (fun _ hq => SX8_kind (b := 0) (R4.rf) rfl rl1 hq) hF (fun f6 rv6 h6 q9 R6 e6 E6 hF => ?_)
  refine s_if (not_congr (i_eq e6.1 (c_lit 2 2 rfl) e6.2 ⟨by decide, by decide⟩)) hF (fun c7 hF => ?_) (fun c7 hF => ?_)
  ·
    refine s_kok R6 (t_22 R6.S) (Nat.le_of_ble_eq_true rfl) ?_
    refine s_call R6 (Nat.zero_le _) (fun _ hq => SX8_value (b := 0) (R6.rf) rfl rl1 hq) hF (fun f9 rv9 h9 q12 R9 e9 E9 hF => ?_)
    refine s_kok R9 (t_22 R9.S) (Nat.le_of_ble_eq_true rfl) ?_
    refine s_tB R9 hb (fun _ hq => SX8_expandPrimitive (b := 3) (N := N) (rE := rE) (RE := RE) (rN := rN) (RN := RN) (Nat.le_of_ble_eq_true rfl) @hrE @hrN (R9.rf) rfl rl1 e9.1 e9.2 hq) hF (fun f11 rv11 h11 x14 σ15 R11 e11 E11 hF => ?_)
    exact SX8_expand_b67 (N := N) (rE := rE) (RE := RE) (rN := rN) (RN := RN) @hrE @hrN R11 hF
  ·
    refine s_kok R6 (t_22 R6.S) (Nat.le_of_ble_eq_true rfl) ?_
    refine s_call R6 (Nat.zero_le _) (fun _ hq => SX8_value (b := 0) (R6.rf) rfl rl1 hq) hF (fun f13 rv13 h13 q17 R13 e13 E13 hF => ?_)
    refine s_kok R13 (t_22 R13.S) (Nat.le_of_ble_eq_true rfl) ?_
    refine s_tB R13 hb (fun _ hq => SX8_call (b := 3) (N := N) (Nat.le_of_ble_eq_true rfl) (R13.rf) e13.1 e13.2 hq) hF (fun f15 rv15 h15 x19 σ20 R15 e15 E15 hF => ?_)
    exact SX8_expand_b67 (N := N) (rE := rE) (RE := RE) (rN := rN) (RN := RN) @hrE @hrN R15 hF
def FX8_expand (N : Nat) (RE : Int → fS → Option ((Unit ⊕ Nat) × fS)) (RN : fS → Option ((Int ⊕ Nat) × fS)) (p0 : Int) (s : fS) : Option ((Unit ⊕ Nat) × fS) :=
  tB (FX8_tick s) fun x2 σ3 =>
  if 40 ≤ (σ3.i 22 10) then
    FX8_expand_b22 N RE RN p0 0 σ3
  else
    FX8_expand_b22 N RE RN p0 1 σ3
theorem SX8_expand {m b : Nat} {φ0 : Nat → Nat} {σo : fS} (hb : 3 ≤ b) {N : Nat} {rE : Nat → Int32 → eH → Option ((Unit ⊕ Nat) × eH)} {RE : Int → fS → Option ((Unit ⊕ Nat) × fS)} {rN : Nat → eH → Option ((Int32 ⊕ Nat) × eH)} {RN : fS → Option ((Int ⊕ Nat) × fS)} {q : (Unit ⊕ Nat) × fS} (hrE : ∀ {φ : Nat → Nat} {h : eH} {s : fS} {x1' : Int32} {x1 : Int} {q}, fC m 3 φ s φ h s → x1' = iI x1 → r32 x1 → RE x1 s = some q → gG m 3 φ s (lT lU) q (rE 22 x1' h)) (hrN : ∀ {φ : Nat → Nat} {h : eH} {s : fS} {q}, fC m 3 φ s φ h s → RN s = some q → gG m 3 φ s (lT lI) q (rN 22 h)) {φ : Nat → Nat} {h : eH} {s : fS} {p0' : Int32} {p0 : Int} (R : fC m b φ0 σo φ h s) (ep0 : p0' = iI p0) (rp0 : r32 p0) (hF : FX8_expand N RE RN p0 s = some q) : gG m b φ0 σo (lT lU) q (fX8_expand N rE rN 22 p0' h) := by
  subst ep0
  unfold FX8_expand at hF
  unfold fX8_expand
  refine s_kok R (t_22 R.S) (Nat.le_of_ble_eq_true rfl) ?_
  refine s_tB R (Nat.zero_le _) (fun _ hq => SX8_tick (b := 0) (R.rf) hq) hF (fun f2 rv2 h2 x2 σ3 R2 e2 E2 hF => ?_)
  refine s_gO R2 (t_22 R2.S) (Nat.le_of_ble_eq_true rfl) rfl (o_22_0 R2.S) ?_
  refine s_gI R2 (t_22 R2.S) (Nat.le_of_ble_eq_true rfl) rfl ?_
  refine s_if (i_le (c_lit 40 40 rfl) rfl ⟨by decide, by decide⟩ (R2.ri (t_22 R2.S) (Nat.le_of_ble_eq_true rfl) rfl)) hF (fun c5 hF => ?_) (fun c5 hF => ?_)
  ·
    exact SX8_expand_b22 (N := N) (rE := rE) (RE := RE) (rN := rN) (RN := RN) hb @hrE @hrN R2 rfl rp0 (c_lit 0 0 rfl) ⟨by decide, by decide⟩ hF
  ·
    exact SX8_expand_b22 (N := N) (rE := rE) (RE := RE) (rN := rN) (RN := RN) hb @hrE @hrN R2 rfl rp0 (c_lit 1 1 rfl) ⟨by decide, by decide⟩ hF
def FX8_number_b72 (N : Nat) (RE : Int → fS → Option ((Unit ⊕ Nat) × fS)) (RN : fS → Option ((Int ⊕ Nat) × fS)) (K39 : Int → Int → fS → Option ((Int ⊕ Nat) × fS)) (s0 : Int) (s1 : Int) (s : fS) : Option ((Int ⊕ Nat) × fS) :=
  tB (FX8_needSolid N RE s) fun x2 σ3 =>
  K39 (ixor s0 s1) x2 σ3
theorem SX8_number_b72 {m b : Nat} {φ0 : Nat → Nat} {σo : fS} (hb : 3 ≤ b) {N : Nat} {rE : Nat → Int32 → eH → Option ((Unit ⊕ Nat) × eH)} {RE : Int → fS → Option ((Unit ⊕ Nat) × fS)} {rN : Nat → eH → Option ((Int32 ⊕ Nat) × eH)} {RN : fS → Option ((Int ⊕ Nat) × fS)} {k39 : Nat → Int32 → Int32 → eH → Option ((Int32 ⊕ Nat) × eH)} {K39 : Int → Int → fS → Option ((Int ⊕ Nat) × fS)} {q : (Int ⊕ Nat) × fS} (hrE : ∀ {φ : Nat → Nat} {h : eH} {s : fS} {x1' : Int32} {x1 : Int} {q}, fC m 3 φ s φ h s → x1' = iI x1 → r32 x1 → RE x1 s = some q → gG m 3 φ s (lT lU) q (rE 22 x1' h)) (hrN : ∀ {φ : Nat → Nat} {h : eH} {s : fS} {q}, fC m 3 φ s φ h s → RN s = some q → gG m 3 φ s (lT lI) q (rN 22 h)) (hk39 : ∀ {φ : Nat → Nat} {h : eH} {s : fS} {l1' : Int32} {l1 : Int} {l2' : Int32} {l2 : Int}, fC m b φ0 σo φ h s → l1' = iI l1 → r32 l1 → l2' = iI l2 → r32 l2 → K39 l1 l2 s = some q → gG m b φ0 σo (lT lI) q (k39 22 l1' l2' h)) {φ : Nat → Nat} {h : eH} {s : fS} {s0' : Int32} {s0 : Int} {s1' : Int32} {s1 : Int} (R : fC m b φ0 σo φ h s) (es0 : s0' = iI s0) (rs0 : r32 s0) (es1 : s1' = iI s1) (rs1 : r32 s1) (hF : FX8_number_b72 N RE RN K39 s0 s1 s = some q) : gG m b φ0 σo (lT lI) q (fX8_number_b72 N rE rN k39 22 s0' s1' h) := by
  subst es0; subst es1
  unfold FX8_number_b72 at hF
  unfold fX8_number_b72
  refine s_kok R (t_22 R.S) (Nat.le_of_ble_eq_true rfl) ?_
  refine s_tB R hb (fun _ hq => SX8_needSolid (b := 3) (N := N) (rE := rE) (RE := RE) (Nat.le_of_ble_eq_true rfl) @hrE (R.rf) hq) hF (fun f2 rv2 h2 x2 σ3 R2 e2 E2 hF => ?_)
  exact hk39 R2 (c_xor rfl rfl) (rr_I _) e2.1 e2.2 hF
def FX8_number_b57 (N : Nat) (RE : Int → fS → Option ((Unit ⊕ Nat) × fS)) (RN : fS → Option ((Int ⊕ Nat) × fS)) (K39 : Int → Int → fS → Option ((Int ⊕ Nat) × fS)) (l1 : Int) (l2 : Int) (s : fS) : Option ((Int ⊕ Nat) × fS) :=
  (FX1_other 45 s).bind fun q1 =>
  if ¬ (l2 = q1.1) then
    FX8_number_b72 N RE RN K39 l1 0 q1.2
  else
    FX8_number_b72 N RE RN K39 l1 1 q1.2
theorem SX8_number_b57 {m b : Nat} {φ0 : Nat → Nat} {σo : fS} (hb : 3 ≤ b) {N : Nat} {rE : Nat → Int32 → eH → Option ((Unit ⊕ Nat) × eH)} {RE : Int → fS → Option ((Unit ⊕ Nat) × fS)} {rN : Nat → eH → Option ((Int32 ⊕ Nat) × eH)} {RN : fS → Option ((Int ⊕ Nat) × fS)} {k39 : Nat → Int32 → Int32 → eH → Option ((Int32 ⊕ Nat) × eH)} {K39 : Int → Int → fS → Option ((Int ⊕ Nat) × fS)} {q : (Int ⊕ Nat) × fS} (hrE : ∀ {φ : Nat → Nat} {h : eH} {s : fS} {x1' : Int32} {x1 : Int} {q}, fC m 3 φ s φ h s → x1' = iI x1 → r32 x1 → RE x1 s = some q → gG m 3 φ s (lT lU) q (rE 22 x1' h)) (hrN : ∀ {φ : Nat → Nat} {h : eH} {s : fS} {q}, fC m 3 φ s φ h s → RN s = some q → gG m 3 φ s (lT lI) q (rN 22 h)) (hk39 : ∀ {φ : Nat → Nat} {h : eH} {s : fS} {l1' : Int32} {l1 : Int} {l2' : Int32} {l2 : Int}, fC m b φ0 σo φ h s → l1' = iI l1 → r32 l1 → l2' = iI l2 → r32 l2 → K39 l1 l2 s = some q → gG m b φ0 σo (lT lI) q (k39 22 l1' l2' h)) {φ : Nat → Nat} {h : eH} {s : fS} {l1' : Int32} {l1 : Int} {l2' : Int32} {l2 : Int} (R : fC m b φ0 σo φ h s) (el1 : l1' = iI l1) (rl1 : r32 l1) (el2 : l2' = iI l2) (rl2 : r32 l2) (hF : FX8_number_b57 N RE RN K39 l1 l2 s = some q) : gG m b φ0 σo (lT lI) q (fX8_number_b57 N rE rN k39 22 l1' l2' h) := by
  subst el1; subst el2
  unfold FX8_number_b57 at hF
  unfold fX8_number_b57
  refine s_call R (Nat.zero_le _) (fun _ hq => SX1_other (b := 0) (R.rf) (c_lit 45 45 rfl) ⟨by decide, by decide⟩ hq) hF (fun f1 rv1 h1 q1 R1 e1 E1 hF => ?_)
  refine s_if (not_congr (i_eq rfl e1.1 rl2 e1.2)) hF (fun c2 hF => ?_) (fun c2 hF => ?_)
  ·
    exact SX8_number_b72 (N := N) (rE := rE) (RE := RE) (rN := rN) (RN := RN) (k39 := k39) (K39 := K39) hb @hrE @hrN @hk39 R1 rfl rl1 (c_lit 0 0 rfl) ⟨by decide, by decide⟩ hF
  ·
    exact SX8_number_b72 (N := N) (rE := rE) (RE := RE) (rN := rN) (RN := RN) (k39 := k39) (K39 := K39) hb @hrE @hrN @hk39 R1 rfl rl1 (c_lit 1 1 rfl) ⟨by decide, by decide⟩ hF
def FX8_number_b155 (N : Nat) (RE : Int → fS → Option ((Unit ⊕ Nat) × fS)) (RN : fS → Option ((Int ⊕ Nat) × fS)) (s0 : Int) (s : fS) : Option ((Int ⊕ Nat) × fS) :=
  some (.inl s0, s)
theorem SX8_number_b155 {m b : Nat} {φ0 : Nat → Nat} {σo : fS} {N : Nat} {rE : Nat → Int32 → eH → Option ((Unit ⊕ Nat) × eH)} {RE : Int → fS → Option ((Unit ⊕ Nat) × fS)} {rN : Nat → eH → Option ((Int32 ⊕ Nat) × eH)} {RN : fS → Option ((Int ⊕ Nat) × fS)} {q : (Int ⊕ Nat) × fS} (hrE : ∀ {φ : Nat → Nat} {h : eH} {s : fS} {x1' : Int32} {x1 : Int} {q}, fC m 3 φ s φ h s → x1' = iI x1 → r32 x1 → RE x1 s = some q → gG m 3 φ s (lT lU) q (rE 22 x1' h)) (hrN : ∀ {φ : Nat → Nat} {h : eH} {s : fS} {q}, fC m 3 φ s φ h s → RN s = some q → gG m 3 φ s (lT lI) q (rN 22 h)) {φ : Nat → Nat} {h : eH} {s : fS} {s0' : Int32} {s0 : Int} (R : fC m b φ0 σo φ h s) (es0 : s0' = iI s0) (rs0 : r32 s0) (hF : FX8_number_b155 N RE RN s0 s = some q) : gG m b φ0 σo (lT lI) q (fX8_number_b155 N rE rN s0' h) := by
  subst es0
  unfold FX8_number_b155 at hF
  unfold fX8_number_b155
  exact g_ret R hF ⟨rfl, rs0⟩
def FX8_number_b134 (N : Nat) (RE : Int → fS → Option ((Unit ⊕ Nat) × fS)) (RN : fS → Option ((Int ⊕ Nat) × fS)) (l1 : Int) (s0 : Int) (s : fS) : Option ((Int ⊕ Nat) × fS) :=
  (uPI s 22 10 (isub (s.i 22 10) 1)).bind fun σ3 =>
  if l1 = 0 then
    FX8_number_b155 N RE RN s0 σ3
  else
    FX8_number_b155 N RE RN (ineg s0) σ3
theorem SX8_number_b134 {m b : Nat} {φ0 : Nat → Nat} {σo : fS} {N : Nat} {rE : Nat → Int32 → eH → Option ((Unit ⊕ Nat) × eH)} {RE : Int → fS → Option ((Unit ⊕ Nat) × fS)} {rN : Nat → eH → Option ((Int32 ⊕ Nat) × eH)} {RN : fS → Option ((Int ⊕ Nat) × fS)} {q : (Int ⊕ Nat) × fS} (hrE : ∀ {φ : Nat → Nat} {h : eH} {s : fS} {x1' : Int32} {x1 : Int} {q}, fC m 3 φ s φ h s → x1' = iI x1 → r32 x1 → RE x1 s = some q → gG m 3 φ s (lT lU) q (rE 22 x1' h)) (hrN : ∀ {φ : Nat → Nat} {h : eH} {s : fS} {q}, fC m 3 φ s φ h s → RN s = some q → gG m 3 φ s (lT lI) q (rN 22 h)) {φ : Nat → Nat} {h : eH} {s : fS} {l1' : Int32} {l1 : Int} {s0' : Int32} {s0 : Int} (R : fC m b φ0 σo φ h s) (el1 : l1' = iI l1) (rl1 : r32 l1) (es0 : s0' = iI s0) (rs0 : r32 s0) (hF : FX8_number_b134 N RE RN l1 s0 s = some q) : gG m b φ0 σo (lT lI) q (fX8_number_b134 N rE rN 22 l1' s0' h) := by
  subst el1; subst es0
  unfold FX8_number_b134 at hF
  unfold fX8_number_b134
  refine s_gI R (t_22 R.S) (Nat.le_of_ble_eq_true rfl) rfl ?_
  refine s_pI R (t_22 R.S) (Nat.le_of_ble_eq_true rfl) rfl (c_sub rfl (c_lit 1 1 rfl)) (rr_I _) hF (fun h2 σ3 R2 T2 hF => ?_)
  refine s_if (i_eq rfl (c_lit 0 0 rfl) rl1 ⟨by decide, by decide⟩) hF (fun c3 hF => ?_) (fun c3 hF => ?_)
  ·
    exact SX8_number_b155 (N := N) (rE := rE) (RE := RE) (rN := rN) (RN := RN) @hrE @hrN R2 rfl rs0 hF
  ·
    exact SX8_number_b155 (N := N) (rE := rE) (RE := RE) (rN := rN) (RN := RN) @hrE @hrN R2 (c_neg rfl) (rr_I _) hF
def FX8_number_b39 (N : Nat) (RE : Int → fS → Option ((Unit ⊕ Nat) × fS)) (RN : fS → Option ((Int ⊕ Nat) × fS)) : Nat → Int → Int → fS → Option ((Int ⊕ Nat) × fS)
  | 0, _, _, _ => none
  | n + 1, l1, l2, s =>
    (FX1_other 43 s).bind fun q1 =>
    if l2 = q1.1 then
      FX8_number_b57 N RE RN (FX8_number_b39 N RE RN n) l1 l2 q1.2
    else
      (FX1_other 45 q1.2).bind fun q3 =>
      if ¬ (l2 = q3.1) then
        (FX1_isDigit l2 q3.2).bind fun q5 =>
        if q5.1 = 0 then
          (FX1_other 96 q5.2).bind fun q7 =>
          if ¬ (l2 = q7.1) then
            (FX8_isSized l2 q7.2).bind fun q10 =>
            if q10.1 = 0 then
              tB (FX8_valued RN l2 q10.2) fun x13 σ14 =>
              FX8_number_b134 N RE RN l1 x13 σ14
            else
              tB (FX8_sized RN l2 q10.2) fun x16 σ17 =>
              FX8_number_b134 N RE RN l1 x16 σ17
          else
            tB (FX8_quoted N RE q7.2) fun x19 σ20 =>
            FX8_number_b134 N RE RN l1 x19 σ20
        else
          tB (FX8_decimal N RE l2 q5.2) fun x22 σ23 =>
          FX8_number_b134 N RE RN l1 x22 σ23
      else
        FX8_number_b57 N RE RN (FX8_number_b39 N RE RN n) l1 l2 q3.2
theorem SX8_number_b39 {m b : Nat} {φ0 : Nat → Nat} {σo : fS} (hb : 3 ≤ b) {N : Nat} {rE : Nat → Int32 → eH → Option ((Unit ⊕ Nat) × eH)} {RE : Int → fS → Option ((Unit ⊕ Nat) × fS)} {rN : Nat → eH → Option ((Int32 ⊕ Nat) × eH)} {RN : fS → Option ((Int ⊕ Nat) × fS)} {q : (Int ⊕ Nat) × fS} (hrE : ∀ {φ : Nat → Nat} {h : eH} {s : fS} {x1' : Int32} {x1 : Int} {q}, fC m 3 φ s φ h s → x1' = iI x1 → r32 x1 → RE x1 s = some q → gG m 3 φ s (lT lU) q (rE 22 x1' h)) (hrN : ∀ {φ : Nat → Nat} {h : eH} {s : fS} {q}, fC m 3 φ s φ h s → RN s = some q → gG m 3 φ s (lT lI) q (rN 22 h)) : ∀ {n : Nat} {φ : Nat → Nat} {h : eH} {s : fS} {l1' : Int32} {l1 : Int} {l2' : Int32} {l2 : Int}, fC m b φ0 σo φ h s → l1' = iI l1 → r32 l1 → l2' = iI l2 → r32 l2 → FX8_number_b39 N RE RN n l1 l2 s = some q → gG m b φ0 σo (lT lI) q (fX8_number_b39 N rE rN n 22 l1' l2' h) := by
  intro n
  induction n with
 | zero => intro φ h s l1' l1 l2' l2 R el1 rl1 el2 rl2 hF; simp [FX8_number_b39] at hF
  | succ n ih =>
    intro φ h s l1' l1 l2' l2 R el1 rl1 el2 rl2 hF
    subst el1; subst el2
    rw [FX8_number_b39] at hF
    rw [fX8_number_b39]
    refine s_call R (Nat.zero_le _) (fun _ hq => SX1_other (b := 0) (R.rf) (c_lit 43 43 rfl) ⟨by decide, by decide⟩ hq) hF (fun f1 rv1 h1 q1 R1 e1 E1 hF => ?_)
    refine s_if (i_eq rfl e1.1 rl2 e1.2) hF (fun c2 hF => ?_) (fun c2 hF => ?_)
    ·
      exact SX8_number_b57 (N := N) (rE := rE) (RE := RE) (rN := rN) (RN := RN) (k39 := fX8_number_b39 N rE rN n) (K39 := FX8_number_b39 N RE RN n) hb @hrE @hrN @ih R1 rfl rl1 rfl rl2 hF
    ·
      refine s_call R1 (Nat.zero_le _) (fun _ hq => SX1_other (b := 0) (R1.rf) (c_lit 45 45 rfl) ⟨by decide, by decide⟩ hq) hF (fun f3 rv3 h3 q3 R3 e3 E3 hF => ?_)
      refine s_if (not_congr (i_eq rfl e3.1 rl2 e3.2)) hF (fun c4 hF => ?_) (fun c4 hF => ?_)
      ·
        refine s_call R3 (Nat.zero_le _) (fun _ hq => SX1_isDigit (b := 0) (R3.rf) rfl rl2 hq) hF (fun f5 rv5 h5 q5 R5 e5 E5 hF => ?_)
        refine s_if (i_eq e5.1 (c_lit 0 0 rfl) e5.2 ⟨by decide, by decide⟩) hF (fun c6 hF => ?_) (fun c6 hF => ?_)
        ·
          refine s_call R5 (Nat.zero_le _) (fun _ hq => SX1_other (b := 0) (R5.rf) (c_lit 96 96 rfl) ⟨by decide, by decide⟩ hq) hF (fun f7 rv7 h7 q7 R7 e7 E7 hF => ?_)
          refine s_if (not_congr (i_eq rfl e7.1 rl2 e7.2)) hF (fun c8 hF => ?_) (fun c8 hF => ?_)
          ·
            refine s_kok R7 (t_22 R7.S) (Nat.le_of_ble_eq_true rfl) ?_
            refine s_call R7 (Nat.zero_le _) (fun _ hq => SX8_isSized (b := 0) (R7.rf) rfl rl2 hq) hF (fun f10 rv10 h10 q10 R10 e10 E10 hF => ?_)
            refine s_if (i_eq e10.1 (c_lit 0 0 rfl) e10.2 ⟨by decide, by decide⟩) hF (fun c11 hF => ?_) (fun c11 hF => ?_)
            ·
              refine s_kok R10 (t_22 R10.S) (Nat.le_of_ble_eq_true rfl) ?_
              refine s_tB R10 hb (fun _ hq => SX8_valued (b := 3) (rN := rN) (RN := RN) (Nat.le_of_ble_eq_true rfl) @hrN (R10.rf) rfl rl2 hq) hF (fun f13 rv13 h13 x13 σ14 R13 e13 E13 hF => ?_)
              exact SX8_number_b134 (N := N) (rE := rE) (RE := RE) (rN := rN) (RN := RN) @hrE @hrN R13 rfl rl1 e13.1 e13.2 hF
            ·
              refine s_kok R10 (t_22 R10.S) (Nat.le_of_ble_eq_true rfl) ?_
              refine s_tB R10 hb (fun _ hq => SX8_sized (b := 3) (rN := rN) (RN := RN) (Nat.le_of_ble_eq_true rfl) @hrN (R10.rf) rfl rl2 hq) hF (fun f15 rv15 h15 x16 σ17 R15 e15 E15 hF => ?_)
              exact SX8_number_b134 (N := N) (rE := rE) (RE := RE) (rN := rN) (RN := RN) @hrE @hrN R15 rfl rl1 e15.1 e15.2 hF
          ·
            refine s_kok R7 (t_22 R7.S) (Nat.le_of_ble_eq_true rfl) ?_
            refine s_tB R7 hb (fun _ hq => SX8_quoted (b := 3) (N := N) (rE := rE) (RE := RE) (Nat.le_of_ble_eq_true rfl) @hrE (R7.rf) hq) hF (fun f17 rv17 h17 x19 σ20 R17 e17 E17 hF => ?_)
            exact SX8_number_b134 (N := N) (rE := rE) (RE := RE) (rN := rN) (RN := RN) @hrE @hrN R17 rfl rl1 e17.1 e17.2 hF
        ·
          refine s_kok R5 (t_22 R5.S) (Nat.le_of_ble_eq_true rfl) ?_
          refine s_tB R5 hb (fun _ hq => SX8_decimal (b := 3) (N := N) (rE := rE) (RE := RE) (Nat.le_of_ble_eq_true rfl) @hrE (R5.rf) rfl rl2 hq) hF (fun f19 rv19 h19 x22 σ23 R19 e19 E19 hF => ?_)
          exact SX8_number_b134 (N := N) (rE := rE) (RE := RE) (rN := rN) (RN := RN) @hrE @hrN R19 rfl rl1 e19.1 e19.2 hF
      ·
        exact SX8_number_b57 (N := N) (rE := rE) (RE := RE) (rN := rN) (RN := RN) (k39 := fX8_number_b39 N rE rN n) (K39 := FX8_number_b39 N RE RN n) hb @hrE @hrN @ih R3 rfl rl1 rfl rl2 hF
def FX8_number_b18 (N : Nat) (RE : Int → fS → Option ((Unit ⊕ Nat) × fS)) (RN : fS → Option ((Int ⊕ Nat) × fS)) (s1 : Int) (s : fS) : Option ((Int ⊕ Nat) × fS) :=
  tB (FX4_want s1 3 s) fun x2 σ3 =>
  (uPI σ3 22 10 (iadd (σ3.i 22 10) 1)).bind fun σ6 =>
  tB (FX8_needSolid N RE σ6) fun x9 σ10 =>
  FX8_number_b39 N RE RN N 0 x9 σ10
theorem SX8_number_b18 {m b : Nat} {φ0 : Nat → Nat} {σo : fS} (hb : 3 ≤ b) {N : Nat} {rE : Nat → Int32 → eH → Option ((Unit ⊕ Nat) × eH)} {RE : Int → fS → Option ((Unit ⊕ Nat) × fS)} {rN : Nat → eH → Option ((Int32 ⊕ Nat) × eH)} {RN : fS → Option ((Int ⊕ Nat) × fS)} {q : (Int ⊕ Nat) × fS} (hrE : ∀ {φ : Nat → Nat} {h : eH} {s : fS} {x1' : Int32} {x1 : Int} {q}, fC m 3 φ s φ h s → x1' = iI x1 → r32 x1 → RE x1 s = some q → gG m 3 φ s (lT lU) q (rE 22 x1' h)) (hrN : ∀ {φ : Nat → Nat} {h : eH} {s : fS} {q}, fC m 3 φ s φ h s → RN s = some q → gG m 3 φ s (lT lI) q (rN 22 h)) {φ : Nat → Nat} {h : eH} {s : fS} {s1' : Int32} {s1 : Int} (R : fC m b φ0 σo φ h s) (es1 : s1' = iI s1) (rs1 : r32 s1) (hF : FX8_number_b18 N RE RN s1 s = some q) : gG m b φ0 σo (lT lI) q (fX8_number_b18 N rE rN 22 5 s1' h) := by
  subst es1
  unfold FX8_number_b18 at hF
  unfold fX8_number_b18
  refine s_kok R (t_5 R.S) (Nat.le_of_ble_eq_true rfl) ?_
  refine s_tB R (Nat.zero_le _) (fun _ hq => SX4_want (b := 0) (R.rf) rfl rs1 (c_lit 3 3 rfl) ⟨by decide, by decide⟩ hq) hF (fun f2 rv2 h2 x2 σ3 R2 e2 E2 hF => ?_)
  refine s_gI R2 (t_22 R2.S) (Nat.le_of_ble_eq_true rfl) rfl ?_
  refine s_pI R2 (t_22 R2.S) (Nat.le_of_ble_eq_true rfl) rfl (c_add rfl (c_lit 1 1 rfl)) (rr_I _) hF (fun h4 σ6 R4 T4 hF => ?_)
  refine s_kok R4 (t_22 R4.S) (Nat.le_of_ble_eq_true rfl) ?_
  refine s_tB R4 hb (fun _ hq => SX8_needSolid (b := 3) (N := N) (rE := rE) (RE := RE) (Nat.le_of_ble_eq_true rfl) @hrE (R4.rf) hq) hF (fun f6 rv6 h6 x9 σ10 R6 e6 E6 hF => ?_)
  exact SX8_number_b39 (N := N) (rE := rE) (RE := RE) (rN := rN) (RN := RN) hb @hrE @hrN R6 (c_lit 0 0 rfl) ⟨by decide, by decide⟩ e6.1 e6.2 hF
def FX8_number (N : Nat) (RE : Int → fS → Option ((Unit ⊕ Nat) × fS)) (RN : fS → Option ((Int ⊕ Nat) × fS)) (s : fS) : Option ((Int ⊕ Nat) × fS) :=
  if 40 ≤ (s.i 22 10) then
    FX8_number_b18 N RE RN 0 s
  else
    FX8_number_b18 N RE RN 1 s
theorem SX8_number {m b : Nat} {φ0 : Nat → Nat} {σo : fS} (hb : 3 ≤ b) {N : Nat} {rE : Nat → Int32 → eH → Option ((Unit ⊕ Nat) × eH)} {RE : Int → fS → Option ((Unit ⊕ Nat) × fS)} {rN : Nat → eH → Option ((Int32 ⊕ Nat) × eH)} {RN : fS → Option ((Int ⊕ Nat) × fS)} {q : (Int ⊕ Nat) × fS} (hrE : ∀ {φ : Nat → Nat} {h : eH} {s : fS} {x1' : Int32} {x1 : Int} {q}, fC m 3 φ s φ h s → x1' = iI x1 → r32 x1 → RE x1 s = some q → gG m 3 φ s (lT lU) q (rE 22 x1' h)) (hrN : ∀ {φ : Nat → Nat} {h : eH} {s : fS} {q}, fC m 3 φ s φ h s → RN s = some q → gG m 3 φ s (lT lI) q (rN 22 h)) {φ : Nat → Nat} {h : eH} {s : fS} (R : fC m b φ0 σo φ h s) (hF : FX8_number N RE RN s = some q) : gG m b φ0 σo (lT lI) q (fX8_number N rE rN 22 h) := by
  unfold FX8_number at hF
  unfold fX8_number
  refine s_gO R (t_22 R.S) (Nat.le_of_ble_eq_true rfl) rfl (o_22_0 R.S) ?_
  refine s_gI R (t_22 R.S) (Nat.le_of_ble_eq_true rfl) rfl ?_
  refine s_if (i_le (c_lit 40 40 rfl) rfl ⟨by decide, by decide⟩ (R.ri (t_22 R.S) (Nat.le_of_ble_eq_true rfl) rfl)) hF (fun c3 hF => ?_) (fun c3 hF => ?_)
  ·
    exact SX8_number_b18 (N := N) (rE := rE) (RE := RE) (rN := rN) (RN := RN) hb @hrE @hrN R (c_lit 0 0 rfl) ⟨by decide, by decide⟩ hF
  ·
    exact SX8_number_b18 (N := N) (rE := rE) (RE := RE) (rN := rN) (RN := RN) hb @hrE @hrN R (c_lit 1 1 rfl) ⟨by decide, by decide⟩ hF
