set_option maxRecDepth 100000
set_option maxHeartbeats 4000000
def FX8_glue_b126 (N : Nat) (RE : Int → fS → Option ((Unit ⊕ Nat) × fS)) (RN : fS → Option ((Int ⊕ Nat) × fS)) (s1 : Int) (s2 : Int) (s : fS) : Option ((Unit ⊕ Nat) × fS) :=
  (uQI s 43 s1 s2).bind fun σ1 =>
  some (.inl (), σ1)
theorem SX8_glue_b126 {m b : Nat} {φ0 : Nat → Nat} {σo : fS} {N : Nat} {rE : Nat → Int32 → eH → Option ((Unit ⊕ Nat) × eH)} {RE : Int → fS → Option ((Unit ⊕ Nat) × fS)} {rN : Nat → eH → Option ((Int32 ⊕ Nat) × eH)} {RN : fS → Option ((Int ⊕ Nat) × fS)} {q : (Unit ⊕ Nat) × fS} (hrE : ∀ {φ : Nat → Nat} {h : eH} {s : fS} {x1' : Int32} {x1 : Int} {q}, fC m 3 φ s φ h s → x1' = iI x1 → r32 x1 → RE x1 s = some q → gG m 3 φ s (lT lU) q (rE 22 x1' h)) (hrN : ∀ {φ : Nat → Nat} {h : eH} {s : fS} {q}, fC m 3 φ s φ h s → RN s = some q → gG m 3 φ s (lT lI) q (rN 22 h)) {φ : Nat → Nat} {h : eH} {s : fS} {s1' : Int32} {s1 : Int} {s2' : Int32} {s2 : Int} (R : fC m b φ0 σo φ h s) (es1 : s1' = iI s1) (rs1 : r32 s1) (es2 : s2' = iI s2) (rs2 : r32 s2) (hF : FX8_glue_b126 N RE RN s1 s2 s = some q) : gG m b φ0 σo (lT lU) q (fX8_glue_b126 N rE rN 43 s1' s2' h) := by
  subst es1; subst es2
  unfold FX8_glue_b126 at hF
  unfold fX8_glue_b126
  refine s_qI R (u_43 R.S).1 (u_43 R.S).2 (by decide) (a_43 R) rfl rs1 rfl rs2 hF (fun h1 σ1 R1 T1 hF => ?_)
  exact g_ret R1 hF trivial
def FX8_glue_b96 (N : Nat) (RE : Int → fS → Option ((Unit ⊕ Nat) × fS)) (RN : fS → Option ((Int ⊕ Nat) × fS)) (l2 : Int) (s1 : Int) (s : fS) : Option ((Unit ⊕ Nat) × fS) :=
  tB (FX4_want s1 7 s) fun x2 σ3 =>
  if l2 = 0 then
    (uRI σ3 43 0).bind fun x9 =>
    FX8_glue_b126 N RE RN 0 x9 σ3
  else
    (uRI σ3 43 0).bind fun x13 =>
    FX8_glue_b126 N RE RN 0 (ineg x13) σ3
theorem SX8_glue_b96 {m b : Nat} {φ0 : Nat → Nat} {σo : fS} {N : Nat} {rE : Nat → Int32 → eH → Option ((Unit ⊕ Nat) × eH)} {RE : Int → fS → Option ((Unit ⊕ Nat) × fS)} {rN : Nat → eH → Option ((Int32 ⊕ Nat) × eH)} {RN : fS → Option ((Int ⊕ Nat) × fS)} {q : (Unit ⊕ Nat) × fS} (hrE : ∀ {φ : Nat → Nat} {h : eH} {s : fS} {x1' : Int32} {x1 : Int} {q}, fC m 3 φ s φ h s → x1' = iI x1 → r32 x1 → RE x1 s = some q → gG m 3 φ s (lT lU) q (rE 22 x1' h)) (hrN : ∀ {φ : Nat → Nat} {h : eH} {s : fS} {q}, fC m 3 φ s φ h s → RN s = some q → gG m 3 φ s (lT lI) q (rN 22 h)) {φ : Nat → Nat} {h : eH} {s : fS} {l2' : Int32} {l2 : Int} {s1' : Int32} {s1 : Int} (R : fC m b φ0 σo φ h s) (el2 : l2' = iI l2) (rl2 : r32 l2) (es1 : s1' = iI s1) (rs1 : r32 s1) (hF : FX8_glue_b96 N RE RN l2 s1 s = some q) : gG m b φ0 σo (lT lU) q (fX8_glue_b96 N rE rN 22 l2' 5 s1' h) := by
  subst el2; subst es1
  unfold FX8_glue_b96 at hF
  unfold fX8_glue_b96
  refine s_kok R (t_5 R.S) (Nat.le_of_ble_eq_true rfl) ?_
  refine s_tB R (Nat.zero_le _) (fun _ hq => SX4_want (b := 0) (R.rf) rfl rs1 (c_lit 7 7 rfl) ⟨by decide, by decide⟩ hq) hF (fun f2 rv2 h2 x2 σ3 R2 e2 E2 hF => ?_)
  refine s_gAs R2 (t_22 R2.S) (Nat.le_of_ble_eq_true rfl) rfl (o_22_29 R2.S) (a_43 R2) ?_
  refine s_if (i_eq rfl (c_lit 0 0 rfl) rl2 ⟨by decide, by decide⟩) hF (fun c4 hF => ?_) (fun c4 hF => ?_)
  ·
    refine s_gAs R2 (t_22 R2.S) (Nat.le_of_ble_eq_true rfl) rfl (o_22_29 R2.S) (a_43 R2) ?_
    refine s_rI R2 (u_43 R2.S).1 (u_43 R2.S).2 (by decide) (a_43 R2) (c_lit 0 0 rfl) ⟨by decide, by decide⟩ hF (fun x9 ra6 hF => ?_)
    exact SX8_glue_b126 (N := N) (rE := rE) (RE := RE) (rN := rN) (RN := RN) @hrE @hrN R2 (c_lit 0 0 rfl) ⟨by decide, by decide⟩ rfl ra6 hF
  ·
    refine s_gAs R2 (t_22 R2.S) (Nat.le_of_ble_eq_true rfl) rfl (o_22_29 R2.S) (a_43 R2) ?_
    refine s_rI R2 (u_43 R2.S).1 (u_43 R2.S).2 (by decide) (a_43 R2) (c_lit 0 0 rfl) ⟨by decide, by decide⟩ hF (fun x13 ra8 hF => ?_)
    exact SX8_glue_b126 (N := N) (rE := rE) (RE := RE) (rN := rN) (RN := RN) @hrE @hrN R2 (c_lit 0 0 rfl) ⟨by decide, by decide⟩ (c_neg rfl) (rr_I _) hF
def FX8_glue_b91 (N : Nat) (RE : Int → fS → Option ((Unit ⊕ Nat) × fS)) (RN : fS → Option ((Int ⊕ Nat) × fS)) (l2 : Int) (s : fS) : Option ((Unit ⊕ Nat) × fS) :=
  FX8_glue_b96 N RE RN l2 1 s
theorem SX8_glue_b91 {m b : Nat} {φ0 : Nat → Nat} {σo : fS} {N : Nat} {rE : Nat → Int32 → eH → Option ((Unit ⊕ Nat) × eH)} {RE : Int → fS → Option ((Unit ⊕ Nat) × fS)} {rN : Nat → eH → Option ((Int32 ⊕ Nat) × eH)} {RN : fS → Option ((Int ⊕ Nat) × fS)} {q : (Unit ⊕ Nat) × fS} (hrE : ∀ {φ : Nat → Nat} {h : eH} {s : fS} {x1' : Int32} {x1 : Int} {q}, fC m 3 φ s φ h s → x1' = iI x1 → r32 x1 → RE x1 s = some q → gG m 3 φ s (lT lU) q (rE 22 x1' h)) (hrN : ∀ {φ : Nat → Nat} {h : eH} {s : fS} {q}, fC m 3 φ s φ h s → RN s = some q → gG m 3 φ s (lT lI) q (rN 22 h)) {φ : Nat → Nat} {h : eH} {s : fS} {l2' : Int32} {l2 : Int} (R : fC m b φ0 σo φ h s) (el2 : l2' = iI l2) (rl2 : r32 l2) (hF : FX8_glue_b91 N RE RN l2 s = some q) : gG m b φ0 σo (lT lU) q (fX8_glue_b91 N rE rN 22 l2' 5 h) := by
  subst el2
  unfold FX8_glue_b91 at hF
  unfold fX8_glue_b91
  exact SX8_glue_b96 (N := N) (rE := rE) (RE := RE) (rN := rN) (RN := RN) @hrE @hrN R rfl rl2 (c_lit 1 1 rfl) ⟨by decide, by decide⟩ hF
def FX8_glue_b95 (N : Nat) (RE : Int → fS → Option ((Unit ⊕ Nat) × fS)) (RN : fS → Option ((Int ⊕ Nat) × fS)) (l2 : Int) (s : fS) : Option ((Unit ⊕ Nat) × fS) :=
  FX8_glue_b96 N RE RN l2 0 s
theorem SX8_glue_b95 {m b : Nat} {φ0 : Nat → Nat} {σo : fS} {N : Nat} {rE : Nat → Int32 → eH → Option ((Unit ⊕ Nat) × eH)} {RE : Int → fS → Option ((Unit ⊕ Nat) × fS)} {rN : Nat → eH → Option ((Int32 ⊕ Nat) × eH)} {RN : fS → Option ((Int ⊕ Nat) × fS)} {q : (Unit ⊕ Nat) × fS} (hrE : ∀ {φ : Nat → Nat} {h : eH} {s : fS} {x1' : Int32} {x1 : Int} {q}, fC m 3 φ s φ h s → x1' = iI x1 → r32 x1 → RE x1 s = some q → gG m 3 φ s (lT lU) q (rE 22 x1' h)) (hrN : ∀ {φ : Nat → Nat} {h : eH} {s : fS} {q}, fC m 3 φ s φ h s → RN s = some q → gG m 3 φ s (lT lI) q (rN 22 h)) {φ : Nat → Nat} {h : eH} {s : fS} {l2' : Int32} {l2 : Int} (R : fC m b φ0 σo φ h s) (el2 : l2' = iI l2) (rl2 : r32 l2) (hF : FX8_glue_b95 N RE RN l2 s = some q) : gG m b φ0 σo (lT lU) q (fX8_glue_b95 N rE rN 22 l2' 5 h) := by
  subst el2
  unfold FX8_glue_b95 at hF
  unfold fX8_glue_b95
  exact SX8_glue_b96 (N := N) (rE := rE) (RE := RE) (rN := rN) (RN := RN) @hrE @hrN R rfl rl2 (c_lit 0 0 rfl) ⟨by decide, by decide⟩ hF
def FX8_glue_b33 (N : Nat) (RE : Int → fS → Option ((Unit ⊕ Nat) × fS)) (RN : fS → Option ((Int ⊕ Nat) × fS)) : Nat → Int → Int → Int → fS → Option ((Unit ⊕ Nat) × fS)
  | 0, _, _, _, _ => none
  | n + 1, l2, l4, l5, s =>
    if 4 ≤ l5 then
      if l2 = 0 then
        FX8_glue_b91 N RE RN l2 s
      else
        (uRI s 43 1).bind fun x7 =>
        if ¬ (x7 = 0) then
          FX8_glue_b95 N RE RN l2 s
        else
          (uRI s 43 3).bind fun x12 =>
          if ¬ (x12 = 0) then
            FX8_glue_b95 N RE RN l2 s
          else
            FX8_glue_b91 N RE RN l2 s
    else
      (uRI s 27 (iadd l4 l5)).bind fun x21 =>
      (uQI s 43 l5 x21).bind fun σ23 =>
      FX8_glue_b33 N RE RN n l2 l4 (iadd l5 1) σ23
theorem SX8_glue_b33 {m b : Nat} {φ0 : Nat → Nat} {σo : fS} {N : Nat} {rE : Nat → Int32 → eH → Option ((Unit ⊕ Nat) × eH)} {RE : Int → fS → Option ((Unit ⊕ Nat) × fS)} {rN : Nat → eH → Option ((Int32 ⊕ Nat) × eH)} {RN : fS → Option ((Int ⊕ Nat) × fS)} {q : (Unit ⊕ Nat) × fS} (hrE : ∀ {φ : Nat → Nat} {h : eH} {s : fS} {x1' : Int32} {x1 : Int} {q}, fC m 3 φ s φ h s → x1' = iI x1 → r32 x1 → RE x1 s = some q → gG m 3 φ s (lT lU) q (rE 22 x1' h)) (hrN : ∀ {φ : Nat → Nat} {h : eH} {s : fS} {q}, fC m 3 φ s φ h s → RN s = some q → gG m 3 φ s (lT lI) q (rN 22 h)) : ∀ {n : Nat} {φ : Nat → Nat} {h : eH} {s : fS} {l2' : Int32} {l2 : Int} {l4' : Int32} {l4 : Int} {l5' : Int32} {l5 : Int}, fC m b φ0 σo φ h s → l2' = iI l2 → r32 l2 → l4' = iI l4 → r32 l4 → l5' = iI l5 → r32 l5 → FX8_glue_b33 N RE RN n l2 l4 l5 s = some q → gG m b φ0 σo (lT lU) q (fX8_glue_b33 N rE rN n 22 l2' l4' l5' h) := by
  intro n
  induction n with
 | zero => intro φ h s l2' l2 l4' l4 l5' l5 R el2 rl2 el4 rl4 el5 rl5 hF; simp [FX8_glue_b33] at hF
  | succ n ih =>
    intro φ h s l2' l2 l4' l4 l5' l5 R el2 rl2 el4 rl4 el5 rl5 hF
    subst el2; subst el4; subst el5
    rw [FX8_glue_b33] at hF
    rw [fX8_glue_b33]
    refine s_if (i_le (c_lit 4 4 rfl) rfl ⟨by decide, by decide⟩ rl5) hF (fun c1 hF => ?_) (fun c1 hF => ?_)
    ·
      refine s_gO R (t_22 R.S) (Nat.le_of_ble_eq_true rfl) rfl (o_22_0 R.S) ?_
      refine s_if (i_eq rfl (c_lit 0 0 rfl) rl2 ⟨by decide, by decide⟩) hF (fun c3 hF => ?_) (fun c3 hF => ?_)
      ·
        exact SX8_glue_b91 (N := N) (rE := rE) (RE := RE) (rN := rN) (RN := RN) @hrE @hrN R rfl rl2 hF
      ·
        refine s_gAs R (t_22 R.S) (Nat.le_of_ble_eq_true rfl) rfl (o_22_29 R.S) (a_43 R) ?_
        refine s_rI R (u_43 R.S).1 (u_43 R.S).2 (by decide) (a_43 R) (c_lit 1 1 rfl) ⟨by decide, by decide⟩ hF (fun x7 ra5 hF => ?_)
        refine s_if (not_congr (i_eq rfl (c_lit 0 0 rfl) ra5 ⟨by decide, by decide⟩)) hF (fun c6 hF => ?_) (fun c6 hF => ?_)
        ·
          exact SX8_glue_b95 (N := N) (rE := rE) (RE := RE) (rN := rN) (RN := RN) @hrE @hrN R rfl rl2 hF
        ·
          refine s_gAs R (t_22 R.S) (Nat.le_of_ble_eq_true rfl) rfl (o_22_29 R.S) (a_43 R) ?_
          refine s_rI R (u_43 R.S).1 (u_43 R.S).2 (by decide) (a_43 R) (c_lit 3 3 rfl) ⟨by decide, by decide⟩ hF (fun x12 ra8 hF => ?_)
          refine s_if (not_congr (i_eq rfl (c_lit 0 0 rfl) ra8 ⟨by decide, by decide⟩)) hF (fun c9 hF => ?_) (fun c9 hF => ?_)
          ·
            exact SX8_glue_b95 (N := N) (rE := rE) (RE := RE) (rN := rN) (RN := RN) @hrE @hrN R rfl rl2 hF
          ·
            exact SX8_glue_b91 (N := N) (rE := rE) (RE := RE) (rN := rN) (RN := RN) @hrE @hrN R rfl rl2 hF
    ·
      refine s_gAs R (t_22 R.S) (Nat.le_of_ble_eq_true rfl) rfl (o_22_29 R.S) (a_43 R) ?_
      refine s_gO R (t_22 R.S) (Nat.le_of_ble_eq_true rfl) rfl (o_22_4 R.S) ?_
      refine s_gAs R (t_23 R.S) (Nat.le_of_ble_eq_true rfl) rfl (o_23_3 R.S) (a_27 R) ?_
      refine s_rI R (u_27 R.S).1 (u_27 R.S).2 (by decide) (a_27 R) (c_add rfl rfl) (rr_I _) hF (fun x21 ra13 hF => ?_)
      refine s_qI R (u_43 R.S).1 (u_43 R.S).2 (by decide) (a_43 R) rfl rl5 rfl ra13 hF (fun h14 σ23 R14 T14 hF => ?_)
      exact ih R14 rfl rl2 rfl rl4 (c_add rfl (c_lit 1 1 rfl)) (rr_I _) hF
def FX8_glue_b218 (N : Nat) (RE : Int → fS → Option ((Unit ⊕ Nat) × fS)) (RN : fS → Option ((Int ⊕ Nat) × fS)) (l7 : Int) (s1 : Int) (s2 : Int) (s : fS) : Option ((Unit ⊕ Nat) × fS) :=
  (uQI s 43 s1 s2).bind fun σ1 =>
  (uQI σ1 43 3 l7).bind fun σ5 =>
  some (.inl (), σ5)
theorem SX8_glue_b218 {m b : Nat} {φ0 : Nat → Nat} {σo : fS} {N : Nat} {rE : Nat → Int32 → eH → Option ((Unit ⊕ Nat) × eH)} {RE : Int → fS → Option ((Unit ⊕ Nat) × fS)} {rN : Nat → eH → Option ((Int32 ⊕ Nat) × eH)} {RN : fS → Option ((Int ⊕ Nat) × fS)} {q : (Unit ⊕ Nat) × fS} (hrE : ∀ {φ : Nat → Nat} {h : eH} {s : fS} {x1' : Int32} {x1 : Int} {q}, fC m 3 φ s φ h s → x1' = iI x1 → r32 x1 → RE x1 s = some q → gG m 3 φ s (lT lU) q (rE 22 x1' h)) (hrN : ∀ {φ : Nat → Nat} {h : eH} {s : fS} {q}, fC m 3 φ s φ h s → RN s = some q → gG m 3 φ s (lT lI) q (rN 22 h)) {φ : Nat → Nat} {h : eH} {s : fS} {l7' : Int32} {l7 : Int} {s1' : Int32} {s1 : Int} {s2' : Int32} {s2 : Int} (R : fC m b φ0 σo φ h s) (el7 : l7' = iI l7) (rl7 : r32 l7) (es1 : s1' = iI s1) (rs1 : r32 s1) (es2 : s2' = iI s2) (rs2 : r32 s2) (hF : FX8_glue_b218 N RE RN l7 s1 s2 s = some q) : gG m b φ0 σo (lT lU) q (fX8_glue_b218 N rE rN 22 l7' 43 s1' s2' h) := by
  subst el7; subst es1; subst es2
  unfold FX8_glue_b218 at hF
  unfold fX8_glue_b218
  refine s_qI R (u_43 R.S).1 (u_43 R.S).2 (by decide) (a_43 R) rfl rs1 rfl rs2 hF (fun h1 σ1 R1 T1 hF => ?_)
  refine s_gAs R1 (t_22 R1.S) (Nat.le_of_ble_eq_true rfl) rfl (o_22_29 R1.S) (a_43 R1) ?_
  refine s_qI R1 (u_43 R1.S).1 (u_43 R1.S).2 (by decide) (a_43 R1) (c_lit 3 3 rfl) ⟨by decide, by decide⟩ rfl rl7 hF (fun h3 σ5 R3 T3 hF => ?_)
  exact g_ret R3 hF trivial
def FX8_glue_b184 (N : Nat) (RE : Int → fS → Option ((Unit ⊕ Nat) × fS)) (RN : fS → Option ((Int ⊕ Nat) × fS)) (l4 : Int) (l5 : Int) (l6 : Int) (s0 : Int) (s : fS) : Option ((Unit ⊕ Nat) × fS) :=
  (uQI s 43 0 l4).bind fun σ3 =>
  (uQI σ3 43 1 l5).bind fun σ7 =>
  if ¬ (l5 = 0) then
    FX8_glue_b218 N RE RN s0 2 l6 σ7
  else
    FX8_glue_b218 N RE RN s0 2 0 σ7
theorem SX8_glue_b184 {m b : Nat} {φ0 : Nat → Nat} {σo : fS} {N : Nat} {rE : Nat → Int32 → eH → Option ((Unit ⊕ Nat) × eH)} {RE : Int → fS → Option ((Unit ⊕ Nat) × fS)} {rN : Nat → eH → Option ((Int32 ⊕ Nat) × eH)} {RN : fS → Option ((Int ⊕ Nat) × fS)} {q : (Unit ⊕ Nat) × fS} (hrE : ∀ {φ : Nat → Nat} {h : eH} {s : fS} {x1' : Int32} {x1 : Int} {q}, fC m 3 φ s φ h s → x1' = iI x1 → r32 x1 → RE x1 s = some q → gG m 3 φ s (lT lU) q (rE 22 x1' h)) (hrN : ∀ {φ : Nat → Nat} {h : eH} {s : fS} {q}, fC m 3 φ s φ h s → RN s = some q → gG m 3 φ s (lT lI) q (rN 22 h)) {φ : Nat → Nat} {h : eH} {s : fS} {l4' : Int32} {l4 : Int} {l5' : Int32} {l5 : Int} {l6' : Int32} {l6 : Int} {s0' : Int32} {s0 : Int} (R : fC m b φ0 σo φ h s) (el4 : l4' = iI l4) (rl4 : r32 l4) (el5 : l5' = iI l5) (rl5 : r32 l5) (el6 : l6' = iI l6) (rl6 : r32 l6) (es0 : s0' = iI s0) (rs0 : r32 s0) (hF : FX8_glue_b184 N RE RN l4 l5 l6 s0 s = some q) : gG m b φ0 σo (lT lU) q (fX8_glue_b184 N rE rN 22 l4' l5' l6' s0' h) := by
  subst el4; subst el5; subst el6; subst es0
  unfold FX8_glue_b184 at hF
  unfold fX8_glue_b184
  refine s_gAs R (t_22 R.S) (Nat.le_of_ble_eq_true rfl) rfl (o_22_29 R.S) (a_43 R) ?_
  refine s_qI R (u_43 R.S).1 (u_43 R.S).2 (by decide) (a_43 R) (c_lit 0 0 rfl) ⟨by decide, by decide⟩ rfl rl4 hF (fun h2 σ3 R2 T2 hF => ?_)
  refine s_gAs R2 (t_22 R2.S) (Nat.le_of_ble_eq_true rfl) rfl (o_22_29 R2.S) (a_43 R2) ?_
  refine s_qI R2 (u_43 R2.S).1 (u_43 R2.S).2 (by decide) (a_43 R2) (c_lit 1 1 rfl) ⟨by decide, by decide⟩ rfl rl5 hF (fun h4 σ7 R4 T4 hF => ?_)
  refine s_gAs R4 (t_22 R4.S) (Nat.le_of_ble_eq_true rfl) rfl (o_22_29 R4.S) (a_43 R4) ?_
  refine s_if (not_congr (i_eq rfl (c_lit 0 0 rfl) rl5 ⟨by decide, by decide⟩)) hF (fun c6 hF => ?_) (fun c6 hF => ?_)
  ·
    exact SX8_glue_b218 (N := N) (rE := rE) (RE := RE) (rN := rN) (RN := RN) @hrE @hrN R4 rfl rs0 (c_lit 2 2 rfl) ⟨by decide, by decide⟩ rfl rl6 hF
  ·
    exact SX8_glue_b218 (N := N) (rE := rE) (RE := RE) (rN := rN) (RN := RN) @hrE @hrN R4 rfl rs0 (c_lit 2 2 rfl) ⟨by decide, by decide⟩ (c_lit 0 0 rfl) ⟨by decide, by decide⟩ hF
def FX8_glue_b154 (N : Nat) (RE : Int → fS → Option ((Unit ⊕ Nat) × fS)) (RN : fS → Option ((Int ⊕ Nat) × fS)) (l4 : Int) (s0 : Int) (s : fS) : Option ((Unit ⊕ Nat) × fS) :=
  tB (FX8_keyword N RE 1000000116 s) fun x4 σ5 =>
  if x4 = 0 then
    FX8_glue_b184 N RE RN l4 s0 (s.i 22 28) 0 σ5
  else
    tB (FX8_dimension N RE RN σ5) fun x8 σ9 =>
    tB (FX8_more x8 σ9) fun x11 σ12 =>
    FX8_glue_b184 N RE RN l4 s0 (s.i 22 28) x11 σ12
theorem SX8_glue_b154 {m b : Nat} {φ0 : Nat → Nat} {σo : fS} (hb : 3 ≤ b) {N : Nat} {rE : Nat → Int32 → eH → Option ((Unit ⊕ Nat) × eH)} {RE : Int → fS → Option ((Unit ⊕ Nat) × fS)} {rN : Nat → eH → Option ((Int32 ⊕ Nat) × eH)} {RN : fS → Option ((Int ⊕ Nat) × fS)} {q : (Unit ⊕ Nat) × fS} (hrE : ∀ {φ : Nat → Nat} {h : eH} {s : fS} {x1' : Int32} {x1 : Int} {q}, fC m 3 φ s φ h s → x1' = iI x1 → r32 x1 → RE x1 s = some q → gG m 3 φ s (lT lU) q (rE 22 x1' h)) (hrN : ∀ {φ : Nat → Nat} {h : eH} {s : fS} {q}, fC m 3 φ s φ h s → RN s = some q → gG m 3 φ s (lT lI) q (rN 22 h)) {φ : Nat → Nat} {h : eH} {s : fS} {l4' : Int32} {l4 : Int} {s0' : Int32} {s0 : Int} (R : fC m b φ0 σo φ h s) (el4 : l4' = iI l4) (rl4 : r32 l4) (es0 : s0' = iI s0) (rs0 : r32 s0) (hF : FX8_glue_b154 N RE RN l4 s0 s = some q) : gG m b φ0 σo (lT lU) q (fX8_glue_b154 N rE rN 22 l4' s0' h) := by
  subst el4; subst es0
  unfold FX8_glue_b154 at hF
  unfold fX8_glue_b154
  refine s_gI R (t_22 R.S) (Nat.le_of_ble_eq_true rfl) rfl ?_
  refine s_kok R (t_22 R.S) (Nat.le_of_ble_eq_true rfl) ?_
  refine s_tB R hb (fun _ hq => SX8_keyword (b := 3) (N := N) (rE := rE) (RE := RE) (Nat.le_of_ble_eq_true rfl) @hrE (R.rf) hq) hF (fun f3 rv3 h3 x4 σ5 R3 e3 E3 hF => ?_)
  refine s_if (i_eq e3.1 (c_lit 0 0 rfl) e3.2 ⟨by decide, by decide⟩) hF (fun c4 hF => ?_) (fun c4 hF => ?_)
  ·
    exact SX8_glue_b184 (N := N) (rE := rE) (RE := RE) (rN := rN) (RN := RN) @hrE @hrN R3 rfl rl4 rfl rs0 rfl (R.ri (t_22 R.S) (Nat.le_of_ble_eq_true rfl) rfl) (c_lit 0 0 rfl) ⟨by decide, by decide⟩ hF
  ·
    refine s_kok R3 (t_22 R3.S) (Nat.le_of_ble_eq_true rfl) ?_
    refine s_tB R3 hb (fun _ hq => SX8_dimension (b := 3) (N := N) (rE := rE) (RE := RE) (rN := rN) (RN := RN) (Nat.le_of_ble_eq_true rfl) @hrE @hrN (R3.rf) hq) hF (fun f6 rv6 h6 x8 σ9 R6 e6 E6 hF => ?_)
    refine s_kok R6 (t_22 R6.S) (Nat.le_of_ble_eq_true rfl) ?_
    refine s_tB R6 (Nat.zero_le _) (fun _ hq => SX8_more (b := 0) (R6.rf) e6.1 e6.2 hq) hF (fun f8 rv8 h8 x11 σ12 R8 e8 E8 hF => ?_)
    exact SX8_glue_b184 (N := N) (rE := rE) (RE := RE) (rN := rN) (RN := RN) @hrE @hrN R8 rfl rl4 rfl rs0 rfl (R.ri (t_22 R.S) (Nat.le_of_ble_eq_true rfl) rfl) e8.1 e8.2 hF
def FX8_glue (N : Nat) (RE : Int → fS → Option ((Unit ⊕ Nat) × fS)) (RN : fS → Option ((Int ⊕ Nat) × fS)) (s : fS) : Option ((Unit ⊕ Nat) × fS) :=
  tB (FX8_signed N RE s) fun x2 σ3 =>
  (FX8_primitive x2 σ3).bind fun q7 =>
  (FX8_isGlue q7.1 q7.2).bind fun q8 =>
  if q8.1 = 0 then
    tB (FX8_dimension_2 N RE RN x2 (σ3.i 22 27) q8.2) fun x11 σ12 =>
    tB (FX8_keyword N RE 1000000113 σ12) fun x14 σ15 =>
    if x14 = 0 then
      FX8_glue_b154 N RE RN x11 0 σ15
    else
      tB (FX8_stretch N RE RN σ15) fun x18 σ19 =>
      FX8_glue_b154 N RE RN x11 x18 σ19
  else
    tB (FX8_cellOf RN q7.1 q8.2) fun x21 σ22 =>
    FX8_glue_b33 N RE RN N (σ3.i 22 27) x21 0 σ22
theorem SX8_glue {m b : Nat} {φ0 : Nat → Nat} {σo : fS} (hb : 3 ≤ b) {N : Nat} {rE : Nat → Int32 → eH → Option ((Unit ⊕ Nat) × eH)} {RE : Int → fS → Option ((Unit ⊕ Nat) × fS)} {rN : Nat → eH → Option ((Int32 ⊕ Nat) × eH)} {RN : fS → Option ((Int ⊕ Nat) × fS)} {q : (Unit ⊕ Nat) × fS} (hrE : ∀ {φ : Nat → Nat} {h : eH} {s : fS} {x1' : Int32} {x1 : Int} {q}, fC m 3 φ s φ h s → x1' = iI x1 → r32 x1 → RE x1 s = some q → gG m 3 φ s (lT lU) q (rE 22 x1' h)) (hrN : ∀ {φ : Nat → Nat} {h : eH} {s : fS} {q}, fC m 3 φ s φ h s → RN s = some q → gG m 3 φ s (lT lI) q (rN 22 h)) {φ : Nat → Nat} {h : eH} {s : fS} (R : fC m b φ0 σo φ h s) (hF : FX8_glue N RE RN s = some q) : gG m b φ0 σo (lT lU) q (fX8_glue N rE rN 22 h) := by
  unfold FX8_glue at hF
  unfold fX8_glue
  refine s_kok R (t_22 R.S) (Nat.le_of_ble_eq_true rfl) ?_
  refine s_tB R hb (fun _ hq => SX8_signed (b := 3) (N := N) (rE := rE) (RE := RE) (Nat.le_of_ble_eq_true rfl) @hrE (R.rf) hq) hF (fun f2 rv2 h2 x2 σ3 R2 e2 E2 hF => ?_)
  refine s_gI R2 (t_22 R2.S) (Nat.le_of_ble_eq_true rfl) rfl ?_
  refine s_kok R2 (t_22 R2.S) (Nat.le_of_ble_eq_true rfl) ?_
  refine s_call R2 (Nat.zero_le _) (fun _ hq => SX8_primitive (b := 0) (R2.rf) e2.1 e2.2 hq) hF (fun f5 rv5 h5 q7 R5 e5 E5 hF => ?_)
  refine s_call R5 (Nat.zero_le _) (fun _ hq => SX8_isGlue (b := 0) (R5.rf) e5.1 e5.2 hq) hF (fun f6 rv6 h6 q8 R6 e6 E6 hF => ?_)
  refine s_if (i_eq e6.1 (c_lit 0 0 rfl) e6.2 ⟨by decide, by decide⟩) hF (fun c7 hF => ?_) (fun c7 hF => ?_)
  ·
    refine s_kok R6 (t_22 R6.S) (Nat.le_of_ble_eq_true rfl) ?_
    refine s_tB R6 hb (fun _ hq => SX8_dimension_2 (b := 3) (N := N) (rE := rE) (RE := RE) (rN := rN) (RN := RN) (Nat.le_of_ble_eq_true rfl) @hrE @hrN (R6.rf) e2.1 e2.2 rfl (R2.ri (t_22 R2.S) (Nat.le_of_ble_eq_true rfl) rfl) hq) hF (fun f9 rv9 h9 x11 σ12 R9 e9 E9 hF => ?_)
    refine s_kok R9 (t_22 R9.S) (Nat.le_of_ble_eq_true rfl) ?_
    refine s_tB R9 hb (fun _ hq => SX8_keyword (b := 3) (N := N) (rE := rE) (RE := RE) (Nat.le_of_ble_eq_true rfl) @hrE (R9.rf) hq) hF (fun f11 rv11 h11 x14 σ15 R11 e11 E11 hF => ?_)
    refine s_if (i_eq e11.1 (c_lit 0 0 rfl) e11.2 ⟨by decide, by decide⟩) hF (fun c12 hF => ?_) (fun c12 hF => ?_)
    ·
      exact SX8_glue_b154 (N := N) (rE := rE) (RE := RE) (rN := rN) (RN := RN) hb @hrE @hrN R11 e9.1 e9.2 (c_lit 0 0 rfl) ⟨by decide, by decide⟩ hF
    ·
      refine s_kok R11 (t_22 R11.S) (Nat.le_of_ble_eq_true rfl) ?_
      refine s_tB R11 hb (fun _ hq => SX8_stretch (b := 3) (N := N) (rE := rE) (RE := RE) (rN := rN) (RN := RN) (Nat.le_of_ble_eq_true rfl) @hrE @hrN (R11.rf) hq) hF (fun f14 rv14 h14 x18 σ19 R14 e14 E14 hF => ?_)
      exact SX8_glue_b154 (N := N) (rE := rE) (RE := RE) (rN := rN) (RN := RN) hb @hrE @hrN R14 e9.1 e9.2 e14.1 e14.2 hF
  ·
    refine s_kok R6 (t_22 R6.S) (Nat.le_of_ble_eq_true rfl) ?_
    refine s_tB R6 hb (fun _ hq => SX8_cellOf (b := 3) (rN := rN) (RN := RN) (Nat.le_of_ble_eq_true rfl) @hrN (R6.rf) e5.1 e5.2 hq) hF (fun f16 rv16 h16 x21 σ22 R16 e16 E16 hF => ?_)
    exact SX8_glue_b33 (N := N) (rE := rE) (RE := RE) (rN := rN) (RN := RN) @hrE @hrN R16 rfl (R2.ri (t_22 R2.S) (Nat.le_of_ble_eq_true rfl) rfl) e16.1 e16.2 (c_lit 0 0 rfl) ⟨by decide, by decide⟩ hF
def FX8_addGlue_b144 (s : fS) : Option ((Unit ⊕ Nat) × fS) :=
  some (.inl (), s)
theorem SX8_addGlue_b144 {m b : Nat} {φ0 : Nat → Nat} {σo : fS} {q : (Unit ⊕ Nat) × fS} {φ : Nat → Nat} {h : eH} {s : fS} (R : fC m b φ0 σo φ h s) (hF : FX8_addGlue_b144 s = some q) : gG m b φ0 σo (lT lU) q (fX8_addGlue_b144 h) := by
  unfold FX8_addGlue_b144 at hF
  unfold fX8_addGlue_b144
  exact g_ret R hF trivial
def FX8_addGlue (p0 : Int) (s : fS) : Option ((Unit ⊕ Nat) × fS) :=
  (uRI s 27 (iadd p0 1)).bind fun x5 =>
  (uRI s 27 (iadd p0 2)).bind fun x11 =>
  (uRI s 43 0).bind fun x17 =>
  (uRI s 27 p0).bind fun x23 =>
  tB (FX8_size (ladd x17 x23) s) fun x26 σ27 =>
  (uQI σ27 43 0 x26).bind fun σ28 =>
  (uRI σ28 43 3).bind fun x34 =>
  (uRI σ28 27 (iadd p0 3)).bind fun x40 =>
  tB (FX8_size (ladd x34 x40) σ28) fun x43 σ44 =>
  (uQI σ44 43 3 x43).bind fun σ45 =>
  (uRI σ45 43 2).bind fun x49 =>
  if ¬ (x11 = x49) then
    (uRI σ45 43 2).bind fun x54 =>
    if x11 ≤ x54 then
      FX8_addGlue_b144 σ45
    else
      (uQI σ45 43 1 (l2i x5)).bind fun σ59 =>
      (uQI σ59 43 2 x11).bind fun σ63 =>
      FX8_addGlue_b144 σ63
  else
    (uRI σ45 43 1).bind fun x69 =>
    tB (FX8_size (ladd x69 x5) σ45) fun x72 σ73 =>
    (uQI σ73 43 1 x72).bind fun σ74 =>
    FX8_addGlue_b144 σ74
theorem SX8_addGlue {m b : Nat} {φ0 : Nat → Nat} {σo : fS} {q : (Unit ⊕ Nat) × fS} {φ : Nat → Nat} {h : eH} {s : fS} {p0' : Int32} {p0 : Int} (R : fC m b φ0 σo φ h s) (ep0 : p0' = iI p0) (rp0 : r32 p0) (hF : FX8_addGlue p0 s = some q) : gG m b φ0 σo (lT lU) q (fX8_addGlue 22 p0' h) := by
  subst ep0
  unfold FX8_addGlue at hF
  unfold fX8_addGlue
  refine s_gO R (t_22 R.S) (Nat.le_of_ble_eq_true rfl) rfl (o_22_4 R.S) ?_
  refine s_gAs R (t_23 R.S) (Nat.le_of_ble_eq_true rfl) rfl (o_23_3 R.S) (a_27 R) ?_
  refine s_rI R (u_27 R.S).1 (u_27 R.S).2 (by decide) (a_27 R) (c_add rfl (c_lit 1 1 rfl)) (rr_I _) hF (fun x5 ra3 hF => ?_)
  refine s_gO R (t_22 R.S) (Nat.le_of_ble_eq_true rfl) rfl (o_22_4 R.S) ?_
  refine s_gAs R (t_23 R.S) (Nat.le_of_ble_eq_true rfl) rfl (o_23_3 R.S) (a_27 R) ?_
  refine s_rI R (u_27 R.S).1 (u_27 R.S).2 (by decide) (a_27 R) (c_add rfl (c_lit 2 2 rfl)) (rr_I _) hF (fun x11 ra6 hF => ?_)
  refine s_gAs R (t_22 R.S) (Nat.le_of_ble_eq_true rfl) rfl (o_22_29 R.S) (a_43 R) ?_
  refine s_gAs R (t_22 R.S) (Nat.le_of_ble_eq_true rfl) rfl (o_22_29 R.S) (a_43 R) ?_
  refine s_rI R (u_43 R.S).1 (u_43 R.S).2 (by decide) (a_43 R) (c_lit 0 0 rfl) ⟨by decide, by decide⟩ hF (fun x17 ra9 hF => ?_)
  refine s_gO R (t_22 R.S) (Nat.le_of_ble_eq_true rfl) rfl (o_22_4 R.S) ?_
  refine s_gAs R (t_23 R.S) (Nat.le_of_ble_eq_true rfl) rfl (o_23_3 R.S) (a_27 R) ?_
  refine s_rI R (u_27 R.S).1 (u_27 R.S).2 (by decide) (a_27 R) rfl rp0 hF (fun x23 ra12 hF => ?_)
  refine s_kok R (t_22 R.S) (Nat.le_of_ble_eq_true rfl) ?_
  refine s_tB R (Nat.zero_le _) (fun _ hq => SX8_size (b := 0) (R.rf) (d_add (c_2l rfl ra9) (c_2l rfl ra12)) (rr_J _) hq) hF (fun f14 rv14 h14 x26 σ27 R14 e14 E14 hF => ?_)
  refine s_qI R14 (u_43 R14.S).1 (u_43 R14.S).2 (by decide) (a_43 R14) (c_lit 0 0 rfl) ⟨by decide, by decide⟩ e14.1 e14.2 hF (fun h15 σ28 R15 T15 hF => ?_)
  refine s_gAs R15 (t_22 R15.S) (Nat.le_of_ble_eq_true rfl) rfl (o_22_29 R15.S) (a_43 R15) ?_
  refine s_gAs R15 (t_22 R15.S) (Nat.le_of_ble_eq_true rfl) rfl (o_22_29 R15.S) (a_43 R15) ?_
  refine s_rI R15 (u_43 R15.S).1 (u_43 R15.S).2 (by decide) (a_43 R15) (c_lit 3 3 rfl) ⟨by decide, by decide⟩ hF (fun x34 ra18 hF => ?_)
  refine s_gO R15 (t_22 R15.S) (Nat.le_of_ble_eq_true rfl) rfl (o_22_4 R15.S) ?_
  refine s_gAs R15 (t_23 R15.S) (Nat.le_of_ble_eq_true rfl) rfl (o_23_3 R15.S) (a_27 R15) ?_
  refine s_rI R15 (u_27 R15.S).1 (u_27 R15.S).2 (by decide) (a_27 R15) (c_add rfl (c_lit 3 3 rfl)) (rr_I _) hF (fun x40 ra21 hF => ?_)
  refine s_kok R15 (t_22 R15.S) (Nat.le_of_ble_eq_true rfl) ?_
  refine s_tB R15 (Nat.zero_le _) (fun _ hq => SX8_size (b := 0) (R15.rf) (d_add (c_2l rfl ra18) (c_2l rfl ra21)) (rr_J _) hq) hF (fun f23 rv23 h23 x43 σ44 R23 e23 E23 hF => ?_)
  refine s_qI R23 (u_43 R23.S).1 (u_43 R23.S).2 (by decide) (a_43 R23) (c_lit 3 3 rfl) ⟨by decide, by decide⟩ e23.1 e23.2 hF (fun h24 σ45 R24 T24 hF => ?_)
  refine s_gAs R24 (t_22 R24.S) (Nat.le_of_ble_eq_true rfl) rfl (o_22_29 R24.S) (a_43 R24) ?_
  refine s_rI R24 (u_43 R24.S).1 (u_43 R24.S).2 (by decide) (a_43 R24) (c_lit 2 2 rfl) ⟨by decide, by decide⟩ hF (fun x49 ra26 hF => ?_)
  refine s_if (not_congr (i_eq rfl rfl ra6 ra26)) hF (fun c27 hF => ?_) (fun c27 hF => ?_)
  ·
    refine s_gAs R24 (t_22 R24.S) (Nat.le_of_ble_eq_true rfl) rfl (o_22_29 R24.S) (a_43 R24) ?_
    refine s_rI R24 (u_43 R24.S).1 (u_43 R24.S).2 (by decide) (a_43 R24) (c_lit 2 2 rfl) ⟨by decide, by decide⟩ hF (fun x54 ra29 hF => ?_)
    refine s_if (i_le rfl rfl ra6 ra29) hF (fun c30 hF => ?_) (fun c30 hF => ?_)
    ·
      exact SX8_addGlue_b144 R24 hF
    ·
      refine s_gAs R24 (t_22 R24.S) (Nat.le_of_ble_eq_true rfl) rfl (o_22_29 R24.S) (a_43 R24) ?_
      refine s_qI R24 (u_43 R24.S).1 (u_43 R24.S).2 (by decide) (a_43 R24) (c_lit 1 1 rfl) ⟨by decide, by decide⟩ (d_2i (c_2l rfl ra3)) (rr_I _) hF (fun h32 σ59 R32 T32 hF => ?_)
      refine s_gAs R32 (t_22 R32.S) (Nat.le_of_ble_eq_true rfl) rfl (o_22_29 R32.S) (a_43 R32) ?_
      refine s_qI R32 (u_43 R32.S).1 (u_43 R32.S).2 (by decide) (a_43 R32) (c_lit 2 2 rfl) ⟨by decide, by decide⟩ rfl ra6 hF (fun h34 σ63 R34 T34 hF => ?_)
      exact SX8_addGlue_b144 R34 hF
  ·
    refine s_gAs R24 (t_22 R24.S) (Nat.le_of_ble_eq_true rfl) rfl (o_22_29 R24.S) (a_43 R24) ?_
    refine s_gAs R24 (t_22 R24.S) (Nat.le_of_ble_eq_true rfl) rfl (o_22_29 R24.S) (a_43 R24) ?_
    refine s_rI R24 (u_43 R24.S).1 (u_43 R24.S).2 (by decide) (a_43 R24) (c_lit 1 1 rfl) ⟨by decide, by decide⟩ hF (fun x69 ra37 hF => ?_)
    refine s_kok R24 (t_22 R24.S) (Nat.le_of_ble_eq_true rfl) ?_
    refine s_tB R24 (Nat.zero_le _) (fun _ hq => SX8_size (b := 0) (R24.rf) (d_add (c_2l rfl ra37) (c_2l rfl ra3)) (rr_J _) hq) hF (fun f39 rv39 h39 x72 σ73 R39 e39 E39 hF => ?_)
    refine s_qI R39 (u_43 R39.S).1 (u_43 R39.S).2 (by decide) (a_43 R39) (c_lit 1 1 rfl) ⟨by decide, by decide⟩ e39.1 e39.2 hF (fun h40 σ74 R40 T40 hF => ?_)
    exact SX8_addGlue_b144 R40 hF
def FX8_setGlue_b27 (N : Nat) : Nat → Int → Int → Int → fS → Option (Unit × fS)
  | 0, _, _, _, _ => none
  | n + 1, l1, l2, l3, s =>
    if 4 ≤ l3 then
      some ((), s)
    else
      (uRI s 43 l3).bind fun x6 =>
      (FX9_set N (iadd l1 l3) x6 l2 s).bind fun q9 =>
      FX8_setGlue_b27 N n l1 l2 (iadd l3 1) q9.2
theorem SX8_setGlue_b27 {m b : Nat} {φ0 : Nat → Nat} {σo : fS} (hb : 1 ≤ b) {N : Nat} {q : Unit × fS} : ∀ {n : Nat} {φ : Nat → Nat} {h : eH} {s : fS} {l1' : Int32} {l1 : Int} {l2' : Int32} {l2 : Int} {l3' : Int32} {l3 : Int}, fC m b φ0 σo φ h s → l1' = iI l1 → r32 l1 → l2' = iI l2 → r32 l2 → l3' = iI l3 → r32 l3 → FX8_setGlue_b27 N n l1 l2 l3 s = some q → gG m b φ0 σo lU q (fX8_setGlue_b27 N n 22 l1' l2' l3' h) := by
  intro n
  induction n with
 | zero => intro φ h s l1' l1 l2' l2 l3' l3 R el1 rl1 el2 rl2 el3 rl3 hF; simp [FX8_setGlue_b27] at hF
  | succ n ih =>
    intro φ h s l1' l1 l2' l2 l3' l3 R el1 rl1 el2 rl2 el3 rl3 hF
    subst el1; subst el2; subst el3
    rw [FX8_setGlue_b27] at hF
    rw [fX8_setGlue_b27]
    refine s_if (i_le (c_lit 4 4 rfl) rfl ⟨by decide, by decide⟩ rl3) hF (fun c1 hF => ?_) (fun c1 hF => ?_)
    ·
      exact g_ret R hF trivial
    ·
      refine s_gO R (t_22 R.S) (Nat.le_of_ble_eq_true rfl) rfl (o_22_4 R.S) ?_
      refine s_gAs R (t_22 R.S) (Nat.le_of_ble_eq_true rfl) rfl (o_22_29 R.S) (a_43 R) ?_
      refine s_rI R (u_43 R.S).1 (u_43 R.S).2 (by decide) (a_43 R) rfl rl3 hF (fun x6 ra4 hF => ?_)
      refine s_kok R (t_23 R.S) (Nat.le_of_ble_eq_true rfl) ?_
      refine s_call R hb (fun _ hq => SX9_set (b := 1) (N := N) (Nat.le_of_ble_eq_true rfl) (R.rf) (c_add rfl rfl) (rr_I _) rfl ra4 rfl rl2 hq) hF (fun f6 rv6 h6 q9 R6 e6 E6 hF => ?_)
      exact ih R6 rfl rl1 rfl rl2 (c_add rfl (c_lit 1 1 rfl)) (rr_I _) hF
def FX8_setGlue_b24 (N : Nat) (l1 : Int) (l2 : Int) (s1 : Int) (s2 : Int) (s : fS) : Option (Unit × fS) :=
  (uQI s 43 s1 s2).bind fun σ1 =>
  FX8_setGlue_b27 N N l1 l2 0 σ1
theorem SX8_setGlue_b24 {m b : Nat} {φ0 : Nat → Nat} {σo : fS} (hb : 1 ≤ b) {N : Nat} {q : Unit × fS} {φ : Nat → Nat} {h : eH} {s : fS} {l1' : Int32} {l1 : Int} {l2' : Int32} {l2 : Int} {s1' : Int32} {s1 : Int} {s2' : Int32} {s2 : Int} (R : fC m b φ0 σo φ h s) (el1 : l1' = iI l1) (rl1 : r32 l1) (el2 : l2' = iI l2) (rl2 : r32 l2) (es1 : s1' = iI s1) (rs1 : r32 s1) (es2 : s2' = iI s2) (rs2 : r32 s2) (hF : FX8_setGlue_b24 N l1 l2 s1 s2 s = some q) : gG m b φ0 σo lU q (fX8_setGlue_b24 N 22 l1' l2' 43 s1' s2' h) := by
  subst el1; subst el2; subst es1; subst es2
  unfold FX8_setGlue_b24 at hF
  unfold fX8_setGlue_b24
  refine s_qI R (u_43 R.S).1 (u_43 R.S).2 (by decide) (a_43 R) rfl rs1 rfl rs2 hF (fun h1 σ1 R1 T1 hF => ?_)
  exact SX8_setGlue_b27 (N := N) hb R1 rfl rl1 rfl rl2 (c_lit 0 0 rfl) ⟨by decide, by decide⟩ hF
def FX8_setGlue (N : Nat) (p0 : Int) (p1 : Int) (s : fS) : Option (Unit × fS) :=
  (uRI s 43 1).bind fun x5 =>
  if ¬ (x5 = 0) then
    (uRI s 43 2).bind fun x10 =>
    FX8_setGlue_b24 N p0 p1 2 x10 s
  else
    FX8_setGlue_b24 N p0 p1 2 0 s
theorem SX8_setGlue {m b : Nat} {φ0 : Nat → Nat} {σo : fS} (hb : 1 ≤ b) {N : Nat} {q : Unit × fS} {φ : Nat → Nat} {h : eH} {s : fS} {p0' : Int32} {p0 : Int} {p1' : Int32} {p1 : Int} (R : fC m b φ0 σo φ h s) (ep0 : p0' = iI p0) (rp0 : r32 p0) (ep1 : p1' = iI p1) (rp1 : r32 p1) (hF : FX8_setGlue N p0 p1 s = some q) : gG m b φ0 σo lU q (fX8_setGlue N 22 p0' p1' h) := by
  subst ep0; subst ep1
  unfold FX8_setGlue at hF
  unfold fX8_setGlue
  refine s_gAs R (t_22 R.S) (Nat.le_of_ble_eq_true rfl) rfl (o_22_29 R.S) (a_43 R) ?_
  refine s_gAs R (t_22 R.S) (Nat.le_of_ble_eq_true rfl) rfl (o_22_29 R.S) (a_43 R) ?_
  refine s_rI R (u_43 R.S).1 (u_43 R.S).2 (by decide) (a_43 R) (c_lit 1 1 rfl) ⟨by decide, by decide⟩ hF (fun x5 ra3 hF => ?_)
  refine s_if (not_congr (i_eq rfl (c_lit 0 0 rfl) ra3 ⟨by decide, by decide⟩)) hF (fun c4 hF => ?_) (fun c4 hF => ?_)
  ·
    refine s_gAs R (t_22 R.S) (Nat.le_of_ble_eq_true rfl) rfl (o_22_29 R.S) (a_43 R) ?_
    refine s_rI R (u_43 R.S).1 (u_43 R.S).2 (by decide) (a_43 R) (c_lit 2 2 rfl) ⟨by decide, by decide⟩ hF (fun x10 ra6 hF => ?_)
    exact SX8_setGlue_b24 (N := N) hb R rfl rp0 rfl rp1 (c_lit 2 2 rfl) ⟨by decide, by decide⟩ rfl ra6 hF
  ·
    exact SX8_setGlue_b24 (N := N) hb R rfl rp0 rfl rp1 (c_lit 2 2 rfl) ⟨by decide, by decide⟩ (c_lit 0 0 rfl) ⟨by decide, by decide⟩ hF
def FX8_advance_b93 (N : Nat) (RE : Int → fS → Option ((Unit ⊕ Nat) × fS)) (RN : fS → Option ((Int ⊕ Nat) × fS)) (s : fS) : Option ((Unit ⊕ Nat) × fS) :=
  some (.inl (), s)
theorem SX8_advance_b93 {m b : Nat} {φ0 : Nat → Nat} {σo : fS} {N : Nat} {rE : Nat → Int32 → eH → Option ((Unit ⊕ Nat) × eH)} {RE : Int → fS → Option ((Unit ⊕ Nat) × fS)} {rN : Nat → eH → Option ((Int32 ⊕ Nat) × eH)} {RN : fS → Option ((Int ⊕ Nat) × fS)} {q : (Unit ⊕ Nat) × fS} (hrE : ∀ {φ : Nat → Nat} {h : eH} {s : fS} {x1' : Int32} {x1 : Int} {q}, fC m 3 φ s φ h s → x1' = iI x1 → r32 x1 → RE x1 s = some q → gG m 3 φ s (lT lU) q (rE 22 x1' h)) (hrN : ∀ {φ : Nat → Nat} {h : eH} {s : fS} {q}, fC m 3 φ s φ h s → RN s = some q → gG m 3 φ s (lT lI) q (rN 22 h)) {φ : Nat → Nat} {h : eH} {s : fS} (R : fC m b φ0 σo φ h s) (hF : FX8_advance_b93 N RE RN s = some q) : gG m b φ0 σo (lT lU) q (fX8_advance_b93 N rE rN h) := by
  unfold FX8_advance_b93 at hF
  unfold fX8_advance_b93
  exact g_ret R hF trivial
def FX8_advance (N : Nat) (RE : Int → fS → Option ((Unit ⊕ Nat) × fS)) (RN : fS → Option ((Int ⊕ Nat) × fS)) (p0 : Int) (p1 : Int) (p2 : Int) (s : fS) : Option ((Unit ⊕ Nat) × fS) :=
  (FX8_isCounter p0 s).bind fun q1 =>
  if q1.1 = 0 then
    (FX8_isLength p0 q1.2).bind fun q3 =>
    if q3.1 = 0 then
      tB (FX8_glue N RE RN q3.2) fun x6 σ7 =>
      tB (FX8_addGlue p1 σ7) fun x9 σ10 =>
      (FX8_setGlue N p1 p2 σ10).bind fun q12 =>
      FX8_advance_b93 N RE RN q12.2
    else
      tB (FX8_dimension N RE RN q3.2) fun x16 σ17 =>
      (uRI σ17 27 p1).bind fun x22 =>
      tB (FX8_size (ladd x16 x22) σ17) fun x25 σ26 =>
      (FX9_set N p1 x25 p2 σ26).bind fun q28 =>
      FX8_advance_b93 N RE RN q28.2
  else
    tB (RN q1.2) fun x32 σ33 =>
    (uRI σ33 27 p1).bind fun x38 =>
    tB (FX8_counter (ladd x32 x38) σ33) fun x41 σ42 =>
    (FX9_set N p1 x41 p2 σ42).bind fun q44 =>
    FX8_advance_b93 N RE RN q44.2
theorem SX8_advance {m b : Nat} {φ0 : Nat → Nat} {σo : fS} (hb : 3 ≤ b) {N : Nat} {rE : Nat → Int32 → eH → Option ((Unit ⊕ Nat) × eH)} {RE : Int → fS → Option ((Unit ⊕ Nat) × fS)} {rN : Nat → eH → Option ((Int32 ⊕ Nat) × eH)} {RN : fS → Option ((Int ⊕ Nat) × fS)} {q : (Unit ⊕ Nat) × fS} (hrE : ∀ {φ : Nat → Nat} {h : eH} {s : fS} {x1' : Int32} {x1 : Int} {q}, fC m 3 φ s φ h s → x1' = iI x1 → r32 x1 → RE x1 s = some q → gG m 3 φ s (lT lU) q (rE 22 x1' h)) (hrN : ∀ {φ : Nat → Nat} {h : eH} {s : fS} {q}, fC m 3 φ s φ h s → RN s = some q → gG m 3 φ s (lT lI) q (rN 22 h)) {φ : Nat → Nat} {h : eH} {s : fS} {p0' : Int32} {p0 : Int} {p1' : Int32} {p1 : Int} {p2' : Int32} {p2 : Int} (R : fC m b φ0 σo φ h s) (ep0 : p0' = iI p0) (rp0 : r32 p0) (ep1 : p1' = iI p1) (rp1 : r32 p1) (ep2 : p2' = iI p2) (rp2 : r32 p2) (hF : FX8_advance N RE RN p0 p1 p2 s = some q) : gG m b φ0 σo (lT lU) q (fX8_advance N rE rN 22 p0' p1' p2' h) := by
  subst ep0; subst ep1; subst ep2
  unfold FX8_advance at hF
  unfold fX8_advance
  refine s_call R (Nat.zero_le _) (fun _ hq => SX8_isCounter (b := 0) (R.rf) rfl rp0 hq) hF (fun f1 rv1 h1 q1 R1 e1 E1 hF => ?_)
  refine s_if (i_eq e1.1 (c_lit 0 0 rfl) e1.2 ⟨by decide, by decide⟩) hF (fun c2 hF => ?_) (fun c2 hF => ?_)
  ·
    refine s_call R1 (Nat.zero_le _) (fun _ hq => SX8_isLength (b := 0) (R1.rf) rfl rp0 hq) hF (fun f3 rv3 h3 q3 R3 e3 E3 hF => ?_)
    refine s_if (i_eq e3.1 (c_lit 0 0 rfl) e3.2 ⟨by decide, by decide⟩) hF (fun c4 hF => ?_) (fun c4 hF => ?_)
    ·
      refine s_kok R3 (t_22 R3.S) (Nat.le_of_ble_eq_true rfl) ?_
      refine s_tB R3 hb (fun _ hq => SX8_glue (b := 3) (N := N) (rE := rE) (RE := RE) (rN := rN) (RN := RN) (Nat.le_of_ble_eq_true rfl) @hrE @hrN (R3.rf) hq) hF (fun f6 rv6 h6 x6 σ7 R6 e6 E6 hF => ?_)
      refine s_kok R6 (t_22 R6.S) (Nat.le_of_ble_eq_true rfl) ?_
      refine s_tB R6 (Nat.zero_le _) (fun _ hq => SX8_addGlue (b := 0) (R6.rf) rfl rp1 hq) hF (fun f8 rv8 h8 x9 σ10 R8 e8 E8 hF => ?_)
      refine s_kok R8 (t_22 R8.S) (Nat.le_of_ble_eq_true rfl) ?_
      refine s_call R8 (Nat.le_trans (Nat.le_of_ble_eq_true rfl) hb) (fun _ hq => SX8_setGlue (b := 1) (N := N) (Nat.le_of_ble_eq_true rfl) (R8.rf) rfl rp1 rfl rp2 hq) hF (fun f10 rv10 h10 q12 R10 e10 E10 hF => ?_)
      exact SX8_advance_b93 (N := N) (rE := rE) (RE := RE) (rN := rN) (RN := RN) @hrE @hrN R10 hF
    ·
      refine s_gO R3 (t_22 R3.S) (Nat.le_of_ble_eq_true rfl) rfl (o_22_4 R3.S) ?_
      refine s_kok R3 (t_22 R3.S) (Nat.le_of_ble_eq_true rfl) ?_
      refine s_tB R3 hb (fun _ hq => SX8_dimension (b := 3) (N := N) (rE := rE) (RE := RE) (rN := rN) (RN := RN) (Nat.le_of_ble_eq_true rfl) @hrE @hrN (R3.rf) hq) hF (fun f13 rv13 h13 x16 σ17 R13 e13 E13 hF => ?_)
      refine s_gO R13 (t_22 R13.S) (Nat.le_of_ble_eq_true rfl) rfl (o_22_4 R13.S) ?_
      refine s_gAs R13 (t_23 R13.S) (Nat.le_of_ble_eq_true rfl) rfl (o_23_3 R13.S) (a_27 R13) ?_
      refine s_rI R13 (u_27 R13.S).1 (u_27 R13.S).2 (by decide) (a_27 R13) rfl rp1 hF (fun x22 ra16 hF => ?_)
      refine s_kok R13 (t_22 R13.S) (Nat.le_of_ble_eq_true rfl) ?_
      refine s_tB R13 (Nat.zero_le _) (fun _ hq => SX8_size (b := 0) (R13.rf) (d_add (c_2l e13.1 e13.2) (c_2l rfl ra16)) (rr_J _) hq) hF (fun f18 rv18 h18 x25 σ26 R18 e18 E18 hF => ?_)
      refine s_kok R18 (t_23 R18.S) (Nat.le_of_ble_eq_true rfl) ?_
      refine s_call R18 (Nat.le_trans (Nat.le_of_ble_eq_true rfl) hb) (fun _ hq => SX9_set (b := 1) (N := N) (Nat.le_of_ble_eq_true rfl) (R18.rf) rfl rp1 e18.1 e18.2 rfl rp2 hq) hF (fun f20 rv20 h20 q28 R20 e20 E20 hF => ?_)
      exact SX8_advance_b93 (N := N) (rE := rE) (RE := RE) (rN := rN) (RN := RN) @hrE @hrN R20 hF
  ·
    refine s_gO R1 (t_22 R1.S) (Nat.le_of_ble_eq_true rfl) rfl (o_22_4 R1.S) ?_
    refine s_kok R1 (t_22 R1.S) (Nat.le_of_ble_eq_true rfl) ?_
    refine s_tB R1 hb (fun _ hq => hrN (R1.rf)  hq) hF (fun f23 rv23 h23 x32 σ33 R23 e23 E23 hF => ?_)
    refine s_gO R23 (t_22 R23.S) (Nat.le_of_ble_eq_true rfl) rfl (o_22_4 R23.S) ?_
    refine s_gAs R23 (t_23 R23.S) (Nat.le_of_ble_eq_true rfl) rfl (o_23_3 R23.S) (a_27 R23) ?_
    refine s_rI R23 (u_27 R23.S).1 (u_27 R23.S).2 (by decide) (a_27 R23) rfl rp1 hF (fun x38 ra26 hF => ?_)
    refine s_kok R23 (t_22 R23.S) (Nat.le_of_ble_eq_true rfl) ?_
    refine s_tB R23 (Nat.zero_le _) (fun _ hq => SX8_counter (b := 0) (R23.rf) (d_add (c_2l e23.1 e23.2) (c_2l rfl ra26)) (rr_J _) hq) hF (fun f28 rv28 h28 x41 σ42 R28 e28 E28 hF => ?_)
    refine s_kok R28 (t_23 R28.S) (Nat.le_of_ble_eq_true rfl) ?_
    refine s_call R28 (Nat.le_trans (Nat.le_of_ble_eq_true rfl) hb) (fun _ hq => SX9_set (b := 1) (N := N) (Nat.le_of_ble_eq_true rfl) (R28.rf) rfl rp1 e28.1 e28.2 rfl rp2 hq) hF (fun f30 rv30 h30 q44 R30 e30 E30 hF => ?_)
    exact SX8_advance_b93 (N := N) (rE := rE) (RE := RE) (rN := rN) (RN := RN) @hrE @hrN R30 hF
def FX8_reckoned_b44 (s0 : Int) (s : fS) : Option ((Int ⊕ Nat) × fS) :=
  some (.inl s0, s)
theorem SX8_reckoned_b44 {m b : Nat} {φ0 : Nat → Nat} {σo : fS} {q : (Int ⊕ Nat) × fS} {φ : Nat → Nat} {h : eH} {s : fS} {s0' : Int64} {s0 : Int} (R : fC m b φ0 σo φ h s) (es0 : s0' = iJ s0) (rs0 : r64 s0) (hF : FX8_reckoned_b44 s0 s = some q) : gG m b φ0 σo (lT lJ) q (fX8_reckoned_b44 s0' h) := by
  subst es0
  unfold FX8_reckoned_b44 at hF
  unfold fX8_reckoned_b44
  exact g_ret R hF ⟨rfl, rs0⟩
def FX8_reckoned_b22 (l1 : Int) (l2 : Int) (l4 : Int) (s1 : Int) (s : fS) : Option ((Int ⊕ Nat) × fS) :=
  tB (FX4_want s1 7 s) fun x2 σ3 =>
  if ¬ (l1 = 63) then
    if l4 = 0 then none else
    FX8_reckoned_b44 (ldiv l2 l4) σ3
  else
    FX8_reckoned_b44 (lmul l2 l4) σ3
theorem SX8_reckoned_b22 {m b : Nat} {φ0 : Nat → Nat} {σo : fS} {q : (Int ⊕ Nat) × fS} {φ : Nat → Nat} {h : eH} {s : fS} {l1' : Int32} {l1 : Int} {l2' : Int64} {l2 : Int} {l4' : Int64} {l4 : Int} {s1' : Int32} {s1 : Int} (R : fC m b φ0 σo φ h s) (el1 : l1' = iI l1) (rl1 : r32 l1) (el2 : l2' = iJ l2) (rl2 : r64 l2) (el4 : l4' = iJ l4) (rl4 : r64 l4) (es1 : s1' = iI s1) (rs1 : r32 s1) (hF : FX8_reckoned_b22 l1 l2 l4 s1 s = some q) : gG m b φ0 σo (lT lJ) q (fX8_reckoned_b22 l1' l2' l4' 5 s1' h) := by
  subst el1; subst el2; subst el4; subst es1
  unfold FX8_reckoned_b22 at hF
  unfold fX8_reckoned_b22
  refine s_kok R (t_5 R.S) (Nat.le_of_ble_eq_true rfl) ?_
  refine s_tB R (Nat.zero_le _) (fun _ hq => SX4_want (b := 0) (R.rf) rfl rs1 (c_lit 7 7 rfl) ⟨by decide, by decide⟩ hq) hF (fun f2 rv2 h2 x2 σ3 R2 e2 E2 hF => ?_)
  refine s_if (not_congr (i_eq rfl (c_lit 63 63 rfl) rl1 ⟨by decide, by decide⟩)) hF (fun c3 hF => ?_) (fun c3 hF => ?_)
  ·
    refine s_div (j_eq rfl (d_lit 0 0 rfl) rl4 ⟨by decide, by decide⟩) hF (fun c4 hF => ?_)
    exact SX8_reckoned_b44 R2 (d_div rfl rfl) (rr_J _) hF
  ·
    exact SX8_reckoned_b44 R2 (d_mul rfl rfl) (rr_J _) hF
def FX8_reckoned_b17 (l1 : Int) (l2 : Int) (l4 : Int) (s : fS) : Option ((Int ⊕ Nat) × fS) :=
  FX8_reckoned_b22 l1 l2 l4 1 s
theorem SX8_reckoned_b17 {m b : Nat} {φ0 : Nat → Nat} {σo : fS} {q : (Int ⊕ Nat) × fS} {φ : Nat → Nat} {h : eH} {s : fS} {l1' : Int32} {l1 : Int} {l2' : Int64} {l2 : Int} {l4' : Int64} {l4 : Int} (R : fC m b φ0 σo φ h s) (el1 : l1' = iI l1) (rl1 : r32 l1) (el2 : l2' = iJ l2) (rl2 : r64 l2) (el4 : l4' = iJ l4) (rl4 : r64 l4) (hF : FX8_reckoned_b17 l1 l2 l4 s = some q) : gG m b φ0 σo (lT lJ) q (fX8_reckoned_b17 l1' l2' l4' 5 h) := by
  subst el1; subst el2; subst el4
  unfold FX8_reckoned_b17 at hF
  unfold fX8_reckoned_b17
  exact SX8_reckoned_b22 R rfl rl1 rfl rl2 rfl rl4 (c_lit 1 1 rfl) ⟨by decide, by decide⟩ hF
def FX8_reckoned (p0 : Int) (p1 : Int) (p2 : Int) (s : fS) : Option ((Int ⊕ Nat) × fS) :=
  if ¬ (p0 = 64) then
    FX8_reckoned_b17 p0 p1 p2 s
  else
    if p2 = 0 then
      FX8_reckoned_b22 p0 p1 p2 0 s
    else
      FX8_reckoned_b17 p0 p1 p2 s
theorem SX8_reckoned {m b : Nat} {φ0 : Nat → Nat} {σo : fS} {q : (Int ⊕ Nat) × fS} {φ : Nat → Nat} {h : eH} {s : fS} {p0' : Int32} {p0 : Int} {p1' : Int64} {p1 : Int} {p2' : Int64} {p2 : Int} (R : fC m b φ0 σo φ h s) (ep0 : p0' = iI p0) (rp0 : r32 p0) (ep1 : p1' = iJ p1) (rp1 : r64 p1) (ep2 : p2' = iJ p2) (rp2 : r64 p2) (hF : FX8_reckoned p0 p1 p2 s = some q) : gG m b φ0 σo (lT lJ) q (fX8_reckoned 22 p0' p1' p2' h) := by
  subst ep0; subst ep1; subst ep2
  unfold FX8_reckoned at hF
  unfold fX8_reckoned
  refine s_gO R (t_22 R.S) (Nat.le_of_ble_eq_true rfl) rfl (o_22_0 R.S) ?_
  refine s_if (not_congr (i_eq rfl (c_lit 64 64 rfl) rp0 ⟨by decide, by decide⟩)) hF (fun c2 hF => ?_) (fun c2 hF => ?_)
  ·
    exact SX8_reckoned_b17 R rfl rp0 rfl rp1 rfl rp2 hF
  ·
    refine s_if (lg_eq.trans (j_eq rfl (d_lit 0 0 rfl) rp2 ⟨by decide, by decide⟩)) hF (fun c3 hF => ?_) (fun c3 hF => ?_)
    ·
      exact SX8_reckoned_b22 R rfl rp0 rfl rp1 rfl rp2 (c_lit 0 0 rfl) ⟨by decide, by decide⟩ hF
    ·
      exact SX8_reckoned_b17 R rfl rp0 rfl rp1 rfl rp2 hF
def FX8_reckon_b135 (N : Nat) (RE : Int → fS → Option ((Unit ⊕ Nat) × fS)) (RN : fS → Option ((Int ⊕ Nat) × fS)) (K77 : Int → Int → Int → Int → Int → fS → Option ((Unit ⊕ Nat) × fS)) (l1 : Int) (l2 : Int) (l4 : Int) (l6 : Int) (l8 : Int) (s1 : Int) (s2 : Int) (s : fS) : Option ((Unit ⊕ Nat) × fS) :=
  (uQI s 43 s1 s2).bind fun σ1 =>
  K77 l1 l2 l4 l6 (iadd l8 1) σ1
theorem SX8_reckon_b135 {m b : Nat} {φ0 : Nat → Nat} {σo : fS} (hb : 1 ≤ b) {N : Nat} {rE : Nat → Int32 → eH → Option ((Unit ⊕ Nat) × eH)} {RE : Int → fS → Option ((Unit ⊕ Nat) × fS)} {rN : Nat → eH → Option ((Int32 ⊕ Nat) × eH)} {RN : fS → Option ((Int ⊕ Nat) × fS)} {k77 : Nat → Int32 → Int32 → Int32 → Int64 → Int32 → eH → Option ((Unit ⊕ Nat) × eH)} {K77 : Int → Int → Int → Int → Int → fS → Option ((Unit ⊕ Nat) × fS)} {q : (Unit ⊕ Nat) × fS} (hrE : ∀ {φ : Nat → Nat} {h : eH} {s : fS} {x1' : Int32} {x1 : Int} {q}, fC m 3 φ s φ h s → x1' = iI x1 → r32 x1 → RE x1 s = some q → gG m 3 φ s (lT lU) q (rE 22 x1' h)) (hrN : ∀ {φ : Nat → Nat} {h : eH} {s : fS} {q}, fC m 3 φ s φ h s → RN s = some q → gG m 3 φ s (lT lI) q (rN 22 h)) (hk77 : ∀ {φ : Nat → Nat} {h : eH} {s : fS} {l1' : Int32} {l1 : Int} {l2' : Int32} {l2 : Int} {l4' : Int32} {l4 : Int} {l6' : Int64} {l6 : Int} {l8' : Int32} {l8 : Int}, fC m b φ0 σo φ h s → l1' = iI l1 → r32 l1 → l2' = iI l2 → r32 l2 → l4' = iI l4 → r32 l4 → l6' = iJ l6 → r64 l6 → l8' = iI l8 → r32 l8 → K77 l1 l2 l4 l6 l8 s = some q → gG m b φ0 σo (lT lU) q (k77 22 l1' l2' l4' l6' l8' h)) {φ : Nat → Nat} {h : eH} {s : fS} {l1' : Int32} {l1 : Int} {l2' : Int32} {l2 : Int} {l4' : Int32} {l4 : Int} {l6' : Int64} {l6 : Int} {l8' : Int32} {l8 : Int} {s1' : Int32} {s1 : Int} {s2' : Int32} {s2 : Int} (R : fC m b φ0 σo φ h s) (el1 : l1' = iI l1) (rl1 : r32 l1) (el2 : l2' = iI l2) (rl2 : r32 l2) (el4 : l4' = iI l4) (rl4 : r32 l4) (el6 : l6' = iJ l6) (rl6 : r64 l6) (el8 : l8' = iI l8) (rl8 : r32 l8) (es1 : s1' = iI s1) (rs1 : r32 s1) (es2 : s2' = iI s2) (rs2 : r32 s2) (hF : FX8_reckon_b135 N RE RN K77 l1 l2 l4 l6 l8 s1 s2 s = some q) : gG m b φ0 σo (lT lU) q (fX8_reckon_b135 N rE rN k77 22 l1' l2' l4' l6' l8' 43 s1' s2' h) := by
  subst el1; subst el2; subst el4; subst el6; subst el8; subst es1; subst es2
  unfold FX8_reckon_b135 at hF
  unfold fX8_reckon_b135
  refine s_qI R (u_43 R.S).1 (u_43 R.S).2 (by decide) (a_43 R) rfl rs1 rfl rs2 hF (fun h1 σ1 R1 T1 hF => ?_)
  exact hk77 R1 rfl rl1 rfl rl2 rfl rl4 rfl rl6 (c_add rfl (c_lit 1 1 rfl)) (rr_I _) hF
def FX8_reckon_b169 (N : Nat) (RE : Int → fS → Option ((Unit ⊕ Nat) × fS)) (RN : fS → Option ((Int ⊕ Nat) × fS)) (l2 : Int) (l4 : Int) (s1 : Int) (s : fS) : Option ((Unit ⊕ Nat) × fS) :=
  tB (FX4_want s1 7 s) fun x2 σ3 =>
  (FX8_setGlue N l4 l2 σ3).bind fun q5 =>
  some (.inl (), q5.2)
theorem SX8_reckon_b169 {m b : Nat} {φ0 : Nat → Nat} {σo : fS} (hb : 1 ≤ b) {N : Nat} {rE : Nat → Int32 → eH → Option ((Unit ⊕ Nat) × eH)} {RE : Int → fS → Option ((Unit ⊕ Nat) × fS)} {rN : Nat → eH → Option ((Int32 ⊕ Nat) × eH)} {RN : fS → Option ((Int ⊕ Nat) × fS)} {q : (Unit ⊕ Nat) × fS} (hrE : ∀ {φ : Nat → Nat} {h : eH} {s : fS} {x1' : Int32} {x1 : Int} {q}, fC m 3 φ s φ h s → x1' = iI x1 → r32 x1 → RE x1 s = some q → gG m 3 φ s (lT lU) q (rE 22 x1' h)) (hrN : ∀ {φ : Nat → Nat} {h : eH} {s : fS} {q}, fC m 3 φ s φ h s → RN s = some q → gG m 3 φ s (lT lI) q (rN 22 h)) {φ : Nat → Nat} {h : eH} {s : fS} {l2' : Int32} {l2 : Int} {l4' : Int32} {l4 : Int} {s1' : Int32} {s1 : Int} (R : fC m b φ0 σo φ h s) (el2 : l2' = iI l2) (rl2 : r32 l2) (el4 : l4' = iI l4) (rl4 : r32 l4) (es1 : s1' = iI s1) (rs1 : r32 s1) (hF : FX8_reckon_b169 N RE RN l2 l4 s1 s = some q) : gG m b φ0 σo (lT lU) q (fX8_reckon_b169 N rE rN 22 l2' l4' 5 s1' h) := by
  subst el2; subst el4; subst es1
  unfold FX8_reckon_b169 at hF
  unfold fX8_reckon_b169
  refine s_kok R (t_5 R.S) (Nat.le_of_ble_eq_true rfl) ?_
  refine s_tB R (Nat.zero_le _) (fun _ hq => SX4_want (b := 0) (R.rf) rfl rs1 (c_lit 7 7 rfl) ⟨by decide, by decide⟩ hq) hF (fun f2 rv2 h2 x2 σ3 R2 e2 E2 hF => ?_)
  refine s_kok R2 (t_22 R2.S) (Nat.le_of_ble_eq_true rfl) ?_
  refine s_call R2 hb (fun _ hq => SX8_setGlue (b := 1) (N := N) (Nat.le_of_ble_eq_true rfl) (R2.rf) rfl rl4 rfl rl2 hq) hF (fun f4 rv4 h4 q5 R4 e4 E4 hF => ?_)
  exact g_ret R4 hF trivial
def FX8_reckon_b168 (N : Nat) (RE : Int → fS → Option ((Unit ⊕ Nat) × fS)) (RN : fS → Option ((Int ⊕ Nat) × fS)) (l2 : Int) (l4 : Int) (s : fS) : Option ((Unit ⊕ Nat) × fS) :=
  FX8_reckon_b169 N RE RN l2 l4 0 s
theorem SX8_reckon_b168 {m b : Nat} {φ0 : Nat → Nat} {σo : fS} (hb : 1 ≤ b) {N : Nat} {rE : Nat → Int32 → eH → Option ((Unit ⊕ Nat) × eH)} {RE : Int → fS → Option ((Unit ⊕ Nat) × fS)} {rN : Nat → eH → Option ((Int32 ⊕ Nat) × eH)} {RN : fS → Option ((Int ⊕ Nat) × fS)} {q : (Unit ⊕ Nat) × fS} (hrE : ∀ {φ : Nat → Nat} {h : eH} {s : fS} {x1' : Int32} {x1 : Int} {q}, fC m 3 φ s φ h s → x1' = iI x1 → r32 x1 → RE x1 s = some q → gG m 3 φ s (lT lU) q (rE 22 x1' h)) (hrN : ∀ {φ : Nat → Nat} {h : eH} {s : fS} {q}, fC m 3 φ s φ h s → RN s = some q → gG m 3 φ s (lT lI) q (rN 22 h)) {φ : Nat → Nat} {h : eH} {s : fS} {l2' : Int32} {l2 : Int} {l4' : Int32} {l4 : Int} (R : fC m b φ0 σo φ h s) (el2 : l2' = iI l2) (rl2 : r32 l2) (el4 : l4' = iI l4) (rl4 : r32 l4) (hF : FX8_reckon_b168 N RE RN l2 l4 s = some q) : gG m b φ0 σo (lT lU) q (fX8_reckon_b168 N rE rN 22 l2' l4' 5 h) := by
  subst el2; subst el4
  unfold FX8_reckon_b168 at hF
  unfold fX8_reckon_b168
  exact SX8_reckon_b169 (N := N) (rE := rE) (RE := RE) (rN := rN) (RN := RN) hb @hrE @hrN R rfl rl2 rfl rl4 (c_lit 0 0 rfl) ⟨by decide, by decide⟩ hF
def FX8_reckon_b77 (N : Nat) (RE : Int → fS → Option ((Unit ⊕ Nat) × fS)) (RN : fS → Option ((Int ⊕ Nat) × fS)) : Nat → Int → Int → Int → Int → Int → fS → Option ((Unit ⊕ Nat) × fS)
  | 0, _, _, _, _, _, _ => none
  | n + 1, l1, l2, l4, l6, l8, s =>
    if 4 ≤ l8 then
      (uRI s 43 1).bind fun x6 =>
      if x6 < 0 then
        FX8_reckon_b168 N RE RN l2 l4 s
      else
        (uRI s 43 3).bind fun x11 =>
        if x11 < 0 then
          FX8_reckon_b168 N RE RN l2 l4 s
        else
          FX8_reckon_b169 N RE RN l2 l4 1 s
    else
      if ¬ (l8 = 2) then
        (uRI s 27 (iadd l4 l8)).bind fun x21 =>
        tB (FX8_reckoned l1 x21 l6 s) fun x24 σ25 =>
        tB (FX8_size x24 σ25) fun x27 σ28 =>
        FX8_reckon_b135 N RE RN (FX8_reckon_b77 N RE RN n) l1 l2 l4 l6 l8 l8 x27 σ28
      else
        (uRI s 27 (iadd l4 2)).bind fun x33 =>
        FX8_reckon_b135 N RE RN (FX8_reckon_b77 N RE RN n) l1 l2 l4 l6 l8 l8 x33 s
theorem SX8_reckon_b77 {m b : Nat} {φ0 : Nat → Nat} {σo : fS} (hb : 1 ≤ b) {N : Nat} {rE : Nat → Int32 → eH → Option ((Unit ⊕ Nat) × eH)} {RE : Int → fS → Option ((Unit ⊕ Nat) × fS)} {rN : Nat → eH → Option ((Int32 ⊕ Nat) × eH)} {RN : fS → Option ((Int ⊕ Nat) × fS)} {q : (Unit ⊕ Nat) × fS} (hrE : ∀ {φ : Nat → Nat} {h : eH} {s : fS} {x1' : Int32} {x1 : Int} {q}, fC m 3 φ s φ h s → x1' = iI x1 → r32 x1 → RE x1 s = some q → gG m 3 φ s (lT lU) q (rE 22 x1' h)) (hrN : ∀ {φ : Nat → Nat} {h : eH} {s : fS} {q}, fC m 3 φ s φ h s → RN s = some q → gG m 3 φ s (lT lI) q (rN 22 h)) : ∀ {n : Nat} {φ : Nat → Nat} {h : eH} {s : fS} {l1' : Int32} {l1 : Int} {l2' : Int32} {l2 : Int} {l4' : Int32} {l4 : Int} {l6' : Int64} {l6 : Int} {l8' : Int32} {l8 : Int}, fC m b φ0 σo φ h s → l1' = iI l1 → r32 l1 → l2' = iI l2 → r32 l2 → l4' = iI l4 → r32 l4 → l6' = iJ l6 → r64 l6 → l8' = iI l8 → r32 l8 → FX8_reckon_b77 N RE RN n l1 l2 l4 l6 l8 s = some q → gG m b φ0 σo (lT lU) q (fX8_reckon_b77 N rE rN n 22 l1' l2' l4' l6' l8' h) := by
  intro n
  induction n with
 | zero => intro φ h s l1' l1 l2' l2 l4' l4 l6' l6 l8' l8 R el1 rl1 el2 rl2 el4 rl4 el6 rl6 el8 rl8 hF; simp [FX8_reckon_b77] at hF
  | succ n ih =>
    intro φ h s l1' l1 l2' l2 l4' l4 l6' l6 l8' l8 R el1 rl1 el2 rl2 el4 rl4 el6 rl6 el8 rl8 hF
    subst el1; subst el2; subst el4; subst el6; subst el8
    rw [FX8_reckon_b77] at hF
    rw [fX8_reckon_b77]
    refine s_if (i_le (c_lit 4 4 rfl) rfl ⟨by decide, by decide⟩ rl8) hF (fun c1 hF => ?_) (fun c1 hF => ?_)
    ·
      refine s_gO R (t_22 R.S) (Nat.le_of_ble_eq_true rfl) rfl (o_22_0 R.S) ?_
      refine s_gAs R (t_22 R.S) (Nat.le_of_ble_eq_true rfl) rfl (o_22_29 R.S) (a_43 R) ?_
      refine s_rI R (u_43 R.S).1 (u_43 R.S).2 (by decide) (a_43 R) (c_lit 1 1 rfl) ⟨by decide, by decide⟩ hF (fun x6 ra4 hF => ?_)
      refine s_if (i_lt rfl (c_lit 0 0 rfl) ra4 ⟨by decide, by decide⟩) hF (fun c5 hF => ?_) (fun c5 hF => ?_)
      ·
        exact SX8_reckon_b168 (N := N) (rE := rE) (RE := RE) (rN := rN) (RN := RN) hb @hrE @hrN R rfl rl2 rfl rl4 hF
      ·
        refine s_gAs R (t_22 R.S) (Nat.le_of_ble_eq_true rfl) rfl (o_22_29 R.S) (a_43 R) ?_
        refine s_rI R (u_43 R.S).1 (u_43 R.S).2 (by decide) (a_43 R) (c_lit 3 3 rfl) ⟨by decide, by decide⟩ hF (fun x11 ra7 hF => ?_)
        refine s_if (i_lt rfl (c_lit 0 0 rfl) ra7 ⟨by decide, by decide⟩) hF (fun c8 hF => ?_) (fun c8 hF => ?_)
        ·
          exact SX8_reckon_b168 (N := N) (rE := rE) (RE := RE) (rN := rN) (RN := RN) hb @hrE @hrN R rfl rl2 rfl rl4 hF
        ·
          exact SX8_reckon_b169 (N := N) (rE := rE) (RE := RE) (rN := rN) (RN := RN) hb @hrE @hrN R rfl rl2 rfl rl4 (c_lit 1 1 rfl) ⟨by decide, by decide⟩ hF
    ·
      refine s_gAs R (t_22 R.S) (Nat.le_of_ble_eq_true rfl) rfl (o_22_29 R.S) (a_43 R) ?_
      refine s_if (not_congr (i_eq rfl (c_lit 2 2 rfl) rl8 ⟨by decide, by decide⟩)) hF (fun c10 hF => ?_) (fun c10 hF => ?_)
      ·
        refine s_gO R (t_22 R.S) (Nat.le_of_ble_eq_true rfl) rfl (o_22_4 R.S) ?_
        refine s_gAs R (t_23 R.S) (Nat.le_of_ble_eq_true rfl) rfl (o_23_3 R.S) (a_27 R) ?_
        refine s_rI R (u_27 R.S).1 (u_27 R.S).2 (by decide) (a_27 R) (c_add rfl rfl) (rr_I _) hF (fun x21 ra13 hF => ?_)
        refine s_kok R (t_22 R.S) (Nat.le_of_ble_eq_true rfl) ?_
        refine s_tB R (Nat.zero_le _) (fun _ hq => SX8_reckoned (b := 0) (R.rf) rfl rl1 (c_2l rfl ra13) (r32.w ra13) rfl rl6 hq) hF (fun f15 rv15 h15 x24 σ25 R15 e15 E15 hF => ?_)
        refine s_kok R15 (t_22 R15.S) (Nat.le_of_ble_eq_true rfl) ?_
        refine s_tB R15 (Nat.zero_le _) (fun _ hq => SX8_size (b := 0) (R15.rf) e15.1 e15.2 hq) hF (fun f17 rv17 h17 x27 σ28 R17 e17 E17 hF => ?_)
        exact SX8_reckon_b135 (N := N) (rE := rE) (RE := RE) (rN := rN) (RN := RN) (k77 := fX8_reckon_b77 N rE rN n) (K77 := FX8_reckon_b77 N RE RN n) hb @hrE @hrN @ih R17 rfl rl1 rfl rl2 rfl rl4 rfl rl6 rfl rl8 rfl rl8 e17.1 e17.2 hF
      ·
        refine s_gO R (t_22 R.S) (Nat.le_of_ble_eq_true rfl) rfl (o_22_4 R.S) ?_
        refine s_gAs R (t_23 R.S) (Nat.le_of_ble_eq_true rfl) rfl (o_23_3 R.S) (a_27 R) ?_
        refine s_rI R (u_27 R.S).1 (u_27 R.S).2 (by decide) (a_27 R) (c_add rfl (c_lit 2 2 rfl)) (rr_I _) hF (fun x33 ra20 hF => ?_)
        exact SX8_reckon_b135 (N := N) (rE := rE) (RE := RE) (rN := rN) (RN := RN) (k77 := fX8_reckon_b77 N rE rN n) (K77 := FX8_reckon_b77 N RE RN n) hb @hrE @hrN @ih R rfl rl1 rfl rl2 rfl rl4 rfl rl6 rfl rl8 rfl rl8 rfl ra20 hF
def FX8_reckon_b230 (N : Nat) (RE : Int → fS → Option ((Unit ⊕ Nat) × fS)) (RN : fS → Option ((Int ⊕ Nat) × fS)) (l2 : Int) (s1 : Int) (s2 : Int) (s : fS) : Option ((Unit ⊕ Nat) × fS) :=
  (FX9_set N s1 s2 l2 s).bind fun q2 =>
  some (.inl (), q2.2)
theorem SX8_reckon_b230 {m b : Nat} {φ0 : Nat → Nat} {σo : fS} (hb : 1 ≤ b) {N : Nat} {rE : Nat → Int32 → eH → Option ((Unit ⊕ Nat) × eH)} {RE : Int → fS → Option ((Unit ⊕ Nat) × fS)} {rN : Nat → eH → Option ((Int32 ⊕ Nat) × eH)} {RN : fS → Option ((Int ⊕ Nat) × fS)} {q : (Unit ⊕ Nat) × fS} (hrE : ∀ {φ : Nat → Nat} {h : eH} {s : fS} {x1' : Int32} {x1 : Int} {q}, fC m 3 φ s φ h s → x1' = iI x1 → r32 x1 → RE x1 s = some q → gG m 3 φ s (lT lU) q (rE 22 x1' h)) (hrN : ∀ {φ : Nat → Nat} {h : eH} {s : fS} {q}, fC m 3 φ s φ h s → RN s = some q → gG m 3 φ s (lT lI) q (rN 22 h)) {φ : Nat → Nat} {h : eH} {s : fS} {l2' : Int32} {l2 : Int} {s1' : Int32} {s1 : Int} {s2' : Int32} {s2 : Int} (R : fC m b φ0 σo φ h s) (el2 : l2' = iI l2) (rl2 : r32 l2) (es1 : s1' = iI s1) (rs1 : r32 s1) (es2 : s2' = iI s2) (rs2 : r32 s2) (hF : FX8_reckon_b230 N RE RN l2 s1 s2 s = some q) : gG m b φ0 σo (lT lU) q (fX8_reckon_b230 N rE rN l2' 23 s1' s2' h) := by
  subst el2; subst es1; subst es2
  unfold FX8_reckon_b230 at hF
  unfold fX8_reckon_b230
  refine s_kok R (t_23 R.S) (Nat.le_of_ble_eq_true rfl) ?_
  refine s_call R hb (fun _ hq => SX9_set (b := 1) (N := N) (Nat.le_of_ble_eq_true rfl) (R.rf) rfl rs1 rfl rs2 rfl rl2 hq) hF (fun f2 rv2 h2 q2 R2 e2 E2 hF => ?_)
  exact g_ret R2 hF trivial
def FX8_reckon_b24 (N : Nat) (RE : Int → fS → Option ((Unit ⊕ Nat) × fS)) (RN : fS → Option ((Int ⊕ Nat) × fS)) (l1 : Int) (l2 : Int) (l3 : Int) (s1 : Int) (s : fS) : Option ((Unit ⊕ Nat) × fS) :=
  tB (FX4_want s1 6 s) fun x2 σ3 =>
  tB (FX8_cellOf RN l3 σ3) fun x5 σ6 =>
  tB (FX8_keyword N RE 1000000112 σ6) fun x8 σ9 =>
  if ¬ (l1 = 62) then
    tB (RN σ9) fun x12 σ13 =>
    (FX8_isGlue l3 σ13).bind fun q14 =>
    if q14.1 = 0 then
      (uRI q14.2 27 x5).bind fun x20 =>
      tB (FX8_reckoned l1 x20 x12 q14.2) fun x23 σ24 =>
      (FX8_isCounter l3 σ24).bind fun q27 =>
      if q27.1 = 0 then
        tB (FX8_size x23 q27.2) fun x30 σ31 =>
        FX8_reckon_b230 N RE RN l2 x5 x30 σ31
      else
        tB (FX8_counter x23 q27.2) fun x33 σ34 =>
        FX8_reckon_b230 N RE RN l2 x5 x33 σ34
    else
      FX8_reckon_b77 N RE RN N l1 l2 x5 x12 0 q14.2
  else
    tB (FX8_advance N RE RN l3 x5 l2 σ9) fun x36 σ37 =>
    some (.inl (), σ37)
theorem SX8_reckon_b24 {m b : Nat} {φ0 : Nat → Nat} {σo : fS} (hb : 3 ≤ b) {N : Nat} {rE : Nat → Int32 → eH → Option ((Unit ⊕ Nat) × eH)} {RE : Int → fS → Option ((Unit ⊕ Nat) × fS)} {rN : Nat → eH → Option ((Int32 ⊕ Nat) × eH)} {RN : fS → Option ((Int ⊕ Nat) × fS)} {q : (Unit ⊕ Nat) × fS} (hrE : ∀ {φ : Nat → Nat} {h : eH} {s : fS} {x1' : Int32} {x1 : Int} {q}, fC m 3 φ s φ h s → x1' = iI x1 → r32 x1 → RE x1 s = some q → gG m 3 φ s (lT lU) q (rE 22 x1' h)) (hrN : ∀ {φ : Nat → Nat} {h : eH} {s : fS} {q}, fC m 3 φ s φ h s → RN s = some q → gG m 3 φ s (lT lI) q (rN 22 h)) {φ : Nat → Nat} {h : eH} {s : fS} {l1' : Int32} {l1 : Int} {l2' : Int32} {l2 : Int} {l3' : Int32} {l3 : Int} {s1' : Int32} {s1 : Int} (R : fC m b φ0 σo φ h s) (el1 : l1' = iI l1) (rl1 : r32 l1) (el2 : l2' = iI l2) (rl2 : r32 l2) (el3 : l3' = iI l3) (rl3 : r32 l3) (es1 : s1' = iI s1) (rs1 : r32 s1) (hF : FX8_reckon_b24 N RE RN l1 l2 l3 s1 s = some q) : gG m b φ0 σo (lT lU) q (fX8_reckon_b24 N rE rN 22 l1' l2' l3' 5 s1' h) := by
  subst el1; subst el2; subst el3; subst es1
  unfold FX8_reckon_b24 at hF
  unfold fX8_reckon_b24
  refine s_kok R (t_5 R.S) (Nat.le_of_ble_eq_true rfl) ?_
  refine s_tB R (Nat.zero_le _) (fun _ hq => SX4_want (b := 0) (R.rf) rfl rs1 (c_lit 6 6 rfl) ⟨by decide, by decide⟩ hq) hF (fun f2 rv2 h2 x2 σ3 R2 e2 E2 hF => ?_)
  refine s_kok R2 (t_22 R2.S) (Nat.le_of_ble_eq_true rfl) ?_
  refine s_tB R2 hb (fun _ hq => SX8_cellOf (b := 3) (rN := rN) (RN := RN) (Nat.le_of_ble_eq_true rfl) @hrN (R2.rf) rfl rl3 hq) hF (fun f4 rv4 h4 x5 σ6 R4 e4 E4 hF => ?_)
  refine s_kok R4 (t_22 R4.S) (Nat.le_of_ble_eq_true rfl) ?_
  refine s_tB R4 hb (fun _ hq => SX8_keyword (b := 3) (N := N) (rE := rE) (RE := RE) (Nat.le_of_ble_eq_true rfl) @hrE (R4.rf) hq) hF (fun f6 rv6 h6 x8 σ9 R6 e6 E6 hF => ?_)
  refine s_if (not_congr (i_eq rfl (c_lit 62 62 rfl) rl1 ⟨by decide, by decide⟩)) hF (fun c7 hF => ?_) (fun c7 hF => ?_)
  ·
    refine s_kok R6 (t_22 R6.S) (Nat.le_of_ble_eq_true rfl) ?_
    refine s_tB R6 hb (fun _ hq => hrN (R6.rf)  hq) hF (fun f9 rv9 h9 x12 σ13 R9 e9 E9 hF => ?_)
    refine s_call R9 (Nat.zero_le _) (fun _ hq => SX8_isGlue (b := 0) (R9.rf) rfl rl3 hq) hF (fun f10 rv10 h10 q14 R10 e10 E10 hF => ?_)
    refine s_if (i_eq e10.1 (c_lit 0 0 rfl) e10.2 ⟨by decide, by decide⟩) hF (fun c11 hF => ?_) (fun c11 hF => ?_)
    ·
      refine s_gO R10 (t_22 R10.S) (Nat.le_of_ble_eq_true rfl) rfl (o_22_4 R10.S) ?_
      refine s_gAs R10 (t_23 R10.S) (Nat.le_of_ble_eq_true rfl) rfl (o_23_3 R10.S) (a_27 R10) ?_
      refine s_rI R10 (u_27 R10.S).1 (u_27 R10.S).2 (by decide) (a_27 R10) e4.1 e4.2 hF (fun x20 ra14 hF => ?_)
      refine s_kok R10 (t_22 R10.S) (Nat.le_of_ble_eq_true rfl) ?_
      refine s_tB R10 (Nat.zero_le _) (fun _ hq => SX8_reckoned (b := 0) (R10.rf) rfl rl1 (c_2l rfl ra14) (r32.w ra14) (c_2l e9.1 e9.2) (r32.w e9.2) hq) hF (fun f16 rv16 h16 x23 σ24 R16 e16 E16 hF => ?_)
      refine s_gO R16 (t_22 R16.S) (Nat.le_of_ble_eq_true rfl) rfl (o_22_4 R16.S) ?_
      refine s_call R16 (Nat.zero_le _) (fun _ hq => SX8_isCounter (b := 0) (R16.rf) rfl rl3 hq) hF (fun f18 rv18 h18 q27 R18 e18 E18 hF => ?_)
      refine s_if (i_eq e18.1 (c_lit 0 0 rfl) e18.2 ⟨by decide, by decide⟩) hF (fun c19 hF => ?_) (fun c19 hF => ?_)
      ·
        refine s_kok R18 (t_22 R18.S) (Nat.le_of_ble_eq_true rfl) ?_
        refine s_tB R18 (Nat.zero_le _) (fun _ hq => SX8_size (b := 0) (R18.rf) e16.1 e16.2 hq) hF (fun f21 rv21 h21 x30 σ31 R21 e21 E21 hF => ?_)
        exact SX8_reckon_b230 (N := N) (rE := rE) (RE := RE) (rN := rN) (RN := RN) (Nat.le_trans (Nat.le_of_ble_eq_true rfl) hb) @hrE @hrN R21 rfl rl2 e4.1 e4.2 e21.1 e21.2 hF
      ·
        refine s_kok R18 (t_22 R18.S) (Nat.le_of_ble_eq_true rfl) ?_
        refine s_tB R18 (Nat.zero_le _) (fun _ hq => SX8_counter (b := 0) (R18.rf) e16.1 e16.2 hq) hF (fun f23 rv23 h23 x33 σ34 R23 e23 E23 hF => ?_)
        exact SX8_reckon_b230 (N := N) (rE := rE) (RE := RE) (rN := rN) (RN := RN) (Nat.le_trans (Nat.le_of_ble_eq_true rfl) hb) @hrE @hrN R23 rfl rl2 e4.1 e4.2 e23.1 e23.2 hF
    ·
      exact SX8_reckon_b77 (N := N) (rE := rE) (RE := RE) (rN := rN) (RN := RN) (Nat.le_trans (Nat.le_of_ble_eq_true rfl) hb) @hrE @hrN R10 rfl rl1 rfl rl2 e4.1 e4.2 (c_2l e9.1 e9.2) (r32.w e9.2) (c_lit 0 0 rfl) ⟨by decide, by decide⟩ hF
  ·
    refine s_kok R6 (t_22 R6.S) (Nat.le_of_ble_eq_true rfl) ?_
    refine s_tB R6 hb (fun _ hq => SX8_advance (b := 3) (N := N) (rE := rE) (RE := RE) (rN := rN) (RN := RN) (Nat.le_of_ble_eq_true rfl) @hrE @hrN (R6.rf) rfl rl3 e4.1 e4.2 rfl rl2 hq) hF (fun f25 rv25 h25 x36 σ37 R25 e25 E25 hF => ?_)
    exact g_ret R25 hF trivial
def FX8_reckon (N : Nat) (RE : Int → fS → Option ((Unit ⊕ Nat) × fS)) (RN : fS → Option ((Int ⊕ Nat) × fS)) (p0 : Int) (p1 : Int) (s : fS) : Option ((Unit ⊕ Nat) × fS) :=
  tB (FX8_needSolid N RE s) fun x2 σ3 =>
  (FX8_primitive x2 σ3).bind fun q5 =>
  if q5.1 < 67 then
    FX8_reckon_b24 N RE RN p0 p1 q5.1 0 q5.2
  else
    FX8_reckon_b24 N RE RN p0 p1 q5.1 1 q5.2
theorem SX8_reckon {m b : Nat} {φ0 : Nat → Nat} {σo : fS} (hb : 3 ≤ b) {N : Nat} {rE : Nat → Int32 → eH → Option ((Unit ⊕ Nat) × eH)} {RE : Int → fS → Option ((Unit ⊕ Nat) × fS)} {rN : Nat → eH → Option ((Int32 ⊕ Nat) × eH)} {RN : fS → Option ((Int ⊕ Nat) × fS)} {q : (Unit ⊕ Nat) × fS} (hrE : ∀ {φ : Nat → Nat} {h : eH} {s : fS} {x1' : Int32} {x1 : Int} {q}, fC m 3 φ s φ h s → x1' = iI x1 → r32 x1 → RE x1 s = some q → gG m 3 φ s (lT lU) q (rE 22 x1' h)) (hrN : ∀ {φ : Nat → Nat} {h : eH} {s : fS} {q}, fC m 3 φ s φ h s → RN s = some q → gG m 3 φ s (lT lI) q (rN 22 h)) {φ : Nat → Nat} {h : eH} {s : fS} {p0' : Int32} {p0 : Int} {p1' : Int32} {p1 : Int} (R : fC m b φ0 σo φ h s) (ep0 : p0' = iI p0) (rp0 : r32 p0) (ep1 : p1' = iI p1) (rp1 : r32 p1) (hF : FX8_reckon N RE RN p0 p1 s = some q) : gG m b φ0 σo (lT lU) q (fX8_reckon N rE rN 22 p0' p1' h) := by
  subst ep0; subst ep1
  unfold FX8_reckon at hF
  unfold fX8_reckon
  refine s_kok R (t_22 R.S) (Nat.le_of_ble_eq_true rfl) ?_
  refine s_tB R hb (fun _ hq => SX8_needSolid (b := 3) (N := N) (rE := rE) (RE := RE) (Nat.le_of_ble_eq_true rfl) @hrE (R.rf) hq) hF (fun f2 rv2 h2 x2 σ3 R2 e2 E2 hF => ?_)
  refine s_kok R2 (t_22 R2.S) (Nat.le_of_ble_eq_true rfl) ?_
  refine s_call R2 (Nat.zero_le _) (fun _ hq => SX8_primitive (b := 0) (R2.rf) e2.1 e2.2 hq) hF (fun f4 rv4 h4 q5 R4 e4 E4 hF => ?_)
  refine s_gO R4 (t_22 R4.S) (Nat.le_of_ble_eq_true rfl) rfl (o_22_0 R4.S) ?_
  refine s_if (i_lt e4.1 (c_lit 67 67 rfl) e4.2 ⟨by decide, by decide⟩) hF (fun c6 hF => ?_) (fun c6 hF => ?_)
  ·
    exact SX8_reckon_b24 (N := N) (rE := rE) (RE := RE) (rN := rN) (RN := RN) hb @hrE @hrN R4 rfl rp0 rfl rp1 e4.1 e4.2 (c_lit 0 0 rfl) ⟨by decide, by decide⟩ hF
  ·
    exact SX8_reckon_b24 (N := N) (rE := rE) (RE := RE) (rN := rN) (RN := RN) hb @hrE @hrN R4 rfl rp0 rfl rp1 e4.1 e4.2 (c_lit 1 1 rfl) ⟨by decide, by decide⟩ hF
def FX3_readBox_b57 (N : Nat) (RE : Int → fS → Option ((Unit ⊕ Nat) × fS)) (RN : fS → Option ((Int ⊕ Nat) × fS)) (l2 : Int) (l3 : Int) (l4 : Int) (l6 : Int) (s : fS) : Option ((Unit ⊕ Nat) × fS) :=
  tB (FX3_deliver N l6 l2 l3 l4 s) fun x2 σ3 =>
  some (.inl (), σ3)
theorem SX3_readBox_b57 {m b : Nat} {φ0 : Nat → Nat} {σo : fS} (hb : 1 ≤ b) {N : Nat} {rE : Nat → Int32 → eH → Option ((Unit ⊕ Nat) × eH)} {RE : Int → fS → Option ((Unit ⊕ Nat) × fS)} {rN : Nat → eH → Option ((Int32 ⊕ Nat) × eH)} {RN : fS → Option ((Int ⊕ Nat) × fS)} {q : (Unit ⊕ Nat) × fS} (hrE : ∀ {φ : Nat → Nat} {h : eH} {s : fS} {x1' : Int32} {x1 : Int} {q}, fC m 3 φ s φ h s → x1' = iI x1 → r32 x1 → RE x1 s = some q → gG m 3 φ s (lT lU) q (rE 22 x1' h)) (hrN : ∀ {φ : Nat → Nat} {h : eH} {s : fS} {q}, fC m 3 φ s φ h s → RN s = some q → gG m 3 φ s (lT lI) q (rN 22 h)) {φ : Nat → Nat} {h : eH} {s : fS} {l2' : Int32} {l2 : Int} {l3' : Int32} {l3 : Int} {l4' : Int32} {l4 : Int} {l6' : Int32} {l6 : Int} (R : fC m b φ0 σo φ h s) (el2 : l2' = iI l2) (rl2 : r32 l2) (el3 : l3' = iI l3) (rl3 : r32 l3) (el4 : l4' = iI l4) (rl4 : r32 l4) (el6 : l6' = iI l6) (rl6 : r32 l6) (hF : FX3_readBox_b57 N RE RN l2 l3 l4 l6 s = some q) : gG m b φ0 σo (lT lU) q (fX3_readBox_b57 N rE rN 4 l2' l3' l4' l6' h) := by
  subst el2; subst el3; subst el4; subst el6
  unfold FX3_readBox_b57 at hF
  unfold fX3_readBox_b57
  refine s_kok R (t_4 R.S) (Nat.le_of_ble_eq_true rfl) ?_
  refine s_tB R hb (fun _ hq => SX3_deliver (b := 1) (N := N) (Nat.le_of_ble_eq_true rfl) (R.rf) rfl rl6 rfl rl2 rfl rl3 rfl rl4 hq) hF (fun f2 rv2 h2 x2 σ3 R2 e2 E2 hF => ?_)
  exact g_ret R2 hF trivial
def FX3_readBox_b12 (N : Nat) (RE : Int → fS → Option ((Unit ⊕ Nat) × fS)) (RN : fS → Option ((Int ⊕ Nat) × fS)) (l1 : Int) (l2 : Int) (l3 : Int) (l4 : Int) (s : fS) : Option ((Unit ⊕ Nat) × fS) :=
  tB (FX8_within RN 255 s) fun x4 σ5 =>
  (uRI σ5 27 (iadd 1583 x4)).bind fun x10 =>
  if ¬ (l1 = 43) then
    FX3_readBox_b57 N RE RN l2 l3 l4 x10 σ5
  else
    (uQI σ5 27 (iadd 1583 x4) (-1)).bind fun σ17 =>
    FX3_readBox_b57 N RE RN l2 l3 l4 x10 σ17
theorem SX3_readBox_b12 {m b : Nat} {φ0 : Nat → Nat} {σo : fS} (hb : 3 ≤ b) {N : Nat} {rE : Nat → Int32 → eH → Option ((Unit ⊕ Nat) × eH)} {RE : Int → fS → Option ((Unit ⊕ Nat) × fS)} {rN : Nat → eH → Option ((Int32 ⊕ Nat) × eH)} {RN : fS → Option ((Int ⊕ Nat) × fS)} {q : (Unit ⊕ Nat) × fS} (hrE : ∀ {φ : Nat → Nat} {h : eH} {s : fS} {x1' : Int32} {x1 : Int} {q}, fC m 3 φ s φ h s → x1' = iI x1 → r32 x1 → RE x1 s = some q → gG m 3 φ s (lT lU) q (rE 22 x1' h)) (hrN : ∀ {φ : Nat → Nat} {h : eH} {s : fS} {q}, fC m 3 φ s φ h s → RN s = some q → gG m 3 φ s (lT lI) q (rN 22 h)) {φ : Nat → Nat} {h : eH} {s : fS} {l1' : Int32} {l1 : Int} {l2' : Int32} {l2 : Int} {l3' : Int32} {l3 : Int} {l4' : Int32} {l4 : Int} (R : fC m b φ0 σo φ h s) (el1 : l1' = iI l1) (rl1 : r32 l1) (el2 : l2' = iI l2) (rl2 : r32 l2) (el3 : l3' = iI l3) (rl3 : r32 l3) (el4 : l4' = iI l4) (rl4 : r32 l4) (hF : FX3_readBox_b12 N RE RN l1 l2 l3 l4 s = some q) : gG m b φ0 σo (lT lU) q (fX3_readBox_b12 N rE rN 4 l1' l2' l3' l4' h) := by
  subst el1; subst el2; subst el3; subst el4
  unfold FX3_readBox_b12 at hF
  unfold fX3_readBox_b12
  refine s_gO R (t_4 R.S) (Nat.le_of_ble_eq_true rfl) rfl (o_4_5 R.S) ?_
  refine s_kok R (t_22 R.S) (Nat.le_of_ble_eq_true rfl) ?_
  refine s_tB R hb (fun _ hq => SX8_within (b := 3) (rN := rN) (RN := RN) (Nat.le_of_ble_eq_true rfl) @hrN (R.rf) (c_lit 255 255 rfl) ⟨by decide, by decide⟩ hq) hF (fun f3 rv3 h3 x4 σ5 R3 e3 E3 hF => ?_)
  refine s_gO R3 (t_4 R3.S) (Nat.le_of_ble_eq_true rfl) rfl (o_4_6 R3.S) ?_
  refine s_gAs R3 (t_23 R3.S) (Nat.le_of_ble_eq_true rfl) rfl (o_23_3 R3.S) (a_27 R3) ?_
  refine s_rI R3 (u_27 R3.S).1 (u_27 R3.S).2 (by decide) (a_27 R3) (c_add (c_lit 1583 1583 rfl) e3.1) (rr_I _) hF (fun x10 ra6 hF => ?_)
  refine s_if (not_congr (i_eq rfl (c_lit 43 43 rfl) rl1 ⟨by decide, by decide⟩)) hF (fun c7 hF => ?_) (fun c7 hF => ?_)
  ·
    exact SX3_readBox_b57 (N := N) (rE := rE) (RE := RE) (rN := rN) (RN := RN) (Nat.le_trans (Nat.le_of_ble_eq_true rfl) hb) @hrE @hrN R3 rfl rl2 rfl rl3 rfl rl4 rfl ra6 hF
  ·
    refine s_gO R3 (t_4 R3.S) (Nat.le_of_ble_eq_true rfl) rfl (o_4_6 R3.S) ?_
    refine s_gAs R3 (t_23 R3.S) (Nat.le_of_ble_eq_true rfl) rfl (o_23_3 R3.S) (a_27 R3) ?_
    refine s_qI R3 (u_27 R3.S).1 (u_27 R3.S).2 (by decide) (a_27 R3) (c_add (c_lit 1583 1583 rfl) e3.1) (rr_I _) (c_lit (-1) (-1) rfl) ⟨by decide, by decide⟩ hF (fun h10 σ17 R10 T10 hF => ?_)
    exact SX3_readBox_b57 (N := N) (rE := rE) (RE := RE) (rN := rN) (RN := RN) (Nat.le_trans (Nat.le_of_ble_eq_true rfl) hb) @hrE @hrN R10 rfl rl2 rfl rl3 rfl rl4 rfl ra6 hF
def FX3_readBox_b215 (N : Nat) (RE : Int → fS → Option ((Unit ⊕ Nat) × fS)) (RN : fS → Option ((Int ⊕ Nat) × fS)) (l2 : Int) (l3 : Int) (l4 : Int) (l5 : Int) (l6 : Int) (s1 : Int) (s : fS) : Option ((Unit ⊕ Nat) × fS) :=
  (FX3_push s1 s).bind fun q2 =>
  (uQI q2.2 179 (q2.2.i 4 27) l5).bind fun σ7 =>
  (uQI σ7 180 (σ7.i 4 27) l6).bind fun σ13 =>
  (uQI σ13 181 (σ13.i 4 27) l2).bind fun σ19 =>
  (uQI σ19 182 (σ19.i 4 27) l3).bind fun σ25 =>
  (uQI σ25 183 (σ25.i 4 27) (iand l4 1)).bind fun σ31 =>
  some (.inl (), σ31)
theorem SX3_readBox_b215 {m b : Nat} {φ0 : Nat → Nat} {σo : fS} {N : Nat} {rE : Nat → Int32 → eH → Option ((Unit ⊕ Nat) × eH)} {RE : Int → fS → Option ((Unit ⊕ Nat) × fS)} {rN : Nat → eH → Option ((Int32 ⊕ Nat) × eH)} {RN : fS → Option ((Int ⊕ Nat) × fS)} {q : (Unit ⊕ Nat) × fS} (hrE : ∀ {φ : Nat → Nat} {h : eH} {s : fS} {x1' : Int32} {x1 : Int} {q}, fC m 3 φ s φ h s → x1' = iI x1 → r32 x1 → RE x1 s = some q → gG m 3 φ s (lT lU) q (rE 22 x1' h)) (hrN : ∀ {φ : Nat → Nat} {h : eH} {s : fS} {q}, fC m 3 φ s φ h s → RN s = some q → gG m 3 φ s (lT lI) q (rN 22 h)) {φ : Nat → Nat} {h : eH} {s : fS} {l2' : Int32} {l2 : Int} {l3' : Int32} {l3 : Int} {l4' : Int32} {l4 : Int} {l5' : Int32} {l5 : Int} {l6' : Int32} {l6 : Int} {s1' : Int32} {s1 : Int} (R : fC m b φ0 σo φ h s) (el2 : l2' = iI l2) (rl2 : r32 l2) (el3 : l3' = iI l3) (rl3 : r32 l3) (el4 : l4' = iI l4) (rl4 : r32 l4) (el5 : l5' = iI l5) (rl5 : r32 l5) (el6 : l6' = iI l6) (rl6 : r32 l6) (es1 : s1' = iI s1) (rs1 : r32 s1) (hF : FX3_readBox_b215 N RE RN l2 l3 l4 l5 l6 s1 s = some q) : gG m b φ0 σo (lT lU) q (fX3_readBox_b215 N rE rN 4 l2' l3' l4' l5' l6' 4 s1' h) := by
  subst el2; subst el3; subst el4; subst el5; subst el6; subst es1
  unfold FX3_readBox_b215 at hF
  unfold fX3_readBox_b215
  refine s_kok R (t_4 R.S) (Nat.le_of_ble_eq_true rfl) ?_
  refine s_call R (Nat.zero_le _) (fun _ hq => SX3_push (b := 0) (R.rf) rfl rs1 hq) hF (fun f2 rv2 h2 q2 R2 e2 E2 hF => ?_)
  refine s_gAs R2 (t_4 R2.S) (Nat.le_of_ble_eq_true rfl) rfl (o_4_22 R2.S) (a_179 R2) ?_
  refine s_gI R2 (t_4 R2.S) (Nat.le_of_ble_eq_true rfl) rfl ?_
  refine s_qI R2 (u_179 R2.S).1 (u_179 R2.S).2 (by decide) (a_179 R2) rfl (R2.ri (t_4 R2.S) (Nat.le_of_ble_eq_true rfl) rfl) rfl rl5 hF (fun h5 σ7 R5 T5 hF => ?_)
  refine s_gAs R5 (t_4 R5.S) (Nat.le_of_ble_eq_true rfl) rfl (o_4_23 R5.S) (a_180 R5) ?_
  refine s_gI R5 (t_4 R5.S) (Nat.le_of_ble_eq_true rfl) rfl ?_
  refine s_qI R5 (u_180 R5.S).1 (u_180 R5.S).2 (by decide) (a_180 R5) rfl (R5.ri (t_4 R5.S) (Nat.le_of_ble_eq_true rfl) rfl) rfl rl6 hF (fun h8 σ13 R8 T8 hF => ?_)
  refine s_gAs R8 (t_4 R8.S) (Nat.le_of_ble_eq_true rfl) rfl (o_4_24 R8.S) (a_181 R8) ?_
  refine s_gI R8 (t_4 R8.S) (Nat.le_of_ble_eq_true rfl) rfl ?_
  refine s_qI R8 (u_181 R8.S).1 (u_181 R8.S).2 (by decide) (a_181 R8) rfl (R8.ri (t_4 R8.S) (Nat.le_of_ble_eq_true rfl) rfl) rfl rl2 hF (fun h11 σ19 R11 T11 hF => ?_)
  refine s_gAs R11 (t_4 R11.S) (Nat.le_of_ble_eq_true rfl) rfl (o_4_25 R11.S) (a_182 R11) ?_
  refine s_gI R11 (t_4 R11.S) (Nat.le_of_ble_eq_true rfl) rfl ?_
  refine s_qI R11 (u_182 R11.S).1 (u_182 R11.S).2 (by decide) (a_182 R11) rfl (R11.ri (t_4 R11.S) (Nat.le_of_ble_eq_true rfl) rfl) rfl rl3 hF (fun h14 σ25 R14 T14 hF => ?_)
  refine s_gAs R14 (t_4 R14.S) (Nat.le_of_ble_eq_true rfl) rfl (o_4_26 R14.S) (a_183 R14) ?_
  refine s_gI R14 (t_4 R14.S) (Nat.le_of_ble_eq_true rfl) rfl ?_
  refine s_qI R14 (u_183 R14.S).1 (u_183 R14.S).2 (by decide) (a_183 R14) rfl (R14.ri (t_4 R14.S) (Nat.le_of_ble_eq_true rfl) rfl) (c_and rfl (c_lit 1 1 rfl)) (rr_I _) hF (fun h17 σ31 R17 T17 hF => ?_)
  exact g_ret R17 hF trivial
def FX3_readBox_b193 (N : Nat) (RE : Int → fS → Option ((Unit ⊕ Nat) × fS)) (RN : fS → Option ((Int ⊕ Nat) × fS)) (l1 : Int) (l2 : Int) (l3 : Int) (l4 : Int) (l5 : Int) (l6 : Int) (s1 : Int) (s : fS) : Option ((Unit ⊕ Nat) × fS) :=
  tB (FX4_want s1 6 s) fun x2 σ3 =>
  tB (FX3_open 3 σ3) fun x5 σ6 =>
  if ¬ (l1 = 41) then
    FX3_readBox_b215 N RE RN l2 l3 l4 l5 l6 1 σ6
  else
    FX3_readBox_b215 N RE RN l2 l3 l4 l5 l6 3 σ6
theorem SX3_readBox_b193 {m b : Nat} {φ0 : Nat → Nat} {σo : fS} {N : Nat} {rE : Nat → Int32 → eH → Option ((Unit ⊕ Nat) × eH)} {RE : Int → fS → Option ((Unit ⊕ Nat) × fS)} {rN : Nat → eH → Option ((Int32 ⊕ Nat) × eH)} {RN : fS → Option ((Int ⊕ Nat) × fS)} {q : (Unit ⊕ Nat) × fS} (hrE : ∀ {φ : Nat → Nat} {h : eH} {s : fS} {x1' : Int32} {x1 : Int} {q}, fC m 3 φ s φ h s → x1' = iI x1 → r32 x1 → RE x1 s = some q → gG m 3 φ s (lT lU) q (rE 22 x1' h)) (hrN : ∀ {φ : Nat → Nat} {h : eH} {s : fS} {q}, fC m 3 φ s φ h s → RN s = some q → gG m 3 φ s (lT lI) q (rN 22 h)) {φ : Nat → Nat} {h : eH} {s : fS} {l1' : Int32} {l1 : Int} {l2' : Int32} {l2 : Int} {l3' : Int32} {l3 : Int} {l4' : Int32} {l4 : Int} {l5' : Int32} {l5 : Int} {l6' : Int32} {l6 : Int} {s1' : Int32} {s1 : Int} (R : fC m b φ0 σo φ h s) (el1 : l1' = iI l1) (rl1 : r32 l1) (el2 : l2' = iI l2) (rl2 : r32 l2) (el3 : l3' = iI l3) (rl3 : r32 l3) (el4 : l4' = iI l4) (rl4 : r32 l4) (el5 : l5' = iI l5) (rl5 : r32 l5) (el6 : l6' = iI l6) (rl6 : r32 l6) (es1 : s1' = iI s1) (rs1 : r32 s1) (hF : FX3_readBox_b193 N RE RN l1 l2 l3 l4 l5 l6 s1 s = some q) : gG m b φ0 σo (lT lU) q (fX3_readBox_b193 N rE rN 4 l1' l2' l3' l4' l5' l6' 5 s1' h) := by
  subst el1; subst el2; subst el3; subst el4; subst el5; subst el6; subst es1
  unfold FX3_readBox_b193 at hF
  unfold fX3_readBox_b193
  refine s_kok R (t_5 R.S) (Nat.le_of_ble_eq_true rfl) ?_
  refine s_tB R (Nat.zero_le _) (fun _ hq => SX4_want (b := 0) (R.rf) rfl rs1 (c_lit 6 6 rfl) ⟨by decide, by decide⟩ hq) hF (fun f2 rv2 h2 x2 σ3 R2 e2 E2 hF => ?_)
  refine s_kok R2 (t_4 R2.S) (Nat.le_of_ble_eq_true rfl) ?_
  refine s_tB R2 (Nat.zero_le _) (fun _ hq => SX3_open (b := 0) (R2.rf) (c_lit 3 3 rfl) ⟨by decide, by decide⟩ hq) hF (fun f4 rv4 h4 x5 σ6 R4 e4 E4 hF => ?_)
  refine s_if (not_congr (i_eq rfl (c_lit 41 41 rfl) rl1 ⟨by decide, by decide⟩)) hF (fun c5 hF => ?_) (fun c5 hF => ?_)
  ·
    exact SX3_readBox_b215 (N := N) (rE := rE) (RE := RE) (rN := rN) (RN := RN) @hrE @hrN R4 rfl rl2 rfl rl3 rfl rl4 rfl rl5 rfl rl6 (c_lit 1 1 rfl) ⟨by decide, by decide⟩ hF
  ·
    exact SX3_readBox_b215 (N := N) (rE := rE) (RE := RE) (rN := rN) (RN := RN) @hrE @hrN R4 rfl rl2 rfl rl3 rfl rl4 rfl rl5 rfl rl6 (c_lit 3 3 rfl) ⟨by decide, by decide⟩ hF
def FX3_readBox_b192 (N : Nat) (RE : Int → fS → Option ((Unit ⊕ Nat) × fS)) (RN : fS → Option ((Int ⊕ Nat) × fS)) (l1 : Int) (l2 : Int) (l3 : Int) (l4 : Int) (l5 : Int) (l6 : Int) (s : fS) : Option ((Unit ⊕ Nat) × fS) :=
  FX3_readBox_b193 N RE RN l1 l2 l3 l4 l5 l6 0 s
theorem SX3_readBox_b192 {m b : Nat} {φ0 : Nat → Nat} {σo : fS} {N : Nat} {rE : Nat → Int32 → eH → Option ((Unit ⊕ Nat) × eH)} {RE : Int → fS → Option ((Unit ⊕ Nat) × fS)} {rN : Nat → eH → Option ((Int32 ⊕ Nat) × eH)} {RN : fS → Option ((Int ⊕ Nat) × fS)} {q : (Unit ⊕ Nat) × fS} (hrE : ∀ {φ : Nat → Nat} {h : eH} {s : fS} {x1' : Int32} {x1 : Int} {q}, fC m 3 φ s φ h s → x1' = iI x1 → r32 x1 → RE x1 s = some q → gG m 3 φ s (lT lU) q (rE 22 x1' h)) (hrN : ∀ {φ : Nat → Nat} {h : eH} {s : fS} {q}, fC m 3 φ s φ h s → RN s = some q → gG m 3 φ s (lT lI) q (rN 22 h)) {φ : Nat → Nat} {h : eH} {s : fS} {l1' : Int32} {l1 : Int} {l2' : Int32} {l2 : Int} {l3' : Int32} {l3 : Int} {l4' : Int32} {l4 : Int} {l5' : Int32} {l5 : Int} {l6' : Int32} {l6 : Int} (R : fC m b φ0 σo φ h s) (el1 : l1' = iI l1) (rl1 : r32 l1) (el2 : l2' = iI l2) (rl2 : r32 l2) (el3 : l3' = iI l3) (rl3 : r32 l3) (el4 : l4' = iI l4) (rl4 : r32 l4) (el5 : l5' = iI l5) (rl5 : r32 l5) (el6 : l6' = iI l6) (rl6 : r32 l6) (hF : FX3_readBox_b192 N RE RN l1 l2 l3 l4 l5 l6 s = some q) : gG m b φ0 σo (lT lU) q (fX3_readBox_b192 N rE rN 4 l1' l2' l3' l4' l5' l6' 5 h) := by
  subst el1; subst el2; subst el3; subst el4; subst el5; subst el6
  unfold FX3_readBox_b192 at hF
  unfold fX3_readBox_b192
  exact SX3_readBox_b193 (N := N) (rE := rE) (RE := RE) (rN := rN) (RN := RN) @hrE @hrN R rfl rl1 rfl rl2 rfl rl3 rfl rl4 rfl rl5 rfl rl6 (c_lit 0 0 rfl) ⟨by decide, by decide⟩ hF
def FX3_readBox_b147 (N : Nat) (RE : Int → fS → Option ((Unit ⊕ Nat) × fS)) (RN : fS → Option ((Int ⊕ Nat) × fS)) (l1 : Int) (l2 : Int) (l3 : Int) (l4 : Int) (l5 : Int) (s0 : Int) (s : fS) : Option ((Unit ⊕ Nat) × fS) :=
  tB (FX3_solid N RE s) fun x2 σ3 =>
  (FX8_kind x2 σ3).bind fun q9 =>
  if ¬ (q9.1 = 3) then
    FX3_readBox_b192 N RE RN l1 l2 l3 l4 l5 s0 q9.2
  else
    (FX8_value x2 q9.2).bind fun q14 =>
    (FX1_category q14.1 q14.2).bind fun q15 =>
    if ¬ (q15.1 = 1) then
      FX3_readBox_b192 N RE RN l1 l2 l3 l4 l5 s0 q15.2
    else
      FX3_readBox_b193 N RE RN l1 l2 l3 l4 l5 s0 1 q15.2
theorem SX3_readBox_b147 {m b : Nat} {φ0 : Nat → Nat} {σo : fS} (hb : 3 ≤ b) {N : Nat} {rE : Nat → Int32 → eH → Option ((Unit ⊕ Nat) × eH)} {RE : Int → fS → Option ((Unit ⊕ Nat) × fS)} {rN : Nat → eH → Option ((Int32 ⊕ Nat) × eH)} {RN : fS → Option ((Int ⊕ Nat) × fS)} {q : (Unit ⊕ Nat) × fS} (hrE : ∀ {φ : Nat → Nat} {h : eH} {s : fS} {x1' : Int32} {x1 : Int} {q}, fC m 3 φ s φ h s → x1' = iI x1 → r32 x1 → RE x1 s = some q → gG m 3 φ s (lT lU) q (rE 22 x1' h)) (hrN : ∀ {φ : Nat → Nat} {h : eH} {s : fS} {q}, fC m 3 φ s φ h s → RN s = some q → gG m 3 φ s (lT lI) q (rN 22 h)) {φ : Nat → Nat} {h : eH} {s : fS} {l1' : Int32} {l1 : Int} {l2' : Int32} {l2 : Int} {l3' : Int32} {l3 : Int} {l4' : Int32} {l4 : Int} {l5' : Int32} {l5 : Int} {s0' : Int32} {s0 : Int} (R : fC m b φ0 σo φ h s) (el1 : l1' = iI l1) (rl1 : r32 l1) (el2 : l2' = iI l2) (rl2 : r32 l2) (el3 : l3' = iI l3) (rl3 : r32 l3) (el4 : l4' = iI l4) (rl4 : r32 l4) (el5 : l5' = iI l5) (rl5 : r32 l5) (es0 : s0' = iI s0) (rs0 : r32 s0) (hF : FX3_readBox_b147 N RE RN l1 l2 l3 l4 l5 s0 s = some q) : gG m b φ0 σo (lT lU) q (fX3_readBox_b147 N rE rN 4 l1' l2' l3' l4' l5' s0' h) := by
  subst el1; subst el2; subst el3; subst el4; subst el5; subst es0
  unfold FX3_readBox_b147 at hF
  unfold fX3_readBox_b147
  refine s_kok R (t_4 R.S) (Nat.le_of_ble_eq_true rfl) ?_
  refine s_tB R hb (fun _ hq => SX3_solid (b := 3) (N := N) (rE := rE) (RE := RE) (Nat.le_of_ble_eq_true rfl) @hrE (R.rf) hq) hF (fun f2 rv2 h2 x2 σ3 R2 e2 E2 hF => ?_)
  refine s_gO R2 (t_4 R2.S) (Nat.le_of_ble_eq_true rfl) rfl (o_4_0 R2.S) ?_
  refine s_gO R2 (t_4 R2.S) (Nat.le_of_ble_eq_true rfl) rfl (o_4_5 R2.S) ?_
  refine s_kok R2 (t_22 R2.S) (Nat.le_of_ble_eq_true rfl) ?_
  refine s_call R2 (Nat.zero_le _) (fun _ hq => SX8_kind (b := 0) (R2.rf) e2.1 e2.2 hq) hF (fun f6 rv6 h6 q9 R6 e6 E6 hF => ?_)
  refine s_if (not_congr (i_eq e6.1 (c_lit 3 3 rfl) e6.2 ⟨by decide, by decide⟩)) hF (fun c7 hF => ?_) (fun c7 hF => ?_)
  ·
    exact SX3_readBox_b192 (N := N) (rE := rE) (RE := RE) (rN := rN) (RN := RN) @hrE @hrN R6 rfl rl1 rfl rl2 rfl rl3 rfl rl4 rfl rl5 rfl rs0 hF
  ·
    refine s_gO R6 (t_4 R6.S) (Nat.le_of_ble_eq_true rfl) rfl (o_4_5 R6.S) ?_
    refine s_kok R6 (t_22 R6.S) (Nat.le_of_ble_eq_true rfl) ?_
    refine s_call R6 (Nat.zero_le _) (fun _ hq => SX8_value (b := 0) (R6.rf) e2.1 e2.2 hq) hF (fun f10 rv10 h10 q14 R10 e10 E10 hF => ?_)
    refine s_call R10 (Nat.zero_le _) (fun _ hq => SX1_category (b := 0) (R10.rf) e10.1 e10.2 hq) hF (fun f11 rv11 h11 q15 R11 e11 E11 hF => ?_)
    refine s_if (not_congr (i_eq e11.1 (c_lit 1 1 rfl) e11.2 ⟨by decide, by decide⟩)) hF (fun c12 hF => ?_) (fun c12 hF => ?_)
    ·
      exact SX3_readBox_b192 (N := N) (rE := rE) (RE := RE) (rN := rN) (RN := RN) @hrE @hrN R11 rfl rl1 rfl rl2 rfl rl3 rfl rl4 rfl rl5 rfl rs0 hF
    ·
      exact SX3_readBox_b193 (N := N) (rE := rE) (RE := RE) (rN := rN) (RN := RN) @hrE @hrN R11 rfl rl1 rfl rl2 rfl rl3 rfl rl4 rfl rl5 rfl rs0 (c_lit 1 1 rfl) ⟨by decide, by decide⟩ hF
def FX3_readBox_b129 (N : Nat) (RE : Int → fS → Option ((Unit ⊕ Nat) × fS)) (RN : fS → Option ((Int ⊕ Nat) × fS)) (l1 : Int) (l2 : Int) (l3 : Int) (l4 : Int) (s0 : Int) (s : fS) : Option ((Unit ⊕ Nat) × fS) :=
  if s0 ≤ 0 then
    FX3_readBox_b147 N RE RN l1 l2 l3 l4 s0 0 s
  else
    tB (FX8_dimension N RE RN s) fun x5 σ6 =>
    FX3_readBox_b147 N RE RN l1 l2 l3 l4 s0 x5 σ6
theorem SX3_readBox_b129 {m b : Nat} {φ0 : Nat → Nat} {σo : fS} (hb : 3 ≤ b) {N : Nat} {rE : Nat → Int32 → eH → Option ((Unit ⊕ Nat) × eH)} {RE : Int → fS → Option ((Unit ⊕ Nat) × fS)} {rN : Nat → eH → Option ((Int32 ⊕ Nat) × eH)} {RN : fS → Option ((Int ⊕ Nat) × fS)} {q : (Unit ⊕ Nat) × fS} (hrE : ∀ {φ : Nat → Nat} {h : eH} {s : fS} {x1' : Int32} {x1 : Int} {q}, fC m 3 φ s φ h s → x1' = iI x1 → r32 x1 → RE x1 s = some q → gG m 3 φ s (lT lU) q (rE 22 x1' h)) (hrN : ∀ {φ : Nat → Nat} {h : eH} {s : fS} {q}, fC m 3 φ s φ h s → RN s = some q → gG m 3 φ s (lT lI) q (rN 22 h)) {φ : Nat → Nat} {h : eH} {s : fS} {l1' : Int32} {l1 : Int} {l2' : Int32} {l2 : Int} {l3' : Int32} {l3 : Int} {l4' : Int32} {l4 : Int} {s0' : Int32} {s0 : Int} (R : fC m b φ0 σo φ h s) (el1 : l1' = iI l1) (rl1 : r32 l1) (el2 : l2' = iI l2) (rl2 : r32 l2) (el3 : l3' = iI l3) (rl3 : r32 l3) (el4 : l4' = iI l4) (rl4 : r32 l4) (es0 : s0' = iI s0) (rs0 : r32 s0) (hF : FX3_readBox_b129 N RE RN l1 l2 l3 l4 s0 s = some q) : gG m b φ0 σo (lT lU) q (fX3_readBox_b129 N rE rN 4 l1' l2' l3' l4' s0' h) := by
  subst el1; subst el2; subst el3; subst el4; subst es0
  unfold FX3_readBox_b129 at hF
  unfold fX3_readBox_b129
  refine s_if (i_le rfl (c_lit 0 0 rfl) rs0 ⟨by decide, by decide⟩) hF (fun c1 hF => ?_) (fun c1 hF => ?_)
  ·
    exact SX3_readBox_b147 (N := N) (rE := rE) (RE := RE) (rN := rN) (RN := RN) hb @hrE @hrN R rfl rl1 rfl rl2 rfl rl3 rfl rl4 rfl rs0 (c_lit 0 0 rfl) ⟨by decide, by decide⟩ hF
  ·
    refine s_gO R (t_4 R.S) (Nat.le_of_ble_eq_true rfl) rfl (o_4_5 R.S) ?_
    refine s_kok R (t_22 R.S) (Nat.le_of_ble_eq_true rfl) ?_
    refine s_tB R hb (fun _ hq => SX8_dimension (b := 3) (N := N) (rE := rE) (RE := RE) (rN := rN) (RN := RN) (Nat.le_of_ble_eq_true rfl) @hrE @hrN (R.rf) hq) hF (fun f4 rv4 h4 x5 σ6 R4 e4 E4 hF => ?_)
    exact SX3_readBox_b147 (N := N) (rE := rE) (RE := RE) (rN := rN) (RN := RN) hb @hrE @hrN R4 rfl rl1 rfl rl2 rfl rl3 rfl rl4 rfl rs0 e4.1 e4.2 hF
def FX3_readBox_b89 (N : Nat) (RE : Int → fS → Option ((Unit ⊕ Nat) × fS)) (RN : fS → Option ((Int ⊕ Nat) × fS)) (l1 : Int) (l2 : Int) (l3 : Int) (l4 : Int) (s1 : Int) (s : fS) : Option ((Unit ⊕ Nat) × fS) :=
  tB (FX4_want s1 6 s) fun x2 σ3 =>
  tB (FX8_keyword N RE 1000000117 σ3) fun x7 σ8 =>
  if x7 = 0 then
    tB (FX8_keyword N RE 1000000118 σ8) fun x13 σ14 =>
    if x13 = 0 then
      FX3_readBox_b129 N RE RN l1 l2 l3 l4 0 σ14
    else
      FX3_readBox_b129 N RE RN l1 l2 l3 l4 2 σ14
  else
    FX3_readBox_b129 N RE RN l1 l2 l3 l4 1 σ8
theorem SX3_readBox_b89 {m b : Nat} {φ0 : Nat → Nat} {σo : fS} (hb : 3 ≤ b) {N : Nat} {rE : Nat → Int32 → eH → Option ((Unit ⊕ Nat) × eH)} {RE : Int → fS → Option ((Unit ⊕ Nat) × fS)} {rN : Nat → eH → Option ((Int32 ⊕ Nat) × eH)} {RN : fS → Option ((Int ⊕ Nat) × fS)} {q : (Unit ⊕ Nat) × fS} (hrE : ∀ {φ : Nat → Nat} {h : eH} {s : fS} {x1' : Int32} {x1 : Int} {q}, fC m 3 φ s φ h s → x1' = iI x1 → r32 x1 → RE x1 s = some q → gG m 3 φ s (lT lU) q (rE 22 x1' h)) (hrN : ∀ {φ : Nat → Nat} {h : eH} {s : fS} {q}, fC m 3 φ s φ h s → RN s = some q → gG m 3 φ s (lT lI) q (rN 22 h)) {φ : Nat → Nat} {h : eH} {s : fS} {l1' : Int32} {l1 : Int} {l2' : Int32} {l2 : Int} {l3' : Int32} {l3 : Int} {l4' : Int32} {l4 : Int} {s1' : Int32} {s1 : Int} (R : fC m b φ0 σo φ h s) (el1 : l1' = iI l1) (rl1 : r32 l1) (el2 : l2' = iI l2) (rl2 : r32 l2) (el3 : l3' = iI l3) (rl3 : r32 l3) (el4 : l4' = iI l4) (rl4 : r32 l4) (es1 : s1' = iI s1) (rs1 : r32 s1) (hF : FX3_readBox_b89 N RE RN l1 l2 l3 l4 s1 s = some q) : gG m b φ0 σo (lT lU) q (fX3_readBox_b89 N rE rN 4 l1' l2' l3' l4' 5 s1' h) := by
  subst el1; subst el2; subst el3; subst el4; subst es1
  unfold FX3_readBox_b89 at hF
  unfold fX3_readBox_b89
  refine s_kok R (t_5 R.S) (Nat.le_of_ble_eq_true rfl) ?_
  refine s_tB R (Nat.zero_le _) (fun _ hq => SX4_want (b := 0) (R.rf) rfl rs1 (c_lit 6 6 rfl) ⟨by decide, by decide⟩ hq) hF (fun f2 rv2 h2 x2 σ3 R2 e2 E2 hF => ?_)
  refine s_gO R2 (t_4 R2.S) (Nat.le_of_ble_eq_true rfl) rfl (o_4_5 R2.S) ?_
  refine s_kok R2 (t_22 R2.S) (Nat.le_of_ble_eq_true rfl) ?_
  refine s_tB R2 hb (fun _ hq => SX8_keyword (b := 3) (N := N) (rE := rE) (RE := RE) (Nat.le_of_ble_eq_true rfl) @hrE (R2.rf) hq) hF (fun f5 rv5 h5 x7 σ8 R5 e5 E5 hF => ?_)
  refine s_if (i_eq e5.1 (c_lit 0 0 rfl) e5.2 ⟨by decide, by decide⟩) hF (fun c6 hF => ?_) (fun c6 hF => ?_)
  ·
    refine s_gO R5 (t_4 R5.S) (Nat.le_of_ble_eq_true rfl) rfl (o_4_5 R5.S) ?_
    refine s_kok R5 (t_22 R5.S) (Nat.le_of_ble_eq_true rfl) ?_
    refine s_tB R5 hb (fun _ hq => SX8_keyword (b := 3) (N := N) (rE := rE) (RE := RE) (Nat.le_of_ble_eq_true rfl) @hrE (R5.rf) hq) hF (fun f9 rv9 h9 x13 σ14 R9 e9 E9 hF => ?_)
    refine s_if (i_eq e9.1 (c_lit 0 0 rfl) e9.2 ⟨by decide, by decide⟩) hF (fun c10 hF => ?_) (fun c10 hF => ?_)
    ·
      exact SX3_readBox_b129 (N := N) (rE := rE) (RE := RE) (rN := rN) (RN := RN) hb @hrE @hrN R9 rfl rl1 rfl rl2 rfl rl3 rfl rl4 (c_lit 0 0 rfl) ⟨by decide, by decide⟩ hF
    ·
      exact SX3_readBox_b129 (N := N) (rE := rE) (RE := RE) (rN := rN) (RN := RN) hb @hrE @hrN R9 rfl rl1 rfl rl2 rfl rl3 rfl rl4 (c_lit 2 2 rfl) ⟨by decide, by decide⟩ hF
  ·
    exact SX3_readBox_b129 (N := N) (rE := rE) (RE := RE) (rN := rN) (RN := RN) hb @hrE @hrN R5 rfl rl1 rfl rl2 rfl rl3 rfl rl4 (c_lit 1 1 rfl) ⟨by decide, by decide⟩ hF
def FX3_readBox_b84 (N : Nat) (RE : Int → fS → Option ((Unit ⊕ Nat) × fS)) (RN : fS → Option ((Int ⊕ Nat) × fS)) (l1 : Int) (l2 : Int) (l3 : Int) (l4 : Int) (s : fS) : Option ((Unit ⊕ Nat) × fS) :=
  FX3_readBox_b89 N RE RN l1 l2 l3 l4 1 s
theorem SX3_readBox_b84 {m b : Nat} {φ0 : Nat → Nat} {σo : fS} (hb : 3 ≤ b) {N : Nat} {rE : Nat → Int32 → eH → Option ((Unit ⊕ Nat) × eH)} {RE : Int → fS → Option ((Unit ⊕ Nat) × fS)} {rN : Nat → eH → Option ((Int32 ⊕ Nat) × eH)} {RN : fS → Option ((Int ⊕ Nat) × fS)} {q : (Unit ⊕ Nat) × fS} (hrE : ∀ {φ : Nat → Nat} {h : eH} {s : fS} {x1' : Int32} {x1 : Int} {q}, fC m 3 φ s φ h s → x1' = iI x1 → r32 x1 → RE x1 s = some q → gG m 3 φ s (lT lU) q (rE 22 x1' h)) (hrN : ∀ {φ : Nat → Nat} {h : eH} {s : fS} {q}, fC m 3 φ s φ h s → RN s = some q → gG m 3 φ s (lT lI) q (rN 22 h)) {φ : Nat → Nat} {h : eH} {s : fS} {l1' : Int32} {l1 : Int} {l2' : Int32} {l2 : Int} {l3' : Int32} {l3 : Int} {l4' : Int32} {l4 : Int} (R : fC m b φ0 σo φ h s) (el1 : l1' = iI l1) (rl1 : r32 l1) (el2 : l2' = iI l2) (rl2 : r32 l2) (el3 : l3' = iI l3) (rl3 : r32 l3) (el4 : l4' = iI l4) (rl4 : r32 l4) (hF : FX3_readBox_b84 N RE RN l1 l2 l3 l4 s = some q) : gG m b φ0 σo (lT lU) q (fX3_readBox_b84 N rE rN 4 l1' l2' l3' l4' 5 h) := by
  subst el1; subst el2; subst el3; subst el4
  unfold FX3_readBox_b84 at hF
  unfold fX3_readBox_b84
  exact SX3_readBox_b89 (N := N) (rE := rE) (RE := RE) (rN := rN) (RN := RN) hb @hrE @hrN R rfl rl1 rfl rl2 rfl rl3 rfl rl4 (c_lit 1 1 rfl) ⟨by decide, by decide⟩ hF
def FX3_readBox (N : Nat) (RE : Int → fS → Option ((Unit ⊕ Nat) × fS)) (RN : fS → Option ((Int ⊕ Nat) × fS)) (p0 : Int) (p1 : Int) (p2 : Int) (p3 : Int) (s : fS) : Option ((Unit ⊕ Nat) × fS) :=
  if p0 = 43 then
    FX3_readBox_b12 N RE RN p0 p1 p2 p3 s
  else
    if ¬ (p0 = 44) then
      if p0 = 41 then
        FX3_readBox_b84 N RE RN p0 p1 p2 p3 s
      else
        if ¬ (p0 = 42) then
          FX3_readBox_b89 N RE RN p0 p1 p2 p3 0 s
        else
          FX3_readBox_b84 N RE RN p0 p1 p2 p3 s
    else
      FX3_readBox_b12 N RE RN p0 p1 p2 p3 s
theorem SX3_readBox {m b : Nat} {φ0 : Nat → Nat} {σo : fS} (hb : 3 ≤ b) {N : Nat} {rE : Nat → Int32 → eH → Option ((Unit ⊕ Nat) × eH)} {RE : Int → fS → Option ((Unit ⊕ Nat) × fS)} {rN : Nat → eH → Option ((Int32 ⊕ Nat) × eH)} {RN : fS → Option ((Int ⊕ Nat) × fS)} {q : (Unit ⊕ Nat) × fS} (hrE : ∀ {φ : Nat → Nat} {h : eH} {s : fS} {x1' : Int32} {x1 : Int} {q}, fC m 3 φ s φ h s → x1' = iI x1 → r32 x1 → RE x1 s = some q → gG m 3 φ s (lT lU) q (rE 22 x1' h)) (hrN : ∀ {φ : Nat → Nat} {h : eH} {s : fS} {q}, fC m 3 φ s φ h s → RN s = some q → gG m 3 φ s (lT lI) q (rN 22 h)) {φ : Nat → Nat} {h : eH} {s : fS} {p0' : Int32} {p0 : Int} {p1' : Int32} {p1 : Int} {p2' : Int32} {p2 : Int} {p3' : Int32} {p3 : Int} (R : fC m b φ0 σo φ h s) (ep0 : p0' = iI p0) (rp0 : r32 p0) (ep1 : p1' = iI p1) (rp1 : r32 p1) (ep2 : p2' = iI p2) (rp2 : r32 p2) (ep3 : p3' = iI p3) (rp3 : r32 p3) (hF : FX3_readBox N RE RN p0 p1 p2 p3 s = some q) : gG m b φ0 σo (lT lU) q (fX3_readBox N rE rN 4 p0' p1' p2' p3' h) := by
  subst ep0; subst ep1; subst ep2; subst ep3
  unfold FX3_readBox at hF
  unfold fX3_readBox
  refine s_if (i_eq rfl (c_lit 43 43 rfl) rp0 ⟨by decide, by decide⟩) hF (fun c1 hF => ?_) (fun c1 hF => ?_)
  ·
    exact SX3_readBox_b12 (N := N) (rE := rE) (RE := RE) (rN := rN) (RN := RN) hb @hrE @hrN R rfl rp0 rfl rp1 rfl rp2 rfl rp3 hF
  ·
    refine s_if (not_congr (i_eq rfl (c_lit 44 44 rfl) rp0 ⟨by decide, by decide⟩)) hF (fun c2 hF => ?_) (fun c2 hF => ?_)
    ·
      refine s_gO R (t_4 R.S) (Nat.le_of_ble_eq_true rfl) rfl (o_4_0 R.S) ?_
      refine s_if (i_eq rfl (c_lit 41 41 rfl) rp0 ⟨by decide, by decide⟩) hF (fun c4 hF => ?_) (fun c4 hF => ?_)
      ·
        exact SX3_readBox_b84 (N := N) (rE := rE) (RE := RE) (rN := rN) (RN := RN) hb @hrE @hrN R rfl rp0 rfl rp1 rfl rp2 rfl rp3 hF
      ·
        refine s_if (not_congr (i_eq rfl (c_lit 42 42 rfl) rp0 ⟨by decide, by decide⟩)) hF (fun c5 hF => ?_) (fun c5 hF => ?_)
        ·
          exact SX3_readBox_b89 (N := N) (rE := rE) (RE := RE) (rN := rN) (RN := RN) hb @hrE @hrN R rfl rp0 rfl rp1 rfl rp2 rfl rp3 (c_lit 0 0 rfl) ⟨by decide, by decide⟩ hF
        ·
          exact SX3_readBox_b84 (N := N) (rE := rE) (RE := RE) (rN := rN) (RN := RN) hb @hrE @hrN R rfl rp0 rfl rp1 rfl rp2 rfl rp3 hF
    ·
      exact SX3_readBox_b12 (N := N) (rE := rE) (RE := RE) (rN := rN) (RN := RN) hb @hrE @hrN R rfl rp0 rfl rp1 rfl rp2 rfl rp3 hF
def FX8_set_b86 (N : Nat) (RE : Int → fS → Option ((Unit ⊕ Nat) × fS)) (RN : fS → Option ((Int ⊕ Nat) × fS)) (s : fS) : Option ((Unit ⊕ Nat) × fS) :=
  some (.inl (), s)
theorem SX8_set_b86 {m b : Nat} {φ0 : Nat → Nat} {σo : fS} {N : Nat} {rE : Nat → Int32 → eH → Option ((Unit ⊕ Nat) × eH)} {RE : Int → fS → Option ((Unit ⊕ Nat) × fS)} {rN : Nat → eH → Option ((Int32 ⊕ Nat) × eH)} {RN : fS → Option ((Int ⊕ Nat) × fS)} {q : (Unit ⊕ Nat) × fS} (hrE : ∀ {φ : Nat → Nat} {h : eH} {s : fS} {x1' : Int32} {x1 : Int} {q}, fC m 3 φ s φ h s → x1' = iI x1 → r32 x1 → RE x1 s = some q → gG m 3 φ s (lT lU) q (rE 22 x1' h)) (hrN : ∀ {φ : Nat → Nat} {h : eH} {s : fS} {q}, fC m 3 φ s φ h s → RN s = some q → gG m 3 φ s (lT lI) q (rN 22 h)) {φ : Nat → Nat} {h : eH} {s : fS} (R : fC m b φ0 σo φ h s) (hF : FX8_set_b86 N RE RN s = some q) : gG m b φ0 σo (lT lU) q (fX8_set_b86 N rE rN h) := by
  unfold FX8_set_b86 at hF
  unfold fX8_set_b86
  exact g_ret R hF trivial
def FX8_set (N : Nat) (RE : Int → fS → Option ((Unit ⊕ Nat) × fS)) (RN : fS → Option ((Int ⊕ Nat) × fS)) (p0 : Int) (p1 : Int) (s : fS) : Option ((Unit ⊕ Nat) × fS) :=
  (FX8_isCounter p0 s).bind fun q1 =>
  if q1.1 = 0 then
    (FX8_isLength p0 q1.2).bind fun q3 =>
    if q3.1 = 0 then
      tB (FX8_cellOf RN p0 q3.2) fun x6 σ7 =>
      tB (FX8_equals N RE σ7) fun x9 σ10 =>
      tB (FX8_glue N RE RN σ10) fun x12 σ13 =>
      (FX8_setGlue N x6 p1 σ13).bind fun q15 =>
      FX8_set_b86 N RE RN q15.2
    else
      tB (FX8_cellOf RN p0 q3.2) fun x17 σ18 =>
      tB (FX8_equals N RE σ18) fun x20 σ21 =>
      tB (FX8_dimension N RE RN σ21) fun x25 σ26 =>
      (FX9_set N x17 x25 p1 σ26).bind fun q28 =>
      FX8_set_b86 N RE RN q28.2
  else
    tB (FX8_cellOf RN p0 q1.2) fun x30 σ31 =>
    tB (FX8_equals N RE σ31) fun x33 σ34 =>
    tB (RN σ34) fun x38 σ39 =>
    (FX9_set N x30 x38 p1 σ39).bind fun q41 =>
    FX8_set_b86 N RE RN q41.2
theorem SX8_set {m b : Nat} {φ0 : Nat → Nat} {σo : fS} (hb : 3 ≤ b) {N : Nat} {rE : Nat → Int32 → eH → Option ((Unit ⊕ Nat) × eH)} {RE : Int → fS → Option ((Unit ⊕ Nat) × fS)} {rN : Nat → eH → Option ((Int32 ⊕ Nat) × eH)} {RN : fS → Option ((Int ⊕ Nat) × fS)} {q : (Unit ⊕ Nat) × fS} (hrE : ∀ {φ : Nat → Nat} {h : eH} {s : fS} {x1' : Int32} {x1 : Int} {q}, fC m 3 φ s φ h s → x1' = iI x1 → r32 x1 → RE x1 s = some q → gG m 3 φ s (lT lU) q (rE 22 x1' h)) (hrN : ∀ {φ : Nat → Nat} {h : eH} {s : fS} {q}, fC m 3 φ s φ h s → RN s = some q → gG m 3 φ s (lT lI) q (rN 22 h)) {φ : Nat → Nat} {h : eH} {s : fS} {p0' : Int32} {p0 : Int} {p1' : Int32} {p1 : Int} (R : fC m b φ0 σo φ h s) (ep0 : p0' = iI p0) (rp0 : r32 p0) (ep1 : p1' = iI p1) (rp1 : r32 p1) (hF : FX8_set N RE RN p0 p1 s = some q) : gG m b φ0 σo (lT lU) q (fX8_set N rE rN 22 p0' p1' h) := by
  subst ep0; subst ep1
  unfold FX8_set at hF
  unfold fX8_set
  refine s_call R (Nat.zero_le _) (fun _ hq => SX8_isCounter (b := 0) (R.rf) rfl rp0 hq) hF (fun f1 rv1 h1 q1 R1 e1 E1 hF => ?_)
  refine s_if (i_eq e1.1 (c_lit 0 0 rfl) e1.2 ⟨by decide, by decide⟩) hF (fun c2 hF => ?_) (fun c2 hF => ?_)
  ·
    refine s_call R1 (Nat.zero_le _) (fun _ hq => SX8_isLength (b := 0) (R1.rf) rfl rp0 hq) hF (fun f3 rv3 h3 q3 R3 e3 E3 hF => ?_)
    refine s_if (i_eq e3.1 (c_lit 0 0 rfl) e3.2 ⟨by decide, by decide⟩) hF (fun c4 hF => ?_) (fun c4 hF => ?_)
    ·
      refine s_kok R3 (t_22 R3.S) (Nat.le_of_ble_eq_true rfl) ?_
      refine s_tB R3 hb (fun _ hq => SX8_cellOf (b := 3) (rN := rN) (RN := RN) (Nat.le_of_ble_eq_true rfl) @hrN (R3.rf) rfl rp0 hq) hF (fun f6 rv6 h6 x6 σ7 R6 e6 E6 hF => ?_)
      refine s_kok R6 (t_22 R6.S) (Nat.le_of_ble_eq_true rfl) ?_
      refine s_tB R6 hb (fun _ hq => SX8_equals (b := 3) (N := N) (rE := rE) (RE := RE) (Nat.le_of_ble_eq_true rfl) @hrE (R6.rf) hq) hF (fun f8 rv8 h8 x9 σ10 R8 e8 E8 hF => ?_)
      refine s_kok R8 (t_22 R8.S) (Nat.le_of_ble_eq_true rfl) ?_
      refine s_tB R8 hb (fun _ hq => SX8_glue (b := 3) (N := N) (rE := rE) (RE := RE) (rN := rN) (RN := RN) (Nat.le_of_ble_eq_true rfl) @hrE @hrN (R8.rf) hq) hF (fun f10 rv10 h10 x12 σ13 R10 e10 E10 hF => ?_)
      refine s_kok R10 (t_22 R10.S) (Nat.le_of_ble_eq_true rfl) ?_
      refine s_call R10 (Nat.le_trans (Nat.le_of_ble_eq_true rfl) hb) (fun _ hq => SX8_setGlue (b := 1) (N := N) (Nat.le_of_ble_eq_true rfl) (R10.rf) e6.1 e6.2 rfl rp1 hq) hF (fun f12 rv12 h12 q15 R12 e12 E12 hF => ?_)
      exact SX8_set_b86 (N := N) (rE := rE) (RE := RE) (rN := rN) (RN := RN) @hrE @hrN R12 hF
    ·
      refine s_kok R3 (t_22 R3.S) (Nat.le_of_ble_eq_true rfl) ?_
      refine s_tB R3 hb (fun _ hq => SX8_cellOf (b := 3) (rN := rN) (RN := RN) (Nat.le_of_ble_eq_true rfl) @hrN (R3.rf) rfl rp0 hq) hF (fun f14 rv14 h14 x17 σ18 R14 e14 E14 hF => ?_)
      refine s_kok R14 (t_22 R14.S) (Nat.le_of_ble_eq_true rfl) ?_
      refine s_tB R14 hb (fun _ hq => SX8_equals (b := 3) (N := N) (rE := rE) (RE := RE) (Nat.le_of_ble_eq_true rfl) @hrE (R14.rf) hq) hF (fun f16 rv16 h16 x20 σ21 R16 e16 E16 hF => ?_)
      refine s_gO R16 (t_22 R16.S) (Nat.le_of_ble_eq_true rfl) rfl (o_22_4 R16.S) ?_
      refine s_kok R16 (t_22 R16.S) (Nat.le_of_ble_eq_true rfl) ?_
      refine s_tB R16 hb (fun _ hq => SX8_dimension (b := 3) (N := N) (rE := rE) (RE := RE) (rN := rN) (RN := RN) (Nat.le_of_ble_eq_true rfl) @hrE @hrN (R16.rf) hq) hF (fun f19 rv19 h19 x25 σ26 R19 e19 E19 hF => ?_)
      refine s_kok R19 (t_23 R19.S) (Nat.le_of_ble_eq_true rfl) ?_
      refine s_call R19 (Nat.le_trans (Nat.le_of_ble_eq_true rfl) hb) (fun _ hq => SX9_set (b := 1) (N := N) (Nat.le_of_ble_eq_true rfl) (R19.rf) e14.1 e14.2 e19.1 e19.2 rfl rp1 hq) hF (fun f21 rv21 h21 q28 R21 e21 E21 hF => ?_)
      exact SX8_set_b86 (N := N) (rE := rE) (RE := RE) (rN := rN) (RN := RN) @hrE @hrN R21 hF
  ·
    refine s_kok R1 (t_22 R1.S) (Nat.le_of_ble_eq_true rfl) ?_
    refine s_tB R1 hb (fun _ hq => SX8_cellOf (b := 3) (rN := rN) (RN := RN) (Nat.le_of_ble_eq_true rfl) @hrN (R1.rf) rfl rp0 hq) hF (fun f23 rv23 h23 x30 σ31 R23 e23 E23 hF => ?_)
    refine s_kok R23 (t_22 R23.S) (Nat.le_of_ble_eq_true rfl) ?_
    refine s_tB R23 hb (fun _ hq => SX8_equals (b := 3) (N := N) (rE := rE) (RE := RE) (Nat.le_of_ble_eq_true rfl) @hrE (R23.rf) hq) hF (fun f25 rv25 h25 x33 σ34 R25 e25 E25 hF => ?_)
    refine s_gO R25 (t_22 R25.S) (Nat.le_of_ble_eq_true rfl) rfl (o_22_4 R25.S) ?_
    refine s_kok R25 (t_22 R25.S) (Nat.le_of_ble_eq_true rfl) ?_
    refine s_tB R25 hb (fun _ hq => hrN (R25.rf)  hq) hF (fun f28 rv28 h28 x38 σ39 R28 e28 E28 hF => ?_)
    refine s_kok R28 (t_23 R28.S) (Nat.le_of_ble_eq_true rfl) ?_
    refine s_call R28 (Nat.le_trans (Nat.le_of_ble_eq_true rfl) hb) (fun _ hq => SX9_set (b := 1) (N := N) (Nat.le_of_ble_eq_true rfl) (R28.rf) e23.1 e23.2 e28.1 e28.2 rfl rp1 hq) hF (fun f30 rv30 h30 q41 R30 e30 E30 hF => ?_)
    exact SX8_set_b86 (N := N) (rE := rE) (RE := RE) (rN := rN) (RN := RN) @hrE @hrN R30 hF
def FX12_open_b24 (s1 : Int) (s : fS) : Option ((Unit ⊕ Nat) × fS) :=
  tB (FX4_want s1 2 s) fun x2 σ3 =>
  (FX1_grown 54 (iadd (σ3.i 52 7) 1) σ3).bind fun q8 =>
  (uMV q8.2 54 q8.1).bind fun σ9 =>
  (FX1_grown 55 (iadd (σ9.i 52 7) 1) σ9).bind fun q15 =>
  (uMV q15.2 55 q15.1).bind fun σ16 =>
  (FX1_grown 56 (iadd (σ16.i 52 7) 1) σ16).bind fun q22 =>
  (uMV q22.2 56 q22.1).bind fun σ23 =>
  (FX1_grown 57 (iadd (σ23.i 52 7) 1) σ23).bind fun q29 =>
  (uMV q29.2 57 q29.1).bind fun σ30 =>
  (uQI σ30 54 (σ30.i 52 7) (σ30.i 52 2)).bind fun σ38 =>
  some (.inl (), σ38)
theorem SX12_open_b24 {m b : Nat} {φ0 : Nat → Nat} {σo : fS} (hb : 1 ≤ b) {q : (Unit ⊕ Nat) × fS} {φ : Nat → Nat} {h : eH} {s : fS} {s1' : Int32} {s1 : Int} (R : fC m b φ0 σo φ h s) (es1 : s1' = iI s1) (rs1 : r32 s1) (hF : FX12_open_b24 s1 s = some q) : gG m b φ0 σo (lT lU) q (fX12_open_b24 52 5 s1' h) := by
  subst es1
  unfold FX12_open_b24 at hF
  unfold fX12_open_b24
  refine s_kok R (t_5 R.S) (Nat.le_of_ble_eq_true rfl) ?_
  refine s_tB R (Nat.zero_le _) (fun _ hq => SX4_want (b := 0) (R.rf) rfl rs1 (c_lit 2 2 rfl) ⟨by decide, by decide⟩ hq) hF (fun f2 rv2 h2 x2 σ3 R2 e2 E2 hF => ?_)
  refine s_gA R2 (t_52 R2.S) (Nat.le_of_ble_eq_true rfl) rfl (o_52_3 R2.S) (fun _ _ => ?_)
  refine s_gI R2 (t_52 R2.S) (Nat.le_of_ble_eq_true rfl) rfl ?_
  refine s_call R2 (Nat.zero_le _) (fun _ hq => SX1_grown (b := 0) (R2.rf) rfl (u_54 R2.S).1 (c_add rfl (c_lit 1 1 rfl)) (rr_I _) hq) hF (fun f5 rv5 h5 q8 R5 e5 E5 hF => ?_)
  refine s_mv R5 (t_52 R5.S) (Nat.le_of_ble_eq_true rfl) rfl (o_52_3 R5.S) (by decide) (f_mv_1 hb (by decide) (by decide)) e5 hF (fun f6 h6 σ9 R6 E6 K6 hF => ?_)
  refine s_gA R6 (t_52 R6.S) (Nat.le_of_ble_eq_true rfl) rfl (o_52_4 R6.S) (fun _ _ => ?_)
  refine s_gI R6 (t_52 R6.S) (Nat.le_of_ble_eq_true rfl) rfl ?_
  refine s_call R6 (Nat.zero_le _) (fun _ hq => SX1_grown (b := 0) (R6.rf) rfl (u_55 R6.S).1 (c_add rfl (c_lit 1 1 rfl)) (rr_I _) hq) hF (fun f9 rv9 h9 q15 R9 e9 E9 hF => ?_)
  refine s_mv R9 (t_52 R9.S) (Nat.le_of_ble_eq_true rfl) rfl (o_52_4 R9.S) (by decide) (f_mv_1 hb (by decide) (by decide)) e9 hF (fun f10 h10 σ16 R10 E10 K10 hF => ?_)
  refine s_gA R10 (t_52 R10.S) (Nat.le_of_ble_eq_true rfl) rfl (o_52_5 R10.S) (fun _ _ => ?_)
  refine s_gI R10 (t_52 R10.S) (Nat.le_of_ble_eq_true rfl) rfl ?_
  refine s_call R10 (Nat.zero_le _) (fun _ hq => SX1_grown (b := 0) (R10.rf) rfl (u_56 R10.S).1 (c_add rfl (c_lit 1 1 rfl)) (rr_I _) hq) hF (fun f13 rv13 h13 q22 R13 e13 E13 hF => ?_)
  refine s_mv R13 (t_52 R13.S) (Nat.le_of_ble_eq_true rfl) rfl (o_52_5 R13.S) (by decide) (f_mv_1 hb (by decide) (by decide)) e13 hF (fun f14 h14 σ23 R14 E14 K14 hF => ?_)
  refine s_gA R14 (t_52 R14.S) (Nat.le_of_ble_eq_true rfl) rfl (o_52_6 R14.S) (fun _ _ => ?_)
  refine s_gI R14 (t_52 R14.S) (Nat.le_of_ble_eq_true rfl) rfl ?_
  refine s_call R14 (Nat.zero_le _) (fun _ hq => SX1_grown (b := 0) (R14.rf) rfl (u_57 R14.S).1 (c_add rfl (c_lit 1 1 rfl)) (rr_I _) hq) hF (fun f17 rv17 h17 q29 R17 e17 E17 hF => ?_)
  refine s_mv R17 (t_52 R17.S) (Nat.le_of_ble_eq_true rfl) rfl (o_52_6 R17.S) (by decide) (f_mv_1 hb (by decide) (by decide)) e17 hF (fun f18 h18 σ30 R18 E18 K18 hF => ?_)
  refine s_gA R18 (t_52 R18.S) (Nat.le_of_ble_eq_true rfl) rfl (o_52_3 R18.S) (fun _ _ => ?_)
  refine s_gI R18 (t_52 R18.S) (Nat.le_of_ble_eq_true rfl) rfl ?_
  refine s_gI R18 (t_52 R18.S) (Nat.le_of_ble_eq_true rfl) rfl ?_
  refine s_qI R18 (u_54 R18.S).1 (u_54 R18.S).2 (by decide) rfl rfl (R18.ri (t_52 R18.S) (Nat.le_of_ble_eq_true rfl) rfl) rfl (R18.ri (t_52 R18.S) (Nat.le_of_ble_eq_true rfl) rfl) hF (fun h22 σ38 R22 T22 hF => ?_)
  exact g_ret R22 hF trivial
def FX12_open (s : fS) : Option ((Unit ⊕ Nat) × fS) :=
  if 10000 ≤ (iadd (s.i 52 2) (s.i 52 7)) then
    FX12_open_b24 0 s
  else
    FX12_open_b24 1 s
theorem SX12_open {m b : Nat} {φ0 : Nat → Nat} {σo : fS} (hb : 1 ≤ b) {q : (Unit ⊕ Nat) × fS} {φ : Nat → Nat} {h : eH} {s : fS} (R : fC m b φ0 σo φ h s) (hF : FX12_open s = some q) : gG m b φ0 σo (lT lU) q (fX12_open 52 h) := by
  unfold FX12_open at hF
  unfold fX12_open
  refine s_gO R (t_52 R.S) (Nat.le_of_ble_eq_true rfl) rfl (o_52_0 R.S) ?_
  refine s_gI R (t_52 R.S) (Nat.le_of_ble_eq_true rfl) rfl ?_
  refine s_gI R (t_52 R.S) (Nat.le_of_ble_eq_true rfl) rfl ?_
  refine s_if (i_le (c_lit 10000 10000 rfl) (c_add rfl rfl) ⟨by decide, by decide⟩ (rr_I _)) hF (fun c4 hF => ?_) (fun c4 hF => ?_)
  ·
    exact SX12_open_b24 hb R (c_lit 0 0 rfl) ⟨by decide, by decide⟩ hF
  ·
    exact SX12_open_b24 hb R (c_lit 1 1 rfl) ⟨by decide, by decide⟩ hF
def FX12_add_b26 (l1 : Int) (s1 : Int) (s : fS) : Option ((Unit ⊕ Nat) × fS) :=
  tB (FX4_want s1 2 s) fun x2 σ3 =>
  (uPI σ3 52 2 (iadd (σ3.i 52 2) 1)).bind fun σ8 =>
  (uQI σ8 53 (σ3.i 52 2) l1).bind fun σ10 =>
  some (.inl (), σ10)
theorem SX12_add_b26 {m b : Nat} {φ0 : Nat → Nat} {σo : fS} {q : (Unit ⊕ Nat) × fS} {φ : Nat → Nat} {h : eH} {s : fS} {l1' : Int32} {l1 : Int} {s1' : Int32} {s1 : Int} (R : fC m b φ0 σo φ h s) (el1 : l1' = iI l1) (rl1 : r32 l1) (es1 : s1' = iI s1) (rs1 : r32 s1) (hF : FX12_add_b26 l1 s1 s = some q) : gG m b φ0 σo (lT lU) q (fX12_add_b26 52 l1' 5 s1' h) := by
  subst el1; subst es1
  unfold FX12_add_b26 at hF
  unfold fX12_add_b26
  refine s_kok R (t_5 R.S) (Nat.le_of_ble_eq_true rfl) ?_
  refine s_tB R (Nat.zero_le _) (fun _ hq => SX4_want (b := 0) (R.rf) rfl rs1 (c_lit 2 2 rfl) ⟨by decide, by decide⟩ hq) hF (fun f2 rv2 h2 x2 σ3 R2 e2 E2 hF => ?_)
  refine s_gAs R2 (t_52 R2.S) (Nat.le_of_ble_eq_true rfl) rfl (o_52_1 R2.S) (a_53 R2) ?_
  refine s_gI R2 (t_52 R2.S) (Nat.le_of_ble_eq_true rfl) rfl ?_
  refine s_pI R2 (t_52 R2.S) (Nat.le_of_ble_eq_true rfl) rfl (c_add rfl (c_lit 1 1 rfl)) (rr_I _) hF (fun h5 σ8 R5 T5 hF => ?_)
  refine s_qI R5 (u_53 R5.S).1 (u_53 R5.S).2 (by decide) (a_53 R5) rfl (R2.ri (t_52 R2.S) (Nat.le_of_ble_eq_true rfl) rfl) rfl rl1 hF (fun h6 σ10 R6 T6 hF => ?_)
  exact g_ret R6 hF trivial
def FX12_add (p0 : Int) (s : fS) : Option ((Unit ⊕ Nat) × fS) :=
  if 10000 ≤ (iadd (iadd (s.i 52 2) (s.i 52 7)) 1) then
    FX12_add_b26 p0 0 s
  else
    FX12_add_b26 p0 1 s
theorem SX12_add {m b : Nat} {φ0 : Nat → Nat} {σo : fS} {q : (Unit ⊕ Nat) × fS} {φ : Nat → Nat} {h : eH} {s : fS} {p0' : Int32} {p0 : Int} (R : fC m b φ0 σo φ h s) (ep0 : p0' = iI p0) (rp0 : r32 p0) (hF : FX12_add p0 s = some q) : gG m b φ0 σo (lT lU) q (fX12_add 52 p0' h) := by
  subst ep0
  unfold FX12_add at hF
  unfold fX12_add
  refine s_gO R (t_52 R.S) (Nat.le_of_ble_eq_true rfl) rfl (o_52_0 R.S) ?_
  refine s_gI R (t_52 R.S) (Nat.le_of_ble_eq_true rfl) rfl ?_
  refine s_gI R (t_52 R.S) (Nat.le_of_ble_eq_true rfl) rfl ?_
  refine s_if (i_le (c_lit 10000 10000 rfl) (c_add (c_add rfl rfl) (c_lit 1 1 rfl)) ⟨by decide, by decide⟩ (rr_I _)) hF (fun c4 hF => ?_) (fun c4 hF => ?_)
  ·
    exact SX12_add_b26 R rfl rp0 (c_lit 0 0 rfl) ⟨by decide, by decide⟩ hF
  ·
    exact SX12_add_b26 R rfl rp0 (c_lit 1 1 rfl) ⟨by decide, by decide⟩ hF
def FX12_body (p0 : Int) (s : fS) : Option (Unit × fS) :=
  (uQI s 57 (s.i 52 7) p0).bind fun σ5 =>
  (uQI σ5 55 (σ5.i 52 7) (σ5.i 52 2)).bind fun σ13 =>
  some ((), σ13)
theorem SX12_body {m b : Nat} {φ0 : Nat → Nat} {σo : fS} {q : Unit × fS} {φ : Nat → Nat} {h : eH} {s : fS} {p0' : Int32} {p0 : Int} (R : fC m b φ0 σo φ h s) (ep0 : p0' = iI p0) (rp0 : r32 p0) (hF : FX12_body p0 s = some q) : gG m b φ0 σo lU q (fX12_body 52 p0' h) := by
  subst ep0
  unfold FX12_body at hF
  unfold fX12_body
  refine s_gA R (t_52 R.S) (Nat.le_of_ble_eq_true rfl) rfl (o_52_6 R.S) (fun _ _ => ?_)
  refine s_gI R (t_52 R.S) (Nat.le_of_ble_eq_true rfl) rfl ?_
  refine s_qI R (u_57 R.S).1 (u_57 R.S).2 (by decide) rfl rfl (R.ri (t_52 R.S) (Nat.le_of_ble_eq_true rfl) rfl) rfl rp0 hF (fun h3 σ5 R3 T3 hF => ?_)
  refine s_gA R3 (t_52 R3.S) (Nat.le_of_ble_eq_true rfl) rfl (o_52_4 R3.S) (fun _ _ => ?_)
  refine s_gI R3 (t_52 R3.S) (Nat.le_of_ble_eq_true rfl) rfl ?_
  refine s_gI R3 (t_52 R3.S) (Nat.le_of_ble_eq_true rfl) rfl ?_
  refine s_qI R3 (u_55 R3.S).1 (u_55 R3.S).2 (by decide) rfl rfl (R3.ri (t_52 R3.S) (Nat.le_of_ble_eq_true rfl) rfl) rfl (R3.ri (t_52 R3.S) (Nat.le_of_ble_eq_true rfl) rfl) hF (fun h7 σ13 R7 T7 hF => ?_)
  exact g_ret R7 hF trivial
def FX8_next_b15 (N : Nat) (RE : Int → fS → Option ((Unit ⊕ Nat) × fS)) (s0 : Int) (s : fS) : Option ((Int ⊕ Nat) × fS) :=
  some (.inl s0, s)
theorem SX8_next_b15 {m b : Nat} {φ0 : Nat → Nat} {σo : fS} {N : Nat} {rE : Nat → Int32 → eH → Option ((Unit ⊕ Nat) × eH)} {RE : Int → fS → Option ((Unit ⊕ Nat) × fS)} {q : (Int ⊕ Nat) × fS} (hrE : ∀ {φ : Nat → Nat} {h : eH} {s : fS} {x1' : Int32} {x1 : Int} {q}, fC m 3 φ s φ h s → x1' = iI x1 → r32 x1 → RE x1 s = some q → gG m 3 φ s (lT lU) q (rE 22 x1' h)) {φ : Nat → Nat} {h : eH} {s : fS} {s0' : Int32} {s0 : Int} (R : fC m b φ0 σo φ h s) (es0 : s0' = iI s0) (rs0 : r32 s0) (hF : FX8_next_b15 N RE s0 s = some q) : gG m b φ0 σo (lT lI) q (fX8_next_b15 N rE s0' h) := by
  subst es0
  unfold FX8_next_b15 at hF
  unfold fX8_next_b15
  exact g_ret R hF ⟨rfl, rs0⟩
def FX8_next (N : Nat) (RE : Int → fS → Option ((Unit ⊕ Nat) × fS)) (p0 : Int) (s : fS) : Option ((Int ⊕ Nat) × fS) :=
  if p0 = 0 then
    tB (FX8_need N s) fun x3 σ4 =>
    FX8_next_b15 N RE x3 σ4
  else
    tB (FX8_needExpanded N RE s) fun x6 σ7 =>
    FX8_next_b15 N RE x6 σ7
theorem SX8_next {m b : Nat} {φ0 : Nat → Nat} {σo : fS} (hb : 3 ≤ b) {N : Nat} {rE : Nat → Int32 → eH → Option ((Unit ⊕ Nat) × eH)} {RE : Int → fS → Option ((Unit ⊕ Nat) × fS)} {q : (Int ⊕ Nat) × fS} (hrE : ∀ {φ : Nat → Nat} {h : eH} {s : fS} {x1' : Int32} {x1 : Int} {q}, fC m 3 φ s φ h s → x1' = iI x1 → r32 x1 → RE x1 s = some q → gG m 3 φ s (lT lU) q (rE 22 x1' h)) {φ : Nat → Nat} {h : eH} {s : fS} {p0' : Int32} {p0 : Int} (R : fC m b φ0 σo φ h s) (ep0 : p0' = iI p0) (rp0 : r32 p0) (hF : FX8_next N RE p0 s = some q) : gG m b φ0 σo (lT lI) q (fX8_next N rE 22 p0' h) := by
  subst ep0
  unfold FX8_next at hF
  unfold fX8_next
  refine s_if (i_eq rfl (c_lit 0 0 rfl) rp0 ⟨by decide, by decide⟩) hF (fun c1 hF => ?_) (fun c1 hF => ?_)
  ·
    refine s_kok R (t_22 R.S) (Nat.le_of_ble_eq_true rfl) ?_
    refine s_tB R (Nat.le_trans (Nat.le_of_ble_eq_true rfl) hb) (fun _ hq => SX8_need (b := 2) (N := N) (Nat.le_of_ble_eq_true rfl) (R.rf) hq) hF (fun f3 rv3 h3 x3 σ4 R3 e3 E3 hF => ?_)
    exact SX8_next_b15 (N := N) (rE := rE) (RE := RE) @hrE R3 e3.1 e3.2 hF
  ·
    refine s_kok R (t_22 R.S) (Nat.le_of_ble_eq_true rfl) ?_
    refine s_tB R hb (fun _ hq => SX8_needExpanded (b := 3) (N := N) (rE := rE) (RE := RE) (Nat.le_of_ble_eq_true rfl) @hrE (R.rf) hq) hF (fun f5 rv5 h5 x6 σ7 R5 e5 E5 hF => ?_)
    exact SX8_next_b15 (N := N) (rE := rE) (RE := RE) @hrE R5 e5.1 e5.2 hF
def FX8_readBody_b168 (N : Nat) (RE : Int → fS → Option ((Unit ⊕ Nat) × fS)) (K2 : Int → Int → Int → fS → Option ((Unit ⊕ Nat) × fS)) (l1 : Int) (l2 : Int) (l3 : Int) (s : fS) : Option ((Unit ⊕ Nat) × fS) :=
  K2 l1 l2 l3 s
theorem SX8_readBody_b168 {m b : Nat} {φ0 : Nat → Nat} {σo : fS} (hb : 3 ≤ b) {N : Nat} {rE : Nat → Int32 → eH → Option ((Unit ⊕ Nat) × eH)} {RE : Int → fS → Option ((Unit ⊕ Nat) × fS)} {k2 : Nat → Int32 → Int32 → Int32 → eH → Option ((Unit ⊕ Nat) × eH)} {K2 : Int → Int → Int → fS → Option ((Unit ⊕ Nat) × fS)} {q : (Unit ⊕ Nat) × fS} (hrE : ∀ {φ : Nat → Nat} {h : eH} {s : fS} {x1' : Int32} {x1 : Int} {q}, fC m 3 φ s φ h s → x1' = iI x1 → r32 x1 → RE x1 s = some q → gG m 3 φ s (lT lU) q (rE 22 x1' h)) (hk2 : ∀ {φ : Nat → Nat} {h : eH} {s : fS} {l1' : Int32} {l1 : Int} {l2' : Int32} {l2 : Int} {l3' : Int32} {l3 : Int}, fC m b φ0 σo φ h s → l1' = iI l1 → r32 l1 → l2' = iI l2 → r32 l2 → l3' = iI l3 → r32 l3 → K2 l1 l2 l3 s = some q → gG m b φ0 σo (lT lU) q (k2 22 l1' l2' l3' h)) {φ : Nat → Nat} {h : eH} {s : fS} {l1' : Int32} {l1 : Int} {l2' : Int32} {l2 : Int} {l3' : Int32} {l3 : Int} (R : fC m b φ0 σo φ h s) (el1 : l1' = iI l1) (rl1 : r32 l1) (el2 : l2' = iI l2) (rl2 : r32 l2) (el3 : l3' = iI l3) (rl3 : r32 l3) (hF : FX8_readBody_b168 N RE K2 l1 l2 l3 s = some q) : gG m b φ0 σo (lT lU) q (fX8_readBody_b168 N rE k2 22 l1' l2' l3' h) := by
  subst el1; subst el2; subst el3
  unfold FX8_readBody_b168 at hF
  unfold fX8_readBody_b168
  exact hk2 R rfl rl1 rfl rl2 rfl rl3 hF
def FX8_readBody_b146 (N : Nat) (RE : Int → fS → Option ((Unit ⊕ Nat) × fS)) (K2 : Int → Int → Int → fS → Option ((Unit ⊕ Nat) × fS)) (l1 : Int) (l2 : Int) (l3 : Int) (s1 : Int) (s : fS) : Option ((Unit ⊕ Nat) × fS) :=
  tB (FX12_add s1 s) fun x2 σ3 =>
  FX8_readBody_b168 N RE K2 l1 l2 l3 σ3
theorem SX8_readBody_b146 {m b : Nat} {φ0 : Nat → Nat} {σo : fS} (hb : 3 ≤ b) {N : Nat} {rE : Nat → Int32 → eH → Option ((Unit ⊕ Nat) × eH)} {RE : Int → fS → Option ((Unit ⊕ Nat) × fS)} {k2 : Nat → Int32 → Int32 → Int32 → eH → Option ((Unit ⊕ Nat) × eH)} {K2 : Int → Int → Int → fS → Option ((Unit ⊕ Nat) × fS)} {q : (Unit ⊕ Nat) × fS} (hrE : ∀ {φ : Nat → Nat} {h : eH} {s : fS} {x1' : Int32} {x1 : Int} {q}, fC m 3 φ s φ h s → x1' = iI x1 → r32 x1 → RE x1 s = some q → gG m 3 φ s (lT lU) q (rE 22 x1' h)) (hk2 : ∀ {φ : Nat → Nat} {h : eH} {s : fS} {l1' : Int32} {l1 : Int} {l2' : Int32} {l2 : Int} {l3' : Int32} {l3 : Int}, fC m b φ0 σo φ h s → l1' = iI l1 → r32 l1 → l2' = iI l2 → r32 l2 → l3' = iI l3 → r32 l3 → K2 l1 l2 l3 s = some q → gG m b φ0 σo (lT lU) q (k2 22 l1' l2' l3' h)) {φ : Nat → Nat} {h : eH} {s : fS} {l1' : Int32} {l1 : Int} {l2' : Int32} {l2 : Int} {l3' : Int32} {l3 : Int} {s1' : Int32} {s1 : Int} (R : fC m b φ0 σo φ h s) (el1 : l1' = iI l1) (rl1 : r32 l1) (el2 : l2' = iI l2) (rl2 : r32 l2) (el3 : l3' = iI l3) (rl3 : r32 l3) (es1 : s1' = iI s1) (rs1 : r32 s1) (hF : FX8_readBody_b146 N RE K2 l1 l2 l3 s1 s = some q) : gG m b φ0 σo (lT lU) q (fX8_readBody_b146 N rE k2 22 l1' l2' l3' 52 s1' h) := by
  subst el1; subst el2; subst el3; subst es1
  unfold FX8_readBody_b146 at hF
  unfold fX8_readBody_b146
  refine s_kok R (t_52 R.S) (Nat.le_of_ble_eq_true rfl) ?_
  refine s_tB R (Nat.zero_le _) (fun _ hq => SX12_add (b := 0) (R.rf) rfl rs1 hq) hF (fun f2 rv2 h2 x2 σ3 R2 e2 E2 hF => ?_)
  exact SX8_readBody_b168 (N := N) (rE := rE) (RE := RE) (k2 := k2) (K2 := K2) hb @hrE @hk2 R2 rfl rl1 rfl rl2 rfl rl3 hF
def FX8_readBody_b116 (N : Nat) (RE : Int → fS → Option ((Unit ⊕ Nat) × fS)) (K2 : Int → Int → Int → fS → Option ((Unit ⊕ Nat) × fS)) (l1 : Int) (l2 : Int) (l3 : Int) (l5 : Int) (l6 : Int) (s1 : Int) (s : fS) : Option ((Unit ⊕ Nat) × fS) :=
  tB (FX4_want s1 12 s) fun x2 σ3 =>
  if l6 = 0 then
    FX8_readBody_b146 N RE K2 l1 l2 l3 l5 σ3
  else
    FX8_readBody_b146 N RE K2 l1 l2 l3 (isub (iadd 262144 (iand l5 15)) 1) σ3
theorem SX8_readBody_b116 {m b : Nat} {φ0 : Nat → Nat} {σo : fS} (hb : 3 ≤ b) {N : Nat} {rE : Nat → Int32 → eH → Option ((Unit ⊕ Nat) × eH)} {RE : Int → fS → Option ((Unit ⊕ Nat) × fS)} {k2 : Nat → Int32 → Int32 → Int32 → eH → Option ((Unit ⊕ Nat) × eH)} {K2 : Int → Int → Int → fS → Option ((Unit ⊕ Nat) × fS)} {q : (Unit ⊕ Nat) × fS} (hrE : ∀ {φ : Nat → Nat} {h : eH} {s : fS} {x1' : Int32} {x1 : Int} {q}, fC m 3 φ s φ h s → x1' = iI x1 → r32 x1 → RE x1 s = some q → gG m 3 φ s (lT lU) q (rE 22 x1' h)) (hk2 : ∀ {φ : Nat → Nat} {h : eH} {s : fS} {l1' : Int32} {l1 : Int} {l2' : Int32} {l2 : Int} {l3' : Int32} {l3 : Int}, fC m b φ0 σo φ h s → l1' = iI l1 → r32 l1 → l2' = iI l2 → r32 l2 → l3' = iI l3 → r32 l3 → K2 l1 l2 l3 s = some q → gG m b φ0 σo (lT lU) q (k2 22 l1' l2' l3' h)) {φ : Nat → Nat} {h : eH} {s : fS} {l1' : Int32} {l1 : Int} {l2' : Int32} {l2 : Int} {l3' : Int32} {l3 : Int} {l5' : Int32} {l5 : Int} {l6' : Int32} {l6 : Int} {s1' : Int32} {s1 : Int} (R : fC m b φ0 σo φ h s) (el1 : l1' = iI l1) (rl1 : r32 l1) (el2 : l2' = iI l2) (rl2 : r32 l2) (el3 : l3' = iI l3) (rl3 : r32 l3) (el5 : l5' = iI l5) (rl5 : r32 l5) (el6 : l6' = iI l6) (rl6 : r32 l6) (es1 : s1' = iI s1) (rs1 : r32 s1) (hF : FX8_readBody_b116 N RE K2 l1 l2 l3 l5 l6 s1 s = some q) : gG m b φ0 σo (lT lU) q (fX8_readBody_b116 N rE k2 22 l1' l2' l3' l5' l6' 5 s1' h) := by
  subst el1; subst el2; subst el3; subst el5; subst el6; subst es1
  unfold FX8_readBody_b116 at hF
  unfold fX8_readBody_b116
  refine s_kok R (t_5 R.S) (Nat.le_of_ble_eq_true rfl) ?_
  refine s_tB R (Nat.zero_le _) (fun _ hq => SX4_want (b := 0) (R.rf) rfl rs1 (c_lit 12 12 rfl) ⟨by decide, by decide⟩ hq) hF (fun f2 rv2 h2 x2 σ3 R2 e2 E2 hF => ?_)
  refine s_gO R2 (t_22 R2.S) (Nat.le_of_ble_eq_true rfl) rfl (o_22_6 R2.S) ?_
  refine s_if (i_eq rfl (c_lit 0 0 rfl) rl6 ⟨by decide, by decide⟩) hF (fun c4 hF => ?_) (fun c4 hF => ?_)
  ·
    exact SX8_readBody_b146 (N := N) (rE := rE) (RE := RE) (k2 := k2) (K2 := K2) hb @hrE @hk2 R2 rfl rl1 rfl rl2 rfl rl3 rfl rl5 hF
  ·
    exact SX8_readBody_b146 (N := N) (rE := rE) (RE := RE) (k2 := k2) (K2 := K2) hb @hrE @hk2 R2 rfl rl1 rfl rl2 rfl rl3 (c_sub (c_add (c_lit 262144 262144 rfl) (c_and rfl (c_lit 15 15 rfl))) (c_lit 1 1 rfl)) (rr_I _) hF
def FX8_readBody_b111 (N : Nat) (RE : Int → fS → Option ((Unit ⊕ Nat) × fS)) (K2 : Int → Int → Int → fS → Option ((Unit ⊕ Nat) × fS)) (l1 : Int) (l2 : Int) (l3 : Int) (l5 : Int) (l6 : Int) (s : fS) : Option ((Unit ⊕ Nat) × fS) :=
  FX8_readBody_b116 N RE K2 l1 l2 l3 l5 l6 1 s
theorem SX8_readBody_b111 {m b : Nat} {φ0 : Nat → Nat} {σo : fS} (hb : 3 ≤ b) {N : Nat} {rE : Nat → Int32 → eH → Option ((Unit ⊕ Nat) × eH)} {RE : Int → fS → Option ((Unit ⊕ Nat) × fS)} {k2 : Nat → Int32 → Int32 → Int32 → eH → Option ((Unit ⊕ Nat) × eH)} {K2 : Int → Int → Int → fS → Option ((Unit ⊕ Nat) × fS)} {q : (Unit ⊕ Nat) × fS} (hrE : ∀ {φ : Nat → Nat} {h : eH} {s : fS} {x1' : Int32} {x1 : Int} {q}, fC m 3 φ s φ h s → x1' = iI x1 → r32 x1 → RE x1 s = some q → gG m 3 φ s (lT lU) q (rE 22 x1' h)) (hk2 : ∀ {φ : Nat → Nat} {h : eH} {s : fS} {l1' : Int32} {l1 : Int} {l2' : Int32} {l2 : Int} {l3' : Int32} {l3 : Int}, fC m b φ0 σo φ h s → l1' = iI l1 → r32 l1 → l2' = iI l2 → r32 l2 → l3' = iI l3 → r32 l3 → K2 l1 l2 l3 s = some q → gG m b φ0 σo (lT lU) q (k2 22 l1' l2' l3' h)) {φ : Nat → Nat} {h : eH} {s : fS} {l1' : Int32} {l1 : Int} {l2' : Int32} {l2 : Int} {l3' : Int32} {l3 : Int} {l5' : Int32} {l5 : Int} {l6' : Int32} {l6 : Int} (R : fC m b φ0 σo φ h s) (el1 : l1' = iI l1) (rl1 : r32 l1) (el2 : l2' = iI l2) (rl2 : r32 l2) (el3 : l3' = iI l3) (rl3 : r32 l3) (el5 : l5' = iI l5) (rl5 : r32 l5) (el6 : l6' = iI l6) (rl6 : r32 l6) (hF : FX8_readBody_b111 N RE K2 l1 l2 l3 l5 l6 s = some q) : gG m b φ0 σo (lT lU) q (fX8_readBody_b111 N rE k2 22 l1' l2' l3' l5' l6' 5 h) := by
  subst el1; subst el2; subst el3; subst el5; subst el6
  unfold FX8_readBody_b111 at hF
  unfold fX8_readBody_b111
  exact SX8_readBody_b116 (N := N) (rE := rE) (RE := RE) (k2 := k2) (K2 := K2) hb @hrE @hk2 R rfl rl1 rfl rl2 rfl rl3 rfl rl5 rfl rl6 (c_lit 1 1 rfl) ⟨by decide, by decide⟩ hF
def FX8_readBody_b90 (N : Nat) (RE : Int → fS → Option ((Unit ⊕ Nat) × fS)) (K2 : Int → Int → Int → fS → Option ((Unit ⊕ Nat) × fS)) (l1 : Int) (l2 : Int) (l3 : Int) (l5 : Int) (s0 : Int) (s : fS) : Option ((Unit ⊕ Nat) × fS) :=
  if ¬ (s0 = 0) then
    FX8_readBody_b111 N RE K2 l1 l2 l3 l5 s0 s
  else
    (FX1_is l5 6 s).bind fun q4 =>
    if q4.1 = 0 then
      FX8_readBody_b116 N RE K2 l1 l2 l3 l5 s0 0 q4.2
    else
      FX8_readBody_b111 N RE K2 l1 l2 l3 l5 s0 q4.2
theorem SX8_readBody_b90 {m b : Nat} {φ0 : Nat → Nat} {σo : fS} (hb : 3 ≤ b) {N : Nat} {rE : Nat → Int32 → eH → Option ((Unit ⊕ Nat) × eH)} {RE : Int → fS → Option ((Unit ⊕ Nat) × fS)} {k2 : Nat → Int32 → Int32 → Int32 → eH → Option ((Unit ⊕ Nat) × eH)} {K2 : Int → Int → Int → fS → Option ((Unit ⊕ Nat) × fS)} {q : (Unit ⊕ Nat) × fS} (hrE : ∀ {φ : Nat → Nat} {h : eH} {s : fS} {x1' : Int32} {x1 : Int} {q}, fC m 3 φ s φ h s → x1' = iI x1 → r32 x1 → RE x1 s = some q → gG m 3 φ s (lT lU) q (rE 22 x1' h)) (hk2 : ∀ {φ : Nat → Nat} {h : eH} {s : fS} {l1' : Int32} {l1 : Int} {l2' : Int32} {l2 : Int} {l3' : Int32} {l3 : Int}, fC m b φ0 σo φ h s → l1' = iI l1 → r32 l1 → l2' = iI l2 → r32 l2 → l3' = iI l3 → r32 l3 → K2 l1 l2 l3 s = some q → gG m b φ0 σo (lT lU) q (k2 22 l1' l2' l3' h)) {φ : Nat → Nat} {h : eH} {s : fS} {l1' : Int32} {l1 : Int} {l2' : Int32} {l2 : Int} {l3' : Int32} {l3 : Int} {l5' : Int32} {l5 : Int} {s0' : Int32} {s0 : Int} (R : fC m b φ0 σo φ h s) (el1 : l1' = iI l1) (rl1 : r32 l1) (el2 : l2' = iI l2) (rl2 : r32 l2) (el3 : l3' = iI l3) (rl3 : r32 l3) (el5 : l5' = iI l5) (rl5 : r32 l5) (es0 : s0' = iI s0) (rs0 : r32 s0) (hF : FX8_readBody_b90 N RE K2 l1 l2 l3 l5 s0 s = some q) : gG m b φ0 σo (lT lU) q (fX8_readBody_b90 N rE k2 22 l1' l2' l3' l5' s0' h) := by
  subst el1; subst el2; subst el3; subst el5; subst es0
  unfold FX8_readBody_b90 at hF
  unfold fX8_readBody_b90
  refine s_gO R (t_22 R.S) (Nat.le_of_ble_eq_true rfl) rfl (o_22_0 R.S) ?_
  refine s_if (not_congr (i_eq rfl (c_lit 0 0 rfl) rs0 ⟨by decide, by decide⟩)) hF (fun c2 hF => ?_) (fun c2 hF => ?_)
  ·
    exact SX8_readBody_b111 (N := N) (rE := rE) (RE := RE) (k2 := k2) (K2 := K2) hb @hrE @hk2 R rfl rl1 rfl rl2 rfl rl3 rfl rl5 rfl rs0 hF
  ·
    refine s_call R (Nat.zero_le _) (fun _ hq => SX1_is (b := 0) (R.rf) rfl rl5 (c_lit 6 6 rfl) ⟨by decide, by decide⟩ hq) hF (fun f3 rv3 h3 q4 R3 e3 E3 hF => ?_)
    refine s_if (i_eq e3.1 (c_lit 0 0 rfl) e3.2 ⟨by decide, by decide⟩) hF (fun c4 hF => ?_) (fun c4 hF => ?_)
    ·
      exact SX8_readBody_b116 (N := N) (rE := rE) (RE := RE) (k2 := k2) (K2 := K2) hb @hrE @hk2 R3 rfl rl1 rfl rl2 rfl rl3 rfl rl5 rfl rs0 (c_lit 0 0 rfl) ⟨by decide, by decide⟩ hF
    ·
      exact SX8_readBody_b111 (N := N) (rE := rE) (RE := RE) (k2 := k2) (K2 := K2) hb @hrE @hk2 R3 rfl rl1 rfl rl2 rfl rl3 rfl rl5 rfl rs0 hF
def FX8_readBody_b89 (N : Nat) (RE : Int → fS → Option ((Unit ⊕ Nat) × fS)) (K2 : Int → Int → Int → fS → Option ((Unit ⊕ Nat) × fS)) (l1 : Int) (l2 : Int) (l3 : Int) (l5 : Int) (s : fS) : Option ((Unit ⊕ Nat) × fS) :=
  FX8_readBody_b90 N RE K2 l1 l2 l3 l5 0 s
theorem SX8_readBody_b89 {m b : Nat} {φ0 : Nat → Nat} {σo : fS} (hb : 3 ≤ b) {N : Nat} {rE : Nat → Int32 → eH → Option ((Unit ⊕ Nat) × eH)} {RE : Int → fS → Option ((Unit ⊕ Nat) × fS)} {k2 : Nat → Int32 → Int32 → Int32 → eH → Option ((Unit ⊕ Nat) × eH)} {K2 : Int → Int → Int → fS → Option ((Unit ⊕ Nat) × fS)} {q : (Unit ⊕ Nat) × fS} (hrE : ∀ {φ : Nat → Nat} {h : eH} {s : fS} {x1' : Int32} {x1 : Int} {q}, fC m 3 φ s φ h s → x1' = iI x1 → r32 x1 → RE x1 s = some q → gG m 3 φ s (lT lU) q (rE 22 x1' h)) (hk2 : ∀ {φ : Nat → Nat} {h : eH} {s : fS} {l1' : Int32} {l1 : Int} {l2' : Int32} {l2 : Int} {l3' : Int32} {l3 : Int}, fC m b φ0 σo φ h s → l1' = iI l1 → r32 l1 → l2' = iI l2 → r32 l2 → l3' = iI l3 → r32 l3 → K2 l1 l2 l3 s = some q → gG m b φ0 σo (lT lU) q (k2 22 l1' l2' l3' h)) {φ : Nat → Nat} {h : eH} {s : fS} {l1' : Int32} {l1 : Int} {l2' : Int32} {l2 : Int} {l3' : Int32} {l3 : Int} {l5' : Int32} {l5 : Int} (R : fC m b φ0 σo φ h s) (el1 : l1' = iI l1) (rl1 : r32 l1) (el2 : l2' = iI l2) (rl2 : r32 l2) (el3 : l3' = iI l3) (rl3 : r32 l3) (el5 : l5' = iI l5) (rl5 : r32 l5) (hF : FX8_readBody_b89 N RE K2 l1 l2 l3 l5 s = some q) : gG m b φ0 σo (lT lU) q (fX8_readBody_b89 N rE k2 22 l1' l2' l3' l5' h) := by
  subst el1; subst el2; subst el3; subst el5
  unfold FX8_readBody_b89 at hF
  unfold fX8_readBody_b89
  exact SX8_readBody_b90 (N := N) (rE := rE) (RE := RE) (k2 := k2) (K2 := K2) hb @hrE @hk2 R rfl rl1 rfl rl2 rfl rl3 rfl rl5 (c_lit 0 0 rfl) ⟨by decide, by decide⟩ hF
def FX8_readBody_b41 (N : Nat) (RE : Int → fS → Option ((Unit ⊕ Nat) × fS)) (K2 : Int → Int → Int → fS → Option ((Unit ⊕ Nat) × fS)) (l1 : Int) (l2 : Int) (l4 : Int) (s0 : Int) (s1 : Int) (s : fS) : Option ((Unit ⊕ Nat) × fS) :=
  (FX1_is l4 6 s).bind fun q1 =>
  if q1.1 = 0 then
    if (iadd s0 s1) ≤ 0 then
      FX8_readBody_b168 N RE K2 l1 l2 (iadd s0 s1) q1.2
    else
      (FX8_bare l4 q1.2).bind fun q6 =>
      tB (FX12_add q6.1 q6.2) fun x8 σ9 =>
      FX8_readBody_b168 N RE K2 l1 l2 (iadd s0 s1) σ9
  else
    tB (FX8_next N RE l1 q1.2) fun x11 σ12 =>
    (FX1_isDigit x11 σ12).bind fun q13 =>
    if q13.1 = 0 then
      FX8_readBody_b89 N RE K2 l1 l2 (iadd s0 s1) x11 q13.2
    else
      if (iand x11 15) ≤ 0 then
        FX8_readBody_b89 N RE K2 l1 l2 (iadd s0 s1) x11 q13.2
      else
        if l2 < (iand x11 15) then
          FX8_readBody_b89 N RE K2 l1 l2 (iadd s0 s1) x11 q13.2
        else
          FX8_readBody_b90 N RE K2 l1 l2 (iadd s0 s1) x11 1 q13.2
theorem SX8_readBody_b41 {m b : Nat} {φ0 : Nat → Nat} {σo : fS} (hb : 3 ≤ b) {N : Nat} {rE : Nat → Int32 → eH → Option ((Unit ⊕ Nat) × eH)} {RE : Int → fS → Option ((Unit ⊕ Nat) × fS)} {k2 : Nat → Int32 → Int32 → Int32 → eH → Option ((Unit ⊕ Nat) × eH)} {K2 : Int → Int → Int → fS → Option ((Unit ⊕ Nat) × fS)} {q : (Unit ⊕ Nat) × fS} (hrE : ∀ {φ : Nat → Nat} {h : eH} {s : fS} {x1' : Int32} {x1 : Int} {q}, fC m 3 φ s φ h s → x1' = iI x1 → r32 x1 → RE x1 s = some q → gG m 3 φ s (lT lU) q (rE 22 x1' h)) (hk2 : ∀ {φ : Nat → Nat} {h : eH} {s : fS} {l1' : Int32} {l1 : Int} {l2' : Int32} {l2 : Int} {l3' : Int32} {l3 : Int}, fC m b φ0 σo φ h s → l1' = iI l1 → r32 l1 → l2' = iI l2 → r32 l2 → l3' = iI l3 → r32 l3 → K2 l1 l2 l3 s = some q → gG m b φ0 σo (lT lU) q (k2 22 l1' l2' l3' h)) {φ : Nat → Nat} {h : eH} {s : fS} {l1' : Int32} {l1 : Int} {l2' : Int32} {l2 : Int} {l4' : Int32} {l4 : Int} {s0' : Int32} {s0 : Int} {s1' : Int32} {s1 : Int} (R : fC m b φ0 σo φ h s) (el1 : l1' = iI l1) (rl1 : r32 l1) (el2 : l2' = iI l2) (rl2 : r32 l2) (el4 : l4' = iI l4) (rl4 : r32 l4) (es0 : s0' = iI s0) (rs0 : r32 s0) (es1 : s1' = iI s1) (rs1 : r32 s1) (hF : FX8_readBody_b41 N RE K2 l1 l2 l4 s0 s1 s = some q) : gG m b φ0 σo (lT lU) q (fX8_readBody_b41 N rE k2 22 l1' l2' l4' s0' s1' h) := by
  subst el1; subst el2; subst el4; subst es0; subst es1
  unfold FX8_readBody_b41 at hF
  unfold fX8_readBody_b41
  refine s_call R (Nat.zero_le _) (fun _ hq => SX1_is (b := 0) (R.rf) rfl rl4 (c_lit 6 6 rfl) ⟨by decide, by decide⟩ hq) hF (fun f1 rv1 h1 q1 R1 e1 E1 hF => ?_)
  refine s_if (i_eq e1.1 (c_lit 0 0 rfl) e1.2 ⟨by decide, by decide⟩) hF (fun c2 hF => ?_) (fun c2 hF => ?_)
  ·
    refine s_if (i_le (c_add rfl rfl) (c_lit 0 0 rfl) (rr_I _) ⟨by decide, by decide⟩) hF (fun c3 hF => ?_) (fun c3 hF => ?_)
    ·
      exact SX8_readBody_b168 (N := N) (rE := rE) (RE := RE) (k2 := k2) (K2 := K2) hb @hrE @hk2 R1 rfl rl1 rfl rl2 (c_add rfl rfl) (rr_I _) hF
    ·
      refine s_gO R1 (t_22 R1.S) (Nat.le_of_ble_eq_true rfl) rfl (o_22_6 R1.S) ?_
      refine s_call R1 (Nat.zero_le _) (fun _ hq => SX8_bare (b := 0) (R1.rf) rfl rl4 hq) hF (fun f5 rv5 h5 q6 R5 e5 E5 hF => ?_)
      refine s_kok R5 (t_52 R5.S) (Nat.le_of_ble_eq_true rfl) ?_
      refine s_tB R5 (Nat.zero_le _) (fun _ hq => SX12_add (b := 0) (R5.rf) e5.1 e5.2 hq) hF (fun f7 rv7 h7 x8 σ9 R7 e7 E7 hF => ?_)
      exact SX8_readBody_b168 (N := N) (rE := rE) (RE := RE) (k2 := k2) (K2 := K2) hb @hrE @hk2 R7 rfl rl1 rfl rl2 (c_add rfl rfl) (rr_I _) hF
  ·
    refine s_kok R1 (t_22 R1.S) (Nat.le_of_ble_eq_true rfl) ?_
    refine s_tB R1 hb (fun _ hq => SX8_next (b := 3) (N := N) (rE := rE) (RE := RE) (Nat.le_of_ble_eq_true rfl) @hrE (R1.rf) rfl rl1 hq) hF (fun f9 rv9 h9 x11 σ12 R9 e9 E9 hF => ?_)
    refine s_call R9 (Nat.zero_le _) (fun _ hq => SX1_isDigit (b := 0) (R9.rf) e9.1 e9.2 hq) hF (fun f10 rv10 h10 q13 R10 e10 E10 hF => ?_)
    refine s_if (i_eq e10.1 (c_lit 0 0 rfl) e10.2 ⟨by decide, by decide⟩) hF (fun c11 hF => ?_) (fun c11 hF => ?_)
    ·
      exact SX8_readBody_b89 (N := N) (rE := rE) (RE := RE) (k2 := k2) (K2 := K2) hb @hrE @hk2 R10 rfl rl1 rfl rl2 (c_add rfl rfl) (rr_I _) e9.1 e9.2 hF
    ·
      refine s_if (i_le (c_and e9.1 (c_lit 15 15 rfl)) (c_lit 0 0 rfl) (rr_I _) ⟨by decide, by decide⟩) hF (fun c12 hF => ?_) (fun c12 hF => ?_)
      ·
        exact SX8_readBody_b89 (N := N) (rE := rE) (RE := RE) (k2 := k2) (K2 := K2) hb @hrE @hk2 R10 rfl rl1 rfl rl2 (c_add rfl rfl) (rr_I _) e9.1 e9.2 hF
      ·
        refine s_if (i_lt rfl (c_and e9.1 (c_lit 15 15 rfl)) rl2 (rr_I _)) hF (fun c13 hF => ?_) (fun c13 hF => ?_)
        ·
          exact SX8_readBody_b89 (N := N) (rE := rE) (RE := RE) (k2 := k2) (K2 := K2) hb @hrE @hk2 R10 rfl rl1 rfl rl2 (c_add rfl rfl) (rr_I _) e9.1 e9.2 hF
        ·
          exact SX8_readBody_b90 (N := N) (rE := rE) (RE := RE) (k2 := k2) (K2 := K2) hb @hrE @hk2 R10 rfl rl1 rfl rl2 (c_add rfl rfl) (rr_I _) e9.1 e9.2 (c_lit 1 1 rfl) ⟨by decide, by decide⟩ hF
def FX8_readBody_b2 (N : Nat) (RE : Int → fS → Option ((Unit ⊕ Nat) × fS)) : Nat → Int → Int → Int → fS → Option ((Unit ⊕ Nat) × fS)
  | 0, _, _, _, _ => none
  | n + 1, l1, l2, l3, s =>
    if l3 ≤ 0 then
      some (.inl (), s)
    else
      tB (FX8_next N RE l1 s) fun x3 σ4 =>
      (FX1_is x3 1 σ4).bind fun q5 =>
      if q5.1 = 0 then
        (FX1_is x3 2 q5.2).bind fun q7 =>
        if q7.1 = 0 then
          FX8_readBody_b41 N RE (FX8_readBody_b2 N RE n) l1 l2 x3 l3 0 q7.2
        else
          FX8_readBody_b41 N RE (FX8_readBody_b2 N RE n) l1 l2 x3 l3 (-1) q7.2
      else
        FX8_readBody_b41 N RE (FX8_readBody_b2 N RE n) l1 l2 x3 l3 1 q5.2
theorem SX8_readBody_b2 {m b : Nat} {φ0 : Nat → Nat} {σo : fS} (hb : 3 ≤ b) {N : Nat} {rE : Nat → Int32 → eH → Option ((Unit ⊕ Nat) × eH)} {RE : Int → fS → Option ((Unit ⊕ Nat) × fS)} {q : (Unit ⊕ Nat) × fS} (hrE : ∀ {φ : Nat → Nat} {h : eH} {s : fS} {x1' : Int32} {x1 : Int} {q}, fC m 3 φ s φ h s → x1' = iI x1 → r32 x1 → RE x1 s = some q → gG m 3 φ s (lT lU) q (rE 22 x1' h)) : ∀ {n : Nat} {φ : Nat → Nat} {h : eH} {s : fS} {l1' : Int32} {l1 : Int} {l2' : Int32} {l2 : Int} {l3' : Int32} {l3 : Int}, fC m b φ0 σo φ h s → l1' = iI l1 → r32 l1 → l2' = iI l2 → r32 l2 → l3' = iI l3 → r32 l3 → FX8_readBody_b2 N RE n l1 l2 l3 s = some q → gG m b φ0 σo (lT lU) q (fX8_readBody_b2 N rE n 22 l1' l2' l3' h) := by
  intro n
  induction n with
 | zero => intro φ h s l1' l1 l2' l2 l3' l3 R el1 rl1 el2 rl2 el3 rl3 hF; simp [FX8_readBody_b2] at hF
  | succ n ih =>
    intro φ h s l1' l1 l2' l2 l3' l3 R el1 rl1 el2 rl2 el3 rl3 hF
    subst el1; subst el2; subst el3
    rw [FX8_readBody_b2] at hF
    rw [fX8_readBody_b2]
    refine s_if (i_le rfl (c_lit 0 0 rfl) rl3 ⟨by decide, by decide⟩) hF (fun c1 hF => ?_) (fun c1 hF => ?_)
    ·
      exact g_ret R hF trivial
    ·
      refine s_kok R (t_22 R.S) (Nat.le_of_ble_eq_true rfl) ?_
      refine s_tB R hb (fun _ hq => SX8_next (b := 3) (N := N) (rE := rE) (RE := RE) (Nat.le_of_ble_eq_true rfl) @hrE (R.rf) rfl rl1 hq) hF (fun f3 rv3 h3 x3 σ4 R3 e3 E3 hF => ?_)
      refine s_call R3 (Nat.zero_le _) (fun _ hq => SX1_is (b := 0) (R3.rf) e3.1 e3.2 (c_lit 1 1 rfl) ⟨by decide, by decide⟩ hq) hF (fun f4 rv4 h4 q5 R4 e4 E4 hF => ?_)
      refine s_if (i_eq e4.1 (c_lit 0 0 rfl) e4.2 ⟨by decide, by decide⟩) hF (fun c5 hF => ?_) (fun c5 hF => ?_)
      ·
        refine s_call R4 (Nat.zero_le _) (fun _ hq => SX1_is (b := 0) (R4.rf) e3.1 e3.2 (c_lit 2 2 rfl) ⟨by decide, by decide⟩ hq) hF (fun f6 rv6 h6 q7 R6 e6 E6 hF => ?_)
        refine s_if (i_eq e6.1 (c_lit 0 0 rfl) e6.2 ⟨by decide, by decide⟩) hF (fun c7 hF => ?_) (fun c7 hF => ?_)
        ·
          exact SX8_readBody_b41 (N := N) (rE := rE) (RE := RE) (k2 := fX8_readBody_b2 N rE n) (K2 := FX8_readBody_b2 N RE n) hb @hrE @ih R6 rfl rl1 rfl rl2 e3.1 e3.2 rfl rl3 (c_lit 0 0 rfl) ⟨by decide, by decide⟩ hF
        ·
          exact SX8_readBody_b41 (N := N) (rE := rE) (RE := RE) (k2 := fX8_readBody_b2 N rE n) (K2 := FX8_readBody_b2 N RE n) hb @hrE @ih R6 rfl rl1 rfl rl2 e3.1 e3.2 rfl rl3 (c_lit (-1) (-1) rfl) ⟨by decide, by decide⟩ hF
      ·
        exact SX8_readBody_b41 (N := N) (rE := rE) (RE := RE) (k2 := fX8_readBody_b2 N rE n) (K2 := FX8_readBody_b2 N RE n) hb @hrE @ih R4 rfl rl1 rfl rl2 e3.1 e3.2 rfl rl3 (c_lit 1 1 rfl) ⟨by decide, by decide⟩ hF
def FX8_readBody (N : Nat) (RE : Int → fS → Option ((Unit ⊕ Nat) × fS)) (p0 : Int) (p1 : Int) (s : fS) : Option ((Unit ⊕ Nat) × fS) :=
  FX8_readBody_b2 N RE N p0 p1 1 s
theorem SX8_readBody {m b : Nat} {φ0 : Nat → Nat} {σo : fS} (hb : 3 ≤ b) {N : Nat} {rE : Nat → Int32 → eH → Option ((Unit ⊕ Nat) × eH)} {RE : Int → fS → Option ((Unit ⊕ Nat) × fS)} {q : (Unit ⊕ Nat) × fS} (hrE : ∀ {φ : Nat → Nat} {h : eH} {s : fS} {x1' : Int32} {x1 : Int} {q}, fC m 3 φ s φ h s → x1' = iI x1 → r32 x1 → RE x1 s = some q → gG m 3 φ s (lT lU) q (rE 22 x1' h)) {φ : Nat → Nat} {h : eH} {s : fS} {p0' : Int32} {p0 : Int} {p1' : Int32} {p1 : Int} (R : fC m b φ0 σo φ h s) (ep0 : p0' = iI p0) (rp0 : r32 p0) (ep1 : p1' = iI p1) (rp1 : r32 p1) (hF : FX8_readBody N RE p0 p1 s = some q) : gG m b φ0 σo (lT lU) q (fX8_readBody N rE 22 p0' p1' h) := by
  subst ep0; subst ep1
  unfold FX8_readBody at hF
  unfold fX8_readBody
  exact SX8_readBody_b2 (N := N) (rE := rE) (RE := RE) hb @hrE R rfl rp0 rfl rp1 (c_lit 1 1 rfl) ⟨by decide, by decide⟩ hF
def FX12_close (s : fS) : Option (Int × fS) :=
  (uQI s 56 (s.i 52 7) (s.i 52 2)).bind fun σ7 =>
  (uPI σ7 52 7 (iadd (σ7.i 52 7) 1)).bind fun σ11 =>
  some ((σ7.i 52 7), σ11)
theorem SX12_close {m b : Nat} {φ0 : Nat → Nat} {σo : fS} {q : Int × fS} {φ : Nat → Nat} {h : eH} {s : fS} (R : fC m b φ0 σo φ h s) (hF : FX12_close s = some q) : gG m b φ0 σo lI q (fX12_close 52 h) := by
  unfold FX12_close at hF
  unfold fX12_close
  refine s_gA R (t_52 R.S) (Nat.le_of_ble_eq_true rfl) rfl (o_52_5 R.S) (fun _ _ => ?_)
  refine s_gI R (t_52 R.S) (Nat.le_of_ble_eq_true rfl) rfl ?_
  refine s_gI R (t_52 R.S) (Nat.le_of_ble_eq_true rfl) rfl ?_
  refine s_qI R (u_56 R.S).1 (u_56 R.S).2 (by decide) rfl rfl (R.ri (t_52 R.S) (Nat.le_of_ble_eq_true rfl) rfl) rfl (R.ri (t_52 R.S) (Nat.le_of_ble_eq_true rfl) rfl) hF (fun h4 σ7 R4 T4 hF => ?_)
  refine s_gI R4 (t_52 R4.S) (Nat.le_of_ble_eq_true rfl) rfl ?_
  refine s_pI R4 (t_52 R4.S) (Nat.le_of_ble_eq_true rfl) rfl (c_add rfl (c_lit 1 1 rfl)) (rr_I _) hF (fun h6 σ11 R6 T6 hF => ?_)
  exact g_ret R6 hF ⟨rfl, (R4.ri (t_52 R4.S) (Nat.le_of_ble_eq_true rfl) rfl)⟩
def FX8_define_b140 (N : Nat) (RE : Int → fS → Option ((Unit ⊕ Nat) × fS)) (K21 : Int → Int → Int → Int → Int → fS → Option ((Unit ⊕ Nat) × fS)) (l1 : Int) (l2 : Int) (l3 : Int) (l4 : Int) (s : fS) : Option ((Unit ⊕ Nat) × fS) :=
  tB (FX8_need N s) fun x2 σ3 =>
  K21 l1 l2 l3 l4 x2 σ3
theorem SX8_define_b140 {m b : Nat} {φ0 : Nat → Nat} {σo : fS} (hb : 3 ≤ b) {N : Nat} {rE : Nat → Int32 → eH → Option ((Unit ⊕ Nat) × eH)} {RE : Int → fS → Option ((Unit ⊕ Nat) × fS)} {k21 : Nat → Int32 → Int32 → Int32 → Int32 → Int32 → eH → Option ((Unit ⊕ Nat) × eH)} {K21 : Int → Int → Int → Int → Int → fS → Option ((Unit ⊕ Nat) × fS)} {q : (Unit ⊕ Nat) × fS} (hrE : ∀ {φ : Nat → Nat} {h : eH} {s : fS} {x1' : Int32} {x1 : Int} {q}, fC m 3 φ s φ h s → x1' = iI x1 → r32 x1 → RE x1 s = some q → gG m 3 φ s (lT lU) q (rE 22 x1' h)) (hk21 : ∀ {φ : Nat → Nat} {h : eH} {s : fS} {l1' : Int32} {l1 : Int} {l2' : Int32} {l2 : Int} {l3' : Int32} {l3 : Int} {l4' : Int32} {l4 : Int} {l5' : Int32} {l5 : Int}, fC m b φ0 σo φ h s → l1' = iI l1 → r32 l1 → l2' = iI l2 → r32 l2 → l3' = iI l3 → r32 l3 → l4' = iI l4 → r32 l4 → l5' = iI l5 → r32 l5 → K21 l1 l2 l3 l4 l5 s = some q → gG m b φ0 σo (lT lU) q (k21 22 l1' l2' l3' l4' l5' h)) {φ : Nat → Nat} {h : eH} {s : fS} {l1' : Int32} {l1 : Int} {l2' : Int32} {l2 : Int} {l3' : Int32} {l3 : Int} {l4' : Int32} {l4 : Int} (R : fC m b φ0 σo φ h s) (el1 : l1' = iI l1) (rl1 : r32 l1) (el2 : l2' = iI l2) (rl2 : r32 l2) (el3 : l3' = iI l3) (rl3 : r32 l3) (el4 : l4' = iI l4) (rl4 : r32 l4) (hF : FX8_define_b140 N RE K21 l1 l2 l3 l4 s = some q) : gG m b φ0 σo (lT lU) q (fX8_define_b140 N rE k21 22 l1' l2' l3' l4' h) := by
  subst el1; subst el2; subst el3; subst el4
  unfold FX8_define_b140 at hF
  unfold fX8_define_b140
  refine s_kok R (t_22 R.S) (Nat.le_of_ble_eq_true rfl) ?_
  refine s_tB R (Nat.le_trans (Nat.le_of_ble_eq_true rfl) hb) (fun _ hq => SX8_need (b := 2) (N := N) (Nat.le_of_ble_eq_true rfl) (R.rf) hq) hF (fun f2 rv2 h2 x2 σ3 R2 e2 E2 hF => ?_)
  exact hk21 R2 rfl rl1 rfl rl2 rfl rl3 rfl rl4 e2.1 e2.2 hF
def FX8_define_b104 (N : Nat) (RE : Int → fS → Option ((Unit ⊕ Nat) × fS)) (K21 : Int → Int → Int → Int → Int → fS → Option ((Unit ⊕ Nat) × fS)) (l1 : Int) (l2 : Int) (l3 : Int) (l4 : Int) (s1 : Int) (s : fS) : Option ((Unit ⊕ Nat) × fS) :=
  tB (FX4_want s1 12 s) fun x2 σ3 =>
  tB (FX12_add (iadd 262144 l4) σ3) fun x7 σ8 =>
  FX8_define_b140 N RE K21 l1 l2 l3 (iadd l4 1) σ8
theorem SX8_define_b104 {m b : Nat} {φ0 : Nat → Nat} {σo : fS} (hb : 3 ≤ b) {N : Nat} {rE : Nat → Int32 → eH → Option ((Unit ⊕ Nat) × eH)} {RE : Int → fS → Option ((Unit ⊕ Nat) × fS)} {k21 : Nat → Int32 → Int32 → Int32 → Int32 → Int32 → eH → Option ((Unit ⊕ Nat) × eH)} {K21 : Int → Int → Int → Int → Int → fS → Option ((Unit ⊕ Nat) × fS)} {q : (Unit ⊕ Nat) × fS} (hrE : ∀ {φ : Nat → Nat} {h : eH} {s : fS} {x1' : Int32} {x1 : Int} {q}, fC m 3 φ s φ h s → x1' = iI x1 → r32 x1 → RE x1 s = some q → gG m 3 φ s (lT lU) q (rE 22 x1' h)) (hk21 : ∀ {φ : Nat → Nat} {h : eH} {s : fS} {l1' : Int32} {l1 : Int} {l2' : Int32} {l2 : Int} {l3' : Int32} {l3 : Int} {l4' : Int32} {l4 : Int} {l5' : Int32} {l5 : Int}, fC m b φ0 σo φ h s → l1' = iI l1 → r32 l1 → l2' = iI l2 → r32 l2 → l3' = iI l3 → r32 l3 → l4' = iI l4 → r32 l4 → l5' = iI l5 → r32 l5 → K21 l1 l2 l3 l4 l5 s = some q → gG m b φ0 σo (lT lU) q (k21 22 l1' l2' l3' l4' l5' h)) {φ : Nat → Nat} {h : eH} {s : fS} {l1' : Int32} {l1 : Int} {l2' : Int32} {l2 : Int} {l3' : Int32} {l3 : Int} {l4' : Int32} {l4 : Int} {s1' : Int32} {s1 : Int} (R : fC m b φ0 σo φ h s) (el1 : l1' = iI l1) (rl1 : r32 l1) (el2 : l2' = iI l2) (rl2 : r32 l2) (el3 : l3' = iI l3) (rl3 : r32 l3) (el4 : l4' = iI l4) (rl4 : r32 l4) (es1 : s1' = iI s1) (rs1 : r32 s1) (hF : FX8_define_b104 N RE K21 l1 l2 l3 l4 s1 s = some q) : gG m b φ0 σo (lT lU) q (fX8_define_b104 N rE k21 22 l1' l2' l3' l4' 5 s1' h) := by
  subst el1; subst el2; subst el3; subst el4; subst es1
  unfold FX8_define_b104 at hF
  unfold fX8_define_b104
  refine s_kok R (t_5 R.S) (Nat.le_of_ble_eq_true rfl) ?_
  refine s_tB R (Nat.zero_le _) (fun _ hq => SX4_want (b := 0) (R.rf) rfl rs1 (c_lit 12 12 rfl) ⟨by decide, by decide⟩ hq) hF (fun f2 rv2 h2 x2 σ3 R2 e2 E2 hF => ?_)
  refine s_gO R2 (t_22 R2.S) (Nat.le_of_ble_eq_true rfl) rfl (o_22_6 R2.S) ?_
  refine s_kok R2 (t_52 R2.S) (Nat.le_of_ble_eq_true rfl) ?_
  refine s_tB R2 (Nat.zero_le _) (fun _ hq => SX12_add (b := 0) (R2.rf) (c_add (c_lit 262144 262144 rfl) rfl) (rr_I _) hq) hF (fun f5 rv5 h5 x7 σ8 R5 e5 E5 hF => ?_)
  exact SX8_define_b140 (N := N) (rE := rE) (RE := RE) (k21 := k21) (K21 := K21) hb @hrE @hk21 R5 rfl rl1 rfl rl2 rfl rl3 (c_add rfl (c_lit 1 1 rfl)) (rr_I _) hF
def FX8_define_b103 (N : Nat) (RE : Int → fS → Option ((Unit ⊕ Nat) × fS)) (K21 : Int → Int → Int → Int → Int → fS → Option ((Unit ⊕ Nat) × fS)) (l1 : Int) (l2 : Int) (l3 : Int) (l4 : Int) (s : fS) : Option ((Unit ⊕ Nat) × fS) :=
  FX8_define_b104 N RE K21 l1 l2 l3 l4 0 s
theorem SX8_define_b103 {m b : Nat} {φ0 : Nat → Nat} {σo : fS} (hb : 3 ≤ b) {N : Nat} {rE : Nat → Int32 → eH → Option ((Unit ⊕ Nat) × eH)} {RE : Int → fS → Option ((Unit ⊕ Nat) × fS)} {k21 : Nat → Int32 → Int32 → Int32 → Int32 → Int32 → eH → Option ((Unit ⊕ Nat) × eH)} {K21 : Int → Int → Int → Int → Int → fS → Option ((Unit ⊕ Nat) × fS)} {q : (Unit ⊕ Nat) × fS} (hrE : ∀ {φ : Nat → Nat} {h : eH} {s : fS} {x1' : Int32} {x1 : Int} {q}, fC m 3 φ s φ h s → x1' = iI x1 → r32 x1 → RE x1 s = some q → gG m 3 φ s (lT lU) q (rE 22 x1' h)) (hk21 : ∀ {φ : Nat → Nat} {h : eH} {s : fS} {l1' : Int32} {l1 : Int} {l2' : Int32} {l2 : Int} {l3' : Int32} {l3 : Int} {l4' : Int32} {l4 : Int} {l5' : Int32} {l5 : Int}, fC m b φ0 σo φ h s → l1' = iI l1 → r32 l1 → l2' = iI l2 → r32 l2 → l3' = iI l3 → r32 l3 → l4' = iI l4 → r32 l4 → l5' = iI l5 → r32 l5 → K21 l1 l2 l3 l4 l5 s = some q → gG m b φ0 σo (lT lU) q (k21 22 l1' l2' l3' l4' l5' h)) {φ : Nat → Nat} {h : eH} {s : fS} {l1' : Int32} {l1 : Int} {l2' : Int32} {l2 : Int} {l3' : Int32} {l3 : Int} {l4' : Int32} {l4 : Int} (R : fC m b φ0 σo φ h s) (el1 : l1' = iI l1) (rl1 : r32 l1) (el2 : l2' = iI l2) (rl2 : r32 l2) (el3 : l3' = iI l3) (rl3 : r32 l3) (el4 : l4' = iI l4) (rl4 : r32 l4) (hF : FX8_define_b103 N RE K21 l1 l2 l3 l4 s = some q) : gG m b φ0 σo (lT lU) q (fX8_define_b103 N rE k21 22 l1' l2' l3' l4' 5 h) := by
  subst el1; subst el2; subst el3; subst el4
  unfold FX8_define_b103 at hF
  unfold fX8_define_b103
  exact SX8_define_b104 (N := N) (rE := rE) (RE := RE) (k21 := k21) (K21 := K21) hb @hrE @hk21 R rfl rl1 rfl rl2 rfl rl3 rfl rl4 (c_lit 0 0 rfl) ⟨by decide, by decide⟩ hF
def FX8_define_b48 (N : Nat) (RE : Int → fS → Option ((Unit ⊕ Nat) × fS)) (K21 : Int → Int → Int → Int → Int → fS → Option ((Unit ⊕ Nat) × fS)) (l1 : Int) (l2 : Int) (l3 : Int) (l4 : Int) (l5 : Int) (s1 : Int) (s : fS) : Option ((Unit ⊕ Nat) × fS) :=
  tB (FX4_want s1 5 s) fun x2 σ3 =>
  (FX1_is l5 6 σ3).bind fun q4 =>
  if q4.1 = 0 then
    (FX8_bare l5 q4.2).bind fun q8 =>
    tB (FX12_add q8.1 q8.2) fun x10 σ11 =>
    FX8_define_b140 N RE K21 l1 l2 l3 l4 σ11
  else
    tB (FX8_need N q4.2) fun x13 σ14 =>
    if 9 ≤ l4 then
      FX8_define_b103 N RE K21 l1 l2 l3 l4 σ14
    else
      (FX1_isDigit x13 σ14).bind fun q18 =>
      if q18.1 = 0 then
        FX8_define_b103 N RE K21 l1 l2 l3 l4 q18.2
      else
        if ¬ ((iand x13 15) = (iadd l4 1)) then
          FX8_define_b103 N RE K21 l1 l2 l3 l4 q18.2
        else
          FX8_define_b104 N RE K21 l1 l2 l3 l4 1 q18.2
theorem SX8_define_b48 {m b : Nat} {φ0 : Nat → Nat} {σo : fS} (hb : 3 ≤ b) {N : Nat} {rE : Nat → Int32 → eH → Option ((Unit ⊕ Nat) × eH)} {RE : Int → fS → Option ((Unit ⊕ Nat) × fS)} {k21 : Nat → Int32 → Int32 → Int32 → Int32 → Int32 → eH → Option ((Unit ⊕ Nat) × eH)} {K21 : Int → Int → Int → Int → Int → fS → Option ((Unit ⊕ Nat) × fS)} {q : (Unit ⊕ Nat) × fS} (hrE : ∀ {φ : Nat → Nat} {h : eH} {s : fS} {x1' : Int32} {x1 : Int} {q}, fC m 3 φ s φ h s → x1' = iI x1 → r32 x1 → RE x1 s = some q → gG m 3 φ s (lT lU) q (rE 22 x1' h)) (hk21 : ∀ {φ : Nat → Nat} {h : eH} {s : fS} {l1' : Int32} {l1 : Int} {l2' : Int32} {l2 : Int} {l3' : Int32} {l3 : Int} {l4' : Int32} {l4 : Int} {l5' : Int32} {l5 : Int}, fC m b φ0 σo φ h s → l1' = iI l1 → r32 l1 → l2' = iI l2 → r32 l2 → l3' = iI l3 → r32 l3 → l4' = iI l4 → r32 l4 → l5' = iI l5 → r32 l5 → K21 l1 l2 l3 l4 l5 s = some q → gG m b φ0 σo (lT lU) q (k21 22 l1' l2' l3' l4' l5' h)) {φ : Nat → Nat} {h : eH} {s : fS} {l1' : Int32} {l1 : Int} {l2' : Int32} {l2 : Int} {l3' : Int32} {l3 : Int} {l4' : Int32} {l4 : Int} {l5' : Int32} {l5 : Int} {s1' : Int32} {s1 : Int} (R : fC m b φ0 σo φ h s) (el1 : l1' = iI l1) (rl1 : r32 l1) (el2 : l2' = iI l2) (rl2 : r32 l2) (el3 : l3' = iI l3) (rl3 : r32 l3) (el4 : l4' = iI l4) (rl4 : r32 l4) (el5 : l5' = iI l5) (rl5 : r32 l5) (es1 : s1' = iI s1) (rs1 : r32 s1) (hF : FX8_define_b48 N RE K21 l1 l2 l3 l4 l5 s1 s = some q) : gG m b φ0 σo (lT lU) q (fX8_define_b48 N rE k21 22 l1' l2' l3' l4' l5' 5 s1' h) := by
  subst el1; subst el2; subst el3; subst el4; subst el5; subst es1
  unfold FX8_define_b48 at hF
  unfold fX8_define_b48
  refine s_kok R (t_5 R.S) (Nat.le_of_ble_eq_true rfl) ?_
  refine s_tB R (Nat.zero_le _) (fun _ hq => SX4_want (b := 0) (R.rf) rfl rs1 (c_lit 5 5 rfl) ⟨by decide, by decide⟩ hq) hF (fun f2 rv2 h2 x2 σ3 R2 e2 E2 hF => ?_)
  refine s_call R2 (Nat.zero_le _) (fun _ hq => SX1_is (b := 0) (R2.rf) rfl rl5 (c_lit 6 6 rfl) ⟨by decide, by decide⟩ hq) hF (fun f3 rv3 h3 q4 R3 e3 E3 hF => ?_)
  refine s_if (i_eq e3.1 (c_lit 0 0 rfl) e3.2 ⟨by decide, by decide⟩) hF (fun c4 hF => ?_) (fun c4 hF => ?_)
  ·
    refine s_gO R3 (t_22 R3.S) (Nat.le_of_ble_eq_true rfl) rfl (o_22_6 R3.S) ?_
    refine s_call R3 (Nat.zero_le _) (fun _ hq => SX8_bare (b := 0) (R3.rf) rfl rl5 hq) hF (fun f6 rv6 h6 q8 R6 e6 E6 hF => ?_)
    refine s_kok R6 (t_52 R6.S) (Nat.le_of_ble_eq_true rfl) ?_
    refine s_tB R6 (Nat.zero_le _) (fun _ hq => SX12_add (b := 0) (R6.rf) e6.1 e6.2 hq) hF (fun f8 rv8 h8 x10 σ11 R8 e8 E8 hF => ?_)
    exact SX8_define_b140 (N := N) (rE := rE) (RE := RE) (k21 := k21) (K21 := K21) hb @hrE @hk21 R8 rfl rl1 rfl rl2 rfl rl3 rfl rl4 hF
  ·
    refine s_kok R3 (t_22 R3.S) (Nat.le_of_ble_eq_true rfl) ?_
    refine s_tB R3 (Nat.le_trans (Nat.le_of_ble_eq_true rfl) hb) (fun _ hq => SX8_need (b := 2) (N := N) (Nat.le_of_ble_eq_true rfl) (R3.rf) hq) hF (fun f10 rv10 h10 x13 σ14 R10 e10 E10 hF => ?_)
    refine s_gO R10 (t_22 R10.S) (Nat.le_of_ble_eq_true rfl) rfl (o_22_0 R10.S) ?_
    refine s_if (i_le (c_lit 9 9 rfl) rfl ⟨by decide, by decide⟩ rl4) hF (fun c12 hF => ?_) (fun c12 hF => ?_)
    ·
      exact SX8_define_b103 (N := N) (rE := rE) (RE := RE) (k21 := k21) (K21 := K21) hb @hrE @hk21 R10 rfl rl1 rfl rl2 rfl rl3 rfl rl4 hF
    ·
      refine s_call R10 (Nat.zero_le _) (fun _ hq => SX1_isDigit (b := 0) (R10.rf) e10.1 e10.2 hq) hF (fun f13 rv13 h13 q18 R13 e13 E13 hF => ?_)
      refine s_if (i_eq e13.1 (c_lit 0 0 rfl) e13.2 ⟨by decide, by decide⟩) hF (fun c14 hF => ?_) (fun c14 hF => ?_)
      ·
        exact SX8_define_b103 (N := N) (rE := rE) (RE := RE) (k21 := k21) (K21 := K21) hb @hrE @hk21 R13 rfl rl1 rfl rl2 rfl rl3 rfl rl4 hF
      ·
        refine s_if (not_congr (i_eq (c_and e10.1 (c_lit 15 15 rfl)) (c_add rfl (c_lit 1 1 rfl)) (rr_I _) (rr_I _))) hF (fun c15 hF => ?_) (fun c15 hF => ?_)
        ·
          exact SX8_define_b103 (N := N) (rE := rE) (RE := RE) (k21 := k21) (K21 := K21) hb @hrE @hk21 R13 rfl rl1 rfl rl2 rfl rl3 rfl rl4 hF
        ·
          exact SX8_define_b104 (N := N) (rE := rE) (RE := RE) (k21 := k21) (K21 := K21) hb @hrE @hk21 R13 rfl rl1 rfl rl2 rfl rl3 rfl rl4 (c_lit 1 1 rfl) ⟨by decide, by decide⟩ hF
def FX8_define_b176 (N : Nat) (RE : Int → fS → Option ((Unit ⊕ Nat) × fS)) (l2 : Int) (l3 : Int) (l4 : Int) (s1 : Int) (s : fS) : Option ((Unit ⊕ Nat) × fS) :=
  tB (FX8_readBody N RE s1 l4 s) fun x2 σ3 =>
  (FX12_close σ3).bind fun q9 =>
  (FX9_mean N l3 2 q9.1 l2 q9.2).bind fun q11 =>
  some (.inl (), q11.2)
theorem SX8_define_b176 {m b : Nat} {φ0 : Nat → Nat} {σo : fS} (hb : 3 ≤ b) {N : Nat} {rE : Nat → Int32 → eH → Option ((Unit ⊕ Nat) × eH)} {RE : Int → fS → Option ((Unit ⊕ Nat) × fS)} {q : (Unit ⊕ Nat) × fS} (hrE : ∀ {φ : Nat → Nat} {h : eH} {s : fS} {x1' : Int32} {x1 : Int} {q}, fC m 3 φ s φ h s → x1' = iI x1 → r32 x1 → RE x1 s = some q → gG m 3 φ s (lT lU) q (rE 22 x1' h)) {φ : Nat → Nat} {h : eH} {s : fS} {l2' : Int32} {l2 : Int} {l3' : Int32} {l3 : Int} {l4' : Int32} {l4 : Int} {s1' : Int32} {s1 : Int} (R : fC m b φ0 σo φ h s) (el2 : l2' = iI l2) (rl2 : r32 l2) (el3 : l3' = iI l3) (rl3 : r32 l3) (el4 : l4' = iI l4) (rl4 : r32 l4) (es1 : s1' = iI s1) (rs1 : r32 s1) (hF : FX8_define_b176 N RE l2 l3 l4 s1 s = some q) : gG m b φ0 σo (lT lU) q (fX8_define_b176 N rE 22 l2' l3' l4' 22 s1' h) := by
  subst el2; subst el3; subst el4; subst es1
  unfold FX8_define_b176 at hF
  unfold fX8_define_b176
  refine s_kok R (t_22 R.S) (Nat.le_of_ble_eq_true rfl) ?_
  refine s_tB R hb (fun _ hq => SX8_readBody (b := 3) (N := N) (rE := rE) (RE := RE) (Nat.le_of_ble_eq_true rfl) @hrE (R.rf) rfl rs1 rfl rl4 hq) hF (fun f2 rv2 h2 x2 σ3 R2 e2 E2 hF => ?_)
  refine s_gO R2 (t_22 R2.S) (Nat.le_of_ble_eq_true rfl) rfl (o_22_4 R2.S) ?_
  refine s_gO R2 (t_22 R2.S) (Nat.le_of_ble_eq_true rfl) rfl (o_22_6 R2.S) ?_
  refine s_kok R2 (t_52 R2.S) (Nat.le_of_ble_eq_true rfl) ?_
  refine s_call R2 (Nat.zero_le _) (fun _ hq => SX12_close (b := 0) (R2.rf) hq) hF (fun f6 rv6 h6 q9 R6 e6 E6 hF => ?_)
  refine s_kok R6 (t_23 R6.S) (Nat.le_of_ble_eq_true rfl) ?_
  refine s_call R6 (Nat.le_trans (Nat.le_of_ble_eq_true rfl) hb) (fun _ hq => SX9_mean (b := 1) (N := N) (Nat.le_of_ble_eq_true rfl) (R6.rf) rfl rl3 (c_lit 2 2 rfl) ⟨by decide, by decide⟩ e6.1 e6.2 rfl rl2 hq) hF (fun f8 rv8 h8 q11 R8 e8 E8 hF => ?_)
  exact g_ret R8 hF trivial
def FX8_define_b171 (N : Nat) (RE : Int → fS → Option ((Unit ⊕ Nat) × fS)) (l2 : Int) (l3 : Int) (l4 : Int) (s : fS) : Option ((Unit ⊕ Nat) × fS) :=
  FX8_define_b176 N RE l2 l3 l4 1 s
theorem SX8_define_b171 {m b : Nat} {φ0 : Nat → Nat} {σo : fS} (hb : 3 ≤ b) {N : Nat} {rE : Nat → Int32 → eH → Option ((Unit ⊕ Nat) × eH)} {RE : Int → fS → Option ((Unit ⊕ Nat) × fS)} {q : (Unit ⊕ Nat) × fS} (hrE : ∀ {φ : Nat → Nat} {h : eH} {s : fS} {x1' : Int32} {x1 : Int} {q}, fC m 3 φ s φ h s → x1' = iI x1 → r32 x1 → RE x1 s = some q → gG m 3 φ s (lT lU) q (rE 22 x1' h)) {φ : Nat → Nat} {h : eH} {s : fS} {l2' : Int32} {l2 : Int} {l3' : Int32} {l3 : Int} {l4' : Int32} {l4 : Int} (R : fC m b φ0 σo φ h s) (el2 : l2' = iI l2) (rl2 : r32 l2) (el3 : l3' = iI l3) (rl3 : r32 l3) (el4 : l4' = iI l4) (rl4 : r32 l4) (hF : FX8_define_b171 N RE l2 l3 l4 s = some q) : gG m b φ0 σo (lT lU) q (fX8_define_b171 N rE 22 l2' l3' l4' 22 h) := by
  subst el2; subst el3; subst el4
  unfold FX8_define_b171 at hF
  unfold fX8_define_b171
  exact SX8_define_b176 (N := N) (rE := rE) (RE := RE) hb @hrE R rfl rl2 rfl rl3 rfl rl4 (c_lit 1 1 rfl) ⟨by decide, by decide⟩ hF
def FX8_define_b21 (N : Nat) (RE : Int → fS → Option ((Unit ⊕ Nat) × fS)) : Nat → Int → Int → Int → Int → Int → fS → Option ((Unit ⊕ Nat) × fS)
  | 0, _, _, _, _, _, _ => none
  | n + 1, l1, l2, l3, l4, l5, s =>
    (FX1_is l5 1 s).bind fun q1 =>
    if ¬ (q1.1 = 0) then
      (FX12_body l4 q1.2).bind fun q6 =>
      if l1 = 55 then
        FX8_define_b171 N RE l2 l3 l4 q6.2
      else
        if ¬ (l1 = 57) then
          FX8_define_b176 N RE l2 l3 l4 0 q6.2
        else
          FX8_define_b171 N RE l2 l3 l4 q6.2
    else
      (FX1_is l5 2 q1.2).bind fun q11 =>
      if ¬ (q11.1 = 0) then
        FX8_define_b48 N RE (FX8_define_b21 N RE n) l1 l2 l3 l4 l5 0 q11.2
      else
        FX8_define_b48 N RE (FX8_define_b21 N RE n) l1 l2 l3 l4 l5 1 q11.2
theorem SX8_define_b21 {m b : Nat} {φ0 : Nat → Nat} {σo : fS} (hb : 3 ≤ b) {N : Nat} {rE : Nat → Int32 → eH → Option ((Unit ⊕ Nat) × eH)} {RE : Int → fS → Option ((Unit ⊕ Nat) × fS)} {q : (Unit ⊕ Nat) × fS} (hrE : ∀ {φ : Nat → Nat} {h : eH} {s : fS} {x1' : Int32} {x1 : Int} {q}, fC m 3 φ s φ h s → x1' = iI x1 → r32 x1 → RE x1 s = some q → gG m 3 φ s (lT lU) q (rE 22 x1' h)) : ∀ {n : Nat} {φ : Nat → Nat} {h : eH} {s : fS} {l1' : Int32} {l1 : Int} {l2' : Int32} {l2 : Int} {l3' : Int32} {l3 : Int} {l4' : Int32} {l4 : Int} {l5' : Int32} {l5 : Int}, fC m b φ0 σo φ h s → l1' = iI l1 → r32 l1 → l2' = iI l2 → r32 l2 → l3' = iI l3 → r32 l3 → l4' = iI l4 → r32 l4 → l5' = iI l5 → r32 l5 → FX8_define_b21 N RE n l1 l2 l3 l4 l5 s = some q → gG m b φ0 σo (lT lU) q (fX8_define_b21 N rE n 22 l1' l2' l3' l4' l5' h) := by
  intro n
  induction n with
 | zero => intro φ h s l1' l1 l2' l2 l3' l3 l4' l4 l5' l5 R el1 rl1 el2 rl2 el3 rl3 el4 rl4 el5 rl5 hF; simp [FX8_define_b21] at hF
  | succ n ih =>
    intro φ h s l1' l1 l2' l2 l3' l3 l4' l4 l5' l5 R el1 rl1 el2 rl2 el3 rl3 el4 rl4 el5 rl5 hF
    subst el1; subst el2; subst el3; subst el4; subst el5
    rw [FX8_define_b21] at hF
    rw [fX8_define_b21]
    refine s_call R (Nat.zero_le _) (fun _ hq => SX1_is (b := 0) (R.rf) rfl rl5 (c_lit 1 1 rfl) ⟨by decide, by decide⟩ hq) hF (fun f1 rv1 h1 q1 R1 e1 E1 hF => ?_)
    refine s_if (not_congr (i_eq e1.1 (c_lit 0 0 rfl) e1.2 ⟨by decide, by decide⟩)) hF (fun c2 hF => ?_) (fun c2 hF => ?_)
    ·
      refine s_gO R1 (t_22 R1.S) (Nat.le_of_ble_eq_true rfl) rfl (o_22_6 R1.S) ?_
      refine s_kok R1 (t_52 R1.S) (Nat.le_of_ble_eq_true rfl) ?_
      refine s_call R1 (Nat.zero_le _) (fun _ hq => SX12_body (b := 0) (R1.rf) rfl rl4 hq) hF (fun f5 rv5 h5 q6 R5 e5 E5 hF => ?_)
      refine s_if (i_eq rfl (c_lit 55 55 rfl) rl1 ⟨by decide, by decide⟩) hF (fun c6 hF => ?_) (fun c6 hF => ?_)
      ·
        exact SX8_define_b171 (N := N) (rE := rE) (RE := RE) hb @hrE R5 rfl rl2 rfl rl3 rfl rl4 hF
      ·
        refine s_if (not_congr (i_eq rfl (c_lit 57 57 rfl) rl1 ⟨by decide, by decide⟩)) hF (fun c7 hF => ?_) (fun c7 hF => ?_)
        ·
          exact SX8_define_b176 (N := N) (rE := rE) (RE := RE) hb @hrE R5 rfl rl2 rfl rl3 rfl rl4 (c_lit 0 0 rfl) ⟨by decide, by decide⟩ hF
        ·
          exact SX8_define_b171 (N := N) (rE := rE) (RE := RE) hb @hrE R5 rfl rl2 rfl rl3 rfl rl4 hF
    ·
      refine s_gO R1 (t_22 R1.S) (Nat.le_of_ble_eq_true rfl) rfl (o_22_0 R1.S) ?_
      refine s_call R1 (Nat.zero_le _) (fun _ hq => SX1_is (b := 0) (R1.rf) rfl rl5 (c_lit 2 2 rfl) ⟨by decide, by decide⟩ hq) hF (fun f9 rv9 h9 q11 R9 e9 E9 hF => ?_)
      refine s_if (not_congr (i_eq e9.1 (c_lit 0 0 rfl) e9.2 ⟨by decide, by decide⟩)) hF (fun c10 hF => ?_) (fun c10 hF => ?_)
      ·
        exact SX8_define_b48 (N := N) (rE := rE) (RE := RE) (k21 := fX8_define_b21 N rE n) (K21 := FX8_define_b21 N RE n) hb @hrE @ih R9 rfl rl1 rfl rl2 rfl rl3 rfl rl4 rfl rl5 (c_lit 0 0 rfl) ⟨by decide, by decide⟩ hF
      ·
        exact SX8_define_b48 (N := N) (rE := rE) (RE := RE) (k21 := fX8_define_b21 N rE n) (K21 := FX8_define_b21 N RE n) hb @hrE @ih R9 rfl rl1 rfl rl2 rfl rl3 rfl rl4 rfl rl5 (c_lit 1 1 rfl) ⟨by decide, by decide⟩ hF
def FX8_define (N : Nat) (RE : Int → fS → Option ((Unit ⊕ Nat) × fS)) (p0 : Int) (p1 : Int) (s : fS) : Option ((Unit ⊕ Nat) × fS) :=
  tB (FX8_target N s) fun x2 σ3 =>
  tB (FX12_open σ3) fun x7 σ8 =>
  tB (FX8_need N σ8) fun x10 σ11 =>
  FX8_define_b21 N RE N p0 p1 x2 0 x10 σ11
theorem SX8_define {m b : Nat} {φ0 : Nat → Nat} {σo : fS} (hb : 3 ≤ b) {N : Nat} {rE : Nat → Int32 → eH → Option ((Unit ⊕ Nat) × eH)} {RE : Int → fS → Option ((Unit ⊕ Nat) × fS)} {q : (Unit ⊕ Nat) × fS} (hrE : ∀ {φ : Nat → Nat} {h : eH} {s : fS} {x1' : Int32} {x1 : Int} {q}, fC m 3 φ s φ h s → x1' = iI x1 → r32 x1 → RE x1 s = some q → gG m 3 φ s (lT lU) q (rE 22 x1' h)) {φ : Nat → Nat} {h : eH} {s : fS} {p0' : Int32} {p0 : Int} {p1' : Int32} {p1 : Int} (R : fC m b φ0 σo φ h s) (ep0 : p0' = iI p0) (rp0 : r32 p0) (ep1 : p1' = iI p1) (rp1 : r32 p1) (hF : FX8_define N RE p0 p1 s = some q) : gG m b φ0 σo (lT lU) q (fX8_define N rE 22 p0' p1' h) := by
  subst ep0; subst ep1
  unfold FX8_define at hF
  unfold fX8_define
  refine s_kok R (t_22 R.S) (Nat.le_of_ble_eq_true rfl) ?_
  refine s_tB R (Nat.le_trans (Nat.le_of_ble_eq_true rfl) hb) (fun _ hq => SX8_target (b := 2) (N := N) (Nat.le_of_ble_eq_true rfl) (R.rf) hq) hF (fun f2 rv2 h2 x2 σ3 R2 e2 E2 hF => ?_)
  refine s_gO R2 (t_22 R2.S) (Nat.le_of_ble_eq_true rfl) rfl (o_22_6 R2.S) ?_
  refine s_kok R2 (t_52 R2.S) (Nat.le_of_ble_eq_true rfl) ?_
  refine s_tB R2 (Nat.le_trans (Nat.le_of_ble_eq_true rfl) hb) (fun _ hq => SX12_open (b := 1) (Nat.le_of_ble_eq_true rfl) (R2.rf) hq) hF (fun f5 rv5 h5 x7 σ8 R5 e5 E5 hF => ?_)
  refine s_kok R5 (t_22 R5.S) (Nat.le_of_ble_eq_true rfl) ?_
  refine s_tB R5 (Nat.le_trans (Nat.le_of_ble_eq_true rfl) hb) (fun _ hq => SX8_need (b := 2) (N := N) (Nat.le_of_ble_eq_true rfl) (R5.rf) hq) hF (fun f7 rv7 h7 x10 σ11 R7 e7 E7 hF => ?_)
  exact SX8_define_b21 (N := N) (rE := rE) (RE := RE) hb @hrE R7 rfl rp0 rfl rp1 e2.1 e2.2 (c_lit 0 0 rfl) ⟨by decide, by decide⟩ e7.1 e7.2 hF
def FX3_set_b250 (N : Nat) (RE : Int → fS → Option ((Unit ⊕ Nat) × fS)) (RN : fS → Option ((Int ⊕ Nat) × fS)) (s : fS) : Option ((Unit ⊕ Nat) × fS) :=
  some (.inl (), s)
theorem SX3_set_b250 {m b : Nat} {φ0 : Nat → Nat} {σo : fS} {N : Nat} {rE : Nat → Int32 → eH → Option ((Unit ⊕ Nat) × eH)} {RE : Int → fS → Option ((Unit ⊕ Nat) × fS)} {rN : Nat → eH → Option ((Int32 ⊕ Nat) × eH)} {RN : fS → Option ((Int ⊕ Nat) × fS)} {q : (Unit ⊕ Nat) × fS} (hrE : ∀ {φ : Nat → Nat} {h : eH} {s : fS} {x1' : Int32} {x1 : Int} {q}, fC m 3 φ s φ h s → x1' = iI x1 → r32 x1 → RE x1 s = some q → gG m 3 φ s (lT lU) q (rE 22 x1' h)) (hrN : ∀ {φ : Nat → Nat} {h : eH} {s : fS} {q}, fC m 3 φ s φ h s → RN s = some q → gG m 3 φ s (lT lI) q (rN 22 h)) {φ : Nat → Nat} {h : eH} {s : fS} (R : fC m b φ0 σo φ h s) (hF : FX3_set_b250 N RE RN s = some q) : gG m b φ0 σo (lT lU) q (fX3_set_b250 N rE rN h) := by
  unfold FX3_set_b250 at hF
  unfold fX3_set_b250
  exact g_ret R hF trivial
def FX3_set_b247 (N : Nat) (RE : Int → fS → Option ((Unit ⊕ Nat) × fS)) (RN : fS → Option ((Int ⊕ Nat) × fS)) (s1 : Int) (s2 : Int) (s : fS) : Option ((Unit ⊕ Nat) × fS) :=
  tB (FX8_define N RE s1 s2 s) fun x2 σ3 =>
  FX3_set_b250 N RE RN σ3
theorem SX3_set_b247 {m b : Nat} {φ0 : Nat → Nat} {σo : fS} (hb : 3 ≤ b) {N : Nat} {rE : Nat → Int32 → eH → Option ((Unit ⊕ Nat) × eH)} {RE : Int → fS → Option ((Unit ⊕ Nat) × fS)} {rN : Nat → eH → Option ((Int32 ⊕ Nat) × eH)} {RN : fS → Option ((Int ⊕ Nat) × fS)} {q : (Unit ⊕ Nat) × fS} (hrE : ∀ {φ : Nat → Nat} {h : eH} {s : fS} {x1' : Int32} {x1 : Int} {q}, fC m 3 φ s φ h s → x1' = iI x1 → r32 x1 → RE x1 s = some q → gG m 3 φ s (lT lU) q (rE 22 x1' h)) (hrN : ∀ {φ : Nat → Nat} {h : eH} {s : fS} {q}, fC m 3 φ s φ h s → RN s = some q → gG m 3 φ s (lT lI) q (rN 22 h)) {φ : Nat → Nat} {h : eH} {s : fS} {s1' : Int32} {s1 : Int} {s2' : Int32} {s2 : Int} (R : fC m b φ0 σo φ h s) (es1 : s1' = iI s1) (rs1 : r32 s1) (es2 : s2' = iI s2) (rs2 : r32 s2) (hF : FX3_set_b247 N RE RN s1 s2 s = some q) : gG m b φ0 σo (lT lU) q (fX3_set_b247 N rE rN 22 s1' s2' h) := by
  subst es1; subst es2
  unfold FX3_set_b247 at hF
  unfold fX3_set_b247
  refine s_kok R (t_22 R.S) (Nat.le_of_ble_eq_true rfl) ?_
  refine s_tB R hb (fun _ hq => SX8_define (b := 3) (N := N) (rE := rE) (RE := RE) (Nat.le_of_ble_eq_true rfl) @hrE (R.rf) rfl rs1 rfl rs2 hq) hF (fun f2 rv2 h2 x2 σ3 R2 e2 E2 hF => ?_)
  exact SX3_set_b250 (N := N) (rE := rE) (RE := RE) (rN := rN) (RN := RN) @hrE @hrN R2 hF
def FX3_set_b242 (N : Nat) (RE : Int → fS → Option ((Unit ⊕ Nat) × fS)) (RN : fS → Option ((Int ⊕ Nat) × fS)) (s1 : Int) (s : fS) : Option ((Unit ⊕ Nat) × fS) :=
  FX3_set_b247 N RE RN s1 1 s
theorem SX3_set_b242 {m b : Nat} {φ0 : Nat → Nat} {σo : fS} (hb : 3 ≤ b) {N : Nat} {rE : Nat → Int32 → eH → Option ((Unit ⊕ Nat) × eH)} {RE : Int → fS → Option ((Unit ⊕ Nat) × fS)} {rN : Nat → eH → Option ((Int32 ⊕ Nat) × eH)} {RN : fS → Option ((Int ⊕ Nat) × fS)} {q : (Unit ⊕ Nat) × fS} (hrE : ∀ {φ : Nat → Nat} {h : eH} {s : fS} {x1' : Int32} {x1 : Int} {q}, fC m 3 φ s φ h s → x1' = iI x1 → r32 x1 → RE x1 s = some q → gG m 3 φ s (lT lU) q (rE 22 x1' h)) (hrN : ∀ {φ : Nat → Nat} {h : eH} {s : fS} {q}, fC m 3 φ s φ h s → RN s = some q → gG m 3 φ s (lT lI) q (rN 22 h)) {φ : Nat → Nat} {h : eH} {s : fS} {s1' : Int32} {s1 : Int} (R : fC m b φ0 σo φ h s) (es1 : s1' = iI s1) (rs1 : r32 s1) (hF : FX3_set_b242 N RE RN s1 s = some q) : gG m b φ0 σo (lT lU) q (fX3_set_b242 N rE rN 22 s1' h) := by
  subst es1
  unfold FX3_set_b242 at hF
  unfold fX3_set_b242
  exact SX3_set_b247 (N := N) (rE := rE) (RE := RE) (rN := rN) (RN := RN) hb @hrE @hrN R rfl rs1 (c_lit 1 1 rfl) ⟨by decide, by decide⟩ hF
def FX3_set (N : Nat) (RE : Int → fS → Option ((Unit ⊕ Nat) × fS)) (RN : fS → Option ((Int ⊕ Nat) × fS)) (p0 : Int) (p1 : Int) (s : fS) : Option ((Unit ⊕ Nat) × fS) :=
  if p0 = 58 then
    tB (FX8_let N p1 s) fun x5 σ6 =>
    FX3_set_b250 N RE RN σ6
  else
    if p0 = 59 then
      tB (FX8_target N s) fun x11 σ12 =>
      tB (FX8_equals N RE σ12) fun x16 σ17 =>
      tB (FX8_within RN 255 σ17) fun x23 σ24 =>
      (FX9_mean N x11 4 x23 p1 σ24).bind fun q26 =>
      FX3_set_b250 N RE RN q26.2
    else
      if p0 = 60 then
        tB (FX3_newFont N RE RN p1 s) fun x29 σ30 =>
        FX3_set_b250 N RE RN σ30
      else
        if p0 = 61 then
          tB (FX8_within RN 255 s) fun x35 σ36 =>
          tB (FX8_equals N RE σ36) fun x40 σ41 =>
          tB (FX8_within RN 15 σ41) fun x47 σ48 =>
          (FX9_set N (iadd 1839 x35) x47 p1 σ48).bind fun q50 =>
          FX3_set_b250 N RE RN q50.2
        else
          if p0 = 62 then
            tB (FX8_reckon N RE RN p0 p1 s) fun x55 σ56 =>
            FX3_set_b250 N RE RN σ56
          else
            if p0 = 63 then
              tB (FX8_reckon N RE RN p0 p1 s) fun x61 σ62 =>
              FX3_set_b250 N RE RN σ62
            else
              if p0 = 64 then
                tB (FX8_reckon N RE RN p0 p1 s) fun x67 σ68 =>
                FX3_set_b250 N RE RN σ68
              else
                if p0 = 65 then
                  tB (FX8_within RN 255 s) fun x73 σ74 =>
                  tB (FX8_equals N RE σ74) fun x78 σ79 =>
                  tB (FX3_solid N RE σ79) fun x83 σ84 =>
                  (FX8_primitive x83 σ84).bind fun q86 =>
                  tB (FX3_readBox N RE RN q86.1 x73 0 p1 q86.2) fun x88 σ89 =>
                  FX3_set_b250 N RE RN σ89
                else
                  if p0 < 67 then
                    if ¬ (p1 = 0) then
                      FX3_set_b242 N RE RN p0 s
                    else
                      if p0 = 56 then
                        FX3_set_b242 N RE RN p0 s
                      else
                        if ¬ (p0 = 57) then
                          FX3_set_b247 N RE RN p0 0 s
                        else
                          FX3_set_b242 N RE RN p0 s
                  else
                    tB (FX8_set N RE RN p0 p1 s) fun x99 σ100 =>
                    FX3_set_b250 N RE RN σ100
theorem SX3_set {m b : Nat} {φ0 : Nat → Nat} {σo : fS} (hb : 3 ≤ b) {N : Nat} {rE : Nat → Int32 → eH → Option ((Unit ⊕ Nat) × eH)} {RE : Int → fS → Option ((Unit ⊕ Nat) × fS)} {rN : Nat → eH → Option ((Int32 ⊕ Nat) × eH)} {RN : fS → Option ((Int ⊕ Nat) × fS)} {q : (Unit ⊕ Nat) × fS} (hrE : ∀ {φ : Nat → Nat} {h : eH} {s : fS} {x1' : Int32} {x1 : Int} {q}, fC m 3 φ s φ h s → x1' = iI x1 → r32 x1 → RE x1 s = some q → gG m 3 φ s (lT lU) q (rE 22 x1' h)) (hrN : ∀ {φ : Nat → Nat} {h : eH} {s : fS} {q}, fC m 3 φ s φ h s → RN s = some q → gG m 3 φ s (lT lI) q (rN 22 h)) {φ : Nat → Nat} {h : eH} {s : fS} {p0' : Int32} {p0 : Int} {p1' : Int32} {p1 : Int} (R : fC m b φ0 σo φ h s) (ep0 : p0' = iI p0) (rp0 : r32 p0) (ep1 : p1' = iI p1) (rp1 : r32 p1) (hF : FX3_set N RE RN p0 p1 s = some q) : gG m b φ0 σo (lT lU) q (fX3_set N rE rN 4 p0' p1' h) := by
  subst ep0; subst ep1
  unfold FX3_set at hF
  unfold fX3_set
  refine s_if (i_eq rfl (c_lit 58 58 rfl) rp0 ⟨by decide, by decide⟩) hF (fun c1 hF => ?_) (fun c1 hF => ?_)
  ·
    refine s_gO R (t_4 R.S) (Nat.le_of_ble_eq_true rfl) rfl (o_4_5 R.S) ?_
    refine s_kok R (t_22 R.S) (Nat.le_of_ble_eq_true rfl) ?_
    refine s_tB R (Nat.le_trans (Nat.le_of_ble_eq_true rfl) hb) (fun _ hq => SX8_let (b := 2) (N := N) (Nat.le_of_ble_eq_true rfl) (R.rf) rfl rp1 hq) hF (fun f4 rv4 h4 x5 σ6 R4 e4 E4 hF => ?_)
    exact SX3_set_b250 (N := N) (rE := rE) (RE := RE) (rN := rN) (RN := RN) @hrE @hrN R4 hF
  ·
    refine s_if (i_eq rfl (c_lit 59 59 rfl) rp0 ⟨by decide, by decide⟩) hF (fun c5 hF => ?_) (fun c5 hF => ?_)
    ·
      refine s_gO R (t_4 R.S) (Nat.le_of_ble_eq_true rfl) rfl (o_4_5 R.S) ?_
      refine s_kok R (t_22 R.S) (Nat.le_of_ble_eq_true rfl) ?_
      refine s_tB R (Nat.le_trans (Nat.le_of_ble_eq_true rfl) hb) (fun _ hq => SX8_target (b := 2) (N := N) (Nat.le_of_ble_eq_true rfl) (R.rf) hq) hF (fun f8 rv8 h8 x11 σ12 R8 e8 E8 hF => ?_)
      refine s_gO R8 (t_4 R8.S) (Nat.le_of_ble_eq_true rfl) rfl (o_4_5 R8.S) ?_
      refine s_kok R8 (t_22 R8.S) (Nat.le_of_ble_eq_true rfl) ?_
      refine s_tB R8 hb (fun _ hq => SX8_equals (b := 3) (N := N) (rE := rE) (RE := RE) (Nat.le_of_ble_eq_true rfl) @hrE (R8.rf) hq) hF (fun f11 rv11 h11 x16 σ17 R11 e11 E11 hF => ?_)
      refine s_gO R11 (t_4 R11.S) (Nat.le_of_ble_eq_true rfl) rfl (o_4_6 R11.S) ?_
      refine s_gO R11 (t_4 R11.S) (Nat.le_of_ble_eq_true rfl) rfl (o_4_5 R11.S) ?_
      refine s_kok R11 (t_22 R11.S) (Nat.le_of_ble_eq_true rfl) ?_
      refine s_tB R11 hb (fun _ hq => SX8_within (b := 3) (rN := rN) (RN := RN) (Nat.le_of_ble_eq_true rfl) @hrN (R11.rf) (c_lit 255 255 rfl) ⟨by decide, by decide⟩ hq) hF (fun f15 rv15 h15 x23 σ24 R15 e15 E15 hF => ?_)
      refine s_kok R15 (t_23 R15.S) (Nat.le_of_ble_eq_true rfl) ?_
      refine s_call R15 (Nat.le_trans (Nat.le_of_ble_eq_true rfl) hb) (fun _ hq => SX9_mean (b := 1) (N := N) (Nat.le_of_ble_eq_true rfl) (R15.rf) e8.1 e8.2 (c_lit 4 4 rfl) ⟨by decide, by decide⟩ e15.1 e15.2 rfl rp1 hq) hF (fun f17 rv17 h17 q26 R17 e17 E17 hF => ?_)
      exact SX3_set_b250 (N := N) (rE := rE) (RE := RE) (rN := rN) (RN := RN) @hrE @hrN R17 hF
    ·
      refine s_if (i_eq rfl (c_lit 60 60 rfl) rp0 ⟨by decide, by decide⟩) hF (fun c18 hF => ?_) (fun c18 hF => ?_)
      ·
        refine s_kok R (t_4 R.S) (Nat.le_of_ble_eq_true rfl) ?_
        refine s_tB R hb (fun _ hq => SX3_newFont (b := 3) (N := N) (rE := rE) (RE := RE) (rN := rN) (RN := RN) (Nat.le_of_ble_eq_true rfl) @hrE @hrN (R.rf) rfl rp1 hq) hF (fun f20 rv20 h20 x29 σ30 R20 e20 E20 hF => ?_)
        exact SX3_set_b250 (N := N) (rE := rE) (RE := RE) (rN := rN) (RN := RN) @hrE @hrN R20 hF
      ·
        refine s_if (i_eq rfl (c_lit 61 61 rfl) rp0 ⟨by decide, by decide⟩) hF (fun c21 hF => ?_) (fun c21 hF => ?_)
        ·
          refine s_gO R (t_4 R.S) (Nat.le_of_ble_eq_true rfl) rfl (o_4_5 R.S) ?_
          refine s_kok R (t_22 R.S) (Nat.le_of_ble_eq_true rfl) ?_
          refine s_tB R hb (fun _ hq => SX8_within (b := 3) (rN := rN) (RN := RN) (Nat.le_of_ble_eq_true rfl) @hrN (R.rf) (c_lit 255 255 rfl) ⟨by decide, by decide⟩ hq) hF (fun f24 rv24 h24 x35 σ36 R24 e24 E24 hF => ?_)
          refine s_gO R24 (t_4 R24.S) (Nat.le_of_ble_eq_true rfl) rfl (o_4_5 R24.S) ?_
          refine s_kok R24 (t_22 R24.S) (Nat.le_of_ble_eq_true rfl) ?_
          refine s_tB R24 hb (fun _ hq => SX8_equals (b := 3) (N := N) (rE := rE) (RE := RE) (Nat.le_of_ble_eq_true rfl) @hrE (R24.rf) hq) hF (fun f27 rv27 h27 x40 σ41 R27 e27 E27 hF => ?_)
          refine s_gO R27 (t_4 R27.S) (Nat.le_of_ble_eq_true rfl) rfl (o_4_6 R27.S) ?_
          refine s_gO R27 (t_4 R27.S) (Nat.le_of_ble_eq_true rfl) rfl (o_4_5 R27.S) ?_
          refine s_kok R27 (t_22 R27.S) (Nat.le_of_ble_eq_true rfl) ?_
          refine s_tB R27 hb (fun _ hq => SX8_within (b := 3) (rN := rN) (RN := RN) (Nat.le_of_ble_eq_true rfl) @hrN (R27.rf) (c_lit 15 15 rfl) ⟨by decide, by decide⟩ hq) hF (fun f31 rv31 h31 x47 σ48 R31 e31 E31 hF => ?_)
          refine s_kok R31 (t_23 R31.S) (Nat.le_of_ble_eq_true rfl) ?_
          refine s_call R31 (Nat.le_trans (Nat.le_of_ble_eq_true rfl) hb) (fun _ hq => SX9_set (b := 1) (N := N) (Nat.le_of_ble_eq_true rfl) (R31.rf) (c_add (c_lit 1839 1839 rfl) e24.1) (rr_I _) e31.1 e31.2 rfl rp1 hq) hF (fun f33 rv33 h33 q50 R33 e33 E33 hF => ?_)
          exact SX3_set_b250 (N := N) (rE := rE) (RE := RE) (rN := rN) (RN := RN) @hrE @hrN R33 hF
        ·
          refine s_if (i_eq rfl (c_lit 62 62 rfl) rp0 ⟨by decide, by decide⟩) hF (fun c34 hF => ?_) (fun c34 hF => ?_)
          ·
            refine s_gO R (t_4 R.S) (Nat.le_of_ble_eq_true rfl) rfl (o_4_5 R.S) ?_
            refine s_kok R (t_22 R.S) (Nat.le_of_ble_eq_true rfl) ?_
            refine s_tB R hb (fun _ hq => SX8_reckon (b := 3) (N := N) (rE := rE) (RE := RE) (rN := rN) (RN := RN) (Nat.le_of_ble_eq_true rfl) @hrE @hrN (R.rf) rfl rp0 rfl rp1 hq) hF (fun f37 rv37 h37 x55 σ56 R37 e37 E37 hF => ?_)
            exact SX3_set_b250 (N := N) (rE := rE) (RE := RE) (rN := rN) (RN := RN) @hrE @hrN R37 hF
          ·
            refine s_if (i_eq rfl (c_lit 63 63 rfl) rp0 ⟨by decide, by decide⟩) hF (fun c38 hF => ?_) (fun c38 hF => ?_)
            ·
              refine s_gO R (t_4 R.S) (Nat.le_of_ble_eq_true rfl) rfl (o_4_5 R.S) ?_
              refine s_kok R (t_22 R.S) (Nat.le_of_ble_eq_true rfl) ?_
              refine s_tB R hb (fun _ hq => SX8_reckon (b := 3) (N := N) (rE := rE) (RE := RE) (rN := rN) (RN := RN) (Nat.le_of_ble_eq_true rfl) @hrE @hrN (R.rf) rfl rp0 rfl rp1 hq) hF (fun f41 rv41 h41 x61 σ62 R41 e41 E41 hF => ?_)
              exact SX3_set_b250 (N := N) (rE := rE) (RE := RE) (rN := rN) (RN := RN) @hrE @hrN R41 hF
            ·
              refine s_if (i_eq rfl (c_lit 64 64 rfl) rp0 ⟨by decide, by decide⟩) hF (fun c42 hF => ?_) (fun c42 hF => ?_)
              ·
                refine s_gO R (t_4 R.S) (Nat.le_of_ble_eq_true rfl) rfl (o_4_5 R.S) ?_
                refine s_kok R (t_22 R.S) (Nat.le_of_ble_eq_true rfl) ?_
                refine s_tB R hb (fun _ hq => SX8_reckon (b := 3) (N := N) (rE := rE) (RE := RE) (rN := rN) (RN := RN) (Nat.le_of_ble_eq_true rfl) @hrE @hrN (R.rf) rfl rp0 rfl rp1 hq) hF (fun f45 rv45 h45 x67 σ68 R45 e45 E45 hF => ?_)
                exact SX3_set_b250 (N := N) (rE := rE) (RE := RE) (rN := rN) (RN := RN) @hrE @hrN R45 hF
              ·
                refine s_if (i_eq rfl (c_lit 65 65 rfl) rp0 ⟨by decide, by decide⟩) hF (fun c46 hF => ?_) (fun c46 hF => ?_)
                ·
                  refine s_gO R (t_4 R.S) (Nat.le_of_ble_eq_true rfl) rfl (o_4_5 R.S) ?_
                  refine s_kok R (t_22 R.S) (Nat.le_of_ble_eq_true rfl) ?_
                  refine s_tB R hb (fun _ hq => SX8_within (b := 3) (rN := rN) (RN := RN) (Nat.le_of_ble_eq_true rfl) @hrN (R.rf) (c_lit 255 255 rfl) ⟨by decide, by decide⟩ hq) hF (fun f49 rv49 h49 x73 σ74 R49 e49 E49 hF => ?_)
                  refine s_gO R49 (t_4 R49.S) (Nat.le_of_ble_eq_true rfl) rfl (o_4_5 R49.S) ?_
                  refine s_kok R49 (t_22 R49.S) (Nat.le_of_ble_eq_true rfl) ?_
                  refine s_tB R49 hb (fun _ hq => SX8_equals (b := 3) (N := N) (rE := rE) (RE := RE) (Nat.le_of_ble_eq_true rfl) @hrE (R49.rf) hq) hF (fun f52 rv52 h52 x78 σ79 R52 e52 E52 hF => ?_)
                  refine s_gO R52 (t_4 R52.S) (Nat.le_of_ble_eq_true rfl) rfl (o_4_5 R52.S) ?_
                  refine s_kok R52 (t_4 R52.S) (Nat.le_of_ble_eq_true rfl) ?_
                  refine s_tB R52 hb (fun _ hq => SX3_solid (b := 3) (N := N) (rE := rE) (RE := RE) (Nat.le_of_ble_eq_true rfl) @hrE (R52.rf) hq) hF (fun f55 rv55 h55 x83 σ84 R55 e55 E55 hF => ?_)
                  refine s_kok R55 (t_22 R55.S) (Nat.le_of_ble_eq_true rfl) ?_
                  refine s_call R55 (Nat.zero_le _) (fun _ hq => SX8_primitive (b := 0) (R55.rf) e55.1 e55.2 hq) hF (fun f57 rv57 h57 q86 R57 e57 E57 hF => ?_)
                  refine s_kok R57 (t_4 R57.S) (Nat.le_of_ble_eq_true rfl) ?_
                  refine s_tB R57 hb (fun _ hq => SX3_readBox (b := 3) (N := N) (rE := rE) (RE := RE) (rN := rN) (RN := RN) (Nat.le_of_ble_eq_true rfl) @hrE @hrN (R57.rf) e57.1 e57.2 e49.1 e49.2 (c_lit 0 0 rfl) ⟨by decide, by decide⟩ rfl rp1 hq) hF (fun f59 rv59 h59 x88 σ89 R59 e59 E59 hF => ?_)
                  exact SX3_set_b250 (N := N) (rE := rE) (RE := RE) (rN := rN) (RN := RN) @hrE @hrN R59 hF
                ·
                  refine s_if (i_lt rfl (c_lit 67 67 rfl) rp0 ⟨by decide, by decide⟩) hF (fun c60 hF => ?_) (fun c60 hF => ?_)
                  ·
                    refine s_gO R (t_4 R.S) (Nat.le_of_ble_eq_true rfl) rfl (o_4_5 R.S) ?_
                    refine s_if (not_congr (i_eq rfl (c_lit 0 0 rfl) rp1 ⟨by decide, by decide⟩)) hF (fun c62 hF => ?_) (fun c62 hF => ?_)
                    ·
                      exact SX3_set_b242 (N := N) (rE := rE) (RE := RE) (rN := rN) (RN := RN) hb @hrE @hrN R rfl rp0 hF
                    ·
                      refine s_if (i_eq rfl (c_lit 56 56 rfl) rp0 ⟨by decide, by decide⟩) hF (fun c63 hF => ?_) (fun c63 hF => ?_)
                      ·
                        exact SX3_set_b242 (N := N) (rE := rE) (RE := RE) (rN := rN) (RN := RN) hb @hrE @hrN R rfl rp0 hF
                      ·
                        refine s_if (not_congr (i_eq rfl (c_lit 57 57 rfl) rp0 ⟨by decide, by decide⟩)) hF (fun c64 hF => ?_) (fun c64 hF => ?_)
                        ·
                          exact SX3_set_b247 (N := N) (rE := rE) (RE := RE) (rN := rN) (RN := RN) hb @hrE @hrN R rfl rp0 (c_lit 0 0 rfl) ⟨by decide, by decide⟩ hF
                        ·
                          exact SX3_set_b242 (N := N) (rE := rE) (RE := RE) (rN := rN) (RN := RN) hb @hrE @hrN R rfl rp0 hF
                  ·
                    refine s_gO R (t_4 R.S) (Nat.le_of_ble_eq_true rfl) rfl (o_4_5 R.S) ?_
                    refine s_kok R (t_22 R.S) (Nat.le_of_ble_eq_true rfl) ?_
                    refine s_tB R hb (fun _ hq => SX8_set (b := 3) (N := N) (rE := rE) (RE := RE) (rN := rN) (RN := RN) (Nat.le_of_ble_eq_true rfl) @hrE @hrN (R.rf) rfl rp0 rfl rp1 hq) hF (fun f67 rv67 h67 x99 σ100 R67 e67 E67 hF => ?_)
                    exact SX3_set_b250 (N := N) (rE := rE) (RE := RE) (rN := rN) (RN := RN) @hrE @hrN R67 hF
def FX3_actGlobal_b39 (N : Nat) (RE : Int → fS → Option ((Unit ⊕ Nat) × fS)) (RN : fS → Option ((Int ⊕ Nat) × fS)) (l1 : Int) (s1 : Int) (s : fS) : Option ((Unit ⊕ Nat) × fS) :=
  tB (FX4_want s1 6 s) fun x2 σ3 =>
  tB (FX3_set N RE RN l1 1 σ3) fun x5 σ6 =>
  some (.inl (), σ6)
theorem SX3_actGlobal_b39 {m b : Nat} {φ0 : Nat → Nat} {σo : fS} (hb : 3 ≤ b) {N : Nat} {rE : Nat → Int32 → eH → Option ((Unit ⊕ Nat) × eH)} {RE : Int → fS → Option ((Unit ⊕ Nat) × fS)} {rN : Nat → eH → Option ((Int32 ⊕ Nat) × eH)} {RN : fS → Option ((Int ⊕ Nat) × fS)} {q : (Unit ⊕ Nat) × fS} (hrE : ∀ {φ : Nat → Nat} {h : eH} {s : fS} {x1' : Int32} {x1 : Int} {q}, fC m 3 φ s φ h s → x1' = iI x1 → r32 x1 → RE x1 s = some q → gG m 3 φ s (lT lU) q (rE 22 x1' h)) (hrN : ∀ {φ : Nat → Nat} {h : eH} {s : fS} {q}, fC m 3 φ s φ h s → RN s = some q → gG m 3 φ s (lT lI) q (rN 22 h)) {φ : Nat → Nat} {h : eH} {s : fS} {l1' : Int32} {l1 : Int} {s1' : Int32} {s1 : Int} (R : fC m b φ0 σo φ h s) (el1 : l1' = iI l1) (rl1 : r32 l1) (es1 : s1' = iI s1) (rs1 : r32 s1) (hF : FX3_actGlobal_b39 N RE RN l1 s1 s = some q) : gG m b φ0 σo (lT lU) q (fX3_actGlobal_b39 N rE rN 4 l1' 5 s1' h) := by
  subst el1; subst es1
  unfold FX3_actGlobal_b39 at hF
  unfold fX3_actGlobal_b39
  refine s_kok R (t_5 R.S) (Nat.le_of_ble_eq_true rfl) ?_
  refine s_tB R (Nat.zero_le _) (fun _ hq => SX4_want (b := 0) (R.rf) rfl rs1 (c_lit 6 6 rfl) ⟨by decide, by decide⟩ hq) hF (fun f2 rv2 h2 x2 σ3 R2 e2 E2 hF => ?_)
  refine s_kok R2 (t_4 R2.S) (Nat.le_of_ble_eq_true rfl) ?_
  refine s_tB R2 hb (fun _ hq => SX3_set (b := 3) (N := N) (rE := rE) (RE := RE) (rN := rN) (RN := RN) (Nat.le_of_ble_eq_true rfl) @hrE @hrN (R2.rf) rfl rl1 (c_lit 1 1 rfl) ⟨by decide, by decide⟩ hq) hF (fun f4 rv4 h4 x5 σ6 R4 e4 E4 hF => ?_)
  exact g_ret R4 hF trivial
def FX3_actGlobal_b3 (N : Nat) (RE : Int → fS → Option ((Unit ⊕ Nat) × fS)) (RN : fS → Option ((Int ⊕ Nat) × fS)) : Nat → Int → fS → Option ((Unit ⊕ Nat) × fS)
  | 0, _, _ => none
  | n + 1, l1, s =>
    if ¬ (l1 = 66) then
      if l1 < 54 then
        FX3_actGlobal_b39 N RE RN l1 0 s
      else
        FX3_actGlobal_b39 N RE RN l1 1 s
    else
      tB (FX3_solid N RE s) fun x8 σ9 =>
      (FX8_primitive x8 σ9).bind fun q11 =>
      FX3_actGlobal_b3 N RE RN n q11.1 q11.2
theorem SX3_actGlobal_b3 {m b : Nat} {φ0 : Nat → Nat} {σo : fS} (hb : 3 ≤ b) {N : Nat} {rE : Nat → Int32 → eH → Option ((Unit ⊕ Nat) × eH)} {RE : Int → fS → Option ((Unit ⊕ Nat) × fS)} {rN : Nat → eH → Option ((Int32 ⊕ Nat) × eH)} {RN : fS → Option ((Int ⊕ Nat) × fS)} {q : (Unit ⊕ Nat) × fS} (hrE : ∀ {φ : Nat → Nat} {h : eH} {s : fS} {x1' : Int32} {x1 : Int} {q}, fC m 3 φ s φ h s → x1' = iI x1 → r32 x1 → RE x1 s = some q → gG m 3 φ s (lT lU) q (rE 22 x1' h)) (hrN : ∀ {φ : Nat → Nat} {h : eH} {s : fS} {q}, fC m 3 φ s φ h s → RN s = some q → gG m 3 φ s (lT lI) q (rN 22 h)) : ∀ {n : Nat} {φ : Nat → Nat} {h : eH} {s : fS} {l1' : Int32} {l1 : Int}, fC m b φ0 σo φ h s → l1' = iI l1 → r32 l1 → FX3_actGlobal_b3 N RE RN n l1 s = some q → gG m b φ0 σo (lT lU) q (fX3_actGlobal_b3 N rE rN n 4 l1' h) := by
  intro n
  induction n with
 | zero => intro φ h s l1' l1 R el1 rl1 hF; simp [FX3_actGlobal_b3] at hF
  | succ n ih =>
    intro φ h s l1' l1 R el1 rl1 hF
    subst el1
    rw [FX3_actGlobal_b3] at hF
    rw [fX3_actGlobal_b3]
    refine s_if (not_congr (i_eq rfl (c_lit 66 66 rfl) rl1 ⟨by decide, by decide⟩)) hF (fun c1 hF => ?_) (fun c1 hF => ?_)
    ·
      refine s_gO R (t_4 R.S) (Nat.le_of_ble_eq_true rfl) rfl (o_4_0 R.S) ?_
      refine s_if (i_lt rfl (c_lit 54 54 rfl) rl1 ⟨by decide, by decide⟩) hF (fun c3 hF => ?_) (fun c3 hF => ?_)
      ·
        exact SX3_actGlobal_b39 (N := N) (rE := rE) (RE := RE) (rN := rN) (RN := RN) hb @hrE @hrN R rfl rl1 (c_lit 0 0 rfl) ⟨by decide, by decide⟩ hF
      ·
        exact SX3_actGlobal_b39 (N := N) (rE := rE) (RE := RE) (rN := rN) (RN := RN) hb @hrE @hrN R rfl rl1 (c_lit 1 1 rfl) ⟨by decide, by decide⟩ hF
    ·
      refine s_gO R (t_4 R.S) (Nat.le_of_ble_eq_true rfl) rfl (o_4_5 R.S) ?_
      refine s_kok R (t_4 R.S) (Nat.le_of_ble_eq_true rfl) ?_
      refine s_tB R hb (fun _ hq => SX3_solid (b := 3) (N := N) (rE := rE) (RE := RE) (Nat.le_of_ble_eq_true rfl) @hrE (R.rf) hq) hF (fun f6 rv6 h6 x8 σ9 R6 e6 E6 hF => ?_)
      refine s_kok R6 (t_22 R6.S) (Nat.le_of_ble_eq_true rfl) ?_
      refine s_call R6 (Nat.zero_le _) (fun _ hq => SX8_primitive (b := 0) (R6.rf) e6.1 e6.2 hq) hF (fun f8 rv8 h8 q11 R8 e8 E8 hF => ?_)
      exact ih R8 e8.1 e8.2 hF
def FX3_actGlobal (N : Nat) (RE : Int → fS → Option ((Unit ⊕ Nat) × fS)) (RN : fS → Option ((Int ⊕ Nat) × fS)) (s : fS) : Option ((Unit ⊕ Nat) × fS) :=
  FX3_actGlobal_b3 N RE RN N 66 s
theorem SX3_actGlobal {m b : Nat} {φ0 : Nat → Nat} {σo : fS} (hb : 3 ≤ b) {N : Nat} {rE : Nat → Int32 → eH → Option ((Unit ⊕ Nat) × eH)} {RE : Int → fS → Option ((Unit ⊕ Nat) × fS)} {rN : Nat → eH → Option ((Int32 ⊕ Nat) × eH)} {RN : fS → Option ((Int ⊕ Nat) × fS)} {q : (Unit ⊕ Nat) × fS} (hrE : ∀ {φ : Nat → Nat} {h : eH} {s : fS} {x1' : Int32} {x1 : Int} {q}, fC m 3 φ s φ h s → x1' = iI x1 → r32 x1 → RE x1 s = some q → gG m 3 φ s (lT lU) q (rE 22 x1' h)) (hrN : ∀ {φ : Nat → Nat} {h : eH} {s : fS} {q}, fC m 3 φ s φ h s → RN s = some q → gG m 3 φ s (lT lI) q (rN 22 h)) {φ : Nat → Nat} {h : eH} {s : fS} (R : fC m b φ0 σo φ h s) (hF : FX3_actGlobal N RE RN s = some q) : gG m b φ0 σo (lT lU) q (fX3_actGlobal N rE rN 4 h) := by
  unfold FX3_actGlobal at hF
  unfold fX3_actGlobal
  exact SX3_actGlobal_b3 (N := N) (rE := rE) (RE := RE) (rN := rN) (RN := RN) hb @hrE @hrN R (c_lit 66 66 rfl) ⟨by decide, by decide⟩ hF
def FX3_actSkip_b66 (N : Nat) (RE : Int → fS → Option ((Unit ⊕ Nat) × fS)) (RN : fS → Option ((Int ⊕ Nat) × fS)) (s : fS) : Option ((Unit ⊕ Nat) × fS) :=
  some (.inl (), s)
theorem SX3_actSkip_b66 {m b : Nat} {φ0 : Nat → Nat} {σo : fS} {N : Nat} {rE : Nat → Int32 → eH → Option ((Unit ⊕ Nat) × eH)} {RE : Int → fS → Option ((Unit ⊕ Nat) × fS)} {rN : Nat → eH → Option ((Int32 ⊕ Nat) × eH)} {RN : fS → Option ((Int ⊕ Nat) × fS)} {q : (Unit ⊕ Nat) × fS} (hrE : ∀ {φ : Nat → Nat} {h : eH} {s : fS} {x1' : Int32} {x1 : Int} {q}, fC m 3 φ s φ h s → x1' = iI x1 → r32 x1 → RE x1 s = some q → gG m 3 φ s (lT lU) q (rE 22 x1' h)) (hrN : ∀ {φ : Nat → Nat} {h : eH} {s : fS} {q}, fC m 3 φ s φ h s → RN s = some q → gG m 3 φ s (lT lI) q (rN 22 h)) {φ : Nat → Nat} {h : eH} {s : fS} (R : fC m b φ0 σo φ h s) (hF : FX3_actSkip_b66 N RE RN s = some q) : gG m b φ0 σo (lT lU) q (fX3_actSkip_b66 N rE rN h) := by
  unfold FX3_actSkip_b66 at hF
  unfold fX3_actSkip_b66
  exact g_ret R hF trivial
def FX3_actSkip (N : Nat) (RE : Int → fS → Option ((Unit ⊕ Nat) × fS)) (RN : fS → Option ((Int ⊕ Nat) × fS)) (p0 : Int) (p1 : Int) (s : fS) : Option ((Unit ⊕ Nat) × fS) :=
  if p0 = 0 then
    tB (FX3_add N 2 0 65536 p1 0 s) fun x3 σ4 =>
    FX3_actSkip_b66 N RE RN σ4
  else
    tB (FX8_glue N RE RN s) fun x8 σ9 =>
    (uRI σ9 43 0).bind fun x14 =>
    (uRI σ9 43 1).bind fun x20 =>
    (uRI σ9 43 2).bind fun x26 =>
    (uRI σ9 43 3).bind fun x32 =>
    tB (FX3_add N 2 x14 x20 x26 x32 σ9) fun x35 σ36 =>
    FX3_actSkip_b66 N RE RN σ36
theorem SX3_actSkip {m b : Nat} {φ0 : Nat → Nat} {σo : fS} (hb : 3 ≤ b) {N : Nat} {rE : Nat → Int32 → eH → Option ((Unit ⊕ Nat) × eH)} {RE : Int → fS → Option ((Unit ⊕ Nat) × fS)} {rN : Nat → eH → Option ((Int32 ⊕ Nat) × eH)} {RN : fS → Option ((Int ⊕ Nat) × fS)} {q : (Unit ⊕ Nat) × fS} (hrE : ∀ {φ : Nat → Nat} {h : eH} {s : fS} {x1' : Int32} {x1 : Int} {q}, fC m 3 φ s φ h s → x1' = iI x1 → r32 x1 → RE x1 s = some q → gG m 3 φ s (lT lU) q (rE 22 x1' h)) (hrN : ∀ {φ : Nat → Nat} {h : eH} {s : fS} {q}, fC m 3 φ s φ h s → RN s = some q → gG m 3 φ s (lT lI) q (rN 22 h)) {φ : Nat → Nat} {h : eH} {s : fS} {p0' : Int32} {p0 : Int} {p1' : Int32} {p1 : Int} (R : fC m b φ0 σo φ h s) (ep0 : p0' = iI p0) (rp0 : r32 p0) (ep1 : p1' = iI p1) (rp1 : r32 p1) (hF : FX3_actSkip N RE RN p0 p1 s = some q) : gG m b φ0 σo (lT lU) q (fX3_actSkip N rE rN 4 p0' p1' h) := by
  subst ep0; subst ep1
  unfold FX3_actSkip at hF
  unfold fX3_actSkip
  refine s_if (i_eq rfl (c_lit 0 0 rfl) rp0 ⟨by decide, by decide⟩) hF (fun c1 hF => ?_) (fun c1 hF => ?_)
  ·
    refine s_kok R (t_4 R.S) (Nat.le_of_ble_eq_true rfl) ?_
    refine s_tB R (Nat.le_trans (Nat.le_of_ble_eq_true rfl) hb) (fun _ hq => SX3_add (b := 1) (N := N) (Nat.le_of_ble_eq_true rfl) (R.rf) (c_lit 2 2 rfl) ⟨by decide, by decide⟩ (c_lit 0 0 rfl) ⟨by decide, by decide⟩ (c_lit 65536 65536 rfl) ⟨by decide, by decide⟩ rfl rp1 (c_lit 0 0 rfl) ⟨by decide, by decide⟩ hq) hF (fun f3 rv3 h3 x3 σ4 R3 e3 E3 hF => ?_)
    exact SX3_actSkip_b66 (N := N) (rE := rE) (RE := RE) (rN := rN) (RN := RN) @hrE @hrN R3 hF
  ·
    refine s_gO R (t_4 R.S) (Nat.le_of_ble_eq_true rfl) rfl (o_4_5 R.S) ?_
    refine s_kok R (t_22 R.S) (Nat.le_of_ble_eq_true rfl) ?_
    refine s_tB R hb (fun _ hq => SX8_glue (b := 3) (N := N) (rE := rE) (RE := RE) (rN := rN) (RN := RN) (Nat.le_of_ble_eq_true rfl) @hrE @hrN (R.rf) hq) hF (fun f6 rv6 h6 x8 σ9 R6 e6 E6 hF => ?_)
    refine s_gO R6 (t_4 R6.S) (Nat.le_of_ble_eq_true rfl) rfl (o_4_5 R6.S) ?_
    refine s_gAs R6 (t_22 R6.S) (Nat.le_of_ble_eq_true rfl) rfl (o_22_29 R6.S) (a_43 R6) ?_
    refine s_rI R6 (u_43 R6.S).1 (u_43 R6.S).2 (by decide) (a_43 R6) (c_lit 0 0 rfl) ⟨by decide, by decide⟩ hF (fun x14 ra9 hF => ?_)
    refine s_gO R6 (t_4 R6.S) (Nat.le_of_ble_eq_true rfl) rfl (o_4_5 R6.S) ?_
    refine s_gAs R6 (t_22 R6.S) (Nat.le_of_ble_eq_true rfl) rfl (o_22_29 R6.S) (a_43 R6) ?_
    refine s_rI R6 (u_43 R6.S).1 (u_43 R6.S).2 (by decide) (a_43 R6) (c_lit 1 1 rfl) ⟨by decide, by decide⟩ hF (fun x20 ra12 hF => ?_)
    refine s_gO R6 (t_4 R6.S) (Nat.le_of_ble_eq_true rfl) rfl (o_4_5 R6.S) ?_
    refine s_gAs R6 (t_22 R6.S) (Nat.le_of_ble_eq_true rfl) rfl (o_22_29 R6.S) (a_43 R6) ?_
    refine s_rI R6 (u_43 R6.S).1 (u_43 R6.S).2 (by decide) (a_43 R6) (c_lit 2 2 rfl) ⟨by decide, by decide⟩ hF (fun x26 ra15 hF => ?_)
    refine s_gO R6 (t_4 R6.S) (Nat.le_of_ble_eq_true rfl) rfl (o_4_5 R6.S) ?_
    refine s_gAs R6 (t_22 R6.S) (Nat.le_of_ble_eq_true rfl) rfl (o_22_29 R6.S) (a_43 R6) ?_
    refine s_rI R6 (u_43 R6.S).1 (u_43 R6.S).2 (by decide) (a_43 R6) (c_lit 3 3 rfl) ⟨by decide, by decide⟩ hF (fun x32 ra18 hF => ?_)
    refine s_kok R6 (t_4 R6.S) (Nat.le_of_ble_eq_true rfl) ?_
    refine s_tB R6 (Nat.le_trans (Nat.le_of_ble_eq_true rfl) hb) (fun _ hq => SX3_add (b := 1) (N := N) (Nat.le_of_ble_eq_true rfl) (R6.rf) (c_lit 2 2 rfl) ⟨by decide, by decide⟩ rfl ra9 rfl ra12 rfl ra15 rfl ra18 hq) hF (fun f20 rv20 h20 x35 σ36 R20 e20 E20 hF => ?_)
    exact SX3_actSkip_b66 (N := N) (rE := rE) (RE := RE) (rN := rN) (RN := RN) @hrE @hrN R20 hF
def FX3_wantVertical_b44 (N : Nat) (s : fS) : Option ((Unit ⊕ Nat) × fS) :=
  some (.inl (), s)
theorem SX3_wantVertical_b44 {m b : Nat} {φ0 : Nat → Nat} {σo : fS} {N : Nat} {q : (Unit ⊕ Nat) × fS} {φ : Nat → Nat} {h : eH} {s : fS} (R : fC m b φ0 σo φ h s) (hF : FX3_wantVertical_b44 N s = some q) : gG m b φ0 σo (lT lU) q (fX3_wantVertical_b44 N h) := by
  unfold FX3_wantVertical_b44 at hF
  unfold fX3_wantVertical_b44
  exact g_ret R hF trivial
def FX3_wantVertical_b22 (N : Nat) (s1 : Int) (s : fS) : Option ((Unit ⊕ Nat) × fS) :=
  tB (FX4_want s1 15 s) fun x2 σ3 =>
  (uRI σ3 176 (σ3.i 4 27)).bind fun x8 =>
  if ¬ (x8 = 2) then
    FX3_wantVertical_b44 N σ3
  else
    tB (FX3_endParagraph N σ3) fun x12 σ13 =>
    FX3_wantVertical_b44 N σ13
theorem SX3_wantVertical_b22 {m b : Nat} {φ0 : Nat → Nat} {σo : fS} (hb : 1 ≤ b) {N : Nat} {q : (Unit ⊕ Nat) × fS} {φ : Nat → Nat} {h : eH} {s : fS} {s1' : Int32} {s1 : Int} (R : fC m b φ0 σo φ h s) (es1 : s1' = iI s1) (rs1 : r32 s1) (hF : FX3_wantVertical_b22 N s1 s = some q) : gG m b φ0 σo (lT lU) q (fX3_wantVertical_b22 N 4 5 s1' h) := by
  subst es1
  unfold FX3_wantVertical_b22 at hF
  unfold fX3_wantVertical_b22
  refine s_kok R (t_5 R.S) (Nat.le_of_ble_eq_true rfl) ?_
  refine s_tB R (Nat.zero_le _) (fun _ hq => SX4_want (b := 0) (R.rf) rfl rs1 (c_lit 15 15 rfl) ⟨by decide, by decide⟩ hq) hF (fun f2 rv2 h2 x2 σ3 R2 e2 E2 hF => ?_)
  refine s_gAs R2 (t_4 R2.S) (Nat.le_of_ble_eq_true rfl) rfl (o_4_19 R2.S) (a_176 R2) ?_
  refine s_gI R2 (t_4 R2.S) (Nat.le_of_ble_eq_true rfl) rfl ?_
  refine s_rI R2 (u_176 R2.S).1 (u_176 R2.S).2 (by decide) (a_176 R2) rfl (R2.ri (t_4 R2.S) (Nat.le_of_ble_eq_true rfl) rfl) hF (fun x8 ra5 hF => ?_)
  refine s_if (not_congr (i_eq rfl (c_lit 2 2 rfl) ra5 ⟨by decide, by decide⟩)) hF (fun c6 hF => ?_) (fun c6 hF => ?_)
  ·
    exact SX3_wantVertical_b44 (N := N) R2 hF
  ·
    refine s_kok R2 (t_4 R2.S) (Nat.le_of_ble_eq_true rfl) ?_
    refine s_tB R2 hb (fun _ hq => SX3_endParagraph (b := 1) (N := N) (Nat.le_of_ble_eq_true rfl) (R2.rf) hq) hF (fun f8 rv8 h8 x12 σ13 R8 e8 E8 hF => ?_)
    exact SX3_wantVertical_b44 (N := N) R8 hF
def FX3_wantVertical (N : Nat) (s : fS) : Option ((Unit ⊕ Nat) × fS) :=
  (uRI s 176 (s.i 4 27)).bind fun x7 =>
  if x7 = 3 then
    FX3_wantVertical_b22 N 0 s
  else
    FX3_wantVertical_b22 N 1 s
theorem SX3_wantVertical {m b : Nat} {φ0 : Nat → Nat} {σo : fS} (hb : 1 ≤ b) {N : Nat} {q : (Unit ⊕ Nat) × fS} {φ : Nat → Nat} {h : eH} {s : fS} (R : fC m b φ0 σo φ h s) (hF : FX3_wantVertical N s = some q) : gG m b φ0 σo (lT lU) q (fX3_wantVertical N 4 h) := by
  unfold FX3_wantVertical at hF
  unfold fX3_wantVertical
  refine s_gO R (t_4 R.S) (Nat.le_of_ble_eq_true rfl) rfl (o_4_0 R.S) ?_
  refine s_gAs R (t_4 R.S) (Nat.le_of_ble_eq_true rfl) rfl (o_4_19 R.S) (a_176 R) ?_
  refine s_gI R (t_4 R.S) (Nat.le_of_ble_eq_true rfl) rfl ?_
  refine s_rI R (u_176 R.S).1 (u_176 R.S).2 (by decide) (a_176 R) rfl (R.ri (t_4 R.S) (Nat.le_of_ble_eq_true rfl) rfl) hF (fun x7 ra4 hF => ?_)
  refine s_if (i_eq rfl (c_lit 3 3 rfl) ra4 ⟨by decide, by decide⟩) hF (fun c5 hF => ?_) (fun c5 hF => ?_)
  ·
    exact SX3_wantVertical_b22 (N := N) hb R (c_lit 0 0 rfl) ⟨by decide, by decide⟩ hF
  ·
    exact SX3_wantVertical_b22 (N := N) hb R (c_lit 1 1 rfl) ⟨by decide, by decide⟩ hF
def FX3_rule_b12 (N : Nat) (RE : Int → fS → Option ((Unit ⊕ Nat) × fS)) (RN : fS → Option ((Int ⊕ Nat) × fS)) : Nat → Int → Int → Int → Int → fS → Option ((Unit ⊕ Nat) × fS)
  | 0, _, _, _, _, _ => none
  | n + 1, l4, l5, l6, l7, s =>
    if l7 = 0 then
      tB (FX3_add N 1 l4 l5 l6 0 s) fun x3 σ4 =>
      some (.inl (), σ4)
    else
      tB (FX8_keyword N RE 1000000119 s) fun x8 σ9 =>
      if x8 = 0 then
        tB (FX8_keyword N RE 1000000120 σ9) fun x14 σ15 =>
        if x14 = 0 then
          tB (FX8_keyword N RE 1000000121 σ15) fun x20 σ21 =>
          if x20 = 0 then
            FX3_rule_b12 N RE RN n l4 l5 l6 0 σ21
          else
            tB (FX8_dimension N RE RN σ21) fun x26 σ27 =>
            FX3_rule_b12 N RE RN n l4 l5 x26 l7 σ27
        else
          tB (FX8_dimension N RE RN σ15) fun x31 σ32 =>
          FX3_rule_b12 N RE RN n l4 x31 l6 l7 σ32
      else
        tB (FX8_dimension N RE RN σ9) fun x36 σ37 =>
        FX3_rule_b12 N RE RN n x36 l5 l6 l7 σ37
theorem SX3_rule_b12 {m b : Nat} {φ0 : Nat → Nat} {σo : fS} (hb : 3 ≤ b) {N : Nat} {rE : Nat → Int32 → eH → Option ((Unit ⊕ Nat) × eH)} {RE : Int → fS → Option ((Unit ⊕ Nat) × fS)} {rN : Nat → eH → Option ((Int32 ⊕ Nat) × eH)} {RN : fS → Option ((Int ⊕ Nat) × fS)} {q : (Unit ⊕ Nat) × fS} (hrE : ∀ {φ : Nat → Nat} {h : eH} {s : fS} {x1' : Int32} {x1 : Int} {q}, fC m 3 φ s φ h s → x1' = iI x1 → r32 x1 → RE x1 s = some q → gG m 3 φ s (lT lU) q (rE 22 x1' h)) (hrN : ∀ {φ : Nat → Nat} {h : eH} {s : fS} {q}, fC m 3 φ s φ h s → RN s = some q → gG m 3 φ s (lT lI) q (rN 22 h)) : ∀ {n : Nat} {φ : Nat → Nat} {h : eH} {s : fS} {l4' : Int32} {l4 : Int} {l5' : Int32} {l5 : Int} {l6' : Int32} {l6 : Int} {l7' : Int32} {l7 : Int}, fC m b φ0 σo φ h s → l4' = iI l4 → r32 l4 → l5' = iI l5 → r32 l5 → l6' = iI l6 → r32 l6 → l7' = iI l7 → r32 l7 → FX3_rule_b12 N RE RN n l4 l5 l6 l7 s = some q → gG m b φ0 σo (lT lU) q (fX3_rule_b12 N rE rN n 4 l4' l5' l6' l7' h) := by
  intro n
  induction n with
 | zero => intro φ h s l4' l4 l5' l5 l6' l6 l7' l7 R el4 rl4 el5 rl5 el6 rl6 el7 rl7 hF; simp [FX3_rule_b12] at hF
  | succ n ih =>
    intro φ h s l4' l4 l5' l5 l6' l6 l7' l7 R el4 rl4 el5 rl5 el6 rl6 el7 rl7 hF
    subst el4; subst el5; subst el6; subst el7
    rw [FX3_rule_b12] at hF
    rw [fX3_rule_b12]
    refine s_if (i_eq rfl (c_lit 0 0 rfl) rl7 ⟨by decide, by decide⟩) hF (fun c1 hF => ?_) (fun c1 hF => ?_)
    ·
      refine s_kok R (t_4 R.S) (Nat.le_of_ble_eq_true rfl) ?_
      refine s_tB R (Nat.le_trans (Nat.le_of_ble_eq_true rfl) hb) (fun _ hq => SX3_add (b := 1) (N := N) (Nat.le_of_ble_eq_true rfl) (R.rf) (c_lit 1 1 rfl) ⟨by decide, by decide⟩ rfl rl4 rfl rl5 rfl rl6 (c_lit 0 0 rfl) ⟨by decide, by decide⟩ hq) hF (fun f3 rv3 h3 x3 σ4 R3 e3 E3 hF => ?_)
      exact g_ret R3 hF trivial
    ·
      refine s_gO R (t_4 R.S) (Nat.le_of_ble_eq_true rfl) rfl (o_4_5 R.S) ?_
      refine s_kok R (t_22 R.S) (Nat.le_of_ble_eq_true rfl) ?_
      refine s_tB R hb (fun _ hq => SX8_keyword (b := 3) (N := N) (rE := rE) (RE := RE) (Nat.le_of_ble_eq_true rfl) @hrE (R.rf) hq) hF (fun f6 rv6 h6 x8 σ9 R6 e6 E6 hF => ?_)
      refine s_if (i_eq e6.1 (c_lit 0 0 rfl) e6.2 ⟨by decide, by decide⟩) hF (fun c7 hF => ?_) (fun c7 hF => ?_)
      ·
        refine s_gO R6 (t_4 R6.S) (Nat.le_of_ble_eq_true rfl) rfl (o_4_5 R6.S) ?_
        refine s_kok R6 (t_22 R6.S) (Nat.le_of_ble_eq_true rfl) ?_
        refine s_tB R6 hb (fun _ hq => SX8_keyword (b := 3) (N := N) (rE := rE) (RE := RE) (Nat.le_of_ble_eq_true rfl) @hrE (R6.rf) hq) hF (fun f10 rv10 h10 x14 σ15 R10 e10 E10 hF => ?_)
        refine s_if (i_eq e10.1 (c_lit 0 0 rfl) e10.2 ⟨by decide, by decide⟩) hF (fun c11 hF => ?_) (fun c11 hF => ?_)
        ·
          refine s_gO R10 (t_4 R10.S) (Nat.le_of_ble_eq_true rfl) rfl (o_4_5 R10.S) ?_
          refine s_kok R10 (t_22 R10.S) (Nat.le_of_ble_eq_true rfl) ?_
          refine s_tB R10 hb (fun _ hq => SX8_keyword (b := 3) (N := N) (rE := rE) (RE := RE) (Nat.le_of_ble_eq_true rfl) @hrE (R10.rf) hq) hF (fun f14 rv14 h14 x20 σ21 R14 e14 E14 hF => ?_)
          refine s_if (i_eq e14.1 (c_lit 0 0 rfl) e14.2 ⟨by decide, by decide⟩) hF (fun c15 hF => ?_) (fun c15 hF => ?_)
          ·
            exact ih R14 rfl rl4 rfl rl5 rfl rl6 (c_lit 0 0 rfl) ⟨by decide, by decide⟩ hF
          ·
            refine s_gO R14 (t_4 R14.S) (Nat.le_of_ble_eq_true rfl) rfl (o_4_5 R14.S) ?_
            refine s_kok R14 (t_22 R14.S) (Nat.le_of_ble_eq_true rfl) ?_
            refine s_tB R14 hb (fun _ hq => SX8_dimension (b := 3) (N := N) (rE := rE) (RE := RE) (rN := rN) (RN := RN) (Nat.le_of_ble_eq_true rfl) @hrE @hrN (R14.rf) hq) hF (fun f18 rv18 h18 x26 σ27 R18 e18 E18 hF => ?_)
            exact ih R18 rfl rl4 rfl rl5 e18.1 e18.2 rfl rl7 hF
        ·
          refine s_gO R10 (t_4 R10.S) (Nat.le_of_ble_eq_true rfl) rfl (o_4_5 R10.S) ?_
          refine s_kok R10 (t_22 R10.S) (Nat.le_of_ble_eq_true rfl) ?_
          refine s_tB R10 hb (fun _ hq => SX8_dimension (b := 3) (N := N) (rE := rE) (RE := RE) (rN := rN) (RN := RN) (Nat.le_of_ble_eq_true rfl) @hrE @hrN (R10.rf) hq) hF (fun f21 rv21 h21 x31 σ32 R21 e21 E21 hF => ?_)
          exact ih R21 rfl rl4 e21.1 e21.2 rfl rl6 rfl rl7 hF
      ·
        refine s_gO R6 (t_4 R6.S) (Nat.le_of_ble_eq_true rfl) rfl (o_4_5 R6.S) ?_
        refine s_kok R6 (t_22 R6.S) (Nat.le_of_ble_eq_true rfl) ?_
        refine s_tB R6 hb (fun _ hq => SX8_dimension (b := 3) (N := N) (rE := rE) (RE := RE) (rN := rN) (RN := RN) (Nat.le_of_ble_eq_true rfl) @hrE @hrN (R6.rf) hq) hF (fun f24 rv24 h24 x36 σ37 R24 e24 E24 hF => ?_)
        exact ih R24 e24.1 e24.2 rfl rl5 rfl rl6 rfl rl7 hF
def FX3_rule (N : Nat) (RE : Int → fS → Option ((Unit ⊕ Nat) × fS)) (RN : fS → Option ((Int ⊕ Nat) × fS)) (p0 : Int) (p1 : Int) (p2 : Int) (s : fS) : Option ((Unit ⊕ Nat) × fS) :=
  FX3_rule_b12 N RE RN N p0 p1 p2 1 s
theorem SX3_rule {m b : Nat} {φ0 : Nat → Nat} {σo : fS} (hb : 3 ≤ b) {N : Nat} {rE : Nat → Int32 → eH → Option ((Unit ⊕ Nat) × eH)} {RE : Int → fS → Option ((Unit ⊕ Nat) × fS)} {rN : Nat → eH → Option ((Int32 ⊕ Nat) × eH)} {RN : fS → Option ((Int ⊕ Nat) × fS)} {q : (Unit ⊕ Nat) × fS} (hrE : ∀ {φ : Nat → Nat} {h : eH} {s : fS} {x1' : Int32} {x1 : Int} {q}, fC m 3 φ s φ h s → x1' = iI x1 → r32 x1 → RE x1 s = some q → gG m 3 φ s (lT lU) q (rE 22 x1' h)) (hrN : ∀ {φ : Nat → Nat} {h : eH} {s : fS} {q}, fC m 3 φ s φ h s → RN s = some q → gG m 3 φ s (lT lI) q (rN 22 h)) {φ : Nat → Nat} {h : eH} {s : fS} {p0' : Int32} {p0 : Int} {p1' : Int32} {p1 : Int} {p2' : Int32} {p2 : Int} (R : fC m b φ0 σo φ h s) (ep0 : p0' = iI p0) (rp0 : r32 p0) (ep1 : p1' = iI p1) (rp1 : r32 p1) (ep2 : p2' = iI p2) (rp2 : r32 p2) (hF : FX3_rule N RE RN p0 p1 p2 s = some q) : gG m b φ0 σo (lT lU) q (fX3_rule N rE rN 4 p0' p1' p2' h) := by
  subst ep0; subst ep1; subst ep2
  unfold FX3_rule at hF
  unfold fX3_rule
  exact SX3_rule_b12 (N := N) (rE := rE) (RE := RE) (rN := rN) (RN := RN) hb @hrE @hrN R rfl rp0 rfl rp1 rfl rp2 (c_lit 1 1 rfl) ⟨by decide, by decide⟩ hF
def FX3_dash_b68 (s : fS) : Option ((Unit ⊕ Nat) × fS) :=
  some (.inl (), s)
theorem SX3_dash_b68 {m b : Nat} {φ0 : Nat → Nat} {σo : fS} {q : (Unit ⊕ Nat) × fS} {φ : Nat → Nat} {h : eH} {s : fS} (R : fC m b φ0 σo φ h s) (hF : FX3_dash_b68 s = some q) : gG m b φ0 σo (lT lU) q (fX3_dash_b68 h) := by
  unfold FX3_dash_b68 at hF
  unfold fX3_dash_b68
  exact g_ret R hF trivial
def FX3_dash_b57 (s : fS) : Option ((Unit ⊕ Nat) × fS) :=
  tB (FX3_put 6 0 0 0 0 0 s) fun x2 σ3 =>
  FX3_dash_b68 σ3
theorem SX3_dash_b57 {m b : Nat} {φ0 : Nat → Nat} {σo : fS} (hb : 1 ≤ b) {q : (Unit ⊕ Nat) × fS} {φ : Nat → Nat} {h : eH} {s : fS} (R : fC m b φ0 σo φ h s) (hF : FX3_dash_b57 s = some q) : gG m b φ0 σo (lT lU) q (fX3_dash_b57 4 h) := by
  unfold FX3_dash_b57 at hF
  unfold fX3_dash_b57
  refine s_kok R (t_4 R.S) (Nat.le_of_ble_eq_true rfl) ?_
  refine s_tB R hb (fun _ hq => SX3_put (b := 1) (Nat.le_of_ble_eq_true rfl) (R.rf) (c_lit 6 6 rfl) ⟨by decide, by decide⟩ (c_lit 0 0 rfl) ⟨by decide, by decide⟩ (c_lit 0 0 rfl) ⟨by decide, by decide⟩ (c_lit 0 0 rfl) ⟨by decide, by decide⟩ (c_lit 0 0 rfl) ⟨by decide, by decide⟩ (c_lit 0 0 rfl) ⟨by decide, by decide⟩ hq) hF (fun f2 rv2 h2 x2 σ3 R2 e2 E2 hF => ?_)
  exact SX3_dash_b68 R2 hF
def FX3_dash (s : fS) : Option ((Unit ⊕ Nat) × fS) :=
  (uRI s 176 (s.i 4 27)).bind fun x5 =>
  if x5 = 2 then
    (uRI s 27 2095).bind fun x12 =>
    if x12 = (-1) then
      FX3_dash_b57 s
    else
      (uRO s 8 x12).bind fun a19 =>
      (uK 5 s a19).bind fun _ =>
      (FX6_has a19 45 s).bind fun q22 =>
      if q22.1 = 0 then
        FX3_dash_b57 q22.2
      else
        tB (FX3_addHyphen x12 0 q22.2) fun x25 σ26 =>
        FX3_dash_b68 σ26
  else
    some (.inl (), s)
theorem SX3_dash {m b : Nat} {φ0 : Nat → Nat} {σo : fS} (hb : 1 ≤ b) {q : (Unit ⊕ Nat) × fS} {φ : Nat → Nat} {h : eH} {s : fS} (R : fC m b φ0 σo φ h s) (hF : FX3_dash s = some q) : gG m b φ0 σo (lT lU) q (fX3_dash 4 h) := by
  unfold FX3_dash at hF
  unfold fX3_dash
  refine s_gAs R (t_4 R.S) (Nat.le_of_ble_eq_true rfl) rfl (o_4_19 R.S) (a_176 R) ?_
  refine s_gI R (t_4 R.S) (Nat.le_of_ble_eq_true rfl) rfl ?_
  refine s_rI R (u_176 R.S).1 (u_176 R.S).2 (by decide) (a_176 R) rfl (R.ri (t_4 R.S) (Nat.le_of_ble_eq_true rfl) rfl) hF (fun x5 ra3 hF => ?_)
  refine s_if (i_eq rfl (c_lit 2 2 rfl) ra3 ⟨by decide, by decide⟩) hF (fun c4 hF => ?_) (fun c4 hF => ?_)
  ·
    refine s_gO R (t_4 R.S) (Nat.le_of_ble_eq_true rfl) rfl (o_4_6 R.S) ?_
    refine s_gAs R (t_23 R.S) (Nat.le_of_ble_eq_true rfl) rfl (o_23_3 R.S) (a_27 R) ?_
    refine s_rI R (u_27 R.S).1 (u_27 R.S).2 (by decide) (a_27 R) (c_lit 2095 2095 rfl) ⟨by decide, by decide⟩ hF (fun x12 ra7 hF => ?_)
    refine s_if (i_eq rfl (c_lit (-1) (-1) rfl) ra7 ⟨by decide, by decide⟩) hF (fun c8 hF => ?_) (fun c8 hF => ?_)
    ·
      exact SX3_dash_b57 hb R hF
    ·
      refine s_gO R (t_4 R.S) (Nat.le_of_ble_eq_true rfl) rfl (o_4_1 R.S) ?_
      refine s_gAs R (t_6 R.S) (Nat.le_of_ble_eq_true rfl) rfl (o_6_1 R.S) (a_8 R) ?_
      refine s_rO R (u_8 R.S).1 (u_8 R.S).2 rfl (fun _ => rfl) (Nat.le_of_ble_eq_true rfl) (a_8 R) rfl ra7 hF (fun a19 y11 hF => ?_)
      refine s_K hF (fun t13 hF => ?_)
      refine s_kok R t13 (Nat.le_of_ble_eq_true rfl) ?_
      refine s_call R (Nat.zero_le _) (fun _ hq => SX6_has (b := 0) (R.rf) (c_lit 45 45 rfl) ⟨by decide, by decide⟩ hq) hF (fun f14 rv14 h14 q22 R14 e14 E14 hF => ?_)
      refine s_if (i_eq e14.1 (c_lit 0 0 rfl) e14.2 ⟨by decide, by decide⟩) hF (fun c15 hF => ?_) (fun c15 hF => ?_)
      ·
        exact SX3_dash_b57 hb R14 hF
      ·
        refine s_kok R14 (t_4 R14.S) (Nat.le_of_ble_eq_true rfl) ?_
        refine s_tB R14 hb (fun _ hq => SX3_addHyphen (b := 1) (Nat.le_of_ble_eq_true rfl) (R14.rf) rfl ra7 (c_lit 0 0 rfl) ⟨by decide, by decide⟩ hq) hF (fun f17 rv17 h17 x25 σ26 R17 e17 E17 hF => ?_)
        exact SX3_dash_b68 R17 hF
  ·
    exact g_ret R hF trivial
def FX3_actBox_b85 (N : Nat) (RE : Int → fS → Option ((Unit ⊕ Nat) × fS)) (RN : fS → Option ((Int ⊕ Nat) × fS)) (s0 : Int) (s : fS) : Option ((Unit ⊕ Nat) × fS) :=
  tB (FX3_solid N RE s) fun x4 σ5 =>
  (FX8_primitive x4 σ5).bind fun q7 =>
  tB (FX3_readBox N RE RN q7.1 (-1) s0 0 q7.2) fun x9 σ10 =>
  some (.inl (), σ10)
theorem SX3_actBox_b85 {m b : Nat} {φ0 : Nat → Nat} {σo : fS} (hb : 3 ≤ b) {N : Nat} {rE : Nat → Int32 → eH → Option ((Unit ⊕ Nat) × eH)} {RE : Int → fS → Option ((Unit ⊕ Nat) × fS)} {rN : Nat → eH → Option ((Int32 ⊕ Nat) × eH)} {RN : fS → Option ((Int ⊕ Nat) × fS)} {q : (Unit ⊕ Nat) × fS} (hrE : ∀ {φ : Nat → Nat} {h : eH} {s : fS} {x1' : Int32} {x1 : Int} {q}, fC m 3 φ s φ h s → x1' = iI x1 → r32 x1 → RE x1 s = some q → gG m 3 φ s (lT lU) q (rE 22 x1' h)) (hrN : ∀ {φ : Nat → Nat} {h : eH} {s : fS} {q}, fC m 3 φ s φ h s → RN s = some q → gG m 3 φ s (lT lI) q (rN 22 h)) {φ : Nat → Nat} {h : eH} {s : fS} {s0' : Int32} {s0 : Int} (R : fC m b φ0 σo φ h s) (es0 : s0' = iI s0) (rs0 : r32 s0) (hF : FX3_actBox_b85 N RE RN s0 s = some q) : gG m b φ0 σo (lT lU) q (fX3_actBox_b85 N rE rN 4 s0' h) := by
  subst es0
  unfold FX3_actBox_b85 at hF
  unfold fX3_actBox_b85
  refine s_gO R (t_4 R.S) (Nat.le_of_ble_eq_true rfl) rfl (o_4_5 R.S) ?_
  refine s_kok R (t_4 R.S) (Nat.le_of_ble_eq_true rfl) ?_
  refine s_tB R hb (fun _ hq => SX3_solid (b := 3) (N := N) (rE := rE) (RE := RE) (Nat.le_of_ble_eq_true rfl) @hrE (R.rf) hq) hF (fun f3 rv3 h3 x4 σ5 R3 e3 E3 hF => ?_)
  refine s_kok R3 (t_22 R3.S) (Nat.le_of_ble_eq_true rfl) ?_
  refine s_call R3 (Nat.zero_le _) (fun _ hq => SX8_primitive (b := 0) (R3.rf) e3.1 e3.2 hq) hF (fun f5 rv5 h5 q7 R5 e5 E5 hF => ?_)
  refine s_kok R5 (t_4 R5.S) (Nat.le_of_ble_eq_true rfl) ?_
  refine s_tB R5 hb (fun _ hq => SX3_readBox (b := 3) (N := N) (rE := rE) (RE := RE) (rN := rN) (RN := RN) (Nat.le_of_ble_eq_true rfl) @hrE @hrN (R5.rf) e5.1 e5.2 (c_lit (-1) (-1) rfl) ⟨by decide, by decide⟩ rfl rs0 (c_lit 0 0 rfl) ⟨by decide, by decide⟩ hq) hF (fun f7 rv7 h7 x9 σ10 R7 e7 E7 hF => ?_)
  exact g_ret R7 hF trivial
def FX3_actBox_b79 (N : Nat) (RE : Int → fS → Option ((Unit ⊕ Nat) × fS)) (RN : fS → Option ((Int ⊕ Nat) × fS)) (l2 : Int) (s : fS) : Option ((Unit ⊕ Nat) × fS) :=
  FX3_actBox_b85 N RE RN (ineg l2) s
theorem SX3_actBox_b79 {m b : Nat} {φ0 : Nat → Nat} {σo : fS} (hb : 3 ≤ b) {N : Nat} {rE : Nat → Int32 → eH → Option ((Unit ⊕ Nat) × eH)} {RE : Int → fS → Option ((Unit ⊕ Nat) × fS)} {rN : Nat → eH → Option ((Int32 ⊕ Nat) × eH)} {RN : fS → Option ((Int ⊕ Nat) × fS)} {q : (Unit ⊕ Nat) × fS} (hrE : ∀ {φ : Nat → Nat} {h : eH} {s : fS} {x1' : Int32} {x1 : Int} {q}, fC m 3 φ s φ h s → x1' = iI x1 → r32 x1 → RE x1 s = some q → gG m 3 φ s (lT lU) q (rE 22 x1' h)) (hrN : ∀ {φ : Nat → Nat} {h : eH} {s : fS} {q}, fC m 3 φ s φ h s → RN s = some q → gG m 3 φ s (lT lI) q (rN 22 h)) {φ : Nat → Nat} {h : eH} {s : fS} {l2' : Int32} {l2 : Int} (R : fC m b φ0 σo φ h s) (el2 : l2' = iI l2) (rl2 : r32 l2) (hF : FX3_actBox_b79 N RE RN l2 s = some q) : gG m b φ0 σo (lT lU) q (fX3_actBox_b79 N rE rN 4 l2' h) := by
  subst el2
  unfold FX3_actBox_b79 at hF
  unfold fX3_actBox_b79
  exact SX3_actBox_b85 (N := N) (rE := rE) (RE := RE) (rN := rN) (RN := RN) hb @hrE @hrN R (c_neg rfl) (rr_I _) hF
def FX3_actBox_b54 (N : Nat) (RE : Int → fS → Option ((Unit ⊕ Nat) × fS)) (RN : fS → Option ((Int ⊕ Nat) × fS)) (l1 : Int) (s1 : Int) (s : fS) : Option ((Unit ⊕ Nat) × fS) :=
  tB (FX4_want s1 15 s) fun x2 σ3 =>
  tB (FX8_dimension N RE RN σ3) fun x7 σ8 =>
  if l1 = 45 then
    FX3_actBox_b79 N RE RN x7 σ8
  else
    if ¬ (l1 = 47) then
      FX3_actBox_b85 N RE RN x7 σ8
    else
      FX3_actBox_b79 N RE RN x7 σ8
theorem SX3_actBox_b54 {m b : Nat} {φ0 : Nat → Nat} {σo : fS} (hb : 3 ≤ b) {N : Nat} {rE : Nat → Int32 → eH → Option ((Unit ⊕ Nat) × eH)} {RE : Int → fS → Option ((Unit ⊕ Nat) × fS)} {rN : Nat → eH → Option ((Int32 ⊕ Nat) × eH)} {RN : fS → Option ((Int ⊕ Nat) × fS)} {q : (Unit ⊕ Nat) × fS} (hrE : ∀ {φ : Nat → Nat} {h : eH} {s : fS} {x1' : Int32} {x1 : Int} {q}, fC m 3 φ s φ h s → x1' = iI x1 → r32 x1 → RE x1 s = some q → gG m 3 φ s (lT lU) q (rE 22 x1' h)) (hrN : ∀ {φ : Nat → Nat} {h : eH} {s : fS} {q}, fC m 3 φ s φ h s → RN s = some q → gG m 3 φ s (lT lI) q (rN 22 h)) {φ : Nat → Nat} {h : eH} {s : fS} {l1' : Int32} {l1 : Int} {s1' : Int32} {s1 : Int} (R : fC m b φ0 σo φ h s) (el1 : l1' = iI l1) (rl1 : r32 l1) (es1 : s1' = iI s1) (rs1 : r32 s1) (hF : FX3_actBox_b54 N RE RN l1 s1 s = some q) : gG m b φ0 σo (lT lU) q (fX3_actBox_b54 N rE rN 4 l1' 5 s1' h) := by
  subst el1; subst es1
  unfold FX3_actBox_b54 at hF
  unfold fX3_actBox_b54
  refine s_kok R (t_5 R.S) (Nat.le_of_ble_eq_true rfl) ?_
  refine s_tB R (Nat.zero_le _) (fun _ hq => SX4_want (b := 0) (R.rf) rfl rs1 (c_lit 15 15 rfl) ⟨by decide, by decide⟩ hq) hF (fun f2 rv2 h2 x2 σ3 R2 e2 E2 hF => ?_)
  refine s_gO R2 (t_4 R2.S) (Nat.le_of_ble_eq_true rfl) rfl (o_4_5 R2.S) ?_
  refine s_kok R2 (t_22 R2.S) (Nat.le_of_ble_eq_true rfl) ?_
  refine s_tB R2 hb (fun _ hq => SX8_dimension (b := 3) (N := N) (rE := rE) (RE := RE) (rN := rN) (RN := RN) (Nat.le_of_ble_eq_true rfl) @hrE @hrN (R2.rf) hq) hF (fun f5 rv5 h5 x7 σ8 R5 e5 E5 hF => ?_)
  refine s_if (i_eq rfl (c_lit 45 45 rfl) rl1 ⟨by decide, by decide⟩) hF (fun c6 hF => ?_) (fun c6 hF => ?_)
  ·
    exact SX3_actBox_b79 (N := N) (rE := rE) (RE := RE) (rN := rN) (RN := RN) hb @hrE @hrN R5 e5.1 e5.2 hF
  ·
    refine s_if (not_congr (i_eq rfl (c_lit 47 47 rfl) rl1 ⟨by decide, by decide⟩)) hF (fun c7 hF => ?_) (fun c7 hF => ?_)
    ·
      exact SX3_actBox_b85 (N := N) (rE := rE) (RE := RE) (rN := rN) (RN := RN) hb @hrE @hrN R5 e5.1 e5.2 hF
    ·
      exact SX3_actBox_b79 (N := N) (rE := rE) (RE := RE) (rN := rN) (RN := RN) hb @hrE @hrN R5 e5.1 e5.2 hF
def FX3_actBox_b46 (N : Nat) (RE : Int → fS → Option ((Unit ⊕ Nat) × fS)) (RN : fS → Option ((Int ⊕ Nat) × fS)) (l1 : Int) (s1 : Int) (s2 : Int) (s : fS) : Option ((Unit ⊕ Nat) × fS) :=
  if ¬ (s1 = s2) then
    FX3_actBox_b54 N RE RN l1 0 s
  else
    FX3_actBox_b54 N RE RN l1 1 s
theorem SX3_actBox_b46 {m b : Nat} {φ0 : Nat → Nat} {σo : fS} (hb : 3 ≤ b) {N : Nat} {rE : Nat → Int32 → eH → Option ((Unit ⊕ Nat) × eH)} {RE : Int → fS → Option ((Unit ⊕ Nat) × fS)} {rN : Nat → eH → Option ((Int32 ⊕ Nat) × eH)} {RN : fS → Option ((Int ⊕ Nat) × fS)} {q : (Unit ⊕ Nat) × fS} (hrE : ∀ {φ : Nat → Nat} {h : eH} {s : fS} {x1' : Int32} {x1 : Int} {q}, fC m 3 φ s φ h s → x1' = iI x1 → r32 x1 → RE x1 s = some q → gG m 3 φ s (lT lU) q (rE 22 x1' h)) (hrN : ∀ {φ : Nat → Nat} {h : eH} {s : fS} {q}, fC m 3 φ s φ h s → RN s = some q → gG m 3 φ s (lT lI) q (rN 22 h)) {φ : Nat → Nat} {h : eH} {s : fS} {l1' : Int32} {l1 : Int} {s1' : Int32} {s1 : Int} {s2' : Int32} {s2 : Int} (R : fC m b φ0 σo φ h s) (el1 : l1' = iI l1) (rl1 : r32 l1) (es1 : s1' = iI s1) (rs1 : r32 s1) (es2 : s2' = iI s2) (rs2 : r32 s2) (hF : FX3_actBox_b46 N RE RN l1 s1 s2 s = some q) : gG m b φ0 σo (lT lU) q (fX3_actBox_b46 N rE rN 4 l1' 5 s1' s2' h) := by
  subst el1; subst es1; subst es2
  unfold FX3_actBox_b46 at hF
  unfold fX3_actBox_b46
  refine s_if (not_congr (i_eq rfl rfl rs1 rs2)) hF (fun c1 hF => ?_) (fun c1 hF => ?_)
  ·
    exact SX3_actBox_b54 (N := N) (rE := rE) (RE := RE) (rN := rN) (RN := RN) hb @hrE @hrN R rfl rl1 (c_lit 0 0 rfl) ⟨by decide, by decide⟩ hF
  ·
    exact SX3_actBox_b54 (N := N) (rE := rE) (RE := RE) (rN := rN) (RN := RN) hb @hrE @hrN R rfl rl1 (c_lit 1 1 rfl) ⟨by decide, by decide⟩ hF
def FX3_actBox_b41 (N : Nat) (RE : Int → fS → Option ((Unit ⊕ Nat) × fS)) (RN : fS → Option ((Int ⊕ Nat) × fS)) (l1 : Int) (s1 : Int) (s : fS) : Option ((Unit ⊕ Nat) × fS) :=
  FX3_actBox_b46 N RE RN l1 s1 1 s
theorem SX3_actBox_b41 {m b : Nat} {φ0 : Nat → Nat} {σo : fS} (hb : 3 ≤ b) {N : Nat} {rE : Nat → Int32 → eH → Option ((Unit ⊕ Nat) × eH)} {RE : Int → fS → Option ((Unit ⊕ Nat) × fS)} {rN : Nat → eH → Option ((Int32 ⊕ Nat) × eH)} {RN : fS → Option ((Int ⊕ Nat) × fS)} {q : (Unit ⊕ Nat) × fS} (hrE : ∀ {φ : Nat → Nat} {h : eH} {s : fS} {x1' : Int32} {x1 : Int} {q}, fC m 3 φ s φ h s → x1' = iI x1 → r32 x1 → RE x1 s = some q → gG m 3 φ s (lT lU) q (rE 22 x1' h)) (hrN : ∀ {φ : Nat → Nat} {h : eH} {s : fS} {q}, fC m 3 φ s φ h s → RN s = some q → gG m 3 φ s (lT lI) q (rN 22 h)) {φ : Nat → Nat} {h : eH} {s : fS} {l1' : Int32} {l1 : Int} {s1' : Int32} {s1 : Int} (R : fC m b φ0 σo φ h s) (el1 : l1' = iI l1) (rl1 : r32 l1) (es1 : s1' = iI s1) (rs1 : r32 s1) (hF : FX3_actBox_b41 N RE RN l1 s1 s = some q) : gG m b φ0 σo (lT lU) q (fX3_actBox_b41 N rE rN 4 l1' 5 s1' h) := by
  subst el1; subst es1
  unfold FX3_actBox_b41 at hF
  unfold fX3_actBox_b41
  exact SX3_actBox_b46 (N := N) (rE := rE) (RE := RE) (rN := rN) (RN := RN) hb @hrE @hrN R rfl rl1 rfl rs1 (c_lit 1 1 rfl) ⟨by decide, by decide⟩ hF
def FX3_actBox_b21 (N : Nat) (RE : Int → fS → Option ((Unit ⊕ Nat) × fS)) (RN : fS → Option ((Int ⊕ Nat) × fS)) (l1 : Int) (s : fS) : Option ((Unit ⊕ Nat) × fS) :=
  (FX3_isVertical s).bind fun q4 =>
  if l1 = 47 then
    FX3_actBox_b41 N RE RN l1 q4.1 q4.2
  else
    if ¬ (l1 = 48) then
      FX3_actBox_b46 N RE RN l1 q4.1 0 q4.2
    else
      FX3_actBox_b41 N RE RN l1 q4.1 q4.2
theorem SX3_actBox_b21 {m b : Nat} {φ0 : Nat → Nat} {σo : fS} (hb : 3 ≤ b) {N : Nat} {rE : Nat → Int32 → eH → Option ((Unit ⊕ Nat) × eH)} {RE : Int → fS → Option ((Unit ⊕ Nat) × fS)} {rN : Nat → eH → Option ((Int32 ⊕ Nat) × eH)} {RN : fS → Option ((Int ⊕ Nat) × fS)} {q : (Unit ⊕ Nat) × fS} (hrE : ∀ {φ : Nat → Nat} {h : eH} {s : fS} {x1' : Int32} {x1 : Int} {q}, fC m 3 φ s φ h s → x1' = iI x1 → r32 x1 → RE x1 s = some q → gG m 3 φ s (lT lU) q (rE 22 x1' h)) (hrN : ∀ {φ : Nat → Nat} {h : eH} {s : fS} {q}, fC m 3 φ s φ h s → RN s = some q → gG m 3 φ s (lT lI) q (rN 22 h)) {φ : Nat → Nat} {h : eH} {s : fS} {l1' : Int32} {l1 : Int} (R : fC m b φ0 σo φ h s) (el1 : l1' = iI l1) (rl1 : r32 l1) (hF : FX3_actBox_b21 N RE RN l1 s = some q) : gG m b φ0 σo (lT lU) q (fX3_actBox_b21 N rE rN 4 l1' h) := by
  subst el1
  unfold FX3_actBox_b21 at hF
  unfold fX3_actBox_b21
  refine s_gO R (t_4 R.S) (Nat.le_of_ble_eq_true rfl) rfl (o_4_0 R.S) ?_
  refine s_kok R (t_4 R.S) (Nat.le_of_ble_eq_true rfl) ?_
  refine s_call R (Nat.zero_le _) (fun _ hq => SX3_isVertical (b := 0) (R.rf) hq) hF (fun f3 rv3 h3 q4 R3 e3 E3 hF => ?_)
  refine s_if (i_eq rfl (c_lit 47 47 rfl) rl1 ⟨by decide, by decide⟩) hF (fun c4 hF => ?_) (fun c4 hF => ?_)
  ·
    exact SX3_actBox_b41 (N := N) (rE := rE) (RE := RE) (rN := rN) (RN := RN) hb @hrE @hrN R3 rfl rl1 e3.1 e3.2 hF
  ·
    refine s_if (not_congr (i_eq rfl (c_lit 48 48 rfl) rl1 ⟨by decide, by decide⟩)) hF (fun c5 hF => ?_) (fun c5 hF => ?_)
    ·
      exact SX3_actBox_b46 (N := N) (rE := rE) (RE := RE) (rN := rN) (RN := RN) hb @hrE @hrN R3 rfl rl1 e3.1 e3.2 (c_lit 0 0 rfl) ⟨by decide, by decide⟩ hF
    ·
      exact SX3_actBox_b41 (N := N) (rE := rE) (RE := RE) (rN := rN) (RN := RN) hb @hrE @hrN R3 rfl rl1 e3.1 e3.2 hF
def FX3_actBox (N : Nat) (RE : Int → fS → Option ((Unit ⊕ Nat) × fS)) (RN : fS → Option ((Int ⊕ Nat) × fS)) (p0 : Int) (s : fS) : Option ((Unit ⊕ Nat) × fS) :=
  if p0 < 41 then
    FX3_actBox_b21 N RE RN p0 s
  else
    if 44 < p0 then
      FX3_actBox_b21 N RE RN p0 s
    else
      tB (FX3_readBox N RE RN p0 (-1) 0 0 s) fun x4 σ5 =>
      some (.inl (), σ5)
theorem SX3_actBox {m b : Nat} {φ0 : Nat → Nat} {σo : fS} (hb : 3 ≤ b) {N : Nat} {rE : Nat → Int32 → eH → Option ((Unit ⊕ Nat) × eH)} {RE : Int → fS → Option ((Unit ⊕ Nat) × fS)} {rN : Nat → eH → Option ((Int32 ⊕ Nat) × eH)} {RN : fS → Option ((Int ⊕ Nat) × fS)} {q : (Unit ⊕ Nat) × fS} (hrE : ∀ {φ : Nat → Nat} {h : eH} {s : fS} {x1' : Int32} {x1 : Int} {q}, fC m 3 φ s φ h s → x1' = iI x1 → r32 x1 → RE x1 s = some q → gG m 3 φ s (lT lU) q (rE 22 x1' h)) (hrN : ∀ {φ : Nat → Nat} {h : eH} {s : fS} {q}, fC m 3 φ s φ h s → RN s = some q → gG m 3 φ s (lT lI) q (rN 22 h)) {φ : Nat → Nat} {h : eH} {s : fS} {p0' : Int32} {p0 : Int} (R : fC m b φ0 σo φ h s) (ep0 : p0' = iI p0) (rp0 : r32 p0) (hF : FX3_actBox N RE RN p0 s = some q) : gG m b φ0 σo (lT lU) q (fX3_actBox N rE rN 4 p0' h) := by
  subst ep0
  unfold FX3_actBox at hF
  unfold fX3_actBox
  refine s_if (i_lt rfl (c_lit 41 41 rfl) rp0 ⟨by decide, by decide⟩) hF (fun c1 hF => ?_) (fun c1 hF => ?_)
  ·
    exact SX3_actBox_b21 (N := N) (rE := rE) (RE := RE) (rN := rN) (RN := RN) hb @hrE @hrN R rfl rp0 hF
  ·
    refine s_if (i_lt (c_lit 44 44 rfl) rfl ⟨by decide, by decide⟩ rp0) hF (fun c2 hF => ?_) (fun c2 hF => ?_)
    ·
      exact SX3_actBox_b21 (N := N) (rE := rE) (RE := RE) (rN := rN) (RN := RN) hb @hrE @hrN R rfl rp0 hF
    ·
      refine s_kok R (t_4 R.S) (Nat.le_of_ble_eq_true rfl) ?_
      refine s_tB R hb (fun _ hq => SX3_readBox (b := 3) (N := N) (rE := rE) (RE := RE) (rN := rN) (RN := RN) (Nat.le_of_ble_eq_true rfl) @hrE @hrN (R.rf) rfl rp0 (c_lit (-1) (-1) rfl) ⟨by decide, by decide⟩ (c_lit 0 0 rfl) ⟨by decide, by decide⟩ (c_lit 0 0 rfl) ⟨by decide, by decide⟩ hq) hF (fun f4 rv4 h4 x4 σ5 R4 e4 E4 hF => ?_)
      exact g_ret R4 hF trivial
def FX3_actItem_b330 (N : Nat) (RE : Int → fS → Option ((Unit ⊕ Nat) × fS)) (RN : fS → Option ((Int ⊕ Nat) × fS)) (s : fS) : Option ((Unit ⊕ Nat) × fS) :=
  some (.inl (), s)
theorem SX3_actItem_b330 {m b : Nat} {φ0 : Nat → Nat} {σo : fS} {N : Nat} {rE : Nat → Int32 → eH → Option ((Unit ⊕ Nat) × eH)} {RE : Int → fS → Option ((Unit ⊕ Nat) × fS)} {rN : Nat → eH → Option ((Int32 ⊕ Nat) × eH)} {RN : fS → Option ((Int ⊕ Nat) × fS)} {q : (Unit ⊕ Nat) × fS} (hrE : ∀ {φ : Nat → Nat} {h : eH} {s : fS} {x1' : Int32} {x1 : Int} {q}, fC m 3 φ s φ h s → x1' = iI x1 → r32 x1 → RE x1 s = some q → gG m 3 φ s (lT lU) q (rE 22 x1' h)) (hrN : ∀ {φ : Nat → Nat} {h : eH} {s : fS} {q}, fC m 3 φ s φ h s → RN s = some q → gG m 3 φ s (lT lI) q (rN 22 h)) {φ : Nat → Nat} {h : eH} {s : fS} (R : fC m b φ0 σo φ h s) (hF : FX3_actItem_b330 N RE RN s = some q) : gG m b φ0 σo (lT lU) q (fX3_actItem_b330 N rE rN h) := by
  unfold FX3_actItem_b330 at hF
  unfold fX3_actItem_b330
  exact g_ret R hF trivial
def FX3_actItem_b116 (N : Nat) (RE : Int → fS → Option ((Unit ⊕ Nat) × fS)) (RN : fS → Option ((Int ⊕ Nat) × fS)) (l1 : Int) (s1 : Int) (s : fS) : Option ((Unit ⊕ Nat) × fS) :=
  tB (FX3_wantHorizontal N s1 s) fun x2 σ3 =>
  if ¬ (x2 = 0) then
    FX3_actItem_b330 N RE RN σ3
  else
    if ¬ (l1 = 29) then
      FX3_actItem_b330 N RE RN σ3
    else
      tB (FX3_indent N σ3) fun x7 σ8 =>
      FX3_actItem_b330 N RE RN σ8
theorem SX3_actItem_b116 {m b : Nat} {φ0 : Nat → Nat} {σo : fS} (hb : 1 ≤ b) {N : Nat} {rE : Nat → Int32 → eH → Option ((Unit ⊕ Nat) × eH)} {RE : Int → fS → Option ((Unit ⊕ Nat) × fS)} {rN : Nat → eH → Option ((Int32 ⊕ Nat) × eH)} {RN : fS → Option ((Int ⊕ Nat) × fS)} {q : (Unit ⊕ Nat) × fS} (hrE : ∀ {φ : Nat → Nat} {h : eH} {s : fS} {x1' : Int32} {x1 : Int} {q}, fC m 3 φ s φ h s → x1' = iI x1 → r32 x1 → RE x1 s = some q → gG m 3 φ s (lT lU) q (rE 22 x1' h)) (hrN : ∀ {φ : Nat → Nat} {h : eH} {s : fS} {q}, fC m 3 φ s φ h s → RN s = some q → gG m 3 φ s (lT lI) q (rN 22 h)) {φ : Nat → Nat} {h : eH} {s : fS} {l1' : Int32} {l1 : Int} {s1' : Int32} {s1 : Int} (R : fC m b φ0 σo φ h s) (el1 : l1' = iI l1) (rl1 : r32 l1) (es1 : s1' = iI s1) (rs1 : r32 s1) (hF : FX3_actItem_b116 N RE RN l1 s1 s = some q) : gG m b φ0 σo (lT lU) q (fX3_actItem_b116 N rE rN 4 l1' 4 s1' h) := by
  subst el1; subst es1
  unfold FX3_actItem_b116 at hF
  unfold fX3_actItem_b116
  refine s_kok R (t_4 R.S) (Nat.le_of_ble_eq_true rfl) ?_
  refine s_tB R hb (fun _ hq => SX3_wantHorizontal (b := 1) (N := N) (Nat.le_of_ble_eq_true rfl) (R.rf) rfl rs1 hq) hF (fun f2 rv2 h2 x2 σ3 R2 e2 E2 hF => ?_)
  refine s_if (not_congr (i_eq e2.1 (c_lit 0 0 rfl) e2.2 ⟨by decide, by decide⟩)) hF (fun c3 hF => ?_) (fun c3 hF => ?_)
  ·
    exact SX3_actItem_b330 (N := N) (rE := rE) (RE := RE) (rN := rN) (RN := RN) @hrE @hrN R2 hF
  ·
    refine s_if (not_congr (i_eq rfl (c_lit 29 29 rfl) rl1 ⟨by decide, by decide⟩)) hF (fun c4 hF => ?_) (fun c4 hF => ?_)
    ·
      exact SX3_actItem_b330 (N := N) (rE := rE) (RE := RE) (rN := rN) (RN := RN) @hrE @hrN R2 hF
    ·
      refine s_kok R2 (t_4 R2.S) (Nat.le_of_ble_eq_true rfl) ?_
      refine s_tB R2 hb (fun _ hq => SX3_indent (b := 1) (N := N) (Nat.le_of_ble_eq_true rfl) (R2.rf) hq) hF (fun f6 rv6 h6 x7 σ8 R6 e6 E6 hF => ?_)
      exact SX3_actItem_b330 (N := N) (rE := rE) (RE := RE) (rN := rN) (RN := RN) @hrE @hrN R6 hF
def FX3_actItem_b166 (N : Nat) (RE : Int → fS → Option ((Unit ⊕ Nat) × fS)) (RN : fS → Option ((Int ⊕ Nat) × fS)) (s1 : Int) (s2 : Int) (s : fS) : Option ((Unit ⊕ Nat) × fS) :=
  tB (FX3_actSkip N RE RN s1 s2 s) fun x2 σ3 =>
  FX3_actItem_b330 N RE RN σ3
theorem SX3_actItem_b166 {m b : Nat} {φ0 : Nat → Nat} {σo : fS} (hb : 3 ≤ b) {N : Nat} {rE : Nat → Int32 → eH → Option ((Unit ⊕ Nat) × eH)} {RE : Int → fS → Option ((Unit ⊕ Nat) × fS)} {rN : Nat → eH → Option ((Int32 ⊕ Nat) × eH)} {RN : fS → Option ((Int ⊕ Nat) × fS)} {q : (Unit ⊕ Nat) × fS} (hrE : ∀ {φ : Nat → Nat} {h : eH} {s : fS} {x1' : Int32} {x1 : Int} {q}, fC m 3 φ s φ h s → x1' = iI x1 → r32 x1 → RE x1 s = some q → gG m 3 φ s (lT lU) q (rE 22 x1' h)) (hrN : ∀ {φ : Nat → Nat} {h : eH} {s : fS} {q}, fC m 3 φ s φ h s → RN s = some q → gG m 3 φ s (lT lI) q (rN 22 h)) {φ : Nat → Nat} {h : eH} {s : fS} {s1' : Int32} {s1 : Int} {s2' : Int32} {s2 : Int} (R : fC m b φ0 σo φ h s) (es1 : s1' = iI s1) (rs1 : r32 s1) (es2 : s2' = iI s2) (rs2 : r32 s2) (hF : FX3_actItem_b166 N RE RN s1 s2 s = some q) : gG m b φ0 σo (lT lU) q (fX3_actItem_b166 N rE rN 4 s1' s2' h) := by
  subst es1; subst es2
  unfold FX3_actItem_b166 at hF
  unfold fX3_actItem_b166
  refine s_kok R (t_4 R.S) (Nat.le_of_ble_eq_true rfl) ?_
  refine s_tB R hb (fun _ hq => SX3_actSkip (b := 3) (N := N) (rE := rE) (RE := RE) (rN := rN) (RN := RN) (Nat.le_of_ble_eq_true rfl) @hrE @hrN (R.rf) rfl rs1 rfl rs2 hq) hF (fun f2 rv2 h2 x2 σ3 R2 e2 E2 hF => ?_)
  exact SX3_actItem_b330 (N := N) (rE := rE) (RE := RE) (rN := rN) (RN := RN) @hrE @hrN R2 hF
def FX3_actItem_b155 (N : Nat) (RE : Int → fS → Option ((Unit ⊕ Nat) × fS)) (RN : fS → Option ((Int ⊕ Nat) × fS)) (l1 : Int) (s1 : Int) (s : fS) : Option ((Unit ⊕ Nat) × fS) :=
  if ¬ (l1 = 33) then
    FX3_actItem_b166 N RE RN s1 2 s
  else
    FX3_actItem_b166 N RE RN s1 1 s
theorem SX3_actItem_b155 {m b : Nat} {φ0 : Nat → Nat} {σo : fS} (hb : 3 ≤ b) {N : Nat} {rE : Nat → Int32 → eH → Option ((Unit ⊕ Nat) × eH)} {RE : Int → fS → Option ((Unit ⊕ Nat) × fS)} {rN : Nat → eH → Option ((Int32 ⊕ Nat) × eH)} {RN : fS → Option ((Int ⊕ Nat) × fS)} {q : (Unit ⊕ Nat) × fS} (hrE : ∀ {φ : Nat → Nat} {h : eH} {s : fS} {x1' : Int32} {x1 : Int} {q}, fC m 3 φ s φ h s → x1' = iI x1 → r32 x1 → RE x1 s = some q → gG m 3 φ s (lT lU) q (rE 22 x1' h)) (hrN : ∀ {φ : Nat → Nat} {h : eH} {s : fS} {q}, fC m 3 φ s φ h s → RN s = some q → gG m 3 φ s (lT lI) q (rN 22 h)) {φ : Nat → Nat} {h : eH} {s : fS} {l1' : Int32} {l1 : Int} {s1' : Int32} {s1 : Int} (R : fC m b φ0 σo φ h s) (el1 : l1' = iI l1) (rl1 : r32 l1) (es1 : s1' = iI s1) (rs1 : r32 s1) (hF : FX3_actItem_b155 N RE RN l1 s1 s = some q) : gG m b φ0 σo (lT lU) q (fX3_actItem_b155 N rE rN l1' 4 s1' h) := by
  subst el1; subst es1
  unfold FX3_actItem_b155 at hF
  unfold fX3_actItem_b155
  refine s_if (not_congr (i_eq rfl (c_lit 33 33 rfl) rl1 ⟨by decide, by decide⟩)) hF (fun c1 hF => ?_) (fun c1 hF => ?_)
  ·
    exact SX3_actItem_b166 (N := N) (rE := rE) (RE := RE) (rN := rN) (RN := RN) hb @hrE @hrN R rfl rs1 (c_lit 2 2 rfl) ⟨by decide, by decide⟩ hF
  ·
    exact SX3_actItem_b166 (N := N) (rE := rE) (RE := RE) (rN := rN) (RN := RN) hb @hrE @hrN R rfl rs1 (c_lit 1 1 rfl) ⟨by decide, by decide⟩ hF
def FX3_actItem_b199 (N : Nat) (RE : Int → fS → Option ((Unit ⊕ Nat) × fS)) (RN : fS → Option ((Int ⊕ Nat) × fS)) (s1 : Int) (s2 : Int) (s : fS) : Option ((Unit ⊕ Nat) × fS) :=
  tB (FX3_actSkip N RE RN s1 s2 s) fun x2 σ3 =>
  FX3_actItem_b330 N RE RN σ3
theorem SX3_actItem_b199 {m b : Nat} {φ0 : Nat → Nat} {σo : fS} (hb : 3 ≤ b) {N : Nat} {rE : Nat → Int32 → eH → Option ((Unit ⊕ Nat) × eH)} {RE : Int → fS → Option ((Unit ⊕ Nat) × fS)} {rN : Nat → eH → Option ((Int32 ⊕ Nat) × eH)} {RN : fS → Option ((Int ⊕ Nat) × fS)} {q : (Unit ⊕ Nat) × fS} (hrE : ∀ {φ : Nat → Nat} {h : eH} {s : fS} {x1' : Int32} {x1 : Int} {q}, fC m 3 φ s φ h s → x1' = iI x1 → r32 x1 → RE x1 s = some q → gG m 3 φ s (lT lU) q (rE 22 x1' h)) (hrN : ∀ {φ : Nat → Nat} {h : eH} {s : fS} {q}, fC m 3 φ s φ h s → RN s = some q → gG m 3 φ s (lT lI) q (rN 22 h)) {φ : Nat → Nat} {h : eH} {s : fS} {s1' : Int32} {s1 : Int} {s2' : Int32} {s2 : Int} (R : fC m b φ0 σo φ h s) (es1 : s1' = iI s1) (rs1 : r32 s1) (es2 : s2' = iI s2) (rs2 : r32 s2) (hF : FX3_actItem_b199 N RE RN s1 s2 s = some q) : gG m b φ0 σo (lT lU) q (fX3_actItem_b199 N rE rN 4 s1' s2' h) := by
  subst es1; subst es2
  unfold FX3_actItem_b199 at hF
  unfold fX3_actItem_b199
  refine s_kok R (t_4 R.S) (Nat.le_of_ble_eq_true rfl) ?_
  refine s_tB R hb (fun _ hq => SX3_actSkip (b := 3) (N := N) (rE := rE) (RE := RE) (rN := rN) (RN := RN) (Nat.le_of_ble_eq_true rfl) @hrE @hrN (R.rf) rfl rs1 rfl rs2 hq) hF (fun f2 rv2 h2 x2 σ3 R2 e2 E2 hF => ?_)
  exact SX3_actItem_b330 (N := N) (rE := rE) (RE := RE) (rN := rN) (RN := RN) @hrE @hrN R2 hF
def FX3_actItem_b188 (N : Nat) (RE : Int → fS → Option ((Unit ⊕ Nat) × fS)) (RN : fS → Option ((Int ⊕ Nat) × fS)) (l1 : Int) (s1 : Int) (s : fS) : Option ((Unit ⊕ Nat) × fS) :=
  if ¬ (l1 = 35) then
    FX3_actItem_b199 N RE RN s1 2 s
  else
    FX3_actItem_b199 N RE RN s1 1 s
theorem SX3_actItem_b188 {m b : Nat} {φ0 : Nat → Nat} {σo : fS} (hb : 3 ≤ b) {N : Nat} {rE : Nat → Int32 → eH → Option ((Unit ⊕ Nat) × eH)} {RE : Int → fS → Option ((Unit ⊕ Nat) × fS)} {rN : Nat → eH → Option ((Int32 ⊕ Nat) × eH)} {RN : fS → Option ((Int ⊕ Nat) × fS)} {q : (Unit ⊕ Nat) × fS} (hrE : ∀ {φ : Nat → Nat} {h : eH} {s : fS} {x1' : Int32} {x1 : Int} {q}, fC m 3 φ s φ h s → x1' = iI x1 → r32 x1 → RE x1 s = some q → gG m 3 φ s (lT lU) q (rE 22 x1' h)) (hrN : ∀ {φ : Nat → Nat} {h : eH} {s : fS} {q}, fC m 3 φ s φ h s → RN s = some q → gG m 3 φ s (lT lI) q (rN 22 h)) {φ : Nat → Nat} {h : eH} {s : fS} {l1' : Int32} {l1 : Int} {s1' : Int32} {s1 : Int} (R : fC m b φ0 σo φ h s) (el1 : l1' = iI l1) (rl1 : r32 l1) (es1 : s1' = iI s1) (rs1 : r32 s1) (hF : FX3_actItem_b188 N RE RN l1 s1 s = some q) : gG m b φ0 σo (lT lU) q (fX3_actItem_b188 N rE rN l1' 4 s1' h) := by
  subst el1; subst es1
  unfold FX3_actItem_b188 at hF
  unfold fX3_actItem_b188
  refine s_if (not_congr (i_eq rfl (c_lit 35 35 rfl) rl1 ⟨by decide, by decide⟩)) hF (fun c1 hF => ?_) (fun c1 hF => ?_)
  ·
    exact SX3_actItem_b199 (N := N) (rE := rE) (RE := RE) (rN := rN) (RN := RN) hb @hrE @hrN R rfl rs1 (c_lit 2 2 rfl) ⟨by decide, by decide⟩ hF
  ·
    exact SX3_actItem_b199 (N := N) (rE := rE) (RE := RE) (rN := rN) (RN := RN) hb @hrE @hrN R rfl rs1 (c_lit 1 1 rfl) ⟨by decide, by decide⟩ hF
def FX3_actItem (N : Nat) (RE : Int → fS → Option ((Unit ⊕ Nat) × fS)) (RN : fS → Option ((Int ⊕ Nat) × fS)) (p0 : Int) (s : fS) : Option ((Unit ⊕ Nat) × fS) :=
  if p0 = 29 then
    if ¬ (p0 = 29) then
      FX3_actItem_b116 N RE RN p0 0 s
    else
      FX3_actItem_b116 N RE RN p0 1 s
  else
    if p0 = 30 then
      if ¬ (p0 = 29) then
        FX3_actItem_b116 N RE RN p0 0 s
      else
        FX3_actItem_b116 N RE RN p0 1 s
    else
      if p0 = 31 then
        tB (FX3_wantHorizontal N 1 s) fun x7 σ8 =>
        if ¬ (p0 = 31) then
          FX3_actItem_b155 N RE RN p0 0 σ8
        else
          FX3_actItem_b155 N RE RN p0 1 σ8
      else
        if p0 = 32 then
          tB (FX3_wantVertical N s) fun x12 σ13 =>
          if ¬ (p0 = 32) then
            FX3_actItem_b188 N RE RN p0 0 σ13
          else
            FX3_actItem_b188 N RE RN p0 1 σ13
        else
          if p0 = 33 then
            tB (FX3_wantHorizontal N 1 s) fun x17 σ18 =>
            if ¬ (p0 = 31) then
              FX3_actItem_b155 N RE RN p0 0 σ18
            else
              FX3_actItem_b155 N RE RN p0 1 σ18
          else
            if p0 = 34 then
              tB (FX3_wantHorizontal N 1 s) fun x22 σ23 =>
              if ¬ (p0 = 31) then
                FX3_actItem_b155 N RE RN p0 0 σ23
              else
                FX3_actItem_b155 N RE RN p0 1 σ23
            else
              if p0 = 35 then
                tB (FX3_wantVertical N s) fun x27 σ28 =>
                if ¬ (p0 = 32) then
                  FX3_actItem_b188 N RE RN p0 0 σ28
                else
                  FX3_actItem_b188 N RE RN p0 1 σ28
              else
                if p0 = 36 then
                  tB (FX3_wantVertical N s) fun x32 σ33 =>
                  if ¬ (p0 = 32) then
                    FX3_actItem_b188 N RE RN p0 0 σ33
                  else
                    FX3_actItem_b188 N RE RN p0 1 σ33
                else
                  if p0 = 37 then
                    tB (FX8_dimension N RE RN s) fun x39 σ40 =>
                    tB (FX3_add N 3 x39 1 0 0 σ40) fun x42 σ43 =>
                    FX3_actItem_b330 N RE RN σ43
                  else
                    if p0 = 38 then
                      tB (RN s) fun x48 σ49 =>
                      (FX3_clipped x48 σ49).bind fun q50 =>
                      tB (FX3_add N 5 q50.1 0 0 0 q50.2) fun x52 σ53 =>
                      FX3_actItem_b330 N RE RN σ53
                    else
                      if p0 = 39 then
                        tB (FX3_wantVertical N s) fun x56 σ57 =>
                        tB (FX3_rule N RE RN (-1073741824) 26214 0 σ57) fun x59 σ60 =>
                        (uQI σ60 178 (σ60.i 4 27) (-2147483648)).bind fun σ65 =>
                        FX3_actItem_b330 N RE RN σ65
                      else
                        if p0 = 40 then
                          tB (FX3_wantHorizontal N 1 s) fun x69 σ70 =>
                          tB (FX3_rule N RE RN 26214 (-1073741824) (-1073741824) σ70) fun x72 σ73 =>
                          FX3_actItem_b330 N RE RN σ73
                        else
                          if p0 = 41 then
                            tB (FX3_actBox N RE RN p0 s) fun x76 σ77 =>
                            FX3_actItem_b330 N RE RN σ77
                          else
                            if p0 = 42 then
                              tB (FX3_actBox N RE RN p0 s) fun x80 σ81 =>
                              FX3_actItem_b330 N RE RN σ81
                            else
                              if p0 = 43 then
                                tB (FX3_actBox N RE RN p0 s) fun x84 σ85 =>
                                FX3_actItem_b330 N RE RN σ85
                              else
                                if p0 = 44 then
                                  tB (FX3_actBox N RE RN p0 s) fun x88 σ89 =>
                                  FX3_actItem_b330 N RE RN σ89
                                else
                                  if p0 = 45 then
                                    tB (FX3_actBox N RE RN p0 s) fun x92 σ93 =>
                                    FX3_actItem_b330 N RE RN σ93
                                  else
                                    if p0 = 46 then
                                      tB (FX3_actBox N RE RN p0 s) fun x96 σ97 =>
                                      FX3_actItem_b330 N RE RN σ97
                                    else
                                      if p0 = 47 then
                                        tB (FX3_actBox N RE RN p0 s) fun x100 σ101 =>
                                        FX3_actItem_b330 N RE RN σ101
                                      else
                                        if p0 = 48 then
                                          tB (FX3_actBox N RE RN p0 s) fun x104 σ105 =>
                                          FX3_actItem_b330 N RE RN σ105
                                        else
                                          if p0 = 49 then
                                            tB (FX3_wantHorizontal N 1 s) fun x108 σ109 =>
                                            tB (FX3_dash σ109) fun x111 σ112 =>
                                            FX3_actItem_b330 N RE RN σ112
                                          else
                                            if p0 = 50 then
                                              tB (FX3_wantHorizontal N 1 s) fun x115 σ116 =>
                                              tB (FX3_space σ116) fun x118 σ119 =>
                                              FX3_actItem_b330 N RE RN σ119
                                            else
                                              tB (FX3_actBox N RE RN p0 s) fun x121 σ122 =>
                                              FX3_actItem_b330 N RE RN σ122
theorem SX3_actItem {m b : Nat} {φ0 : Nat → Nat} {σo : fS} (hb : 3 ≤ b) {N : Nat} {rE : Nat → Int32 → eH → Option ((Unit ⊕ Nat) × eH)} {RE : Int → fS → Option ((Unit ⊕ Nat) × fS)} {rN : Nat → eH → Option ((Int32 ⊕ Nat) × eH)} {RN : fS → Option ((Int ⊕ Nat) × fS)} {q : (Unit ⊕ Nat) × fS} (hrE : ∀ {φ : Nat → Nat} {h : eH} {s : fS} {x1' : Int32} {x1 : Int} {q}, fC m 3 φ s φ h s → x1' = iI x1 → r32 x1 → RE x1 s = some q → gG m 3 φ s (lT lU) q (rE 22 x1' h)) (hrN : ∀ {φ : Nat → Nat} {h : eH} {s : fS} {q}, fC m 3 φ s φ h s → RN s = some q → gG m 3 φ s (lT lI) q (rN 22 h)) {φ : Nat → Nat} {h : eH} {s : fS} {p0' : Int32} {p0 : Int} (R : fC m b φ0 σo φ h s) (ep0 : p0' = iI p0) (rp0 : r32 p0) (hF : FX3_actItem N RE RN p0 s = some q) : gG m b φ0 σo (lT lU) q (fX3_actItem N rE rN 4 p0' h) := by
  subst ep0
  unfold FX3_actItem at hF
  unfold fX3_actItem
  refine s_if (i_eq rfl (c_lit 29 29 rfl) rp0 ⟨by decide, by decide⟩) hF (fun c1 hF => ?_) (fun c1 hF => ?_)
  ·
    refine s_if (not_congr (i_eq rfl (c_lit 29 29 rfl) rp0 ⟨by decide, by decide⟩)) hF (fun c2 hF => ?_) (fun c2 hF => ?_)
    ·
      exact SX3_actItem_b116 (N := N) (rE := rE) (RE := RE) (rN := rN) (RN := RN) (Nat.le_trans (Nat.le_of_ble_eq_true rfl) hb) @hrE @hrN R rfl rp0 (c_lit 0 0 rfl) ⟨by decide, by decide⟩ hF
    ·
      exact SX3_actItem_b116 (N := N) (rE := rE) (RE := RE) (rN := rN) (RN := RN) (Nat.le_trans (Nat.le_of_ble_eq_true rfl) hb) @hrE @hrN R rfl rp0 (c_lit 1 1 rfl) ⟨by decide, by decide⟩ hF
  ·
    refine s_if (i_eq rfl (c_lit 30 30 rfl) rp0 ⟨by decide, by decide⟩) hF (fun c3 hF => ?_) (fun c3 hF => ?_)
    ·
      refine s_if (not_congr (i_eq rfl (c_lit 29 29 rfl) rp0 ⟨by decide, by decide⟩)) hF (fun c4 hF => ?_) (fun c4 hF => ?_)
      ·
        exact SX3_actItem_b116 (N := N) (rE := rE) (RE := RE) (rN := rN) (RN := RN) (Nat.le_trans (Nat.le_of_ble_eq_true rfl) hb) @hrE @hrN R rfl rp0 (c_lit 0 0 rfl) ⟨by decide, by decide⟩ hF
      ·
        exact SX3_actItem_b116 (N := N) (rE := rE) (RE := RE) (rN := rN) (RN := RN) (Nat.le_trans (Nat.le_of_ble_eq_true rfl) hb) @hrE @hrN R rfl rp0 (c_lit 1 1 rfl) ⟨by decide, by decide⟩ hF
    ·
      refine s_if (i_eq rfl (c_lit 31 31 rfl) rp0 ⟨by decide, by decide⟩) hF (fun c5 hF => ?_) (fun c5 hF => ?_)
      ·
        refine s_kok R (t_4 R.S) (Nat.le_of_ble_eq_true rfl) ?_
        refine s_tB R (Nat.le_trans (Nat.le_of_ble_eq_true rfl) hb) (fun _ hq => SX3_wantHorizontal (b := 1) (N := N) (Nat.le_of_ble_eq_true rfl) (R.rf) (c_lit 1 1 rfl) ⟨by decide, by decide⟩ hq) hF (fun f7 rv7 h7 x7 σ8 R7 e7 E7 hF => ?_)
        refine s_if (not_congr (i_eq rfl (c_lit 31 31 rfl) rp0 ⟨by decide, by decide⟩)) hF (fun c8 hF => ?_) (fun c8 hF => ?_)
        ·
          exact SX3_actItem_b155 (N := N) (rE := rE) (RE := RE) (rN := rN) (RN := RN) hb @hrE @hrN R7 rfl rp0 (c_lit 0 0 rfl) ⟨by decide, by decide⟩ hF
        ·
          exact SX3_actItem_b155 (N := N) (rE := rE) (RE := RE) (rN := rN) (RN := RN) hb @hrE @hrN R7 rfl rp0 (c_lit 1 1 rfl) ⟨by decide, by decide⟩ hF
      ·
        refine s_if (i_eq rfl (c_lit 32 32 rfl) rp0 ⟨by decide, by decide⟩) hF (fun c9 hF => ?_) (fun c9 hF => ?_)
        ·
          refine s_kok R (t_4 R.S) (Nat.le_of_ble_eq_true rfl) ?_
          refine s_tB R (Nat.le_trans (Nat.le_of_ble_eq_true rfl) hb) (fun _ hq => SX3_wantVertical (b := 1) (N := N) (Nat.le_of_ble_eq_true rfl) (R.rf) hq) hF (fun f11 rv11 h11 x12 σ13 R11 e11 E11 hF => ?_)
          refine s_if (not_congr (i_eq rfl (c_lit 32 32 rfl) rp0 ⟨by decide, by decide⟩)) hF (fun c12 hF => ?_) (fun c12 hF => ?_)
          ·
            exact SX3_actItem_b188 (N := N) (rE := rE) (RE := RE) (rN := rN) (RN := RN) hb @hrE @hrN R11 rfl rp0 (c_lit 0 0 rfl) ⟨by decide, by decide⟩ hF
          ·
            exact SX3_actItem_b188 (N := N) (rE := rE) (RE := RE) (rN := rN) (RN := RN) hb @hrE @hrN R11 rfl rp0 (c_lit 1 1 rfl) ⟨by decide, by decide⟩ hF
        ·
          refine s_if (i_eq rfl (c_lit 33 33 rfl) rp0 ⟨by decide, by decide⟩) hF (fun c13 hF => ?_) (fun c13 hF => ?_)
          ·
            refine s_kok R (t_4 R.S) (Nat.le_of_ble_eq_true rfl) ?_
            refine s_tB R (Nat.le_trans (Nat.le_of_ble_eq_true rfl) hb) (fun _ hq => SX3_wantHorizontal (b := 1) (N := N) (Nat.le_of_ble_eq_true rfl) (R.rf) (c_lit 1 1 rfl) ⟨by decide, by decide⟩ hq) hF (fun f15 rv15 h15 x17 σ18 R15 e15 E15 hF => ?_)
            refine s_if (not_congr (i_eq rfl (c_lit 31 31 rfl) rp0 ⟨by decide, by decide⟩)) hF (fun c16 hF => ?_) (fun c16 hF => ?_)
            ·
              exact SX3_actItem_b155 (N := N) (rE := rE) (RE := RE) (rN := rN) (RN := RN) hb @hrE @hrN R15 rfl rp0 (c_lit 0 0 rfl) ⟨by decide, by decide⟩ hF
            ·
              exact SX3_actItem_b155 (N := N) (rE := rE) (RE := RE) (rN := rN) (RN := RN) hb @hrE @hrN R15 rfl rp0 (c_lit 1 1 rfl) ⟨by decide, by decide⟩ hF
          ·
            refine s_if (i_eq rfl (c_lit 34 34 rfl) rp0 ⟨by decide, by decide⟩) hF (fun c17 hF => ?_) (fun c17 hF => ?_)
            ·
              refine s_kok R (t_4 R.S) (Nat.le_of_ble_eq_true rfl) ?_
              refine s_tB R (Nat.le_trans (Nat.le_of_ble_eq_true rfl) hb) (fun _ hq => SX3_wantHorizontal (b := 1) (N := N) (Nat.le_of_ble_eq_true rfl) (R.rf) (c_lit 1 1 rfl) ⟨by decide, by decide⟩ hq) hF (fun f19 rv19 h19 x22 σ23 R19 e19 E19 hF => ?_)
              refine s_if (not_congr (i_eq rfl (c_lit 31 31 rfl) rp0 ⟨by decide, by decide⟩)) hF (fun c20 hF => ?_) (fun c20 hF => ?_)
              ·
                exact SX3_actItem_b155 (N := N) (rE := rE) (RE := RE) (rN := rN) (RN := RN) hb @hrE @hrN R19 rfl rp0 (c_lit 0 0 rfl) ⟨by decide, by decide⟩ hF
              ·
                exact SX3_actItem_b155 (N := N) (rE := rE) (RE := RE) (rN := rN) (RN := RN) hb @hrE @hrN R19 rfl rp0 (c_lit 1 1 rfl) ⟨by decide, by decide⟩ hF
            ·
              refine s_if (i_eq rfl (c_lit 35 35 rfl) rp0 ⟨by decide, by decide⟩) hF (fun c21 hF => ?_) (fun c21 hF => ?_)
              ·
                refine s_kok R (t_4 R.S) (Nat.le_of_ble_eq_true rfl) ?_
                refine s_tB R (Nat.le_trans (Nat.le_of_ble_eq_true rfl) hb) (fun _ hq => SX3_wantVertical (b := 1) (N := N) (Nat.le_of_ble_eq_true rfl) (R.rf) hq) hF (fun f23 rv23 h23 x27 σ28 R23 e23 E23 hF => ?_)
                refine s_if (not_congr (i_eq rfl (c_lit 32 32 rfl) rp0 ⟨by decide, by decide⟩)) hF (fun c24 hF => ?_) (fun c24 hF => ?_)
                ·
                  exact SX3_actItem_b188 (N := N) (rE := rE) (RE := RE) (rN := rN) (RN := RN) hb @hrE @hrN R23 rfl rp0 (c_lit 0 0 rfl) ⟨by decide, by decide⟩ hF
                ·
                  exact SX3_actItem_b188 (N := N) (rE := rE) (RE := RE) (rN := rN) (RN := RN) hb @hrE @hrN R23 rfl rp0 (c_lit 1 1 rfl) ⟨by decide, by decide⟩ hF
              ·
                refine s_if (i_eq rfl (c_lit 36 36 rfl) rp0 ⟨by decide, by decide⟩) hF (fun c25 hF => ?_) (fun c25 hF => ?_)
                ·
                  refine s_kok R (t_4 R.S) (Nat.le_of_ble_eq_true rfl) ?_
                  refine s_tB R (Nat.le_trans (Nat.le_of_ble_eq_true rfl) hb) (fun _ hq => SX3_wantVertical (b := 1) (N := N) (Nat.le_of_ble_eq_true rfl) (R.rf) hq) hF (fun f27 rv27 h27 x32 σ33 R27 e27 E27 hF => ?_)
                  refine s_if (not_congr (i_eq rfl (c_lit 32 32 rfl) rp0 ⟨by decide, by decide⟩)) hF (fun c28 hF => ?_) (fun c28 hF => ?_)
                  ·
                    exact SX3_actItem_b188 (N := N) (rE := rE) (RE := RE) (rN := rN) (RN := RN) hb @hrE @hrN R27 rfl rp0 (c_lit 0 0 rfl) ⟨by decide, by decide⟩ hF
                  ·
                    exact SX3_actItem_b188 (N := N) (rE := rE) (RE := RE) (rN := rN) (RN := RN) hb @hrE @hrN R27 rfl rp0 (c_lit 1 1 rfl) ⟨by decide, by decide⟩ hF
                ·
                  refine s_if (i_eq rfl (c_lit 37 37 rfl) rp0 ⟨by decide, by decide⟩) hF (fun c29 hF => ?_) (fun c29 hF => ?_)
                  ·
                    refine s_gO R (t_4 R.S) (Nat.le_of_ble_eq_true rfl) rfl (o_4_5 R.S) ?_
                    refine s_kok R (t_22 R.S) (Nat.le_of_ble_eq_true rfl) ?_
                    refine s_tB R hb (fun _ hq => SX8_dimension (b := 3) (N := N) (rE := rE) (RE := RE) (rN := rN) (RN := RN) (Nat.le_of_ble_eq_true rfl) @hrE @hrN (R.rf) hq) hF (fun f32 rv32 h32 x39 σ40 R32 e32 E32 hF => ?_)
                    refine s_kok R32 (t_4 R32.S) (Nat.le_of_ble_eq_true rfl) ?_
                    refine s_tB R32 (Nat.le_trans (Nat.le_of_ble_eq_true rfl) hb) (fun _ hq => SX3_add (b := 1) (N := N) (Nat.le_of_ble_eq_true rfl) (R32.rf) (c_lit 3 3 rfl) ⟨by decide, by decide⟩ e32.1 e32.2 (c_lit 1 1 rfl) ⟨by decide, by decide⟩ (c_lit 0 0 rfl) ⟨by decide, by decide⟩ (c_lit 0 0 rfl) ⟨by decide, by decide⟩ hq) hF (fun f34 rv34 h34 x42 σ43 R34 e34 E34 hF => ?_)
                    exact SX3_actItem_b330 (N := N) (rE := rE) (RE := RE) (rN := rN) (RN := RN) @hrE @hrN R34 hF
                  ·
                    refine s_if (i_eq rfl (c_lit 38 38 rfl) rp0 ⟨by decide, by decide⟩) hF (fun c35 hF => ?_) (fun c35 hF => ?_)
                    ·
                      refine s_gO R (t_4 R.S) (Nat.le_of_ble_eq_true rfl) rfl (o_4_5 R.S) ?_
                      refine s_kok R (t_22 R.S) (Nat.le_of_ble_eq_true rfl) ?_
                      refine s_tB R hb (fun _ hq => hrN (R.rf)  hq) hF (fun f38 rv38 h38 x48 σ49 R38 e38 E38 hF => ?_)
                      refine s_call R38 (Nat.zero_le _) (fun _ hq => SX3_clipped (b := 0) (R38.rf) (c_2l e38.1 e38.2) (r32.w e38.2) hq) hF (fun f39 rv39 h39 q50 R39 e39 E39 hF => ?_)
                      refine s_kok R39 (t_4 R39.S) (Nat.le_of_ble_eq_true rfl) ?_
                      refine s_tB R39 (Nat.le_trans (Nat.le_of_ble_eq_true rfl) hb) (fun _ hq => SX3_add (b := 1) (N := N) (Nat.le_of_ble_eq_true rfl) (R39.rf) (c_lit 5 5 rfl) ⟨by decide, by decide⟩ e39.1 e39.2 (c_lit 0 0 rfl) ⟨by decide, by decide⟩ (c_lit 0 0 rfl) ⟨by decide, by decide⟩ (c_lit 0 0 rfl) ⟨by decide, by decide⟩ hq) hF (fun f41 rv41 h41 x52 σ53 R41 e41 E41 hF => ?_)
                      exact SX3_actItem_b330 (N := N) (rE := rE) (RE := RE) (rN := rN) (RN := RN) @hrE @hrN R41 hF
                    ·
                      refine s_if (i_eq rfl (c_lit 39 39 rfl) rp0 ⟨by decide, by decide⟩) hF (fun c42 hF => ?_) (fun c42 hF => ?_)
                      ·
                        refine s_kok R (t_4 R.S) (Nat.le_of_ble_eq_true rfl) ?_
                        refine s_tB R (Nat.le_trans (Nat.le_of_ble_eq_true rfl) hb) (fun _ hq => SX3_wantVertical (b := 1) (N := N) (Nat.le_of_ble_eq_true rfl) (R.rf) hq) hF (fun f44 rv44 h44 x56 σ57 R44 e44 E44 hF => ?_)
                        refine s_kok R44 (t_4 R44.S) (Nat.le_of_ble_eq_true rfl) ?_
                        refine s_tB R44 hb (fun _ hq => SX3_rule (b := 3) (N := N) (rE := rE) (RE := RE) (rN := rN) (RN := RN) (Nat.le_of_ble_eq_true rfl) @hrE @hrN (R44.rf) (c_lit (-1073741824) (-1073741824) rfl) ⟨by decide, by decide⟩ (c_lit 26214 26214 rfl) ⟨by decide, by decide⟩ (c_lit 0 0 rfl) ⟨by decide, by decide⟩ hq) hF (fun f46 rv46 h46 x59 σ60 R46 e46 E46 hF => ?_)
                        refine s_gAs R46 (t_4 R46.S) (Nat.le_of_ble_eq_true rfl) rfl (o_4_21 R46.S) (a_178 R46) ?_
                        refine s_gI R46 (t_4 R46.S) (Nat.le_of_ble_eq_true rfl) rfl ?_
                        refine s_qI R46 (u_178 R46.S).1 (u_178 R46.S).2 (by decide) (a_178 R46) rfl (R46.ri (t_4 R46.S) (Nat.le_of_ble_eq_true rfl) rfl) (c_lit (-2147483648) (-2147483648) rfl) ⟨by decide, by decide⟩ hF (fun h49 σ65 R49 T49 hF => ?_)
                        exact SX3_actItem_b330 (N := N) (rE := rE) (RE := RE) (rN := rN) (RN := RN) @hrE @hrN R49 hF
                      ·
                        refine s_if (i_eq rfl (c_lit 40 40 rfl) rp0 ⟨by decide, by decide⟩) hF (fun c50 hF => ?_) (fun c50 hF => ?_)
                        ·
                          refine s_kok R (t_4 R.S) (Nat.le_of_ble_eq_true rfl) ?_
                          refine s_tB R (Nat.le_trans (Nat.le_of_ble_eq_true rfl) hb) (fun _ hq => SX3_wantHorizontal (b := 1) (N := N) (Nat.le_of_ble_eq_true rfl) (R.rf) (c_lit 1 1 rfl) ⟨by decide, by decide⟩ hq) hF (fun f52 rv52 h52 x69 σ70 R52 e52 E52 hF => ?_)
                          refine s_kok R52 (t_4 R52.S) (Nat.le_of_ble_eq_true rfl) ?_
                          refine s_tB R52 hb (fun _ hq => SX3_rule (b := 3) (N := N) (rE := rE) (RE := RE) (rN := rN) (RN := RN) (Nat.le_of_ble_eq_true rfl) @hrE @hrN (R52.rf) (c_lit 26214 26214 rfl) ⟨by decide, by decide⟩ (c_lit (-1073741824) (-1073741824) rfl) ⟨by decide, by decide⟩ (c_lit (-1073741824) (-1073741824) rfl) ⟨by decide, by decide⟩ hq) hF (fun f54 rv54 h54 x72 σ73 R54 e54 E54 hF => ?_)
                          exact SX3_actItem_b330 (N := N) (rE := rE) (RE := RE) (rN := rN) (RN := RN) @hrE @hrN R54 hF
                        ·
                          refine s_if (i_eq rfl (c_lit 41 41 rfl) rp0 ⟨by decide, by decide⟩) hF (fun c55 hF => ?_) (fun c55 hF => ?_)
                          ·
                            refine s_kok R (t_4 R.S) (Nat.le_of_ble_eq_true rfl) ?_
                            refine s_tB R hb (fun _ hq => SX3_actBox (b := 3) (N := N) (rE := rE) (RE := RE) (rN := rN) (RN := RN) (Nat.le_of_ble_eq_true rfl) @hrE @hrN (R.rf) rfl rp0 hq) hF (fun f57 rv57 h57 x76 σ77 R57 e57 E57 hF => ?_)
                            exact SX3_actItem_b330 (N := N) (rE := rE) (RE := RE) (rN := rN) (RN := RN) @hrE @hrN R57 hF
                          ·
                            refine s_if (i_eq rfl (c_lit 42 42 rfl) rp0 ⟨by decide, by decide⟩) hF (fun c58 hF => ?_) (fun c58 hF => ?_)
                            ·
                              refine s_kok R (t_4 R.S) (Nat.le_of_ble_eq_true rfl) ?_
                              refine s_tB R hb (fun _ hq => SX3_actBox (b := 3) (N := N) (rE := rE) (RE := RE) (rN := rN) (RN := RN) (Nat.le_of_ble_eq_true rfl) @hrE @hrN (R.rf) rfl rp0 hq) hF (fun f60 rv60 h60 x80 σ81 R60 e60 E60 hF => ?_)
                              exact SX3_actItem_b330 (N := N) (rE := rE) (RE := RE) (rN := rN) (RN := RN) @hrE @hrN R60 hF
                            ·
                              refine s_if (i_eq rfl (c_lit 43 43 rfl) rp0 ⟨by decide, by decide⟩) hF (fun c61 hF => ?_) (fun c61 hF => ?_)
                              ·
                                refine s_kok R (t_4 R.S) (Nat.le_of_ble_eq_true rfl) ?_
                                refine s_tB R hb (fun _ hq => SX3_actBox (b := 3) (N := N) (rE := rE) (RE := RE) (rN := rN) (RN := RN) (Nat.le_of_ble_eq_true rfl) @hrE @hrN (R.rf) rfl rp0 hq) hF (fun f63 rv63 h63 x84 σ85 R63 e63 E63 hF => ?_)
                                exact SX3_actItem_b330 (N := N) (rE := rE) (RE := RE) (rN := rN) (RN := RN) @hrE @hrN R63 hF
                              ·
                                refine s_if (i_eq rfl (c_lit 44 44 rfl) rp0 ⟨by decide, by decide⟩) hF (fun c64 hF => ?_) (fun c64 hF => ?_)
                                ·
                                  refine s_kok R (t_4 R.S) (Nat.le_of_ble_eq_true rfl) ?_
                                  refine s_tB R hb (fun _ hq => SX3_actBox (b := 3) (N := N) (rE := rE) (RE := RE) (rN := rN) (RN := RN) (Nat.le_of_ble_eq_true rfl) @hrE @hrN (R.rf) rfl rp0 hq) hF (fun f66 rv66 h66 x88 σ89 R66 e66 E66 hF => ?_)
                                  exact SX3_actItem_b330 (N := N) (rE := rE) (RE := RE) (rN := rN) (RN := RN) @hrE @hrN R66 hF
                                ·
                                  refine s_if (i_eq rfl (c_lit 45 45 rfl) rp0 ⟨by decide, by decide⟩) hF (fun c67 hF => ?_) (fun c67 hF => ?_)
                                  ·
                                    refine s_kok R (t_4 R.S) (Nat.le_of_ble_eq_true rfl) ?_
                                    refine s_tB R hb (fun _ hq => SX3_actBox (b := 3) (N := N) (rE := rE) (RE := RE) (rN := rN) (RN := RN) (Nat.le_of_ble_eq_true rfl) @hrE @hrN (R.rf) rfl rp0 hq) hF (fun f69 rv69 h69 x92 σ93 R69 e69 E69 hF => ?_)
                                    exact SX3_actItem_b330 (N := N) (rE := rE) (RE := RE) (rN := rN) (RN := RN) @hrE @hrN R69 hF
                                  ·
                                    refine s_if (i_eq rfl (c_lit 46 46 rfl) rp0 ⟨by decide, by decide⟩) hF (fun c70 hF => ?_) (fun c70 hF => ?_)
                                    ·
                                      refine s_kok R (t_4 R.S) (Nat.le_of_ble_eq_true rfl) ?_
                                      refine s_tB R hb (fun _ hq => SX3_actBox (b := 3) (N := N) (rE := rE) (RE := RE) (rN := rN) (RN := RN) (Nat.le_of_ble_eq_true rfl) @hrE @hrN (R.rf) rfl rp0 hq) hF (fun f72 rv72 h72 x96 σ97 R72 e72 E72 hF => ?_)
                                      exact SX3_actItem_b330 (N := N) (rE := rE) (RE := RE) (rN := rN) (RN := RN) @hrE @hrN R72 hF
                                    ·
                                      refine s_if (i_eq rfl (c_lit 47 47 rfl) rp0 ⟨by decide, by decide⟩) hF (fun c73 hF => ?_) (fun c73 hF => ?_)
                                      ·
                                        refine s_kok R (t_4 R.S) (Nat.le_of_ble_eq_true rfl) ?_
                                        refine s_tB R hb (fun _ hq => SX3_actBox (b := 3) (N := N) (rE := rE) (RE := RE) (rN := rN) (RN := RN) (Nat.le_of_ble_eq_true rfl) @hrE @hrN (R.rf) rfl rp0 hq) hF (fun f75 rv75 h75 x100 σ101 R75 e75 E75 hF => ?_)
                                        exact SX3_actItem_b330 (N := N) (rE := rE) (RE := RE) (rN := rN) (RN := RN) @hrE @hrN R75 hF
                                      ·
                                        refine s_if (i_eq rfl (c_lit 48 48 rfl) rp0 ⟨by decide, by decide⟩) hF (fun c76 hF => ?_) (fun c76 hF => ?_)
                                        ·
                                          refine s_kok R (t_4 R.S) (Nat.le_of_ble_eq_true rfl) ?_
                                          refine s_tB R hb (fun _ hq => SX3_actBox (b := 3) (N := N) (rE := rE) (RE := RE) (rN := rN) (RN := RN) (Nat.le_of_ble_eq_true rfl) @hrE @hrN (R.rf) rfl rp0 hq) hF (fun f78 rv78 h78 x104 σ105 R78 e78 E78 hF => ?_)
                                          exact SX3_actItem_b330 (N := N) (rE := rE) (RE := RE) (rN := rN) (RN := RN) @hrE @hrN R78 hF
                                        ·
                                          refine s_if (i_eq rfl (c_lit 49 49 rfl) rp0 ⟨by decide, by decide⟩) hF (fun c79 hF => ?_) (fun c79 hF => ?_)
                                          ·
                                            refine s_kok R (t_4 R.S) (Nat.le_of_ble_eq_true rfl) ?_
                                            refine s_tB R (Nat.le_trans (Nat.le_of_ble_eq_true rfl) hb) (fun _ hq => SX3_wantHorizontal (b := 1) (N := N) (Nat.le_of_ble_eq_true rfl) (R.rf) (c_lit 1 1 rfl) ⟨by decide, by decide⟩ hq) hF (fun f81 rv81 h81 x108 σ109 R81 e81 E81 hF => ?_)
                                            refine s_kok R81 (t_4 R81.S) (Nat.le_of_ble_eq_true rfl) ?_
                                            refine s_tB R81 (Nat.le_trans (Nat.le_of_ble_eq_true rfl) hb) (fun _ hq => SX3_dash (b := 1) (Nat.le_of_ble_eq_true rfl) (R81.rf) hq) hF (fun f83 rv83 h83 x111 σ112 R83 e83 E83 hF => ?_)
                                            exact SX3_actItem_b330 (N := N) (rE := rE) (RE := RE) (rN := rN) (RN := RN) @hrE @hrN R83 hF
                                          ·
                                            refine s_if (i_eq rfl (c_lit 50 50 rfl) rp0 ⟨by decide, by decide⟩) hF (fun c84 hF => ?_) (fun c84 hF => ?_)
                                            ·
                                              refine s_kok R (t_4 R.S) (Nat.le_of_ble_eq_true rfl) ?_
                                              refine s_tB R (Nat.le_trans (Nat.le_of_ble_eq_true rfl) hb) (fun _ hq => SX3_wantHorizontal (b := 1) (N := N) (Nat.le_of_ble_eq_true rfl) (R.rf) (c_lit 1 1 rfl) ⟨by decide, by decide⟩ hq) hF (fun f86 rv86 h86 x115 σ116 R86 e86 E86 hF => ?_)
                                              refine s_kok R86 (t_4 R86.S) (Nat.le_of_ble_eq_true rfl) ?_
                                              refine s_tB R86 (Nat.le_trans (Nat.le_of_ble_eq_true rfl) hb) (fun _ hq => SX3_space (b := 1) (Nat.le_of_ble_eq_true rfl) (R86.rf) hq) hF (fun f88 rv88 h88 x118 σ119 R88 e88 E88 hF => ?_)
                                              exact SX3_actItem_b330 (N := N) (rE := rE) (RE := RE) (rN := rN) (RN := RN) @hrE @hrN R88 hF
                                            ·
                                              refine s_kok R (t_4 R.S) (Nat.le_of_ble_eq_true rfl) ?_
                                              refine s_tB R hb (fun _ hq => SX3_actBox (b := 3) (N := N) (rE := rE) (RE := RE) (rN := rN) (RN := RN) (Nat.le_of_ble_eq_true rfl) @hrE @hrN (R.rf) rfl rp0 hq) hF (fun f90 rv90 h90 x121 σ122 R90 e90 E90 hF => ?_)
                                              exact SX3_actItem_b330 (N := N) (rE := rE) (RE := RE) (rN := rN) (RN := RN) @hrE @hrN R90 hF
def FX3_actPrimitive_b307 (N : Nat) (RE : Int → fS → Option ((Unit ⊕ Nat) × fS)) (RN : fS → Option ((Int ⊕ Nat) × fS)) (s : fS) : Option ((Unit ⊕ Nat) × fS) :=
  some (.inl (), s)
theorem SX3_actPrimitive_b307 {m b : Nat} {φ0 : Nat → Nat} {σo : fS} {N : Nat} {rE : Nat → Int32 → eH → Option ((Unit ⊕ Nat) × eH)} {RE : Int → fS → Option ((Unit ⊕ Nat) × fS)} {rN : Nat → eH → Option ((Int32 ⊕ Nat) × eH)} {RN : fS → Option ((Int ⊕ Nat) × fS)} {q : (Unit ⊕ Nat) × fS} (hrE : ∀ {φ : Nat → Nat} {h : eH} {s : fS} {x1' : Int32} {x1 : Int} {q}, fC m 3 φ s φ h s → x1' = iI x1 → r32 x1 → RE x1 s = some q → gG m 3 φ s (lT lU) q (rE 22 x1' h)) (hrN : ∀ {φ : Nat → Nat} {h : eH} {s : fS} {q}, fC m 3 φ s φ h s → RN s = some q → gG m 3 φ s (lT lI) q (rN 22 h)) {φ : Nat → Nat} {h : eH} {s : fS} (R : fC m b φ0 σo φ h s) (hF : FX3_actPrimitive_b307 N RE RN s = some q) : gG m b φ0 σo (lT lU) q (fX3_actPrimitive_b307 N rE rN h) := by
  unfold FX3_actPrimitive_b307 at hF
  unfold fX3_actPrimitive_b307
  exact g_ret R hF trivial
def FX3_actPrimitive (N : Nat) (RE : Int → fS → Option ((Unit ⊕ Nat) × fS)) (RN : fS → Option ((Int ⊕ Nat) × fS)) (p0 : Int) (s : fS) : Option ((Unit ⊕ Nat) × fS) :=
  if p0 = 22 then
    FX3_actPrimitive_b307 N RE RN s
  else
    if p0 = 23 then
      (uRI s 176 (s.i 4 27)).bind fun x7 =>
      if ¬ (x7 = 2) then
        FX3_actPrimitive_b307 N RE RN s
      else
        tB (FX3_endParagraph N s) fun x11 σ12 =>
        FX3_actPrimitive_b307 N RE RN σ12
    else
      if p0 = 24 then
        tB (FX3_open 24 s) fun x15 σ16 =>
        FX3_actPrimitive_b307 N RE RN σ16
      else
        if p0 = 25 then
          tB (FX3_close N 24 s) fun x19 σ20 =>
          FX3_actPrimitive_b307 N RE RN σ20
        else
          if p0 = 26 then
            (uPZ s 4 35 1).bind fun σ22 =>
            FX3_actPrimitive_b307 N RE RN σ22
          else
            if p0 = 27 then
              tB (FX4_fail 6 s) fun x28 σ29 =>
              FX3_actPrimitive_b307 N RE RN σ29
            else
              if p0 = 28 then
                tB (FX3_wantHorizontal N 1 s) fun x32 σ33 =>
                tB (FX8_within RN 255 σ33) fun x37 σ38 =>
                tB (FX3_character N x37 σ38) fun x40 σ41 =>
                FX3_actPrimitive_b307 N RE RN σ41
              else
                if p0 = 29 then
                  if p0 < 54 then
                    tB (FX3_actItem N RE RN p0 s) fun x45 σ46 =>
                    FX3_actPrimitive_b307 N RE RN σ46
                  else
                    tB (FX3_set N RE RN p0 0 s) fun x48 σ49 =>
                    FX3_actPrimitive_b307 N RE RN σ49
                else
                  if p0 = 30 then
                    if p0 < 54 then
                      tB (FX3_actItem N RE RN p0 s) fun x53 σ54 =>
                      FX3_actPrimitive_b307 N RE RN σ54
                    else
                      tB (FX3_set N RE RN p0 0 s) fun x56 σ57 =>
                      FX3_actPrimitive_b307 N RE RN σ57
                  else
                    if p0 = 31 then
                      if p0 < 54 then
                        tB (FX3_actItem N RE RN p0 s) fun x61 σ62 =>
                        FX3_actPrimitive_b307 N RE RN σ62
                      else
                        tB (FX3_set N RE RN p0 0 s) fun x64 σ65 =>
                        FX3_actPrimitive_b307 N RE RN σ65
                    else
                      if p0 = 32 then
                        if p0 < 54 then
                          tB (FX3_actItem N RE RN p0 s) fun x69 σ70 =>
                          FX3_actPrimitive_b307 N RE RN σ70
                        else
                          tB (FX3_set N RE RN p0 0 s) fun x72 σ73 =>
                          FX3_actPrimitive_b307 N RE RN σ73
                      else
                        if p0 = 33 then
                          if p0 < 54 then
                            tB (FX3_actItem N RE RN p0 s) fun x77 σ78 =>
                            FX3_actPrimitive_b307 N RE RN σ78
                          else
                            tB (FX3_set N RE RN p0 0 s) fun x80 σ81 =>
                            FX3_actPrimitive_b307 N RE RN σ81
                        else
                          if p0 = 34 then
                            if p0 < 54 then
                              tB (FX3_actItem N RE RN p0 s) fun x85 σ86 =>
                              FX3_actPrimitive_b307 N RE RN σ86
                            else
                              tB (FX3_set N RE RN p0 0 s) fun x88 σ89 =>
                              FX3_actPrimitive_b307 N RE RN σ89
                          else
                            if p0 = 35 then
                              if p0 < 54 then
                                tB (FX3_actItem N RE RN p0 s) fun x93 σ94 =>
                                FX3_actPrimitive_b307 N RE RN σ94
                              else
                                tB (FX3_set N RE RN p0 0 s) fun x96 σ97 =>
                                FX3_actPrimitive_b307 N RE RN σ97
                            else
                              if p0 = 36 then
                                if p0 < 54 then
                                  tB (FX3_actItem N RE RN p0 s) fun x101 σ102 =>
                                  FX3_actPrimitive_b307 N RE RN σ102
                                else
                                  tB (FX3_set N RE RN p0 0 s) fun x104 σ105 =>
                                  FX3_actPrimitive_b307 N RE RN σ105
                              else
                                if p0 = 37 then
                                  if p0 < 54 then
                                    tB (FX3_actItem N RE RN p0 s) fun x109 σ110 =>
                                    FX3_actPrimitive_b307 N RE RN σ110
                                  else
                                    tB (FX3_set N RE RN p0 0 s) fun x112 σ113 =>
                                    FX3_actPrimitive_b307 N RE RN σ113
                                else
                                  if p0 = 38 then
                                    if p0 < 54 then
                                      tB (FX3_actItem N RE RN p0 s) fun x117 σ118 =>
                                      FX3_actPrimitive_b307 N RE RN σ118
                                    else
                                      tB (FX3_set N RE RN p0 0 s) fun x120 σ121 =>
                                      FX3_actPrimitive_b307 N RE RN σ121
                                  else
                                    if p0 = 39 then
                                      if p0 < 54 then
                                        tB (FX3_actItem N RE RN p0 s) fun x125 σ126 =>
                                        FX3_actPrimitive_b307 N RE RN σ126
                                      else
                                        tB (FX3_set N RE RN p0 0 s) fun x128 σ129 =>
                                        FX3_actPrimitive_b307 N RE RN σ129
                                    else
                                      if p0 = 40 then
                                        if p0 < 54 then
                                          tB (FX3_actItem N RE RN p0 s) fun x133 σ134 =>
                                          FX3_actPrimitive_b307 N RE RN σ134
                                        else
                                          tB (FX3_set N RE RN p0 0 s) fun x136 σ137 =>
                                          FX3_actPrimitive_b307 N RE RN σ137
                                      else
                                        if p0 = 41 then
                                          if p0 < 54 then
                                            tB (FX3_actItem N RE RN p0 s) fun x141 σ142 =>
                                            FX3_actPrimitive_b307 N RE RN σ142
                                          else
                                            tB (FX3_set N RE RN p0 0 s) fun x144 σ145 =>
                                            FX3_actPrimitive_b307 N RE RN σ145
                                        else
                                          if p0 = 42 then
                                            if p0 < 54 then
                                              tB (FX3_actItem N RE RN p0 s) fun x149 σ150 =>
                                              FX3_actPrimitive_b307 N RE RN σ150
                                            else
                                              tB (FX3_set N RE RN p0 0 s) fun x152 σ153 =>
                                              FX3_actPrimitive_b307 N RE RN σ153
                                          else
                                            if p0 = 43 then
                                              if p0 < 54 then
                                                tB (FX3_actItem N RE RN p0 s) fun x157 σ158 =>
                                                FX3_actPrimitive_b307 N RE RN σ158
                                              else
                                                tB (FX3_set N RE RN p0 0 s) fun x160 σ161 =>
                                                FX3_actPrimitive_b307 N RE RN σ161
                                            else
                                              if p0 = 44 then
                                                if p0 < 54 then
                                                  tB (FX3_actItem N RE RN p0 s) fun x165 σ166 =>
                                                  FX3_actPrimitive_b307 N RE RN σ166
                                                else
                                                  tB (FX3_set N RE RN p0 0 s) fun x168 σ169 =>
                                                  FX3_actPrimitive_b307 N RE RN σ169
                                              else
                                                if p0 = 45 then
                                                  if p0 < 54 then
                                                    tB (FX3_actItem N RE RN p0 s) fun x173 σ174 =>
                                                    FX3_actPrimitive_b307 N RE RN σ174
                                                  else
                                                    tB (FX3_set N RE RN p0 0 s) fun x176 σ177 =>
                                                    FX3_actPrimitive_b307 N RE RN σ177
                                                else
                                                  if p0 = 46 then
                                                    if p0 < 54 then
                                                      tB (FX3_actItem N RE RN p0 s) fun x181 σ182 =>
                                                      FX3_actPrimitive_b307 N RE RN σ182
                                                    else
                                                      tB (FX3_set N RE RN p0 0 s) fun x184 σ185 =>
                                                      FX3_actPrimitive_b307 N RE RN σ185
                                                  else
                                                    if p0 = 47 then
                                                      if p0 < 54 then
                                                        tB (FX3_actItem N RE RN p0 s) fun x189 σ190 =>
                                                        FX3_actPrimitive_b307 N RE RN σ190
                                                      else
                                                        tB (FX3_set N RE RN p0 0 s) fun x192 σ193 =>
                                                        FX3_actPrimitive_b307 N RE RN σ193
                                                    else
                                                      if p0 = 48 then
                                                        if p0 < 54 then
                                                          tB (FX3_actItem N RE RN p0 s) fun x197 σ198 =>
                                                          FX3_actPrimitive_b307 N RE RN σ198
                                                        else
                                                          tB (FX3_set N RE RN p0 0 s) fun x200 σ201 =>
                                                          FX3_actPrimitive_b307 N RE RN σ201
                                                      else
                                                        if p0 = 49 then
                                                          if p0 < 54 then
                                                            tB (FX3_actItem N RE RN p0 s) fun x205 σ206 =>
                                                            FX3_actPrimitive_b307 N RE RN σ206
                                                          else
                                                            tB (FX3_set N RE RN p0 0 s) fun x208 σ209 =>
                                                            FX3_actPrimitive_b307 N RE RN σ209
                                                        else
                                                          if p0 = 50 then
                                                            if p0 < 54 then
                                                              tB (FX3_actItem N RE RN p0 s) fun x213 σ214 =>
                                                              FX3_actPrimitive_b307 N RE RN σ214
                                                            else
                                                              tB (FX3_set N RE RN p0 0 s) fun x216 σ217 =>
                                                              FX3_actPrimitive_b307 N RE RN σ217
                                                          else
                                                            if p0 = 51 then
                                                              tB (FX4_fail 6 s) fun x222 σ223 =>
                                                              FX3_actPrimitive_b307 N RE RN σ223
                                                            else
                                                              if p0 = 52 then
                                                                tB (FX4_fail 6 s) fun x228 σ229 =>
                                                                FX3_actPrimitive_b307 N RE RN σ229
                                                              else
                                                                if p0 = 53 then
                                                                  tB (FX4_fail 6 s) fun x234 σ235 =>
                                                                  FX3_actPrimitive_b307 N RE RN σ235
                                                                else
                                                                  if p0 = 54 then
                                                                    if p0 < 54 then
                                                                      tB (FX3_actItem N RE RN p0 s) fun x239 σ240 =>
                                                                      FX3_actPrimitive_b307 N RE RN σ240
                                                                    else
                                                                      tB (FX3_set N RE RN p0 0 s) fun x242 σ243 =>
                                                                      FX3_actPrimitive_b307 N RE RN σ243
                                                                  else
                                                                    if p0 = 55 then
                                                                      if p0 < 54 then
                                                                        tB (FX3_actItem N RE RN p0 s) fun x247 σ248 =>
                                                                        FX3_actPrimitive_b307 N RE RN σ248
                                                                      else
                                                                        tB (FX3_set N RE RN p0 0 s) fun x250 σ251 =>
                                                                        FX3_actPrimitive_b307 N RE RN σ251
                                                                    else
                                                                      if p0 = 56 then
                                                                        if p0 < 54 then
                                                                          tB (FX3_actItem N RE RN p0 s) fun x255 σ256 =>
                                                                          FX3_actPrimitive_b307 N RE RN σ256
                                                                        else
                                                                          tB (FX3_set N RE RN p0 0 s) fun x258 σ259 =>
                                                                          FX3_actPrimitive_b307 N RE RN σ259
                                                                      else
                                                                        if p0 = 57 then
                                                                          if p0 < 54 then
                                                                            tB (FX3_actItem N RE RN p0 s) fun x263 σ264 =>
                                                                            FX3_actPrimitive_b307 N RE RN σ264
                                                                          else
                                                                            tB (FX3_set N RE RN p0 0 s) fun x266 σ267 =>
                                                                            FX3_actPrimitive_b307 N RE RN σ267
                                                                        else
                                                                          if p0 = 58 then
                                                                            if p0 < 54 then
                                                                              tB (FX3_actItem N RE RN p0 s) fun x271 σ272 =>
                                                                              FX3_actPrimitive_b307 N RE RN σ272
                                                                            else
                                                                              tB (FX3_set N RE RN p0 0 s) fun x274 σ275 =>
                                                                              FX3_actPrimitive_b307 N RE RN σ275
                                                                          else
                                                                            if p0 = 59 then
                                                                              if p0 < 54 then
                                                                                tB (FX3_actItem N RE RN p0 s) fun x279 σ280 =>
                                                                                FX3_actPrimitive_b307 N RE RN σ280
                                                                              else
                                                                                tB (FX3_set N RE RN p0 0 s) fun x282 σ283 =>
                                                                                FX3_actPrimitive_b307 N RE RN σ283
                                                                            else
                                                                              if p0 = 60 then
                                                                                if p0 < 54 then
                                                                                  tB (FX3_actItem N RE RN p0 s) fun x287 σ288 =>
                                                                                  FX3_actPrimitive_b307 N RE RN σ288
                                                                                else
                                                                                  tB (FX3_set N RE RN p0 0 s) fun x290 σ291 =>
                                                                                  FX3_actPrimitive_b307 N RE RN σ291
                                                                              else
                                                                                if p0 = 61 then
                                                                                  if p0 < 54 then
                                                                                    tB (FX3_actItem N RE RN p0 s) fun x295 σ296 =>
                                                                                    FX3_actPrimitive_b307 N RE RN σ296
                                                                                  else
                                                                                    tB (FX3_set N RE RN p0 0 s) fun x298 σ299 =>
                                                                                    FX3_actPrimitive_b307 N RE RN σ299
                                                                                else
                                                                                  if p0 = 62 then
                                                                                    if p0 < 54 then
                                                                                      tB (FX3_actItem N RE RN p0 s) fun x303 σ304 =>
                                                                                      FX3_actPrimitive_b307 N RE RN σ304
                                                                                    else
                                                                                      tB (FX3_set N RE RN p0 0 s) fun x306 σ307 =>
                                                                                      FX3_actPrimitive_b307 N RE RN σ307
                                                                                  else
                                                                                    if p0 = 63 then
                                                                                      if p0 < 54 then
                                                                                        tB (FX3_actItem N RE RN p0 s) fun x311 σ312 =>
                                                                                        FX3_actPrimitive_b307 N RE RN σ312
                                                                                      else
                                                                                        tB (FX3_set N RE RN p0 0 s) fun x314 σ315 =>
                                                                                        FX3_actPrimitive_b307 N RE RN σ315
                                                                                    else
                                                                                      if p0 = 64 then
                                                                                        if p0 < 54 then
                                                                                          tB (FX3_actItem N RE RN p0 s) fun x319 σ320 =>
                                                                                          FX3_actPrimitive_b307 N RE RN σ320
                                                                                        else
                                                                                          tB (FX3_set N RE RN p0 0 s) fun x322 σ323 =>
                                                                                          FX3_actPrimitive_b307 N RE RN σ323
                                                                                      else
                                                                                        if p0 = 65 then
                                                                                          if p0 < 54 then
                                                                                            tB (FX3_actItem N RE RN p0 s) fun x327 σ328 =>
                                                                                            FX3_actPrimitive_b307 N RE RN σ328
                                                                                          else
                                                                                            tB (FX3_set N RE RN p0 0 s) fun x330 σ331 =>
                                                                                            FX3_actPrimitive_b307 N RE RN σ331
                                                                                        else
                                                                                          if p0 = 66 then
                                                                                            tB (FX3_actGlobal N RE RN s) fun x334 σ335 =>
                                                                                            FX3_actPrimitive_b307 N RE RN σ335
                                                                                          else
                                                                                            if p0 < 54 then
                                                                                              tB (FX3_actItem N RE RN p0 s) fun x338 σ339 =>
                                                                                              FX3_actPrimitive_b307 N RE RN σ339
                                                                                            else
                                                                                              tB (FX3_set N RE RN p0 0 s) fun x341 σ342 =>
                                                                                              FX3_actPrimitive_b307 N RE RN σ342
theorem SX3_actPrimitive {m b : Nat} {φ0 : Nat → Nat} {σo : fS} (hb : 3 ≤ b) {N : Nat} {rE : Nat → Int32 → eH → Option ((Unit ⊕ Nat) × eH)} {RE : Int → fS → Option ((Unit ⊕ Nat) × fS)} {rN : Nat → eH → Option ((Int32 ⊕ Nat) × eH)} {RN : fS → Option ((Int ⊕ Nat) × fS)} {q : (Unit ⊕ Nat) × fS} (hrE : ∀ {φ : Nat → Nat} {h : eH} {s : fS} {x1' : Int32} {x1 : Int} {q}, fC m 3 φ s φ h s → x1' = iI x1 → r32 x1 → RE x1 s = some q → gG m 3 φ s (lT lU) q (rE 22 x1' h)) (hrN : ∀ {φ : Nat → Nat} {h : eH} {s : fS} {q}, fC m 3 φ s φ h s → RN s = some q → gG m 3 φ s (lT lI) q (rN 22 h)) {φ : Nat → Nat} {h : eH} {s : fS} {p0' : Int32} {p0 : Int} (R : fC m b φ0 σo φ h s) (ep0 : p0' = iI p0) (rp0 : r32 p0) (hF : FX3_actPrimitive N RE RN p0 s = some q) : gG m b φ0 σo (lT lU) q (fX3_actPrimitive N rE rN 4 p0' h) := by
  subst ep0
  unfold FX3_actPrimitive at hF
  unfold fX3_actPrimitive
  refine s_if (i_eq rfl (c_lit 22 22 rfl) rp0 ⟨by decide, by decide⟩) hF (fun c1 hF => ?_) (fun c1 hF => ?_)
  ·
    exact SX3_actPrimitive_b307 (N := N) (rE := rE) (RE := RE) (rN := rN) (RN := RN) @hrE @hrN R hF
  ·
    refine s_if (i_eq rfl (c_lit 23 23 rfl) rp0 ⟨by decide, by decide⟩) hF (fun c2 hF => ?_) (fun c2 hF => ?_)
    ·
      refine s_gAs R (t_4 R.S) (Nat.le_of_ble_eq_true rfl) rfl (o_4_19 R.S) (a_176 R) ?_
      refine s_gI R (t_4 R.S) (Nat.le_of_ble_eq_true rfl) rfl ?_
      refine s_rI R (u_176 R.S).1 (u_176 R.S).2 (by decide) (a_176 R) rfl (R.ri (t_4 R.S) (Nat.le_of_ble_eq_true rfl) rfl) hF (fun x7 ra5 hF => ?_)
      refine s_if (not_congr (i_eq rfl (c_lit 2 2 rfl) ra5 ⟨by decide, by decide⟩)) hF (fun c6 hF => ?_) (fun c6 hF => ?_)
      ·
        exact SX3_actPrimitive_b307 (N := N) (rE := rE) (RE := RE) (rN := rN) (RN := RN) @hrE @hrN R hF
      ·
        refine s_kok R (t_4 R.S) (Nat.le_of_ble_eq_true rfl) ?_
        refine s_tB R (Nat.le_trans (Nat.le_of_ble_eq_true rfl) hb) (fun _ hq => SX3_endParagraph (b := 1) (N := N) (Nat.le_of_ble_eq_true rfl) (R.rf) hq) hF (fun f8 rv8 h8 x11 σ12 R8 e8 E8 hF => ?_)
        exact SX3_actPrimitive_b307 (N := N) (rE := rE) (RE := RE) (rN := rN) (RN := RN) @hrE @hrN R8 hF
    ·
      refine s_if (i_eq rfl (c_lit 24 24 rfl) rp0 ⟨by decide, by decide⟩) hF (fun c9 hF => ?_) (fun c9 hF => ?_)
      ·
        refine s_kok R (t_4 R.S) (Nat.le_of_ble_eq_true rfl) ?_
        refine s_tB R (Nat.zero_le _) (fun _ hq => SX3_open (b := 0) (R.rf) (c_lit 24 24 rfl) ⟨by decide, by decide⟩ hq) hF (fun f11 rv11 h11 x15 σ16 R11 e11 E11 hF => ?_)
        exact SX3_actPrimitive_b307 (N := N) (rE := rE) (RE := RE) (rN := rN) (RN := RN) @hrE @hrN R11 hF
      ·
        refine s_if (i_eq rfl (c_lit 25 25 rfl) rp0 ⟨by decide, by decide⟩) hF (fun c12 hF => ?_) (fun c12 hF => ?_)
        ·
          refine s_kok R (t_4 R.S) (Nat.le_of_ble_eq_true rfl) ?_
          refine s_tB R (Nat.zero_le _) (fun _ hq => SX3_close (b := 0) (N := N) (R.rf) (c_lit 24 24 rfl) ⟨by decide, by decide⟩ hq) hF (fun f14 rv14 h14 x19 σ20 R14 e14 E14 hF => ?_)
          exact SX3_actPrimitive_b307 (N := N) (rE := rE) (RE := RE) (rN := rN) (RN := RN) @hrE @hrN R14 hF
        ·
          refine s_if (i_eq rfl (c_lit 26 26 rfl) rp0 ⟨by decide, by decide⟩) hF (fun c15 hF => ?_) (fun c15 hF => ?_)
          ·
            refine s_pZ R (t_4 R.S) (Nat.le_of_ble_eq_true rfl) rfl (c_lit 1 1 rfl) ⟨by decide, by decide⟩ hF (fun h16 σ22 R16 T16 hF => ?_)
            exact SX3_actPrimitive_b307 (N := N) (rE := rE) (RE := RE) (rN := rN) (RN := RN) @hrE @hrN R16 hF
          ·
            refine s_if (i_eq rfl (c_lit 27 27 rfl) rp0 ⟨by decide, by decide⟩) hF (fun c17 hF => ?_) (fun c17 hF => ?_)
            ·
              refine s_gO R (t_4 R.S) (Nat.le_of_ble_eq_true rfl) rfl (o_4_0 R.S) ?_
              refine s_kok R (t_5 R.S) (Nat.le_of_ble_eq_true rfl) ?_
              refine s_tB R (Nat.zero_le _) (fun _ hq => SX4_fail (b := 0) (R.rf) (c_lit 6 6 rfl) ⟨by decide, by decide⟩ hq) hF (fun f20 rv20 h20 x28 σ29 R20 e20 E20 hF => ?_)
              exact SX3_actPrimitive_b307 (N := N) (rE := rE) (RE := RE) (rN := rN) (RN := RN) @hrE @hrN R20 hF
            ·
              refine s_if (i_eq rfl (c_lit 28 28 rfl) rp0 ⟨by decide, by decide⟩) hF (fun c21 hF => ?_) (fun c21 hF => ?_)
              ·
                refine s_kok R (t_4 R.S) (Nat.le_of_ble_eq_true rfl) ?_
                refine s_tB R (Nat.le_trans (Nat.le_of_ble_eq_true rfl) hb) (fun _ hq => SX3_wantHorizontal (b := 1) (N := N) (Nat.le_of_ble_eq_true rfl) (R.rf) (c_lit 1 1 rfl) ⟨by decide, by decide⟩ hq) hF (fun f23 rv23 h23 x32 σ33 R23 e23 E23 hF => ?_)
                refine s_gO R23 (t_4 R23.S) (Nat.le_of_ble_eq_true rfl) rfl (o_4_5 R23.S) ?_
                refine s_kok R23 (t_22 R23.S) (Nat.le_of_ble_eq_true rfl) ?_
                refine s_tB R23 hb (fun _ hq => SX8_within (b := 3) (rN := rN) (RN := RN) (Nat.le_of_ble_eq_true rfl) @hrN (R23.rf) (c_lit 255 255 rfl) ⟨by decide, by decide⟩ hq) hF (fun f26 rv26 h26 x37 σ38 R26 e26 E26 hF => ?_)
                refine s_kok R26 (t_4 R26.S) (Nat.le_of_ble_eq_true rfl) ?_
                refine s_tB R26 (Nat.le_trans (Nat.le_of_ble_eq_true rfl) hb) (fun _ hq => SX3_character (b := 1) (N := N) (Nat.le_of_ble_eq_true rfl) (R26.rf) e26.1 e26.2 hq) hF (fun f28 rv28 h28 x40 σ41 R28 e28 E28 hF => ?_)
                exact SX3_actPrimitive_b307 (N := N) (rE := rE) (RE := RE) (rN := rN) (RN := RN) @hrE @hrN R28 hF
              ·
                refine s_if (i_eq rfl (c_lit 29 29 rfl) rp0 ⟨by decide, by decide⟩) hF (fun c29 hF => ?_) (fun c29 hF => ?_)
                ·
                  refine s_if (i_lt rfl (c_lit 54 54 rfl) rp0 ⟨by decide, by decide⟩) hF (fun c30 hF => ?_) (fun c30 hF => ?_)
                  ·
                    refine s_kok R (t_4 R.S) (Nat.le_of_ble_eq_true rfl) ?_
                    refine s_tB R hb (fun _ hq => SX3_actItem (b := 3) (N := N) (rE := rE) (RE := RE) (rN := rN) (RN := RN) (Nat.le_of_ble_eq_true rfl) @hrE @hrN (R.rf) rfl rp0 hq) hF (fun f32 rv32 h32 x45 σ46 R32 e32 E32 hF => ?_)
                    exact SX3_actPrimitive_b307 (N := N) (rE := rE) (RE := RE) (rN := rN) (RN := RN) @hrE @hrN R32 hF
                  ·
                    refine s_kok R (t_4 R.S) (Nat.le_of_ble_eq_true rfl) ?_
                    refine s_tB R hb (fun _ hq => SX3_set (b := 3) (N := N) (rE := rE) (RE := RE) (rN := rN) (RN := RN) (Nat.le_of_ble_eq_true rfl) @hrE @hrN (R.rf) rfl rp0 (c_lit 0 0 rfl) ⟨by decide, by decide⟩ hq) hF (fun f34 rv34 h34 x48 σ49 R34 e34 E34 hF => ?_)
                    exact SX3_actPrimitive_b307 (N := N) (rE := rE) (RE := RE) (rN := rN) (RN := RN) @hrE @hrN R34 hF
                ·
                  refine s_if (i_eq rfl (c_lit 30 30 rfl) rp0 ⟨by decide, by decide⟩) hF (fun c35 hF => ?_) (fun c35 hF => ?_)
                  ·
                    refine s_if (i_lt rfl (c_lit 54 54 rfl) rp0 ⟨by decide, by decide⟩) hF (fun c36 hF => ?_) (fun c36 hF => ?_)
                    ·
                      refine s_kok R (t_4 R.S) (Nat.le_of_ble_eq_true rfl) ?_
                      refine s_tB R hb (fun _ hq => SX3_actItem (b := 3) (N := N) (rE := rE) (RE := RE) (rN := rN) (RN := RN) (Nat.le_of_ble_eq_true rfl) @hrE @hrN (R.rf) rfl rp0 hq) hF (fun f38 rv38 h38 x53 σ54 R38 e38 E38 hF => ?_)
                      exact SX3_actPrimitive_b307 (N := N) (rE := rE) (RE := RE) (rN := rN) (RN := RN) @hrE @hrN R38 hF
                    ·
                      refine s_kok R (t_4 R.S) (Nat.le_of_ble_eq_true rfl) ?_
                      refine s_tB R hb (fun _ hq => SX3_set (b := 3) (N := N) (rE := rE) (RE := RE) (rN := rN) (RN := RN) (Nat.le_of_ble_eq_true rfl) @hrE @hrN (R.rf) rfl rp0 (c_lit 0 0 rfl) ⟨by decide, by decide⟩ hq) hF (fun f40 rv40 h40 x56 σ57 R40 e40 E40 hF => ?_)
                      exact SX3_actPrimitive_b307 (N := N) (rE := rE) (RE := RE) (rN := rN) (RN := RN) @hrE @hrN R40 hF
                  ·
                    refine s_if (i_eq rfl (c_lit 31 31 rfl) rp0 ⟨by decide, by decide⟩) hF (fun c41 hF => ?_) (fun c41 hF => ?_)
                    ·
                      refine s_if (i_lt rfl (c_lit 54 54 rfl) rp0 ⟨by decide, by decide⟩) hF (fun c42 hF => ?_) (fun c42 hF => ?_)
                      ·
                        refine s_kok R (t_4 R.S) (Nat.le_of_ble_eq_true rfl) ?_
                        refine s_tB R hb (fun _ hq => SX3_actItem (b := 3) (N := N) (rE := rE) (RE := RE) (rN := rN) (RN := RN) (Nat.le_of_ble_eq_true rfl) @hrE @hrN (R.rf) rfl rp0 hq) hF (fun f44 rv44 h44 x61 σ62 R44 e44 E44 hF => ?_)
                        exact SX3_actPrimitive_b307 (N := N) (rE := rE) (RE := RE) (rN := rN) (RN := RN) @hrE @hrN R44 hF
                      ·
                        refine s_kok R (t_4 R.S) (Nat.le_of_ble_eq_true rfl) ?_
                        refine s_tB R hb (fun _ hq => SX3_set (b := 3) (N := N) (rE := rE) (RE := RE) (rN := rN) (RN := RN) (Nat.le_of_ble_eq_true rfl) @hrE @hrN (R.rf) rfl rp0 (c_lit 0 0 rfl) ⟨by decide, by decide⟩ hq) hF (fun f46 rv46 h46 x64 σ65 R46 e46 E46 hF => ?_)
                        exact SX3_actPrimitive_b307 (N := N) (rE := rE) (RE := RE) (rN := rN) (RN := RN) @hrE @hrN R46 hF
                    ·
                      refine s_if (i_eq rfl (c_lit 32 32 rfl) rp0 ⟨by decide, by decide⟩) hF (fun c47 hF => ?_) (fun c47 hF => ?_)
                      ·
                        refine s_if (i_lt rfl (c_lit 54 54 rfl) rp0 ⟨by decide, by decide⟩) hF (fun c48 hF => ?_) (fun c48 hF => ?_)
                        ·
                          refine s_kok R (t_4 R.S) (Nat.le_of_ble_eq_true rfl) ?_
                          refine s_tB R hb (fun _ hq => SX3_actItem (b := 3) (N := N) (rE := rE) (RE := RE) (rN := rN) (RN := RN) (Nat.le_of_ble_eq_true rfl) @hrE @hrN (R.rf) rfl rp0 hq) hF (fun f50 rv50 h50 x69 σ70 R50 e50 E50 hF => ?_)
                          exact SX3_actPrimitive_b307 (N := N) (rE := rE) (RE := RE) (rN := rN) (RN := RN) @hrE @hrN R50 hF
                        ·
                          refine s_kok R (t_4 R.S) (Nat.le_of_ble_eq_true rfl) ?_
                          refine s_tB R hb (fun _ hq => SX3_set (b := 3) (N := N) (rE := rE) (RE := RE) (rN := rN) (RN := RN) (Nat.le_of_ble_eq_true rfl) @hrE @hrN (R.rf) rfl rp0 (c_lit 0 0 rfl) ⟨by decide, by decide⟩ hq) hF (fun f52 rv52 h52 x72 σ73 R52 e52 E52 hF => ?_)
                          exact SX3_actPrimitive_b307 (N := N) (rE := rE) (RE := RE) (rN := rN) (RN := RN) @hrE @hrN R52 hF
                      ·
                        refine s_if (i_eq rfl (c_lit 33 33 rfl) rp0 ⟨by decide, by decide⟩) hF (fun c53 hF => ?_) (fun c53 hF => ?_)
                        ·
                          refine s_if (i_lt rfl (c_lit 54 54 rfl) rp0 ⟨by decide, by decide⟩) hF (fun c54 hF => ?_) (fun c54 hF => ?_)
                          ·
                            refine s_kok R (t_4 R.S) (Nat.le_of_ble_eq_true rfl) ?_
                            refine s_tB R hb (fun _ hq => SX3_actItem (b := 3) (N := N) (rE := rE) (RE := RE) (rN := rN) (RN := RN) (Nat.le_of_ble_eq_true rfl) @hrE @hrN (R.rf) rfl rp0 hq) hF (fun f56 rv56 h56 x77 σ78 R56 e56 E56 hF => ?_)
                            exact SX3_actPrimitive_b307 (N := N) (rE := rE) (RE := RE) (rN := rN) (RN := RN) @hrE @hrN R56 hF
                          ·
                            refine s_kok R (t_4 R.S) (Nat.le_of_ble_eq_true rfl) ?_
                            refine s_tB R hb (fun _ hq => SX3_set (b := 3) (N := N) (rE := rE) (RE := RE) (rN := rN) (RN := RN) (Nat.le_of_ble_eq_true rfl) @hrE @hrN (R.rf) rfl rp0 (c_lit 0 0 rfl) ⟨by decide, by decide⟩ hq) hF (fun f58 rv58 h58 x80 σ81 R58 e58 E58 hF => ?_)
                            exact SX3_actPrimitive_b307 (N := N) (rE := rE) (RE := RE) (rN := rN) (RN := RN) @hrE @hrN R58 hF
                        ·
                          refine s_if (i_eq rfl (c_lit 34 34 rfl) rp0 ⟨by decide, by decide⟩) hF (fun c59 hF => ?_) (fun c59 hF => ?_)
                          ·
                            refine s_if (i_lt rfl (c_lit 54 54 rfl) rp0 ⟨by decide, by decide⟩) hF (fun c60 hF => ?_) (fun c60 hF => ?_)
                            ·
                              refine s_kok R (t_4 R.S) (Nat.le_of_ble_eq_true rfl) ?_
                              refine s_tB R hb (fun _ hq => SX3_actItem (b := 3) (N := N) (rE := rE) (RE := RE) (rN := rN) (RN := RN) (Nat.le_of_ble_eq_true rfl) @hrE @hrN (R.rf) rfl rp0 hq) hF (fun f62 rv62 h62 x85 σ86 R62 e62 E62 hF => ?_)
                              exact SX3_actPrimitive_b307 (N := N) (rE := rE) (RE := RE) (rN := rN) (RN := RN) @hrE @hrN R62 hF
                            ·
                              refine s_kok R (t_4 R.S) (Nat.le_of_ble_eq_true rfl) ?_
                              refine s_tB R hb (fun _ hq => SX3_set (b := 3) (N := N) (rE := rE) (RE := RE) (rN := rN) (RN := RN) (Nat.le_of_ble_eq_true rfl) @hrE @hrN (R.rf) rfl rp0 (c_lit 0 0 rfl) ⟨by decide, by decide⟩ hq) hF (fun f64 rv64 h64 x88 σ89 R64 e64 E64 hF => ?_)
                              exact SX3_actPrimitive_b307 (N := N) (rE := rE) (RE := RE) (rN := rN) (RN := RN) @hrE @hrN R64 hF
                          ·
                            refine s_if (i_eq rfl (c_lit 35 35 rfl) rp0 ⟨by decide, by decide⟩) hF (fun c65 hF => ?_) (fun c65 hF => ?_)
                            ·
                              refine s_if (i_lt rfl (c_lit 54 54 rfl) rp0 ⟨by decide, by decide⟩) hF (fun c66 hF => ?_) (fun c66 hF => ?_)
                              ·
                                refine s_kok R (t_4 R.S) (Nat.le_of_ble_eq_true rfl) ?_
                                refine s_tB R hb (fun _ hq => SX3_actItem (b := 3) (N := N) (rE := rE) (RE := RE) (rN := rN) (RN := RN) (Nat.le_of_ble_eq_true rfl) @hrE @hrN (R.rf) rfl rp0 hq) hF (fun f68 rv68 h68 x93 σ94 R68 e68 E68 hF => ?_)
                                exact SX3_actPrimitive_b307 (N := N) (rE := rE) (RE := RE) (rN := rN) (RN := RN) @hrE @hrN R68 hF
                              ·
                                refine s_kok R (t_4 R.S) (Nat.le_of_ble_eq_true rfl) ?_
                                refine s_tB R hb (fun _ hq => SX3_set (b := 3) (N := N) (rE := rE) (RE := RE) (rN := rN) (RN := RN) (Nat.le_of_ble_eq_true rfl) @hrE @hrN (R.rf) rfl rp0 (c_lit 0 0 rfl) ⟨by decide, by decide⟩ hq) hF (fun f70 rv70 h70 x96 σ97 R70 e70 E70 hF => ?_)
                                exact SX3_actPrimitive_b307 (N := N) (rE := rE) (RE := RE) (rN := rN) (RN := RN) @hrE @hrN R70 hF
                            ·
                              refine s_if (i_eq rfl (c_lit 36 36 rfl) rp0 ⟨by decide, by decide⟩) hF (fun c71 hF => ?_) (fun c71 hF => ?_)
                              ·
                                refine s_if (i_lt rfl (c_lit 54 54 rfl) rp0 ⟨by decide, by decide⟩) hF (fun c72 hF => ?_) (fun c72 hF => ?_)
                                ·
                                  refine s_kok R (t_4 R.S) (Nat.le_of_ble_eq_true rfl) ?_
                                  refine s_tB R hb (fun _ hq => SX3_actItem (b := 3) (N := N) (rE := rE) (RE := RE) (rN := rN) (RN := RN) (Nat.le_of_ble_eq_true rfl) @hrE @hrN (R.rf) rfl rp0 hq) hF (fun f74 rv74 h74 x101 σ102 R74 e74 E74 hF => ?_)
                                  exact SX3_actPrimitive_b307 (N := N) (rE := rE) (RE := RE) (rN := rN) (RN := RN) @hrE @hrN R74 hF
                                ·
                                  refine s_kok R (t_4 R.S) (Nat.le_of_ble_eq_true rfl) ?_
                                  refine s_tB R hb (fun _ hq => SX3_set (b := 3) (N := N) (rE := rE) (RE := RE) (rN := rN) (RN := RN) (Nat.le_of_ble_eq_true rfl) @hrE @hrN (R.rf) rfl rp0 (c_lit 0 0 rfl) ⟨by decide, by decide⟩ hq) hF (fun f76 rv76 h76 x104 σ105 R76 e76 E76 hF => ?_)
                                  exact SX3_actPrimitive_b307 (N := N) (rE := rE) (RE := RE) (rN := rN) (RN := RN) @hrE @hrN R76 hF
                              ·
                                refine s_if (i_eq rfl (c_lit 37 37 rfl) rp0 ⟨by decide, by decide⟩) hF (fun c77 hF => ?_) (fun c77 hF => ?_)
                                ·
                                  refine s_if (i_lt rfl (c_lit 54 54 rfl) rp0 ⟨by decide, by decide⟩) hF (fun c78 hF => ?_) (fun c78 hF => ?_)
                                  ·
                                    refine s_kok R (t_4 R.S) (Nat.le_of_ble_eq_true rfl) ?_
                                    refine s_tB R hb (fun _ hq => SX3_actItem (b := 3) (N := N) (rE := rE) (RE := RE) (rN := rN) (RN := RN) (Nat.le_of_ble_eq_true rfl) @hrE @hrN (R.rf) rfl rp0 hq) hF (fun f80 rv80 h80 x109 σ110 R80 e80 E80 hF => ?_)
                                    exact SX3_actPrimitive_b307 (N := N) (rE := rE) (RE := RE) (rN := rN) (RN := RN) @hrE @hrN R80 hF
                                  ·
                                    refine s_kok R (t_4 R.S) (Nat.le_of_ble_eq_true rfl) ?_
                                    refine s_tB R hb (fun _ hq => SX3_set (b := 3) (N := N) (rE := rE) (RE := RE) (rN := rN) (RN := RN) (Nat.le_of_ble_eq_true rfl) @hrE @hrN (R.rf) rfl rp0 (c_lit 0 0 rfl) ⟨by decide, by decide⟩ hq) hF (fun f82 rv82 h82 x112 σ113 R82 e82 E82 hF => ?_)
                                    exact SX3_actPrimitive_b307 (N := N) (rE := rE) (RE := RE) (rN := rN) (RN := RN) @hrE @hrN R82 hF
                                ·
                                  refine s_if (i_eq rfl (c_lit 38 38 rfl) rp0 ⟨by decide, by decide⟩) hF (fun c83 hF => ?_) (fun c83 hF => ?_)
                                  ·
                                    refine s_if (i_lt rfl (c_lit 54 54 rfl) rp0 ⟨by decide, by decide⟩) hF (fun c84 hF => ?_) (fun c84 hF => ?_)
                                    ·
                                      refine s_kok R (t_4 R.S) (Nat.le_of_ble_eq_true rfl) ?_
                                      refine s_tB R hb (fun _ hq => SX3_actItem (b := 3) (N := N) (rE := rE) (RE := RE) (rN := rN) (RN := RN) (Nat.le_of_ble_eq_true rfl) @hrE @hrN (R.rf) rfl rp0 hq) hF (fun f86 rv86 h86 x117 σ118 R86 e86 E86 hF => ?_)
                                      exact SX3_actPrimitive_b307 (N := N) (rE := rE) (RE := RE) (rN := rN) (RN := RN) @hrE @hrN R86 hF
                                    ·
                                      refine s_kok R (t_4 R.S) (Nat.le_of_ble_eq_true rfl) ?_
                                      refine s_tB R hb (fun _ hq => SX3_set (b := 3) (N := N) (rE := rE) (RE := RE) (rN := rN) (RN := RN) (Nat.le_of_ble_eq_true rfl) @hrE @hrN (R.rf) rfl rp0 (c_lit 0 0 rfl) ⟨by decide, by decide⟩ hq) hF (fun f88 rv88 h88 x120 σ121 R88 e88 E88 hF => ?_)
                                      exact SX3_actPrimitive_b307 (N := N) (rE := rE) (RE := RE) (rN := rN) (RN := RN) @hrE @hrN R88 hF
                                  ·
                                    refine s_if (i_eq rfl (c_lit 39 39 rfl) rp0 ⟨by decide, by decide⟩) hF (fun c89 hF => ?_) (fun c89 hF => ?_)
                                    ·
                                      refine s_if (i_lt rfl (c_lit 54 54 rfl) rp0 ⟨by decide, by decide⟩) hF (fun c90 hF => ?_) (fun c90 hF => ?_)
                                      ·
                                        refine s_kok R (t_4 R.S) (Nat.le_of_ble_eq_true rfl) ?_
                                        refine s_tB R hb (fun _ hq => SX3_actItem (b := 3) (N := N) (rE := rE) (RE := RE) (rN := rN) (RN := RN) (Nat.le_of_ble_eq_true rfl) @hrE @hrN (R.rf) rfl rp0 hq) hF (fun f92 rv92 h92 x125 σ126 R92 e92 E92 hF => ?_)
                                        exact SX3_actPrimitive_b307 (N := N) (rE := rE) (RE := RE) (rN := rN) (RN := RN) @hrE @hrN R92 hF
                                      ·
                                        refine s_kok R (t_4 R.S) (Nat.le_of_ble_eq_true rfl) ?_
                                        refine s_tB R hb (fun _ hq => SX3_set (b := 3) (N := N) (rE := rE) (RE := RE) (rN := rN) (RN := RN) (Nat.le_of_ble_eq_true rfl) @hrE @hrN (R.rf) rfl rp0 (c_lit 0 0 rfl) ⟨by decide, by decide⟩ hq) hF (fun f94 rv94 h94 x128 σ129 R94 e94 E94 hF => ?_)
                                        exact SX3_actPrimitive_b307 (N := N) (rE := rE) (RE := RE) (rN := rN) (RN := RN) @hrE @hrN R94 hF
                                    ·
                                      refine s_if (i_eq rfl (c_lit 40 40 rfl) rp0 ⟨by decide, by decide⟩) hF (fun c95 hF => ?_) (fun c95 hF => ?_)
                                      ·
                                        refine s_if (i_lt rfl (c_lit 54 54 rfl) rp0 ⟨by decide, by decide⟩) hF (fun c96 hF => ?_) (fun c96 hF => ?_)
                                        ·
                                          refine s_kok R (t_4 R.S) (Nat.le_of_ble_eq_true rfl) ?_
                                          refine s_tB R hb (fun _ hq => SX3_actItem (b := 3) (N := N) (rE := rE) (RE := RE) (rN := rN) (RN := RN) (Nat.le_of_ble_eq_true rfl) @hrE @hrN (R.rf) rfl rp0 hq) hF (fun f98 rv98 h98 x133 σ134 R98 e98 E98 hF => ?_)
                                          exact SX3_actPrimitive_b307 (N := N) (rE := rE) (RE := RE) (rN := rN) (RN := RN) @hrE @hrN R98 hF
                                        ·
                                          refine s_kok R (t_4 R.S) (Nat.le_of_ble_eq_true rfl) ?_
                                          refine s_tB R hb (fun _ hq => SX3_set (b := 3) (N := N) (rE := rE) (RE := RE) (rN := rN) (RN := RN) (Nat.le_of_ble_eq_true rfl) @hrE @hrN (R.rf) rfl rp0 (c_lit 0 0 rfl) ⟨by decide, by decide⟩ hq) hF (fun f100 rv100 h100 x136 σ137 R100 e100 E100 hF => ?_)
                                          exact SX3_actPrimitive_b307 (N := N) (rE := rE) (RE := RE) (rN := rN) (RN := RN) @hrE @hrN R100 hF
                                      ·
                                        refine s_if (i_eq rfl (c_lit 41 41 rfl) rp0 ⟨by decide, by decide⟩) hF (fun c101 hF => ?_) (fun c101 hF => ?_)
                                        ·
                                          refine s_if (i_lt rfl (c_lit 54 54 rfl) rp0 ⟨by decide, by decide⟩) hF (fun c102 hF => ?_) (fun c102 hF => ?_)
                                          ·
                                            refine s_kok R (t_4 R.S) (Nat.le_of_ble_eq_true rfl) ?_
                                            refine s_tB R hb (fun _ hq => SX3_actItem (b := 3) (N := N) (rE := rE) (RE := RE) (rN := rN) (RN := RN) (Nat.le_of_ble_eq_true rfl) @hrE @hrN (R.rf) rfl rp0 hq) hF (fun f104 rv104 h104 x141 σ142 R104 e104 E104 hF => ?_)
                                            exact SX3_actPrimitive_b307 (N := N) (rE := rE) (RE := RE) (rN := rN) (RN := RN) @hrE @hrN R104 hF
                                          ·
                                            refine s_kok R (t_4 R.S) (Nat.le_of_ble_eq_true rfl) ?_
                                            refine s_tB R hb (fun _ hq => SX3_set (b := 3) (N := N) (rE := rE) (RE := RE) (rN := rN) (RN := RN) (Nat.le_of_ble_eq_true rfl) @hrE @hrN (R.rf) rfl rp0 (c_lit 0 0 rfl) ⟨by decide, by decide⟩ hq) hF (fun f106 rv106 h106 x144 σ145 R106 e106 E106 hF => ?_)
                                            exact SX3_actPrimitive_b307 (N := N) (rE := rE) (RE := RE) (rN := rN) (RN := RN) @hrE @hrN R106 hF
                                        ·
                                          refine s_if (i_eq rfl (c_lit 42 42 rfl) rp0 ⟨by decide, by decide⟩) hF (fun c107 hF => ?_) (fun c107 hF => ?_)
                                          ·
                                            refine s_if (i_lt rfl (c_lit 54 54 rfl) rp0 ⟨by decide, by decide⟩) hF (fun c108 hF => ?_) (fun c108 hF => ?_)
                                            ·
                                              refine s_kok R (t_4 R.S) (Nat.le_of_ble_eq_true rfl) ?_
                                              refine s_tB R hb (fun _ hq => SX3_actItem (b := 3) (N := N) (rE := rE) (RE := RE) (rN := rN) (RN := RN) (Nat.le_of_ble_eq_true rfl) @hrE @hrN (R.rf) rfl rp0 hq) hF (fun f110 rv110 h110 x149 σ150 R110 e110 E110 hF => ?_)
                                              exact SX3_actPrimitive_b307 (N := N) (rE := rE) (RE := RE) (rN := rN) (RN := RN) @hrE @hrN R110 hF
                                            ·
                                              refine s_kok R (t_4 R.S) (Nat.le_of_ble_eq_true rfl) ?_
                                              refine s_tB R hb (fun _ hq => SX3_set (b := 3) (N := N) (rE := rE) (RE := RE) (rN := rN) (RN := RN) (Nat.le_of_ble_eq_true rfl) @hrE @hrN (R.rf) rfl rp0 (c_lit 0 0 rfl) ⟨by decide, by decide⟩ hq) hF (fun f112 rv112 h112 x152 σ153 R112 e112 E112 hF => ?_)
                                              exact SX3_actPrimitive_b307 (N := N) (rE := rE) (RE := RE) (rN := rN) (RN := RN) @hrE @hrN R112 hF
                                          ·
                                            refine s_if (i_eq rfl (c_lit 43 43 rfl) rp0 ⟨by decide, by decide⟩) hF (fun c113 hF => ?_) (fun c113 hF => ?_)
                                            ·
                                              refine s_if (i_lt rfl (c_lit 54 54 rfl) rp0 ⟨by decide, by decide⟩) hF (fun c114 hF => ?_) (fun c114 hF => ?_)
                                              ·
                                                refine s_kok R (t_4 R.S) (Nat.le_of_ble_eq_true rfl) ?_
                                                refine s_tB R hb (fun _ hq => SX3_actItem (b := 3) (N := N) (rE := rE) (RE := RE) (rN := rN) (RN := RN) (Nat.le_of_ble_eq_true rfl) @hrE @hrN (R.rf) rfl rp0 hq) hF (fun f116 rv116 h116 x157 σ158 R116 e116 E116 hF => ?_)
                                                exact SX3_actPrimitive_b307 (N := N) (rE := rE) (RE := RE) (rN := rN) (RN := RN) @hrE @hrN R116 hF
                                              ·
                                                refine s_kok R (t_4 R.S) (Nat.le_of_ble_eq_true rfl) ?_
                                                refine s_tB R hb (fun _ hq => SX3_set (b := 3) (N := N) (rE := rE) (RE := RE) (rN := rN) (RN := RN) (Nat.le_of_ble_eq_true rfl) @hrE @hrN (R.rf) rfl rp0 (c_lit 0 0 rfl) ⟨by decide, by decide⟩ hq) hF (fun f118 rv118 h118 x160 σ161 R118 e118 E118 hF => ?_)
                                                exact SX3_actPrimitive_b307 (N := N) (rE := rE) (RE := RE) (rN := rN) (RN := RN) @hrE @hrN R118 hF
                                            ·
                                              refine s_if (i_eq rfl (c_lit 44 44 rfl) rp0 ⟨by decide, by decide⟩) hF (fun c119 hF => ?_) (fun c119 hF => ?_)
                                              ·
                                                refine s_if (i_lt rfl (c_lit 54 54 rfl) rp0 ⟨by decide, by decide⟩) hF (fun c120 hF => ?_) (fun c120 hF => ?_)
                                                ·
                                                  refine s_kok R (t_4 R.S) (Nat.le_of_ble_eq_true rfl) ?_
                                                  refine s_tB R hb (fun _ hq => SX3_actItem (b := 3) (N := N) (rE := rE) (RE := RE) (rN := rN) (RN := RN) (Nat.le_of_ble_eq_true rfl) @hrE @hrN (R.rf) rfl rp0 hq) hF (fun f122 rv122 h122 x165 σ166 R122 e122 E122 hF => ?_)
                                                  exact SX3_actPrimitive_b307 (N := N) (rE := rE) (RE := RE) (rN := rN) (RN := RN) @hrE @hrN R122 hF
                                                ·
                                                  refine s_kok R (t_4 R.S) (Nat.le_of_ble_eq_true rfl) ?_
                                                  refine s_tB R hb (fun _ hq => SX3_set (b := 3) (N := N) (rE := rE) (RE := RE) (rN := rN) (RN := RN) (Nat.le_of_ble_eq_true rfl) @hrE @hrN (R.rf) rfl rp0 (c_lit 0 0 rfl) ⟨by decide, by decide⟩ hq) hF (fun f124 rv124 h124 x168 σ169 R124 e124 E124 hF => ?_)
                                                  exact SX3_actPrimitive_b307 (N := N) (rE := rE) (RE := RE) (rN := rN) (RN := RN) @hrE @hrN R124 hF
                                              ·
                                                refine s_if (i_eq rfl (c_lit 45 45 rfl) rp0 ⟨by decide, by decide⟩) hF (fun c125 hF => ?_) (fun c125 hF => ?_)
                                                ·
                                                  refine s_if (i_lt rfl (c_lit 54 54 rfl) rp0 ⟨by decide, by decide⟩) hF (fun c126 hF => ?_) (fun c126 hF => ?_)
                                                  ·
                                                    refine s_kok R (t_4 R.S) (Nat.le_of_ble_eq_true rfl) ?_
                                                    refine s_tB R hb (fun _ hq => SX3_actItem (b := 3) (N := N) (rE := rE) (RE := RE) (rN := rN) (RN := RN) (Nat.le_of_ble_eq_true rfl) @hrE @hrN (R.rf) rfl rp0 hq) hF (fun f128 rv128 h128 x173 σ174 R128 e128 E128 hF => ?_)
                                                    exact SX3_actPrimitive_b307 (N := N) (rE := rE) (RE := RE) (rN := rN) (RN := RN) @hrE @hrN R128 hF
                                                  ·
                                                    refine s_kok R (t_4 R.S) (Nat.le_of_ble_eq_true rfl) ?_
                                                    refine s_tB R hb (fun _ hq => SX3_set (b := 3) (N := N) (rE := rE) (RE := RE) (rN := rN) (RN := RN) (Nat.le_of_ble_eq_true rfl) @hrE @hrN (R.rf) rfl rp0 (c_lit 0 0 rfl) ⟨by decide, by decide⟩ hq) hF (fun f130 rv130 h130 x176 σ177 R130 e130 E130 hF => ?_)
                                                    exact SX3_actPrimitive_b307 (N := N) (rE := rE) (RE := RE) (rN := rN) (RN := RN) @hrE @hrN R130 hF
                                                ·
                                                  refine s_if (i_eq rfl (c_lit 46 46 rfl) rp0 ⟨by decide, by decide⟩) hF (fun c131 hF => ?_) (fun c131 hF => ?_)
                                                  ·
                                                    refine s_if (i_lt rfl (c_lit 54 54 rfl) rp0 ⟨by decide, by decide⟩) hF (fun c132 hF => ?_) (fun c132 hF => ?_)
                                                    ·
                                                      refine s_kok R (t_4 R.S) (Nat.le_of_ble_eq_true rfl) ?_
                                                      refine s_tB R hb (fun _ hq => SX3_actItem (b := 3) (N := N) (rE := rE) (RE := RE) (rN := rN) (RN := RN) (Nat.le_of_ble_eq_true rfl) @hrE @hrN (R.rf) rfl rp0 hq) hF (fun f134 rv134 h134 x181 σ182 R134 e134 E134 hF => ?_)
                                                      exact SX3_actPrimitive_b307 (N := N) (rE := rE) (RE := RE) (rN := rN) (RN := RN) @hrE @hrN R134 hF
                                                    ·
                                                      refine s_kok R (t_4 R.S) (Nat.le_of_ble_eq_true rfl) ?_
                                                      refine s_tB R hb (fun _ hq => SX3_set (b := 3) (N := N) (rE := rE) (RE := RE) (rN := rN) (RN := RN) (Nat.le_of_ble_eq_true rfl) @hrE @hrN (R.rf) rfl rp0 (c_lit 0 0 rfl) ⟨by decide, by decide⟩ hq) hF (fun f136 rv136 h136 x184 σ185 R136 e136 E136 hF => ?_)
                                                      exact SX3_actPrimitive_b307 (N := N) (rE := rE) (RE := RE) (rN := rN) (RN := RN) @hrE @hrN R136 hF
                                                  ·
                                                    refine s_if (i_eq rfl (c_lit 47 47 rfl) rp0 ⟨by decide, by decide⟩) hF (fun c137 hF => ?_) (fun c137 hF => ?_)
                                                    ·
                                                      refine s_if (i_lt rfl (c_lit 54 54 rfl) rp0 ⟨by decide, by decide⟩) hF (fun c138 hF => ?_) (fun c138 hF => ?_)
                                                      ·
                                                        refine s_kok R (t_4 R.S) (Nat.le_of_ble_eq_true rfl) ?_
                                                        refine s_tB R hb (fun _ hq => SX3_actItem (b := 3) (N := N) (rE := rE) (RE := RE) (rN := rN) (RN := RN) (Nat.le_of_ble_eq_true rfl) @hrE @hrN (R.rf) rfl rp0 hq) hF (fun f140 rv140 h140 x189 σ190 R140 e140 E140 hF => ?_)
                                                        exact SX3_actPrimitive_b307 (N := N) (rE := rE) (RE := RE) (rN := rN) (RN := RN) @hrE @hrN R140 hF
                                                      ·
                                                        refine s_kok R (t_4 R.S) (Nat.le_of_ble_eq_true rfl) ?_
                                                        refine s_tB R hb (fun _ hq => SX3_set (b := 3) (N := N) (rE := rE) (RE := RE) (rN := rN) (RN := RN) (Nat.le_of_ble_eq_true rfl) @hrE @hrN (R.rf) rfl rp0 (c_lit 0 0 rfl) ⟨by decide, by decide⟩ hq) hF (fun f142 rv142 h142 x192 σ193 R142 e142 E142 hF => ?_)
                                                        exact SX3_actPrimitive_b307 (N := N) (rE := rE) (RE := RE) (rN := rN) (RN := RN) @hrE @hrN R142 hF
                                                    ·
                                                      refine s_if (i_eq rfl (c_lit 48 48 rfl) rp0 ⟨by decide, by decide⟩) hF (fun c143 hF => ?_) (fun c143 hF => ?_)
                                                      ·
                                                        refine s_if (i_lt rfl (c_lit 54 54 rfl) rp0 ⟨by decide, by decide⟩) hF (fun c144 hF => ?_) (fun c144 hF => ?_)
                                                        ·
                                                          refine s_kok R (t_4 R.S) (Nat.le_of_ble_eq_true rfl) ?_
                                                          refine s_tB R hb (fun _ hq => SX3_actItem (b := 3) (N := N) (rE := rE) (RE := RE) (rN := rN) (RN := RN) (Nat.le_of_ble_eq_true rfl) @hrE @hrN (R.rf) rfl rp0 hq) hF (fun f146 rv146 h146 x197 σ198 R146 e146 E146 hF => ?_)
                                                          exact SX3_actPrimitive_b307 (N := N) (rE := rE) (RE := RE) (rN := rN) (RN := RN) @hrE @hrN R146 hF
                                                        ·
                                                          refine s_kok R (t_4 R.S) (Nat.le_of_ble_eq_true rfl) ?_
                                                          refine s_tB R hb (fun _ hq => SX3_set (b := 3) (N := N) (rE := rE) (RE := RE) (rN := rN) (RN := RN) (Nat.le_of_ble_eq_true rfl) @hrE @hrN (R.rf) rfl rp0 (c_lit 0 0 rfl) ⟨by decide, by decide⟩ hq) hF (fun f148 rv148 h148 x200 σ201 R148 e148 E148 hF => ?_)
                                                          exact SX3_actPrimitive_b307 (N := N) (rE := rE) (RE := RE) (rN := rN) (RN := RN) @hrE @hrN R148 hF
                                                      ·
                                                        refine s_if (i_eq rfl (c_lit 49 49 rfl) rp0 ⟨by decide, by decide⟩) hF (fun c149 hF => ?_) (fun c149 hF => ?_)
                                                        ·
                                                          refine s_if (i_lt rfl (c_lit 54 54 rfl) rp0 ⟨by decide, by decide⟩) hF (fun c150 hF => ?_) (fun c150 hF => ?_)
                                                          ·
                                                            refine s_kok R (t_4 R.S) (Nat.le_of_ble_eq_true rfl) ?_
                                                            refine s_tB R hb (fun _ hq => SX3_actItem (b := 3) (N := N) (rE := rE) (RE := RE) (rN := rN) (RN := RN) (Nat.le_of_ble_eq_true rfl) @hrE @hrN (R.rf) rfl rp0 hq) hF (fun f152 rv152 h152 x205 σ206 R152 e152 E152 hF => ?_)
                                                            exact SX3_actPrimitive_b307 (N := N) (rE := rE) (RE := RE) (rN := rN) (RN := RN) @hrE @hrN R152 hF
                                                          ·
                                                            refine s_kok R (t_4 R.S) (Nat.le_of_ble_eq_true rfl) ?_
                                                            refine s_tB R hb (fun _ hq => SX3_set (b := 3) (N := N) (rE := rE) (RE := RE) (rN := rN) (RN := RN) (Nat.le_of_ble_eq_true rfl) @hrE @hrN (R.rf) rfl rp0 (c_lit 0 0 rfl) ⟨by decide, by decide⟩ hq) hF (fun f154 rv154 h154 x208 σ209 R154 e154 E154 hF => ?_)
                                                            exact SX3_actPrimitive_b307 (N := N) (rE := rE) (RE := RE) (rN := rN) (RN := RN) @hrE @hrN R154 hF
                                                        ·
                                                          refine s_if (i_eq rfl (c_lit 50 50 rfl) rp0 ⟨by decide, by decide⟩) hF (fun c155 hF => ?_) (fun c155 hF => ?_)
                                                          ·
                                                            refine s_if (i_lt rfl (c_lit 54 54 rfl) rp0 ⟨by decide, by decide⟩) hF (fun c156 hF => ?_) (fun c156 hF => ?_)
                                                            ·
                                                              refine s_kok R (t_4 R.S) (Nat.le_of_ble_eq_true rfl) ?_
                                                              refine s_tB R hb (fun _ hq => SX3_actItem (b := 3) (N := N) (rE := rE) (RE := RE) (rN := rN) (RN := RN) (Nat.le_of_ble_eq_true rfl) @hrE @hrN (R.rf) rfl rp0 hq) hF (fun f158 rv158 h158 x213 σ214 R158 e158 E158 hF => ?_)
                                                              exact SX3_actPrimitive_b307 (N := N) (rE := rE) (RE := RE) (rN := rN) (RN := RN) @hrE @hrN R158 hF
                                                            ·
                                                              refine s_kok R (t_4 R.S) (Nat.le_of_ble_eq_true rfl) ?_
                                                              refine s_tB R hb (fun _ hq => SX3_set (b := 3) (N := N) (rE := rE) (RE := RE) (rN := rN) (RN := RN) (Nat.le_of_ble_eq_true rfl) @hrE @hrN (R.rf) rfl rp0 (c_lit 0 0 rfl) ⟨by decide, by decide⟩ hq) hF (fun f160 rv160 h160 x216 σ217 R160 e160 E160 hF => ?_)
                                                              exact SX3_actPrimitive_b307 (N := N) (rE := rE) (RE := RE) (rN := rN) (RN := RN) @hrE @hrN R160 hF
                                                          ·
                                                            refine s_if (i_eq rfl (c_lit 51 51 rfl) rp0 ⟨by decide, by decide⟩) hF (fun c161 hF => ?_) (fun c161 hF => ?_)
                                                            ·
                                                              refine s_gO R (t_4 R.S) (Nat.le_of_ble_eq_true rfl) rfl (o_4_0 R.S) ?_
                                                              refine s_kok R (t_5 R.S) (Nat.le_of_ble_eq_true rfl) ?_
                                                              refine s_tB R (Nat.zero_le _) (fun _ hq => SX4_fail (b := 0) (R.rf) (c_lit 6 6 rfl) ⟨by decide, by decide⟩ hq) hF (fun f164 rv164 h164 x222 σ223 R164 e164 E164 hF => ?_)
                                                              exact SX3_actPrimitive_b307 (N := N) (rE := rE) (RE := RE) (rN := rN) (RN := RN) @hrE @hrN R164 hF
                                                            ·
                                                              refine s_if (i_eq rfl (c_lit 52 52 rfl) rp0 ⟨by decide, by decide⟩) hF (fun c165 hF => ?_) (fun c165 hF => ?_)
                                                              ·
                                                                refine s_gO R (t_4 R.S) (Nat.le_of_ble_eq_true rfl) rfl (o_4_0 R.S) ?_
                                                                refine s_kok R (t_5 R.S) (Nat.le_of_ble_eq_true rfl) ?_
                                                                refine s_tB R (Nat.zero_le _) (fun _ hq => SX4_fail (b := 0) (R.rf) (c_lit 6 6 rfl) ⟨by decide, by decide⟩ hq) hF (fun f168 rv168 h168 x228 σ229 R168 e168 E168 hF => ?_)
                                                                exact SX3_actPrimitive_b307 (N := N) (rE := rE) (RE := RE) (rN := rN) (RN := RN) @hrE @hrN R168 hF
                                                              ·
                                                                refine s_if (i_eq rfl (c_lit 53 53 rfl) rp0 ⟨by decide, by decide⟩) hF (fun c169 hF => ?_) (fun c169 hF => ?_)
                                                                ·
                                                                  refine s_gO R (t_4 R.S) (Nat.le_of_ble_eq_true rfl) rfl (o_4_0 R.S) ?_
                                                                  refine s_kok R (t_5 R.S) (Nat.le_of_ble_eq_true rfl) ?_
                                                                  refine s_tB R (Nat.zero_le _) (fun _ hq => SX4_fail (b := 0) (R.rf) (c_lit 6 6 rfl) ⟨by decide, by decide⟩ hq) hF (fun f172 rv172 h172 x234 σ235 R172 e172 E172 hF => ?_)
                                                                  exact SX3_actPrimitive_b307 (N := N) (rE := rE) (RE := RE) (rN := rN) (RN := RN) @hrE @hrN R172 hF
                                                                ·
                                                                  refine s_if (i_eq rfl (c_lit 54 54 rfl) rp0 ⟨by decide, by decide⟩) hF (fun c173 hF => ?_) (fun c173 hF => ?_)
                                                                  ·
                                                                    refine s_if (i_lt rfl (c_lit 54 54 rfl) rp0 ⟨by decide, by decide⟩) hF (fun c174 hF => ?_) (fun c174 hF => ?_)
                                                                    ·
                                                                      refine s_kok R (t_4 R.S) (Nat.le_of_ble_eq_true rfl) ?_
                                                                      refine s_tB R hb (fun _ hq => SX3_actItem (b := 3) (N := N) (rE := rE) (RE := RE) (rN := rN) (RN := RN) (Nat.le_of_ble_eq_true rfl) @hrE @hrN (R.rf) rfl rp0 hq) hF (fun f176 rv176 h176 x239 σ240 R176 e176 E176 hF => ?_)
                                                                      exact SX3_actPrimitive_b307 (N := N) (rE := rE) (RE := RE) (rN := rN) (RN := RN) @hrE @hrN R176 hF
                                                                    ·
                                                                      refine s_kok R (t_4 R.S) (Nat.le_of_ble_eq_true rfl) ?_
                                                                      refine s_tB R hb (fun _ hq => SX3_set (b := 3) (N := N) (rE := rE) (RE := RE) (rN := rN) (RN := RN) (Nat.le_of_ble_eq_true rfl) @hrE @hrN (R.rf) rfl rp0 (c_lit 0 0 rfl) ⟨by decide, by decide⟩ hq) hF (fun f178 rv178 h178 x242 σ243 R178 e178 E178 hF => ?_)
                                                                      exact SX3_actPrimitive_b307 (N := N) (rE := rE) (RE := RE) (rN := rN) (RN := RN) @hrE @hrN R178 hF
                                                                  ·
                                                                    refine s_if (i_eq rfl (c_lit 55 55 rfl) rp0 ⟨by decide, by decide⟩) hF (fun c179 hF => ?_) (fun c179 hF => ?_)
                                                                    ·
                                                                      refine s_if (i_lt rfl (c_lit 54 54 rfl) rp0 ⟨by decide, by decide⟩) hF (fun c180 hF => ?_) (fun c180 hF => ?_)
                                                                      ·
                                                                        refine s_kok R (t_4 R.S) (Nat.le_of_ble_eq_true rfl) ?_
                                                                        refine s_tB R hb (fun _ hq => SX3_actItem (b := 3) (N := N) (rE := rE) (RE := RE) (rN := rN) (RN := RN) (Nat.le_of_ble_eq_true rfl) @hrE @hrN (R.rf) rfl rp0 hq) hF (fun f182 rv182 h182 x247 σ248 R182 e182 E182 hF => ?_)
                                                                        exact SX3_actPrimitive_b307 (N := N) (rE := rE) (RE := RE) (rN := rN) (RN := RN) @hrE @hrN R182 hF
                                                                      ·
                                                                        refine s_kok R (t_4 R.S) (Nat.le_of_ble_eq_true rfl) ?_
                                                                        refine s_tB R hb (fun _ hq => SX3_set (b := 3) (N := N) (rE := rE) (RE := RE) (rN := rN) (RN := RN) (Nat.le_of_ble_eq_true rfl) @hrE @hrN (R.rf) rfl rp0 (c_lit 0 0 rfl) ⟨by decide, by decide⟩ hq) hF (fun f184 rv184 h184 x250 σ251 R184 e184 E184 hF => ?_)
                                                                        exact SX3_actPrimitive_b307 (N := N) (rE := rE) (RE := RE) (rN := rN) (RN := RN) @hrE @hrN R184 hF
                                                                    ·
                                                                      refine s_if (i_eq rfl (c_lit 56 56 rfl) rp0 ⟨by decide, by decide⟩) hF (fun c185 hF => ?_) (fun c185 hF => ?_)
                                                                      ·
                                                                        refine s_if (i_lt rfl (c_lit 54 54 rfl) rp0 ⟨by decide, by decide⟩) hF (fun c186 hF => ?_) (fun c186 hF => ?_)
                                                                        ·
                                                                          refine s_kok R (t_4 R.S) (Nat.le_of_ble_eq_true rfl) ?_
                                                                          refine s_tB R hb (fun _ hq => SX3_actItem (b := 3) (N := N) (rE := rE) (RE := RE) (rN := rN) (RN := RN) (Nat.le_of_ble_eq_true rfl) @hrE @hrN (R.rf) rfl rp0 hq) hF (fun f188 rv188 h188 x255 σ256 R188 e188 E188 hF => ?_)
                                                                          exact SX3_actPrimitive_b307 (N := N) (rE := rE) (RE := RE) (rN := rN) (RN := RN) @hrE @hrN R188 hF
                                                                        ·
                                                                          refine s_kok R (t_4 R.S) (Nat.le_of_ble_eq_true rfl) ?_
                                                                          refine s_tB R hb (fun _ hq => SX3_set (b := 3) (N := N) (rE := rE) (RE := RE) (rN := rN) (RN := RN) (Nat.le_of_ble_eq_true rfl) @hrE @hrN (R.rf) rfl rp0 (c_lit 0 0 rfl) ⟨by decide, by decide⟩ hq) hF (fun f190 rv190 h190 x258 σ259 R190 e190 E190 hF => ?_)
                                                                          exact SX3_actPrimitive_b307 (N := N) (rE := rE) (RE := RE) (rN := rN) (RN := RN) @hrE @hrN R190 hF
                                                                      ·
                                                                        refine s_if (i_eq rfl (c_lit 57 57 rfl) rp0 ⟨by decide, by decide⟩) hF (fun c191 hF => ?_) (fun c191 hF => ?_)
                                                                        ·
                                                                          refine s_if (i_lt rfl (c_lit 54 54 rfl) rp0 ⟨by decide, by decide⟩) hF (fun c192 hF => ?_) (fun c192 hF => ?_)
                                                                          ·
                                                                            refine s_kok R (t_4 R.S) (Nat.le_of_ble_eq_true rfl) ?_
                                                                            refine s_tB R hb (fun _ hq => SX3_actItem (b := 3) (N := N) (rE := rE) (RE := RE) (rN := rN) (RN := RN) (Nat.le_of_ble_eq_true rfl) @hrE @hrN (R.rf) rfl rp0 hq) hF (fun f194 rv194 h194 x263 σ264 R194 e194 E194 hF => ?_)
                                                                            exact SX3_actPrimitive_b307 (N := N) (rE := rE) (RE := RE) (rN := rN) (RN := RN) @hrE @hrN R194 hF
                                                                          ·
                                                                            refine s_kok R (t_4 R.S) (Nat.le_of_ble_eq_true rfl) ?_
                                                                            refine s_tB R hb (fun _ hq => SX3_set (b := 3) (N := N) (rE := rE) (RE := RE) (rN := rN) (RN := RN) (Nat.le_of_ble_eq_true rfl) @hrE @hrN (R.rf) rfl rp0 (c_lit 0 0 rfl) ⟨by decide, by decide⟩ hq) hF (fun f196 rv196 h196 x266 σ267 R196 e196 E196 hF => ?_)
                                                                            exact SX3_actPrimitive_b307 (N := N) (rE := rE) (RE := RE) (rN := rN) (RN := RN) @hrE @hrN R196 hF
                                                                        ·
                                                                          refine s_if (i_eq rfl (c_lit 58 58 rfl) rp0 ⟨by decide, by decide⟩) hF (fun c197 hF => ?_) (fun c197 hF => ?_)
                                                                          ·
                                                                            refine s_if (i_lt rfl (c_lit 54 54 rfl) rp0 ⟨by decide, by decide⟩) hF (fun c198 hF => ?_) (fun c198 hF => ?_)
                                                                            ·
                                                                              refine s_kok R (t_4 R.S) (Nat.le_of_ble_eq_true rfl) ?_
                                                                              refine s_tB R hb (fun _ hq => SX3_actItem (b := 3) (N := N) (rE := rE) (RE := RE) (rN := rN) (RN := RN) (Nat.le_of_ble_eq_true rfl) @hrE @hrN (R.rf) rfl rp0 hq) hF (fun f200 rv200 h200 x271 σ272 R200 e200 E200 hF => ?_)
                                                                              exact SX3_actPrimitive_b307 (N := N) (rE := rE) (RE := RE) (rN := rN) (RN := RN) @hrE @hrN R200 hF
                                                                            ·
                                                                              refine s_kok R (t_4 R.S) (Nat.le_of_ble_eq_true rfl) ?_
                                                                              refine s_tB R hb (fun _ hq => SX3_set (b := 3) (N := N) (rE := rE) (RE := RE) (rN := rN) (RN := RN) (Nat.le_of_ble_eq_true rfl) @hrE @hrN (R.rf) rfl rp0 (c_lit 0 0 rfl) ⟨by decide, by decide⟩ hq) hF (fun f202 rv202 h202 x274 σ275 R202 e202 E202 hF => ?_)
                                                                              exact SX3_actPrimitive_b307 (N := N) (rE := rE) (RE := RE) (rN := rN) (RN := RN) @hrE @hrN R202 hF
                                                                          ·
                                                                            refine s_if (i_eq rfl (c_lit 59 59 rfl) rp0 ⟨by decide, by decide⟩) hF (fun c203 hF => ?_) (fun c203 hF => ?_)
                                                                            ·
                                                                              refine s_if (i_lt rfl (c_lit 54 54 rfl) rp0 ⟨by decide, by decide⟩) hF (fun c204 hF => ?_) (fun c204 hF => ?_)
                                                                              ·
                                                                                refine s_kok R (t_4 R.S) (Nat.le_of_ble_eq_true rfl) ?_
                                                                                refine s_tB R hb (fun _ hq => SX3_actItem (b := 3) (N := N) (rE := rE) (RE := RE) (rN := rN) (RN := RN) (Nat.le_of_ble_eq_true rfl) @hrE @hrN (R.rf) rfl rp0 hq) hF (fun f206 rv206 h206 x279 σ280 R206 e206 E206 hF => ?_)
                                                                                exact SX3_actPrimitive_b307 (N := N) (rE := rE) (RE := RE) (rN := rN) (RN := RN) @hrE @hrN R206 hF
                                                                              ·
                                                                                refine s_kok R (t_4 R.S) (Nat.le_of_ble_eq_true rfl) ?_
                                                                                refine s_tB R hb (fun _ hq => SX3_set (b := 3) (N := N) (rE := rE) (RE := RE) (rN := rN) (RN := RN) (Nat.le_of_ble_eq_true rfl) @hrE @hrN (R.rf) rfl rp0 (c_lit 0 0 rfl) ⟨by decide, by decide⟩ hq) hF (fun f208 rv208 h208 x282 σ283 R208 e208 E208 hF => ?_)
                                                                                exact SX3_actPrimitive_b307 (N := N) (rE := rE) (RE := RE) (rN := rN) (RN := RN) @hrE @hrN R208 hF
                                                                            ·
                                                                              refine s_if (i_eq rfl (c_lit 60 60 rfl) rp0 ⟨by decide, by decide⟩) hF (fun c209 hF => ?_) (fun c209 hF => ?_)
                                                                              ·
                                                                                refine s_if (i_lt rfl (c_lit 54 54 rfl) rp0 ⟨by decide, by decide⟩) hF (fun c210 hF => ?_) (fun c210 hF => ?_)
                                                                                ·
                                                                                  refine s_kok R (t_4 R.S) (Nat.le_of_ble_eq_true rfl) ?_
                                                                                  refine s_tB R hb (fun _ hq => SX3_actItem (b := 3) (N := N) (rE := rE) (RE := RE) (rN := rN) (RN := RN) (Nat.le_of_ble_eq_true rfl) @hrE @hrN (R.rf) rfl rp0 hq) hF (fun f212 rv212 h212 x287 σ288 R212 e212 E212 hF => ?_)
                                                                                  exact SX3_actPrimitive_b307 (N := N) (rE := rE) (RE := RE) (rN := rN) (RN := RN) @hrE @hrN R212 hF
                                                                                ·
                                                                                  refine s_kok R (t_4 R.S) (Nat.le_of_ble_eq_true rfl) ?_
                                                                                  refine s_tB R hb (fun _ hq => SX3_set (b := 3) (N := N) (rE := rE) (RE := RE) (rN := rN) (RN := RN) (Nat.le_of_ble_eq_true rfl) @hrE @hrN (R.rf) rfl rp0 (c_lit 0 0 rfl) ⟨by decide, by decide⟩ hq) hF (fun f214 rv214 h214 x290 σ291 R214 e214 E214 hF => ?_)
                                                                                  exact SX3_actPrimitive_b307 (N := N) (rE := rE) (RE := RE) (rN := rN) (RN := RN) @hrE @hrN R214 hF
                                                                              ·
                                                                                refine s_if (i_eq rfl (c_lit 61 61 rfl) rp0 ⟨by decide, by decide⟩) hF (fun c215 hF => ?_) (fun c215 hF => ?_)
                                                                                ·
                                                                                  refine s_if (i_lt rfl (c_lit 54 54 rfl) rp0 ⟨by decide, by decide⟩) hF (fun c216 hF => ?_) (fun c216 hF => ?_)
                                                                                  ·
                                                                                    refine s_kok R (t_4 R.S) (Nat.le_of_ble_eq_true rfl) ?_
                                                                                    refine s_tB R hb (fun _ hq => SX3_actItem (b := 3) (N := N) (rE := rE) (RE := RE) (rN := rN) (RN := RN) (Nat.le_of_ble_eq_true rfl) @hrE @hrN (R.rf) rfl rp0 hq) hF (fun f218 rv218 h218 x295 σ296 R218 e218 E218 hF => ?_)
                                                                                    exact SX3_actPrimitive_b307 (N := N) (rE := rE) (RE := RE) (rN := rN) (RN := RN) @hrE @hrN R218 hF
                                                                                  ·
                                                                                    refine s_kok R (t_4 R.S) (Nat.le_of_ble_eq_true rfl) ?_
                                                                                    refine s_tB R hb (fun _ hq => SX3_set (b := 3) (N := N) (rE := rE) (RE := RE) (rN := rN) (RN := RN) (Nat.le_of_ble_eq_true rfl) @hrE @hrN (R.rf) rfl rp0 (c_lit 0 0 rfl) ⟨by decide, by decide⟩ hq) hF (fun f220 rv220 h220 x298 σ299 R220 e220 E220 hF => ?_)
                                                                                    exact SX3_actPrimitive_b307 (N := N) (rE := rE) (RE := RE) (rN := rN) (RN := RN) @hrE @hrN R220 hF
                                                                                ·
                                                                                  refine s_if (i_eq rfl (c_lit 62 62 rfl) rp0 ⟨by decide, by decide⟩) hF (fun c221 hF => ?_) (fun c221 hF => ?_)
                                                                                  ·
                                                                                    refine s_if (i_lt rfl (c_lit 54 54 rfl) rp0 ⟨by decide, by decide⟩) hF (fun c222 hF => ?_) (fun c222 hF => ?_)
                                                                                    ·
                                                                                      refine s_kok R (t_4 R.S) (Nat.le_of_ble_eq_true rfl) ?_
                                                                                      refine s_tB R hb (fun _ hq => SX3_actItem (b := 3) (N := N) (rE := rE) (RE := RE) (rN := rN) (RN := RN) (Nat.le_of_ble_eq_true rfl) @hrE @hrN (R.rf) rfl rp0 hq) hF (fun f224 rv224 h224 x303 σ304 R224 e224 E224 hF => ?_)
                                                                                      exact SX3_actPrimitive_b307 (N := N) (rE := rE) (RE := RE) (rN := rN) (RN := RN) @hrE @hrN R224 hF
                                                                                    ·
                                                                                      refine s_kok R (t_4 R.S) (Nat.le_of_ble_eq_true rfl) ?_
                                                                                      refine s_tB R hb (fun _ hq => SX3_set (b := 3) (N := N) (rE := rE) (RE := RE) (rN := rN) (RN := RN) (Nat.le_of_ble_eq_true rfl) @hrE @hrN (R.rf) rfl rp0 (c_lit 0 0 rfl) ⟨by decide, by decide⟩ hq) hF (fun f226 rv226 h226 x306 σ307 R226 e226 E226 hF => ?_)
                                                                                      exact SX3_actPrimitive_b307 (N := N) (rE := rE) (RE := RE) (rN := rN) (RN := RN) @hrE @hrN R226 hF
                                                                                  ·
                                                                                    refine s_if (i_eq rfl (c_lit 63 63 rfl) rp0 ⟨by decide, by decide⟩) hF (fun c227 hF => ?_) (fun c227 hF => ?_)
                                                                                    ·
                                                                                      refine s_if (i_lt rfl (c_lit 54 54 rfl) rp0 ⟨by decide, by decide⟩) hF (fun c228 hF => ?_) (fun c228 hF => ?_)
                                                                                      ·
                                                                                        refine s_kok R (t_4 R.S) (Nat.le_of_ble_eq_true rfl) ?_
                                                                                        refine s_tB R hb (fun _ hq => SX3_actItem (b := 3) (N := N) (rE := rE) (RE := RE) (rN := rN) (RN := RN) (Nat.le_of_ble_eq_true rfl) @hrE @hrN (R.rf) rfl rp0 hq) hF (fun f230 rv230 h230 x311 σ312 R230 e230 E230 hF => ?_)
                                                                                        exact SX3_actPrimitive_b307 (N := N) (rE := rE) (RE := RE) (rN := rN) (RN := RN) @hrE @hrN R230 hF
                                                                                      ·
                                                                                        refine s_kok R (t_4 R.S) (Nat.le_of_ble_eq_true rfl) ?_
                                                                                        refine s_tB R hb (fun _ hq => SX3_set (b := 3) (N := N) (rE := rE) (RE := RE) (rN := rN) (RN := RN) (Nat.le_of_ble_eq_true rfl) @hrE @hrN (R.rf) rfl rp0 (c_lit 0 0 rfl) ⟨by decide, by decide⟩ hq) hF (fun f232 rv232 h232 x314 σ315 R232 e232 E232 hF => ?_)
                                                                                        exact SX3_actPrimitive_b307 (N := N) (rE := rE) (RE := RE) (rN := rN) (RN := RN) @hrE @hrN R232 hF
                                                                                    ·
                                                                                      refine s_if (i_eq rfl (c_lit 64 64 rfl) rp0 ⟨by decide, by decide⟩) hF (fun c233 hF => ?_) (fun c233 hF => ?_)
                                                                                      ·
                                                                                        refine s_if (i_lt rfl (c_lit 54 54 rfl) rp0 ⟨by decide, by decide⟩) hF (fun c234 hF => ?_) (fun c234 hF => ?_)
                                                                                        ·
                                                                                          refine s_kok R (t_4 R.S) (Nat.le_of_ble_eq_true rfl) ?_
                                                                                          refine s_tB R hb (fun _ hq => SX3_actItem (b := 3) (N := N) (rE := rE) (RE := RE) (rN := rN) (RN := RN) (Nat.le_of_ble_eq_true rfl) @hrE @hrN (R.rf) rfl rp0 hq) hF (fun f236 rv236 h236 x319 σ320 R236 e236 E236 hF => ?_)
                                                                                          exact SX3_actPrimitive_b307 (N := N) (rE := rE) (RE := RE) (rN := rN) (RN := RN) @hrE @hrN R236 hF
                                                                                        ·
                                                                                          refine s_kok R (t_4 R.S) (Nat.le_of_ble_eq_true rfl) ?_
                                                                                          refine s_tB R hb (fun _ hq => SX3_set (b := 3) (N := N) (rE := rE) (RE := RE) (rN := rN) (RN := RN) (Nat.le_of_ble_eq_true rfl) @hrE @hrN (R.rf) rfl rp0 (c_lit 0 0 rfl) ⟨by decide, by decide⟩ hq) hF (fun f238 rv238 h238 x322 σ323 R238 e238 E238 hF => ?_)
                                                                                          exact SX3_actPrimitive_b307 (N := N) (rE := rE) (RE := RE) (rN := rN) (RN := RN) @hrE @hrN R238 hF
                                                                                      ·
                                                                                        refine s_if (i_eq rfl (c_lit 65 65 rfl) rp0 ⟨by decide, by decide⟩) hF (fun c239 hF => ?_) (fun c239 hF => ?_)
                                                                                        ·
                                                                                          refine s_if (i_lt rfl (c_lit 54 54 rfl) rp0 ⟨by decide, by decide⟩) hF (fun c240 hF => ?_) (fun c240 hF => ?_)
                                                                                          ·
                                                                                            refine s_kok R (t_4 R.S) (Nat.le_of_ble_eq_true rfl) ?_
                                                                                            refine s_tB R hb (fun _ hq => SX3_actItem (b := 3) (N := N) (rE := rE) (RE := RE) (rN := rN) (RN := RN) (Nat.le_of_ble_eq_true rfl) @hrE @hrN (R.rf) rfl rp0 hq) hF (fun f242 rv242 h242 x327 σ328 R242 e242 E242 hF => ?_)
                                                                                            exact SX3_actPrimitive_b307 (N := N) (rE := rE) (RE := RE) (rN := rN) (RN := RN) @hrE @hrN R242 hF
                                                                                          ·
                                                                                            refine s_kok R (t_4 R.S) (Nat.le_of_ble_eq_true rfl) ?_
                                                                                            refine s_tB R hb (fun _ hq => SX3_set (b := 3) (N := N) (rE := rE) (RE := RE) (rN := rN) (RN := RN) (Nat.le_of_ble_eq_true rfl) @hrE @hrN (R.rf) rfl rp0 (c_lit 0 0 rfl) ⟨by decide, by decide⟩ hq) hF (fun f244 rv244 h244 x330 σ331 R244 e244 E244 hF => ?_)
                                                                                            exact SX3_actPrimitive_b307 (N := N) (rE := rE) (RE := RE) (rN := rN) (RN := RN) @hrE @hrN R244 hF
                                                                                        ·
                                                                                          refine s_if (i_eq rfl (c_lit 66 66 rfl) rp0 ⟨by decide, by decide⟩) hF (fun c245 hF => ?_) (fun c245 hF => ?_)
                                                                                          ·
                                                                                            refine s_kok R (t_4 R.S) (Nat.le_of_ble_eq_true rfl) ?_
                                                                                            refine s_tB R hb (fun _ hq => SX3_actGlobal (b := 3) (N := N) (rE := rE) (RE := RE) (rN := rN) (RN := RN) (Nat.le_of_ble_eq_true rfl) @hrE @hrN (R.rf) hq) hF (fun f247 rv247 h247 x334 σ335 R247 e247 E247 hF => ?_)
                                                                                            exact SX3_actPrimitive_b307 (N := N) (rE := rE) (RE := RE) (rN := rN) (RN := RN) @hrE @hrN R247 hF
                                                                                          ·
                                                                                            refine s_if (i_lt rfl (c_lit 54 54 rfl) rp0 ⟨by decide, by decide⟩) hF (fun c248 hF => ?_) (fun c248 hF => ?_)
                                                                                            ·
                                                                                              refine s_kok R (t_4 R.S) (Nat.le_of_ble_eq_true rfl) ?_
                                                                                              refine s_tB R hb (fun _ hq => SX3_actItem (b := 3) (N := N) (rE := rE) (RE := RE) (rN := rN) (RN := RN) (Nat.le_of_ble_eq_true rfl) @hrE @hrN (R.rf) rfl rp0 hq) hF (fun f250 rv250 h250 x338 σ339 R250 e250 E250 hF => ?_)
                                                                                              exact SX3_actPrimitive_b307 (N := N) (rE := rE) (RE := RE) (rN := rN) (RN := RN) @hrE @hrN R250 hF
                                                                                            ·
                                                                                              refine s_kok R (t_4 R.S) (Nat.le_of_ble_eq_true rfl) ?_
                                                                                              refine s_tB R hb (fun _ hq => SX3_set (b := 3) (N := N) (rE := rE) (RE := RE) (rN := rN) (RN := RN) (Nat.le_of_ble_eq_true rfl) @hrE @hrN (R.rf) rfl rp0 (c_lit 0 0 rfl) ⟨by decide, by decide⟩ hq) hF (fun f252 rv252 h252 x341 σ342 R252 e252 E252 hF => ?_)
                                                                                              exact SX3_actPrimitive_b307 (N := N) (rE := rE) (RE := RE) (rN := rN) (RN := RN) @hrE @hrN R252 hF
