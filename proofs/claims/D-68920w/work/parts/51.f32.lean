set_option maxRecDepth 100000
set_option maxHeartbeats 4000000
def FX3_act_b180 (N : Nat) (RE : Int → fS → Option ((Unit ⊕ Nat) × fS)) (RN : fS → Option ((Int ⊕ Nat) × fS)) (s : fS) : Option ((Unit ⊕ Nat) × fS) :=
  some (.inl (), s)
theorem SX3_act_b180 {m b : Nat} {φ0 : Nat → Nat} {σo : fS} {N : Nat} {rE : Nat → Int32 → eH → Option ((Unit ⊕ Nat) × eH)} {RE : Int → fS → Option ((Unit ⊕ Nat) × fS)} {rN : Nat → eH → Option ((Int32 ⊕ Nat) × eH)} {RN : fS → Option ((Int ⊕ Nat) × fS)} {q : (Unit ⊕ Nat) × fS} (hrE : ∀ {φ : Nat → Nat} {h : eH} {s : fS} {x1' : Int32} {x1 : Int} {q}, fC m 3 φ s φ h s → x1' = iI x1 → r32 x1 → RE x1 s = some q → gG m 3 φ s (lT lU) q (rE 22 x1' h)) (hrN : ∀ {φ : Nat → Nat} {h : eH} {s : fS} {q}, fC m 3 φ s φ h s → RN s = some q → gG m 3 φ s (lT lI) q (rN 22 h)) {φ : Nat → Nat} {h : eH} {s : fS} (R : fC m b φ0 σo φ h s) (hF : FX3_act_b180 N RE RN s = some q) : gG m b φ0 σo (lT lU) q (fX3_act_b180 N rE rN h) := by
  unfold FX3_act_b180 at hF
  unfold fX3_act_b180
  exact g_ret R hF trivial
def FX3_act_b73 (N : Nat) (RE : Int → fS → Option ((Unit ⊕ Nat) × fS)) (RN : fS → Option ((Int ⊕ Nat) × fS)) (l2 : Int) (l3 : Int) (l4 : Int) (s : fS) : Option ((Unit ⊕ Nat) × fS) :=
  if l2 = 0 then
    tB (FX4_fail 11 s) fun x5 σ6 =>
    FX3_act_b180 N RE RN σ6
  else
    if l2 = 1 then
      tB (FX3_actPrimitive N RE RN l3 s) fun x9 σ10 =>
      FX3_act_b180 N RE RN σ10
    else
      if l2 = 2 then
        tB (FX3_actPrimitive N RE RN l3 s) fun x13 σ14 =>
        FX3_act_b180 N RE RN σ14
      else
        if l2 = 3 then
          if l4 = 0 then
            (FX1_category l3 s).bind fun q17 =>
            tB (FX3_actCharacter N q17.1 q17.2) fun x19 σ20 =>
            FX3_act_b180 N RE RN σ20
          else
            tB (FX3_character N (iand l3 255) s) fun x22 σ23 =>
            FX3_act_b180 N RE RN σ23
        else
          if l2 = 4 then
            tB (FX3_character N l3 s) fun x26 σ27 =>
            FX3_act_b180 N RE RN σ27
          else
            if l2 = 5 then
              (FX9_set N 2095 l3 0 s).bind fun q32 =>
              FX3_act_b180 N RE RN q32.2
            else
              tB (FX3_actPrimitive N RE RN l3 s) fun x34 σ35 =>
              FX3_act_b180 N RE RN σ35
theorem SX3_act_b73 {m b : Nat} {φ0 : Nat → Nat} {σo : fS} (hb : 3 ≤ b) {N : Nat} {rE : Nat → Int32 → eH → Option ((Unit ⊕ Nat) × eH)} {RE : Int → fS → Option ((Unit ⊕ Nat) × fS)} {rN : Nat → eH → Option ((Int32 ⊕ Nat) × eH)} {RN : fS → Option ((Int ⊕ Nat) × fS)} {q : (Unit ⊕ Nat) × fS} (hrE : ∀ {φ : Nat → Nat} {h : eH} {s : fS} {x1' : Int32} {x1 : Int} {q}, fC m 3 φ s φ h s → x1' = iI x1 → r32 x1 → RE x1 s = some q → gG m 3 φ s (lT lU) q (rE 22 x1' h)) (hrN : ∀ {φ : Nat → Nat} {h : eH} {s : fS} {q}, fC m 3 φ s φ h s → RN s = some q → gG m 3 φ s (lT lI) q (rN 22 h)) {φ : Nat → Nat} {h : eH} {s : fS} {l2' : Int32} {l2 : Int} {l3' : Int32} {l3 : Int} {l4' : Int32} {l4 : Int} (R : fC m b φ0 σo φ h s) (el2 : l2' = iI l2) (rl2 : r32 l2) (el3 : l3' = iI l3) (rl3 : r32 l3) (el4 : l4' = iI l4) (rl4 : r32 l4) (hF : FX3_act_b73 N RE RN l2 l3 l4 s = some q) : gG m b φ0 σo (lT lU) q (fX3_act_b73 N rE rN 4 l2' l3' l4' h) := by
  subst el2; subst el3; subst el4
  unfold FX3_act_b73 at hF
  unfold fX3_act_b73
  refine s_if (i_eq rfl (c_lit 0 0 rfl) rl2 ⟨by decide, by decide⟩) hF (fun c1 hF => ?_) (fun c1 hF => ?_)
  ·
    refine s_gO R (t_4 R.S) (Nat.le_of_ble_eq_true rfl) rfl (o_4_0 R.S) ?_
    refine s_kok R (t_5 R.S) (Nat.le_of_ble_eq_true rfl) ?_
    refine s_tB R (Nat.zero_le _) (fun _ hq => SX4_fail (b := 0) (R.rf) (c_lit 11 11 rfl) ⟨by decide, by decide⟩ hq) hF (fun f4 rv4 h4 x5 σ6 R4 e4 E4 hF => ?_)
    exact SX3_act_b180 (N := N) (rE := rE) (RE := RE) (rN := rN) (RN := RN) @hrE @hrN R4 hF
  ·
    refine s_if (i_eq rfl (c_lit 1 1 rfl) rl2 ⟨by decide, by decide⟩) hF (fun c5 hF => ?_) (fun c5 hF => ?_)
    ·
      refine s_kok R (t_4 R.S) (Nat.le_of_ble_eq_true rfl) ?_
      refine s_tB R hb (fun _ hq => SX3_actPrimitive (b := 3) (N := N) (rE := rE) (RE := RE) (rN := rN) (RN := RN) (Nat.le_of_ble_eq_true rfl) @hrE @hrN (R.rf) rfl rl3 hq) hF (fun f7 rv7 h7 x9 σ10 R7 e7 E7 hF => ?_)
      exact SX3_act_b180 (N := N) (rE := rE) (RE := RE) (rN := rN) (RN := RN) @hrE @hrN R7 hF
    ·
      refine s_if (i_eq rfl (c_lit 2 2 rfl) rl2 ⟨by decide, by decide⟩) hF (fun c8 hF => ?_) (fun c8 hF => ?_)
      ·
        refine s_kok R (t_4 R.S) (Nat.le_of_ble_eq_true rfl) ?_
        refine s_tB R hb (fun _ hq => SX3_actPrimitive (b := 3) (N := N) (rE := rE) (RE := RE) (rN := rN) (RN := RN) (Nat.le_of_ble_eq_true rfl) @hrE @hrN (R.rf) rfl rl3 hq) hF (fun f10 rv10 h10 x13 σ14 R10 e10 E10 hF => ?_)
        exact SX3_act_b180 (N := N) (rE := rE) (RE := RE) (rN := rN) (RN := RN) @hrE @hrN R10 hF
      ·
        refine s_if (i_eq rfl (c_lit 3 3 rfl) rl2 ⟨by decide, by decide⟩) hF (fun c11 hF => ?_) (fun c11 hF => ?_)
        ·
          refine s_if (i_eq rfl (c_lit 0 0 rfl) rl4 ⟨by decide, by decide⟩) hF (fun c12 hF => ?_) (fun c12 hF => ?_)
          ·
            refine s_call R (Nat.zero_le _) (fun _ hq => SX1_category (b := 0) (R.rf) rfl rl3 hq) hF (fun f13 rv13 h13 q17 R13 e13 E13 hF => ?_)
            refine s_kok R13 (t_4 R13.S) (Nat.le_of_ble_eq_true rfl) ?_
            refine s_tB R13 (Nat.le_trans (Nat.le_of_ble_eq_true rfl) hb) (fun _ hq => SX3_actCharacter (b := 1) (N := N) (Nat.le_of_ble_eq_true rfl) (R13.rf) e13.1 e13.2 hq) hF (fun f15 rv15 h15 x19 σ20 R15 e15 E15 hF => ?_)
            exact SX3_act_b180 (N := N) (rE := rE) (RE := RE) (rN := rN) (RN := RN) @hrE @hrN R15 hF
          ·
            refine s_kok R (t_4 R.S) (Nat.le_of_ble_eq_true rfl) ?_
            refine s_tB R (Nat.le_trans (Nat.le_of_ble_eq_true rfl) hb) (fun _ hq => SX3_character (b := 1) (N := N) (Nat.le_of_ble_eq_true rfl) (R.rf) (c_and rfl (c_lit 255 255 rfl)) (rr_I _) hq) hF (fun f17 rv17 h17 x22 σ23 R17 e17 E17 hF => ?_)
            exact SX3_act_b180 (N := N) (rE := rE) (RE := RE) (rN := rN) (RN := RN) @hrE @hrN R17 hF
        ·
          refine s_if (i_eq rfl (c_lit 4 4 rfl) rl2 ⟨by decide, by decide⟩) hF (fun c18 hF => ?_) (fun c18 hF => ?_)
          ·
            refine s_kok R (t_4 R.S) (Nat.le_of_ble_eq_true rfl) ?_
            refine s_tB R (Nat.le_trans (Nat.le_of_ble_eq_true rfl) hb) (fun _ hq => SX3_character (b := 1) (N := N) (Nat.le_of_ble_eq_true rfl) (R.rf) rfl rl3 hq) hF (fun f20 rv20 h20 x26 σ27 R20 e20 E20 hF => ?_)
            exact SX3_act_b180 (N := N) (rE := rE) (RE := RE) (rN := rN) (RN := RN) @hrE @hrN R20 hF
          ·
            refine s_if (i_eq rfl (c_lit 5 5 rfl) rl2 ⟨by decide, by decide⟩) hF (fun c21 hF => ?_) (fun c21 hF => ?_)
            ·
              refine s_gO R (t_4 R.S) (Nat.le_of_ble_eq_true rfl) rfl (o_4_6 R.S) ?_
              refine s_kok R (t_23 R.S) (Nat.le_of_ble_eq_true rfl) ?_
              refine s_call R (Nat.le_trans (Nat.le_of_ble_eq_true rfl) hb) (fun _ hq => SX9_set (b := 1) (N := N) (Nat.le_of_ble_eq_true rfl) (R.rf) (c_lit 2095 2095 rfl) ⟨by decide, by decide⟩ rfl rl3 (c_lit 0 0 rfl) ⟨by decide, by decide⟩ hq) hF (fun f24 rv24 h24 q32 R24 e24 E24 hF => ?_)
              exact SX3_act_b180 (N := N) (rE := rE) (RE := RE) (rN := rN) (RN := RN) @hrE @hrN R24 hF
            ·
              refine s_kok R (t_4 R.S) (Nat.le_of_ble_eq_true rfl) ?_
              refine s_tB R hb (fun _ hq => SX3_actPrimitive (b := 3) (N := N) (rE := rE) (RE := RE) (rN := rN) (RN := RN) (Nat.le_of_ble_eq_true rfl) @hrE @hrN (R.rf) rfl rl3 hq) hF (fun f26 rv26 h26 x34 σ35 R26 e26 E26 hF => ?_)
              exact SX3_act_b180 (N := N) (rE := rE) (RE := RE) (rN := rN) (RN := RN) @hrE @hrN R26 hF
def FX3_act_b62 (N : Nat) (RE : Int → fS → Option ((Unit ⊕ Nat) × fS)) (RN : fS → Option ((Int ⊕ Nat) × fS)) (l2 : Int) (l3 : Int) (s0 : Int) (s : fS) : Option ((Unit ⊕ Nat) × fS) :=
  if ¬ (s0 = 0) then
    FX3_act_b73 N RE RN l2 l3 s0 s
  else
    tB (FX3_endWord N s) fun x3 σ4 =>
    FX3_act_b73 N RE RN l2 l3 s0 σ4
theorem SX3_act_b62 {m b : Nat} {φ0 : Nat → Nat} {σo : fS} (hb : 3 ≤ b) {N : Nat} {rE : Nat → Int32 → eH → Option ((Unit ⊕ Nat) × eH)} {RE : Int → fS → Option ((Unit ⊕ Nat) × fS)} {rN : Nat → eH → Option ((Int32 ⊕ Nat) × eH)} {RN : fS → Option ((Int ⊕ Nat) × fS)} {q : (Unit ⊕ Nat) × fS} (hrE : ∀ {φ : Nat → Nat} {h : eH} {s : fS} {x1' : Int32} {x1 : Int} {q}, fC m 3 φ s φ h s → x1' = iI x1 → r32 x1 → RE x1 s = some q → gG m 3 φ s (lT lU) q (rE 22 x1' h)) (hrN : ∀ {φ : Nat → Nat} {h : eH} {s : fS} {q}, fC m 3 φ s φ h s → RN s = some q → gG m 3 φ s (lT lI) q (rN 22 h)) {φ : Nat → Nat} {h : eH} {s : fS} {l2' : Int32} {l2 : Int} {l3' : Int32} {l3 : Int} {s0' : Int32} {s0 : Int} (R : fC m b φ0 σo φ h s) (el2 : l2' = iI l2) (rl2 : r32 l2) (el3 : l3' = iI l3) (rl3 : r32 l3) (es0 : s0' = iI s0) (rs0 : r32 s0) (hF : FX3_act_b62 N RE RN l2 l3 s0 s = some q) : gG m b φ0 σo (lT lU) q (fX3_act_b62 N rE rN 4 l2' l3' s0' h) := by
  subst el2; subst el3; subst es0
  unfold FX3_act_b62 at hF
  unfold fX3_act_b62
  refine s_if (not_congr (i_eq rfl (c_lit 0 0 rfl) rs0 ⟨by decide, by decide⟩)) hF (fun c1 hF => ?_) (fun c1 hF => ?_)
  ·
    exact SX3_act_b73 (N := N) (rE := rE) (RE := RE) (rN := rN) (RN := RN) hb @hrE @hrN R rfl rl2 rfl rl3 rfl rs0 hF
  ·
    refine s_kok R (t_4 R.S) (Nat.le_of_ble_eq_true rfl) ?_
    refine s_tB R (Nat.le_trans (Nat.le_of_ble_eq_true rfl) hb) (fun _ hq => SX3_endWord (b := 1) (N := N) (Nat.le_of_ble_eq_true rfl) (R.rf) hq) hF (fun f3 rv3 h3 x3 σ4 R3 e3 E3 hF => ?_)
    exact SX3_act_b73 (N := N) (rE := rE) (RE := RE) (rN := rN) (RN := RN) hb @hrE @hrN R3 rfl rl2 rfl rl3 rfl rs0 hF
def FX3_act_b57 (N : Nat) (RE : Int → fS → Option ((Unit ⊕ Nat) × fS)) (RN : fS → Option ((Int ⊕ Nat) × fS)) (l2 : Int) (l3 : Int) (s : fS) : Option ((Unit ⊕ Nat) × fS) :=
  FX3_act_b62 N RE RN l2 l3 1 s
theorem SX3_act_b57 {m b : Nat} {φ0 : Nat → Nat} {σo : fS} (hb : 3 ≤ b) {N : Nat} {rE : Nat → Int32 → eH → Option ((Unit ⊕ Nat) × eH)} {RE : Int → fS → Option ((Unit ⊕ Nat) × fS)} {rN : Nat → eH → Option ((Int32 ⊕ Nat) × eH)} {RN : fS → Option ((Int ⊕ Nat) × fS)} {q : (Unit ⊕ Nat) × fS} (hrE : ∀ {φ : Nat → Nat} {h : eH} {s : fS} {x1' : Int32} {x1 : Int} {q}, fC m 3 φ s φ h s → x1' = iI x1 → r32 x1 → RE x1 s = some q → gG m 3 φ s (lT lU) q (rE 22 x1' h)) (hrN : ∀ {φ : Nat → Nat} {h : eH} {s : fS} {q}, fC m 3 φ s φ h s → RN s = some q → gG m 3 φ s (lT lI) q (rN 22 h)) {φ : Nat → Nat} {h : eH} {s : fS} {l2' : Int32} {l2 : Int} {l3' : Int32} {l3 : Int} (R : fC m b φ0 σo φ h s) (el2 : l2' = iI l2) (rl2 : r32 l2) (el3 : l3' = iI l3) (rl3 : r32 l3) (hF : FX3_act_b57 N RE RN l2 l3 s = some q) : gG m b φ0 σo (lT lU) q (fX3_act_b57 N rE rN 4 l2' l3' h) := by
  subst el2; subst el3
  unfold FX3_act_b57 at hF
  unfold fX3_act_b57
  exact SX3_act_b62 (N := N) (rE := rE) (RE := RE) (rN := rN) (RN := RN) hb @hrE @hrN R rfl rl2 rfl rl3 (c_lit 1 1 rfl) ⟨by decide, by decide⟩ hF
def FX3_act_b61 (N : Nat) (RE : Int → fS → Option ((Unit ⊕ Nat) × fS)) (RN : fS → Option ((Int ⊕ Nat) × fS)) (l2 : Int) (l3 : Int) (s : fS) : Option ((Unit ⊕ Nat) × fS) :=
  FX3_act_b62 N RE RN l2 l3 0 s
theorem SX3_act_b61 {m b : Nat} {φ0 : Nat → Nat} {σo : fS} (hb : 3 ≤ b) {N : Nat} {rE : Nat → Int32 → eH → Option ((Unit ⊕ Nat) × eH)} {RE : Int → fS → Option ((Unit ⊕ Nat) × fS)} {rN : Nat → eH → Option ((Int32 ⊕ Nat) × eH)} {RN : fS → Option ((Int ⊕ Nat) × fS)} {q : (Unit ⊕ Nat) × fS} (hrE : ∀ {φ : Nat → Nat} {h : eH} {s : fS} {x1' : Int32} {x1 : Int} {q}, fC m 3 φ s φ h s → x1' = iI x1 → r32 x1 → RE x1 s = some q → gG m 3 φ s (lT lU) q (rE 22 x1' h)) (hrN : ∀ {φ : Nat → Nat} {h : eH} {s : fS} {q}, fC m 3 φ s φ h s → RN s = some q → gG m 3 φ s (lT lI) q (rN 22 h)) {φ : Nat → Nat} {h : eH} {s : fS} {l2' : Int32} {l2 : Int} {l3' : Int32} {l3 : Int} (R : fC m b φ0 σo φ h s) (el2 : l2' = iI l2) (rl2 : r32 l2) (el3 : l3' = iI l3) (rl3 : r32 l3) (hF : FX3_act_b61 N RE RN l2 l3 s = some q) : gG m b φ0 σo (lT lU) q (fX3_act_b61 N rE rN 4 l2' l3' h) := by
  subst el2; subst el3
  unfold FX3_act_b61 at hF
  unfold fX3_act_b61
  exact SX3_act_b62 (N := N) (rE := rE) (RE := RE) (rN := rN) (RN := RN) hb @hrE @hrN R rfl rl2 rfl rl3 (c_lit 0 0 rfl) ⟨by decide, by decide⟩ hF
def FX3_act_b46 (N : Nat) (RE : Int → fS → Option ((Unit ⊕ Nat) × fS)) (RN : fS → Option ((Int ⊕ Nat) × fS)) (l2 : Int) (l3 : Int) (s : fS) : Option ((Unit ⊕ Nat) × fS) :=
  if ¬ (l2 = 1) then
    FX3_act_b61 N RE RN l2 l3 s
  else
    if ¬ (l3 = 28) then
      FX3_act_b61 N RE RN l2 l3 s
    else
      FX3_act_b57 N RE RN l2 l3 s
theorem SX3_act_b46 {m b : Nat} {φ0 : Nat → Nat} {σo : fS} (hb : 3 ≤ b) {N : Nat} {rE : Nat → Int32 → eH → Option ((Unit ⊕ Nat) × eH)} {RE : Int → fS → Option ((Unit ⊕ Nat) × fS)} {rN : Nat → eH → Option ((Int32 ⊕ Nat) × eH)} {RN : fS → Option ((Int ⊕ Nat) × fS)} {q : (Unit ⊕ Nat) × fS} (hrE : ∀ {φ : Nat → Nat} {h : eH} {s : fS} {x1' : Int32} {x1 : Int} {q}, fC m 3 φ s φ h s → x1' = iI x1 → r32 x1 → RE x1 s = some q → gG m 3 φ s (lT lU) q (rE 22 x1' h)) (hrN : ∀ {φ : Nat → Nat} {h : eH} {s : fS} {q}, fC m 3 φ s φ h s → RN s = some q → gG m 3 φ s (lT lI) q (rN 22 h)) {φ : Nat → Nat} {h : eH} {s : fS} {l2' : Int32} {l2 : Int} {l3' : Int32} {l3 : Int} (R : fC m b φ0 σo φ h s) (el2 : l2' = iI l2) (rl2 : r32 l2) (el3 : l3' = iI l3) (rl3 : r32 l3) (hF : FX3_act_b46 N RE RN l2 l3 s = some q) : gG m b φ0 σo (lT lU) q (fX3_act_b46 N rE rN 4 l2' l3' h) := by
  subst el2; subst el3
  unfold FX3_act_b46 at hF
  unfold fX3_act_b46
  refine s_if (not_congr (i_eq rfl (c_lit 1 1 rfl) rl2 ⟨by decide, by decide⟩)) hF (fun c1 hF => ?_) (fun c1 hF => ?_)
  ·
    exact SX3_act_b61 (N := N) (rE := rE) (RE := RE) (rN := rN) (RN := RN) hb @hrE @hrN R rfl rl2 rfl rl3 hF
  ·
    refine s_if (not_congr (i_eq rfl (c_lit 28 28 rfl) rl3 ⟨by decide, by decide⟩)) hF (fun c2 hF => ?_) (fun c2 hF => ?_)
    ·
      exact SX3_act_b61 (N := N) (rE := rE) (RE := RE) (rN := rN) (RN := RN) hb @hrE @hrN R rfl rl2 rfl rl3 hF
    ·
      exact SX3_act_b57 (N := N) (rE := rE) (RE := RE) (rN := rN) (RN := RN) hb @hrE @hrN R rfl rl2 rfl rl3 hF
def FX3_act (N : Nat) (RE : Int → fS → Option ((Unit ⊕ Nat) × fS)) (RN : fS → Option ((Int ⊕ Nat) × fS)) (p0 : Int) (s : fS) : Option ((Unit ⊕ Nat) × fS) :=
  (FX8_kind p0 s).bind fun q4 =>
  (FX8_value p0 q4.2).bind fun q8 =>
  if q4.1 = 4 then
    FX3_act_b57 N RE RN q4.1 q8.1 q8.2
  else
    if ¬ (q4.1 = 3) then
      FX3_act_b46 N RE RN q4.1 q8.1 q8.2
    else
      (FX1_category q8.1 q8.2).bind fun q11 =>
      if q11.1 = 11 then
        FX3_act_b57 N RE RN q4.1 q8.1 q11.2
      else
        (FX1_category q8.1 q11.2).bind fun q13 =>
        if q13.1 = 12 then
          FX3_act_b57 N RE RN q4.1 q8.1 q13.2
        else
          FX3_act_b46 N RE RN q4.1 q8.1 q13.2
theorem SX3_act {m b : Nat} {φ0 : Nat → Nat} {σo : fS} (hb : 3 ≤ b) {N : Nat} {rE : Nat → Int32 → eH → Option ((Unit ⊕ Nat) × eH)} {RE : Int → fS → Option ((Unit ⊕ Nat) × fS)} {rN : Nat → eH → Option ((Int32 ⊕ Nat) × eH)} {RN : fS → Option ((Int ⊕ Nat) × fS)} {q : (Unit ⊕ Nat) × fS} (hrE : ∀ {φ : Nat → Nat} {h : eH} {s : fS} {x1' : Int32} {x1 : Int} {q}, fC m 3 φ s φ h s → x1' = iI x1 → r32 x1 → RE x1 s = some q → gG m 3 φ s (lT lU) q (rE 22 x1' h)) (hrN : ∀ {φ : Nat → Nat} {h : eH} {s : fS} {q}, fC m 3 φ s φ h s → RN s = some q → gG m 3 φ s (lT lI) q (rN 22 h)) {φ : Nat → Nat} {h : eH} {s : fS} {p0' : Int32} {p0 : Int} (R : fC m b φ0 σo φ h s) (ep0 : p0' = iI p0) (rp0 : r32 p0) (hF : FX3_act N RE RN p0 s = some q) : gG m b φ0 σo (lT lU) q (fX3_act N rE rN 4 p0' h) := by
  subst ep0
  unfold FX3_act at hF
  unfold fX3_act
  refine s_gO R (t_4 R.S) (Nat.le_of_ble_eq_true rfl) rfl (o_4_5 R.S) ?_
  refine s_kok R (t_22 R.S) (Nat.le_of_ble_eq_true rfl) ?_
  refine s_call R (Nat.zero_le _) (fun _ hq => SX8_kind (b := 0) (R.rf) rfl rp0 hq) hF (fun f3 rv3 h3 q4 R3 e3 E3 hF => ?_)
  refine s_gO R3 (t_4 R3.S) (Nat.le_of_ble_eq_true rfl) rfl (o_4_5 R3.S) ?_
  refine s_kok R3 (t_22 R3.S) (Nat.le_of_ble_eq_true rfl) ?_
  refine s_call R3 (Nat.zero_le _) (fun _ hq => SX8_value (b := 0) (R3.rf) rfl rp0 hq) hF (fun f6 rv6 h6 q8 R6 e6 E6 hF => ?_)
  refine s_if (i_eq e3.1 (c_lit 4 4 rfl) e3.2 ⟨by decide, by decide⟩) hF (fun c7 hF => ?_) (fun c7 hF => ?_)
  ·
    exact SX3_act_b57 (N := N) (rE := rE) (RE := RE) (rN := rN) (RN := RN) hb @hrE @hrN R6 e3.1 e3.2 e6.1 e6.2 hF
  ·
    refine s_if (not_congr (i_eq e3.1 (c_lit 3 3 rfl) e3.2 ⟨by decide, by decide⟩)) hF (fun c8 hF => ?_) (fun c8 hF => ?_)
    ·
      exact SX3_act_b46 (N := N) (rE := rE) (RE := RE) (rN := rN) (RN := RN) hb @hrE @hrN R6 e3.1 e3.2 e6.1 e6.2 hF
    ·
      refine s_call R6 (Nat.zero_le _) (fun _ hq => SX1_category (b := 0) (R6.rf) e6.1 e6.2 hq) hF (fun f9 rv9 h9 q11 R9 e9 E9 hF => ?_)
      refine s_if (i_eq e9.1 (c_lit 11 11 rfl) e9.2 ⟨by decide, by decide⟩) hF (fun c10 hF => ?_) (fun c10 hF => ?_)
      ·
        exact SX3_act_b57 (N := N) (rE := rE) (RE := RE) (rN := rN) (RN := RN) hb @hrE @hrN R9 e3.1 e3.2 e6.1 e6.2 hF
      ·
        refine s_call R9 (Nat.zero_le _) (fun _ hq => SX1_category (b := 0) (R9.rf) e6.1 e6.2 hq) hF (fun f11 rv11 h11 q13 R11 e11 E11 hF => ?_)
        refine s_if (i_eq e11.1 (c_lit 12 12 rfl) e11.2 ⟨by decide, by decide⟩) hF (fun c12 hF => ?_) (fun c12 hF => ?_)
        ·
          exact SX3_act_b57 (N := N) (rE := rE) (RE := RE) (rN := rN) (RN := RN) hb @hrE @hrN R11 e3.1 e3.2 e6.1 e6.2 hF
        ·
          exact SX3_act_b46 (N := N) (rE := rE) (RE := RE) (rN := rN) (RN := RN) hb @hrE @hrN R11 e3.1 e3.2 e6.1 e6.2 hF
def FX3_finish_b50 (N : Nat) (s1 : Int) (s : fS) : Option ((Unit ⊕ Nat) × fS) :=
  tB (FX4_want s1 9 s) fun x2 σ3 =>
  tB (FX3_addVertical N 2 0 65536 2 0 σ3) fun x5 σ6 =>
  tB (FX3_addVertical N 5 (-10000) 0 0 0 σ6) fun x8 σ9 =>
  some (.inl (), σ9)
theorem SX3_finish_b50 {m b : Nat} {φ0 : Nat → Nat} {σo : fS} (hb : 1 ≤ b) {N : Nat} {q : (Unit ⊕ Nat) × fS} {φ : Nat → Nat} {h : eH} {s : fS} {s1' : Int32} {s1 : Int} (R : fC m b φ0 σo φ h s) (es1 : s1' = iI s1) (rs1 : r32 s1) (hF : FX3_finish_b50 N s1 s = some q) : gG m b φ0 σo (lT lU) q (fX3_finish_b50 N 4 5 s1' h) := by
  subst es1
  unfold FX3_finish_b50 at hF
  unfold fX3_finish_b50
  refine s_kok R (t_5 R.S) (Nat.le_of_ble_eq_true rfl) ?_
  refine s_tB R (Nat.zero_le _) (fun _ hq => SX4_want (b := 0) (R.rf) rfl rs1 (c_lit 9 9 rfl) ⟨by decide, by decide⟩ hq) hF (fun f2 rv2 h2 x2 σ3 R2 e2 E2 hF => ?_)
  refine s_kok R2 (t_4 R2.S) (Nat.le_of_ble_eq_true rfl) ?_
  refine s_tB R2 hb (fun _ hq => SX3_addVertical (b := 1) (N := N) (Nat.le_of_ble_eq_true rfl) (R2.rf) (c_lit 2 2 rfl) ⟨by decide, by decide⟩ (c_lit 0 0 rfl) ⟨by decide, by decide⟩ (c_lit 65536 65536 rfl) ⟨by decide, by decide⟩ (c_lit 2 2 rfl) ⟨by decide, by decide⟩ (c_lit 0 0 rfl) ⟨by decide, by decide⟩ hq) hF (fun f4 rv4 h4 x5 σ6 R4 e4 E4 hF => ?_)
  refine s_kok R4 (t_4 R4.S) (Nat.le_of_ble_eq_true rfl) ?_
  refine s_tB R4 hb (fun _ hq => SX3_addVertical (b := 1) (N := N) (Nat.le_of_ble_eq_true rfl) (R4.rf) (c_lit 5 5 rfl) ⟨by decide, by decide⟩ (c_lit (-10000) (-10000) rfl) ⟨by decide, by decide⟩ (c_lit 0 0 rfl) ⟨by decide, by decide⟩ (c_lit 0 0 rfl) ⟨by decide, by decide⟩ (c_lit 0 0 rfl) ⟨by decide, by decide⟩ hq) hF (fun f6 rv6 h6 x8 σ9 R6 e6 E6 hF => ?_)
  exact g_ret R6 hF trivial
def FX3_finish_b49 (N : Nat) (s : fS) : Option ((Unit ⊕ Nat) × fS) :=
  FX3_finish_b50 N 0 s
theorem SX3_finish_b49 {m b : Nat} {φ0 : Nat → Nat} {σo : fS} (hb : 1 ≤ b) {N : Nat} {q : (Unit ⊕ Nat) × fS} {φ : Nat → Nat} {h : eH} {s : fS} (R : fC m b φ0 σo φ h s) (hF : FX3_finish_b49 N s = some q) : gG m b φ0 σo (lT lU) q (fX3_finish_b49 N 4 5 h) := by
  unfold FX3_finish_b49 at hF
  unfold fX3_finish_b49
  exact SX3_finish_b50 (N := N) hb R (c_lit 0 0 rfl) ⟨by decide, by decide⟩ hF
def FX3_finish_b21 (N : Nat) (s : fS) : Option ((Unit ⊕ Nat) × fS) :=
  if ¬ ((s.i 23 11) = 0) then
    FX3_finish_b49 N s
  else
    if ¬ ((s.i 22 15) = 0) then
      FX3_finish_b49 N s
    else
      FX3_finish_b50 N 1 s
theorem SX3_finish_b21 {m b : Nat} {φ0 : Nat → Nat} {σo : fS} (hb : 1 ≤ b) {N : Nat} {q : (Unit ⊕ Nat) × fS} {φ : Nat → Nat} {h : eH} {s : fS} (R : fC m b φ0 σo φ h s) (hF : FX3_finish_b21 N s = some q) : gG m b φ0 σo (lT lU) q (fX3_finish_b21 N 4 h) := by
  unfold FX3_finish_b21 at hF
  unfold fX3_finish_b21
  refine s_gO R (t_4 R.S) (Nat.le_of_ble_eq_true rfl) rfl (o_4_0 R.S) ?_
  refine s_gO R (t_4 R.S) (Nat.le_of_ble_eq_true rfl) rfl (o_4_6 R.S) ?_
  refine s_gI R (t_23 R.S) (Nat.le_of_ble_eq_true rfl) rfl ?_
  refine s_if (not_congr (i_eq rfl (c_lit 0 0 rfl) (R.ri (t_23 R.S) (Nat.le_of_ble_eq_true rfl) rfl) ⟨by decide, by decide⟩)) hF (fun c4 hF => ?_) (fun c4 hF => ?_)
  ·
    exact SX3_finish_b49 (N := N) hb R hF
  ·
    refine s_gO R (t_4 R.S) (Nat.le_of_ble_eq_true rfl) rfl (o_4_5 R.S) ?_
    refine s_gI R (t_22 R.S) (Nat.le_of_ble_eq_true rfl) rfl ?_
    refine s_if (not_congr (i_eq rfl (c_lit 0 0 rfl) (R.ri (t_22 R.S) (Nat.le_of_ble_eq_true rfl) rfl) ⟨by decide, by decide⟩)) hF (fun c7 hF => ?_) (fun c7 hF => ?_)
    ·
      exact SX3_finish_b49 (N := N) hb R hF
    ·
      exact SX3_finish_b50 (N := N) hb R (c_lit 1 1 rfl) ⟨by decide, by decide⟩ hF
def FX3_finish (N : Nat) (s : fS) : Option ((Unit ⊕ Nat) × fS) :=
  tB (FX3_endWord N s) fun x2 σ3 =>
  (uRI σ3 176 (σ3.i 4 27)).bind fun x8 =>
  if ¬ (x8 = 2) then
    FX3_finish_b21 N σ3
  else
    tB (FX3_endParagraph N σ3) fun x12 σ13 =>
    FX3_finish_b21 N σ13
theorem SX3_finish {m b : Nat} {φ0 : Nat → Nat} {σo : fS} (hb : 1 ≤ b) {N : Nat} {q : (Unit ⊕ Nat) × fS} {φ : Nat → Nat} {h : eH} {s : fS} (R : fC m b φ0 σo φ h s) (hF : FX3_finish N s = some q) : gG m b φ0 σo (lT lU) q (fX3_finish N 4 h) := by
  unfold FX3_finish at hF
  unfold fX3_finish
  refine s_kok R (t_4 R.S) (Nat.le_of_ble_eq_true rfl) ?_
  refine s_tB R hb (fun _ hq => SX3_endWord (b := 1) (N := N) (Nat.le_of_ble_eq_true rfl) (R.rf) hq) hF (fun f2 rv2 h2 x2 σ3 R2 e2 E2 hF => ?_)
  refine s_gAs R2 (t_4 R2.S) (Nat.le_of_ble_eq_true rfl) rfl (o_4_19 R2.S) (a_176 R2) ?_
  refine s_gI R2 (t_4 R2.S) (Nat.le_of_ble_eq_true rfl) rfl ?_
  refine s_rI R2 (u_176 R2.S).1 (u_176 R2.S).2 (by decide) (a_176 R2) rfl (R2.ri (t_4 R2.S) (Nat.le_of_ble_eq_true rfl) rfl) hF (fun x8 ra5 hF => ?_)
  refine s_if (not_congr (i_eq rfl (c_lit 2 2 rfl) ra5 ⟨by decide, by decide⟩)) hF (fun c6 hF => ?_) (fun c6 hF => ?_)
  ·
    exact SX3_finish_b21 (N := N) hb R2 hF
  ·
    refine s_kok R2 (t_4 R2.S) (Nat.le_of_ble_eq_true rfl) ?_
    refine s_tB R2 hb (fun _ hq => SX3_endParagraph (b := 1) (N := N) (Nat.le_of_ble_eq_true rfl) (R2.rf) hq) hF (fun f8 rv8 h8 x12 σ13 R8 e8 E8 hF => ?_)
    exact SX3_finish_b21 (N := N) hb R8 hF
def FX31_close_b207 (N : Nat) (K190 : Int → fS → Option (Int × fS)) (l2 : Int) (s : fS) : Option (Int × fS) :=
  (FX32_add 223 s).bind fun q4 =>
  K190 (iadd l2 1) q4.2
theorem SX31_close_b207 {m b : Nat} {φ0 : Nat → Nat} {σo : fS} {N : Nat} {k190 : Nat → Int32 → eH → Option (Int32 × eH)} {K190 : Int → fS → Option (Int × fS)} {q : Int × fS} (hk190 : ∀ {φ : Nat → Nat} {h : eH} {s : fS} {l2' : Int32} {l2 : Int}, fC m b φ0 σo φ h s → l2' = iI l2 → r32 l2 → K190 l2 s = some q → gG m b φ0 σo lI q (k190 153 l2' h)) {φ : Nat → Nat} {h : eH} {s : fS} {l2' : Int32} {l2 : Int} (R : fC m b φ0 σo φ h s) (el2 : l2' = iI l2) (rl2 : r32 l2) (hF : FX31_close_b207 N K190 l2 s = some q) : gG m b φ0 σo lI q (fX31_close_b207 N k190 153 l2' h) := by
  subst el2
  unfold FX31_close_b207 at hF
  unfold fX31_close_b207
  refine s_gO R (t_153 R.S) (Nat.le_of_ble_eq_true rfl) rfl (o_153_1 R.S) ?_
  refine s_kok R (t_154 R.S) (Nat.le_of_ble_eq_true rfl) ?_
  refine s_call R (Nat.zero_le _) (fun _ hq => SX32_add (b := 0) (R.rf) (c_lit 223 223 rfl) ⟨by decide, by decide⟩ hq) hF (fun f3 rv3 h3 q4 R3 e3 E3 hF => ?_)
  exact hk190 R3 (c_add rfl (c_lit 1 1 rfl)) (rr_I _) hF
def FX31_close_b190 (N : Nat) : Nat → Int → fS → Option (Int × fS)
  | 0, _, _ => none
  | n + 1, l2, s =>
    if l2 < 4 then
      FX31_close_b207 N (FX31_close_b190 N n) l2 s
    else
      if (irem (s.i 154 1) 4) = 0 then
        (uPZ s 153 17 1).bind fun σ7 =>
        some ((σ7.i 154 1), σ7)
      else
        FX31_close_b207 N (FX31_close_b190 N n) l2 s
theorem SX31_close_b190 {m b : Nat} {φ0 : Nat → Nat} {σo : fS} {N : Nat} {q : Int × fS} : ∀ {n : Nat} {φ : Nat → Nat} {h : eH} {s : fS} {l2' : Int32} {l2 : Int}, fC m b φ0 σo φ h s → l2' = iI l2 → r32 l2 → FX31_close_b190 N n l2 s = some q → gG m b φ0 σo lI q (fX31_close_b190 N n 153 l2' h) := by
  intro n
  induction n with
 | zero => intro φ h s l2' l2 R el2 rl2 hF; simp [FX31_close_b190] at hF
  | succ n ih =>
    intro φ h s l2' l2 R el2 rl2 hF
    subst el2
    rw [FX31_close_b190] at hF
    rw [fX31_close_b190]
    refine s_if (i_lt rfl (c_lit 4 4 rfl) rl2 ⟨by decide, by decide⟩) hF (fun c1 hF => ?_) (fun c1 hF => ?_)
    ·
      exact SX31_close_b207 (N := N) (k190 := fX31_close_b190 N n) (K190 := FX31_close_b190 N n) @ih R rfl rl2 hF
    ·
      refine s_gO R (t_153 R.S) (Nat.le_of_ble_eq_true rfl) rfl (o_153_1 R.S) ?_
      refine s_gI R (t_154 R.S) (Nat.le_of_ble_eq_true rfl) rfl ?_
      refine s_if (i_eq (c_rem rfl (c_lit 4 4 rfl)) (c_lit 0 0 rfl) (rr_I _) ⟨by decide, by decide⟩) hF (fun c4 hF => ?_) (fun c4 hF => ?_)
      ·
        refine s_pZ R (t_153 R.S) (Nat.le_of_ble_eq_true rfl) rfl (c_lit 1 1 rfl) ⟨by decide, by decide⟩ hF (fun h5 σ7 R5 T5 hF => ?_)
        refine s_gO R5 (t_153 R5.S) (Nat.le_of_ble_eq_true rfl) rfl (o_153_1 R5.S) ?_
        refine s_gI R5 (t_154 R5.S) (Nat.le_of_ble_eq_true rfl) rfl ?_
        exact g_ret R5 hF ⟨rfl, (R5.ri (t_154 R5.S) (Nat.le_of_ble_eq_true rfl) rfl)⟩
      ·
        exact SX31_close_b207 (N := N) (k190 := fX31_close_b190 N n) (K190 := FX31_close_b190 N n) @ih R rfl rl2 hF
def FX31_close_b131 (N : Nat) : Nat → Int → Int → fS → Option (Int × fS)
  | 0, _, _, _ => none
  | n + 1, l1, l2, s =>
    if l2 < 0 then
      (FX32_add 249 s).bind fun q5 =>
      (FX32_number N l1 4 q5.2).bind fun q9 =>
      (FX32_add 2 q9.2).bind fun q13 =>
      FX31_close_b190 N N 0 q13.2
    else
      (uRI s 11 l2).bind fun x20 =>
      (FX5_define N x20 s).bind fun q25 =>
      FX31_close_b131 N n l1 (iadd l2 (-1)) q25.2
theorem SX31_close_b131 {m b : Nat} {φ0 : Nat → Nat} {σo : fS} {N : Nat} {q : Int × fS} : ∀ {n : Nat} {φ : Nat → Nat} {h : eH} {s : fS} {l1' : Int32} {l1 : Int} {l2' : Int32} {l2 : Int}, fC m b φ0 σo φ h s → l1' = iI l1 → r32 l1 → l2' = iI l2 → r32 l2 → FX31_close_b131 N n l1 l2 s = some q → gG m b φ0 σo lI q (fX31_close_b131 N n 153 l1' l2' h) := by
  intro n
  induction n with
 | zero => intro φ h s l1' l1 l2' l2 R el1 rl1 el2 rl2 hF; simp [FX31_close_b131] at hF
  | succ n ih =>
    intro φ h s l1' l1 l2' l2 R el1 rl1 el2 rl2 hF
    subst el1; subst el2
    rw [FX31_close_b131] at hF
    rw [fX31_close_b131]
    refine s_if (i_lt rfl (c_lit 0 0 rfl) rl2 ⟨by decide, by decide⟩) hF (fun c1 hF => ?_) (fun c1 hF => ?_)
    ·
      refine s_gO R (t_153 R.S) (Nat.le_of_ble_eq_true rfl) rfl (o_153_1 R.S) ?_
      refine s_kok R (t_154 R.S) (Nat.le_of_ble_eq_true rfl) ?_
      refine s_call R (Nat.zero_le _) (fun _ hq => SX32_add (b := 0) (R.rf) (c_lit 249 249 rfl) ⟨by decide, by decide⟩ hq) hF (fun f4 rv4 h4 q5 R4 e4 E4 hF => ?_)
      refine s_gO R4 (t_153 R4.S) (Nat.le_of_ble_eq_true rfl) rfl (o_153_1 R4.S) ?_
      refine s_kok R4 (t_154 R4.S) (Nat.le_of_ble_eq_true rfl) ?_
      refine s_call R4 (Nat.zero_le _) (fun _ hq => SX32_number (b := 0) (N := N) (R4.rf) rfl rl1 (c_lit 4 4 rfl) ⟨by decide, by decide⟩ hq) hF (fun f7 rv7 h7 q9 R7 e7 E7 hF => ?_)
      refine s_gO R7 (t_153 R7.S) (Nat.le_of_ble_eq_true rfl) rfl (o_153_1 R7.S) ?_
      refine s_kok R7 (t_154 R7.S) (Nat.le_of_ble_eq_true rfl) ?_
      refine s_call R7 (Nat.zero_le _) (fun _ hq => SX32_add (b := 0) (R7.rf) (c_lit 2 2 rfl) ⟨by decide, by decide⟩ hq) hF (fun f10 rv10 h10 q13 R10 e10 E10 hF => ?_)
      exact SX31_close_b190 (N := N) R10 (c_lit 0 0 rfl) ⟨by decide, by decide⟩ hF
    ·
      refine s_gO R (t_153 R.S) (Nat.le_of_ble_eq_true rfl) rfl (o_153_0 R.S) ?_
      refine s_gO R (t_153 R.S) (Nat.le_of_ble_eq_true rfl) rfl (o_153_0 R.S) ?_
      refine s_gAs R (t_6 R.S) (Nat.le_of_ble_eq_true rfl) rfl (o_6_5 R.S) (a_11 R) ?_
      refine s_rI R (u_11 R.S).1 (u_11 R.S).2 (by decide) (a_11 R) rfl rl2 hF (fun x20 ra14 hF => ?_)
      refine s_gO R (t_153 R.S) (Nat.le_of_ble_eq_true rfl) rfl (o_153_1 R.S) ?_
      refine s_kok R (t_6 R.S) (Nat.le_of_ble_eq_true rfl) ?_
      refine s_call R (Nat.zero_le _) (fun _ hq => SX5_define (b := 0) (N := N) (R.rf) rfl ra14 hq) hF (fun f17 rv17 h17 q25 R17 e17 E17 hF => ?_)
      exact ih R17 rfl rl1 (c_add rfl (c_lit (-1) (-1) rfl)) (rr_I _) hF
def FX31_close_b105 (N : Nat) (l1 : Int) (s1 : Int) (s : fS) : Option (Int × fS) :=
  (FX32_number N s1 2 s).bind fun q2 =>
  (FX32_number N (q2.2.i 153 13) 2 q2.2).bind fun q8 =>
  FX31_close_b131 N N l1 (isub (q8.2.i 6 6) 1) q8.2
theorem SX31_close_b105 {m b : Nat} {φ0 : Nat → Nat} {σo : fS} {N : Nat} {q : Int × fS} {φ : Nat → Nat} {h : eH} {s : fS} {l1' : Int32} {l1 : Int} {s1' : Int32} {s1 : Int} (R : fC m b φ0 σo φ h s) (el1 : l1' = iI l1) (rl1 : r32 l1) (es1 : s1' = iI s1) (rs1 : r32 s1) (hF : FX31_close_b105 N l1 s1 s = some q) : gG m b φ0 σo lI q (fX31_close_b105 N 153 l1' 154 s1' h) := by
  subst el1; subst es1
  unfold FX31_close_b105 at hF
  unfold fX31_close_b105
  refine s_kok R (t_154 R.S) (Nat.le_of_ble_eq_true rfl) ?_
  refine s_call R (Nat.zero_le _) (fun _ hq => SX32_number (b := 0) (N := N) (R.rf) rfl rs1 (c_lit 2 2 rfl) ⟨by decide, by decide⟩ hq) hF (fun f2 rv2 h2 q2 R2 e2 E2 hF => ?_)
  refine s_gO R2 (t_153 R2.S) (Nat.le_of_ble_eq_true rfl) rfl (o_153_1 R2.S) ?_
  refine s_gI R2 (t_153 R2.S) (Nat.le_of_ble_eq_true rfl) rfl ?_
  refine s_kok R2 (t_154 R2.S) (Nat.le_of_ble_eq_true rfl) ?_
  refine s_call R2 (Nat.zero_le _) (fun _ hq => SX32_number (b := 0) (N := N) (R2.rf) rfl (R2.ri (t_153 R2.S) (Nat.le_of_ble_eq_true rfl) rfl) (c_lit 2 2 rfl) ⟨by decide, by decide⟩ hq) hF (fun f6 rv6 h6 q8 R6 e6 E6 hF => ?_)
  refine s_gO R6 (t_153 R6.S) (Nat.le_of_ble_eq_true rfl) rfl (o_153_0 R6.S) ?_
  refine s_gI R6 (t_6 R6.S) (Nat.le_of_ble_eq_true rfl) rfl ?_
  exact SX31_close_b131 (N := N) R6 rfl rl1 (c_sub rfl (c_lit 1 1 rfl)) (rr_I _) hF
def FX31_close (N : Nat) (s : fS) : Option (Int × fS) :=
  (FX31_open N s).bind fun q2 =>
  (FX32_add 248 q2.2).bind fun q10 =>
  (FX32_number N (q10.2.i 153 14) 4 q10.2).bind fun q16 =>
  (FX32_number N 25400000 4 q16.2).bind fun q20 =>
  (FX32_number N 473628672 4 q20.2).bind fun q24 =>
  (FX32_number N 1000 4 q24.2).bind fun q28 =>
  (FX32_number N (q28.2.i 153 15) 4 q28.2).bind fun q34 =>
  (FX32_number N (q34.2.i 153 16) 4 q34.2).bind fun q40 =>
  if (q40.2.i 153 13) ≤ 0 then
    FX31_close_b105 N (q2.2.i 154 1) 0 q40.2
  else
    FX31_close_b105 N (q2.2.i 154 1) 1 q40.2
theorem SX31_close {m b : Nat} {φ0 : Nat → Nat} {σo : fS} {N : Nat} {q : Int × fS} {φ : Nat → Nat} {h : eH} {s : fS} (R : fC m b φ0 σo φ h s) (hF : FX31_close N s = some q) : gG m b φ0 σo lI q (fX31_close N 153 h) := by
  unfold FX31_close at hF
  unfold fX31_close
  refine s_kok R (t_153 R.S) (Nat.le_of_ble_eq_true rfl) ?_
  refine s_call R (Nat.zero_le _) (fun _ hq => SX31_open (b := 0) (N := N) (R.rf) hq) hF (fun f2 rv2 h2 q2 R2 e2 E2 hF => ?_)
  refine s_gO R2 (t_153 R2.S) (Nat.le_of_ble_eq_true rfl) rfl (o_153_1 R2.S) ?_
  refine s_gI R2 (t_154 R2.S) (Nat.le_of_ble_eq_true rfl) rfl ?_
  refine s_gO R2 (t_153 R2.S) (Nat.le_of_ble_eq_true rfl) rfl (o_153_1 R2.S) ?_
  refine s_kok R2 (t_154 R2.S) (Nat.le_of_ble_eq_true rfl) ?_
  refine s_call R2 (Nat.zero_le _) (fun _ hq => SX32_add (b := 0) (R2.rf) (c_lit 248 248 rfl) ⟨by decide, by decide⟩ hq) hF (fun f7 rv7 h7 q10 R7 e7 E7 hF => ?_)
  refine s_gO R7 (t_153 R7.S) (Nat.le_of_ble_eq_true rfl) rfl (o_153_1 R7.S) ?_
  refine s_gI R7 (t_153 R7.S) (Nat.le_of_ble_eq_true rfl) rfl ?_
  refine s_kok R7 (t_154 R7.S) (Nat.le_of_ble_eq_true rfl) ?_
  refine s_call R7 (Nat.zero_le _) (fun _ hq => SX32_number (b := 0) (N := N) (R7.rf) rfl (R7.ri (t_153 R7.S) (Nat.le_of_ble_eq_true rfl) rfl) (c_lit 4 4 rfl) ⟨by decide, by decide⟩ hq) hF (fun f11 rv11 h11 q16 R11 e11 E11 hF => ?_)
  refine s_gO R11 (t_153 R11.S) (Nat.le_of_ble_eq_true rfl) rfl (o_153_1 R11.S) ?_
  refine s_kok R11 (t_154 R11.S) (Nat.le_of_ble_eq_true rfl) ?_
  refine s_call R11 (Nat.zero_le _) (fun _ hq => SX32_number (b := 0) (N := N) (R11.rf) (c_lit 25400000 25400000 rfl) ⟨by decide, by decide⟩ (c_lit 4 4 rfl) ⟨by decide, by decide⟩ hq) hF (fun f14 rv14 h14 q20 R14 e14 E14 hF => ?_)
  refine s_gO R14 (t_153 R14.S) (Nat.le_of_ble_eq_true rfl) rfl (o_153_1 R14.S) ?_
  refine s_kok R14 (t_154 R14.S) (Nat.le_of_ble_eq_true rfl) ?_
  refine s_call R14 (Nat.zero_le _) (fun _ hq => SX32_number (b := 0) (N := N) (R14.rf) (c_lit 473628672 473628672 rfl) ⟨by decide, by decide⟩ (c_lit 4 4 rfl) ⟨by decide, by decide⟩ hq) hF (fun f17 rv17 h17 q24 R17 e17 E17 hF => ?_)
  refine s_gO R17 (t_153 R17.S) (Nat.le_of_ble_eq_true rfl) rfl (o_153_1 R17.S) ?_
  refine s_kok R17 (t_154 R17.S) (Nat.le_of_ble_eq_true rfl) ?_
  refine s_call R17 (Nat.zero_le _) (fun _ hq => SX32_number (b := 0) (N := N) (R17.rf) (c_lit 1000 1000 rfl) ⟨by decide, by decide⟩ (c_lit 4 4 rfl) ⟨by decide, by decide⟩ hq) hF (fun f20 rv20 h20 q28 R20 e20 E20 hF => ?_)
  refine s_gO R20 (t_153 R20.S) (Nat.le_of_ble_eq_true rfl) rfl (o_153_1 R20.S) ?_
  refine s_gI R20 (t_153 R20.S) (Nat.le_of_ble_eq_true rfl) rfl ?_
  refine s_kok R20 (t_154 R20.S) (Nat.le_of_ble_eq_true rfl) ?_
  refine s_call R20 (Nat.zero_le _) (fun _ hq => SX32_number (b := 0) (N := N) (R20.rf) rfl (R20.ri (t_153 R20.S) (Nat.le_of_ble_eq_true rfl) rfl) (c_lit 4 4 rfl) ⟨by decide, by decide⟩ hq) hF (fun f24 rv24 h24 q34 R24 e24 E24 hF => ?_)
  refine s_gO R24 (t_153 R24.S) (Nat.le_of_ble_eq_true rfl) rfl (o_153_1 R24.S) ?_
  refine s_gI R24 (t_153 R24.S) (Nat.le_of_ble_eq_true rfl) rfl ?_
  refine s_kok R24 (t_154 R24.S) (Nat.le_of_ble_eq_true rfl) ?_
  refine s_call R24 (Nat.zero_le _) (fun _ hq => SX32_number (b := 0) (N := N) (R24.rf) rfl (R24.ri (t_153 R24.S) (Nat.le_of_ble_eq_true rfl) rfl) (c_lit 4 4 rfl) ⟨by decide, by decide⟩ hq) hF (fun f28 rv28 h28 q40 R28 e28 E28 hF => ?_)
  refine s_gO R28 (t_153 R28.S) (Nat.le_of_ble_eq_true rfl) rfl (o_153_1 R28.S) ?_
  refine s_gI R28 (t_153 R28.S) (Nat.le_of_ble_eq_true rfl) rfl ?_
  refine s_if (i_le rfl (c_lit 0 0 rfl) (R28.ri (t_153 R28.S) (Nat.le_of_ble_eq_true rfl) rfl) ⟨by decide, by decide⟩) hF (fun c31 hF => ?_) (fun c31 hF => ?_)
  ·
    exact SX31_close_b105 (N := N) R28 rfl (R2.ri (t_154 R2.S) (Nat.le_of_ble_eq_true rfl) rfl) (c_lit 0 0 rfl) ⟨by decide, by decide⟩ hF
  ·
    exact SX31_close_b105 (N := N) R28 rfl (R2.ri (t_154 R2.S) (Nat.le_of_ble_eq_true rfl) rfl) (c_lit 1 1 rfl) ⟨by decide, by decide⟩ hF
def FX3_run_b94 (N : Nat) (RE : Int → fS → Option ((Unit ⊕ Nat) × fS)) (RN : fS → Option ((Int ⊕ Nat) × fS)) : Nat → Int → fS → Option (Int × fS)
  | 0, _, _ => none
  | n + 1, l2, s =>
    if (s.i 23 11) ≤ 0 then
      (FX31_close N s).bind fun q9 =>
      (uQI q9.2 191 0 (q9.2.i 22 8)).bind fun σ16 =>
      (uQI σ16 191 1 (σ16.i 153 13)).bind fun σ24 =>
      some (l2, σ24)
    else
      (FX9_close N s).bind fun q29 =>
      FX3_run_b94 N RE RN n l2 q29.2
theorem SX3_run_b94 {m b : Nat} {φ0 : Nat → Nat} {σo : fS} {N : Nat} {rE : Nat → Int32 → eH → Option ((Unit ⊕ Nat) × eH)} {RE : Int → fS → Option ((Unit ⊕ Nat) × fS)} {rN : Nat → eH → Option ((Int32 ⊕ Nat) × eH)} {RN : fS → Option ((Int ⊕ Nat) × fS)} {q : Int × fS} (hrE : ∀ {φ : Nat → Nat} {h : eH} {s : fS} {x1' : Int32} {x1 : Int} {q}, fC m 3 φ s φ h s → x1' = iI x1 → r32 x1 → RE x1 s = some q → gG m 3 φ s (lT lU) q (rE 22 x1' h)) (hrN : ∀ {φ : Nat → Nat} {h : eH} {s : fS} {q}, fC m 3 φ s φ h s → RN s = some q → gG m 3 φ s (lT lI) q (rN 22 h)) : ∀ {n : Nat} {φ : Nat → Nat} {h : eH} {s : fS} {l2' : Int32} {l2 : Int}, fC m b φ0 σo φ h s → l2' = iI l2 → r32 l2 → FX3_run_b94 N RE RN n l2 s = some q → gG m b φ0 σo lI q (fX3_run_b94 N rE rN n 4 l2' h) := by
  intro n
  induction n with
 | zero => intro φ h s l2' l2 R el2 rl2 hF; simp [FX3_run_b94] at hF
  | succ n ih =>
    intro φ h s l2' l2 R el2 rl2 hF
    subst el2
    rw [FX3_run_b94] at hF
    rw [fX3_run_b94]
    refine s_gO R (t_4 R.S) (Nat.le_of_ble_eq_true rfl) rfl (o_4_6 R.S) ?_
    refine s_gI R (t_23 R.S) (Nat.le_of_ble_eq_true rfl) rfl ?_
    refine s_if (i_le rfl (c_lit 0 0 rfl) (R.ri (t_23 R.S) (Nat.le_of_ble_eq_true rfl) rfl) ⟨by decide, by decide⟩) hF (fun c3 hF => ?_) (fun c3 hF => ?_)
    ·
      refine s_gO R (t_4 R.S) (Nat.le_of_ble_eq_true rfl) rfl (o_4_15 R.S) ?_
      refine s_kok R (t_153 R.S) (Nat.le_of_ble_eq_true rfl) ?_
      refine s_call R (Nat.zero_le _) (fun _ hq => SX31_close (b := 0) (N := N) (R.rf) hq) hF (fun f6 rv6 h6 q9 R6 e6 E6 hF => ?_)
      refine s_gAs R6 (t_4 R6.S) (Nat.le_of_ble_eq_true rfl) rfl (o_4_36 R6.S) (a_191 R6) ?_
      refine s_gO R6 (t_4 R6.S) (Nat.le_of_ble_eq_true rfl) rfl (o_4_5 R6.S) ?_
      refine s_gI R6 (t_22 R6.S) (Nat.le_of_ble_eq_true rfl) rfl ?_
      refine s_qI R6 (u_191 R6.S).1 (u_191 R6.S).2 (by decide) (a_191 R6) (c_lit 0 0 rfl) ⟨by decide, by decide⟩ rfl (R6.ri (t_22 R6.S) (Nat.le_of_ble_eq_true rfl) rfl) hF (fun h10 σ16 R10 T10 hF => ?_)
      refine s_gAs R10 (t_4 R10.S) (Nat.le_of_ble_eq_true rfl) rfl (o_4_36 R10.S) (a_191 R10) ?_
      refine s_gO R10 (t_4 R10.S) (Nat.le_of_ble_eq_true rfl) rfl (o_4_15 R10.S) ?_
      refine s_gI R10 (t_153 R10.S) (Nat.le_of_ble_eq_true rfl) rfl ?_
      refine s_qI R10 (u_191 R10.S).1 (u_191 R10.S).2 (by decide) (a_191 R10) (c_lit 1 1 rfl) ⟨by decide, by decide⟩ rfl (R10.ri (t_153 R10.S) (Nat.le_of_ble_eq_true rfl) rfl) hF (fun h14 σ24 R14 T14 hF => ?_)
      exact g_ret R14 hF ⟨rfl, rl2⟩
    ·
      refine s_gO R (t_4 R.S) (Nat.le_of_ble_eq_true rfl) rfl (o_4_6 R.S) ?_
      refine s_kok R (t_23 R.S) (Nat.le_of_ble_eq_true rfl) ?_
      refine s_call R (Nat.zero_le _) (fun _ hq => SX9_close (b := 0) (N := N) (R.rf) hq) hF (fun f17 rv17 h17 q29 R17 e17 E17 hF => ?_)
      exact ih R17 rfl rl2 hF
def FX3_run_b71 (N : Nat) (RE : Int → fS → Option ((Unit ⊕ Nat) × fS)) (RN : fS → Option ((Int ⊕ Nat) × fS)) (s0 : Nat) (s : fS) : Option (Int × fS) :=
  FX3_run_b94 N RE RN N (iadd (imul 100000 (s.i 5 0)) (s.i 50 9)) s
theorem SX3_run_b71 {m b : Nat} {φ0 : Nat → Nat} {σo : fS} {N : Nat} {rE : Nat → Int32 → eH → Option ((Unit ⊕ Nat) × eH)} {RE : Int → fS → Option ((Unit ⊕ Nat) × fS)} {rN : Nat → eH → Option ((Int32 ⊕ Nat) × eH)} {RN : fS → Option ((Int ⊕ Nat) × fS)} {q : Int × fS} (hrE : ∀ {φ : Nat → Nat} {h : eH} {s : fS} {x1' : Int32} {x1 : Int} {q}, fC m 3 φ s φ h s → x1' = iI x1 → r32 x1 → RE x1 s = some q → gG m 3 φ s (lT lU) q (rE 22 x1' h)) (hrN : ∀ {φ : Nat → Nat} {h : eH} {s : fS} {q}, fC m 3 φ s φ h s → RN s = some q → gG m 3 φ s (lT lI) q (rN 22 h)) {φ : Nat → Nat} {h : eH} {s : fS} {s0 : Nat} (R : fC m b φ0 σo φ h s) (hF : FX3_run_b71 N RE RN s0 s = some q) : gG m b φ0 σo lI q (fX3_run_b71 N rE rN 4 s0 h) := by
  unfold FX3_run_b71 at hF
  unfold fX3_run_b71
  refine s_gO R (t_4 R.S) (Nat.le_of_ble_eq_true rfl) rfl (o_4_0 R.S) ?_
  refine s_gI R (t_5 R.S) (Nat.le_of_ble_eq_true rfl) rfl ?_
  refine s_gO R (t_4 R.S) (Nat.le_of_ble_eq_true rfl) rfl (o_4_5 R.S) ?_
  refine s_gO R (t_22 R.S) (Nat.le_of_ble_eq_true rfl) rfl (o_22_5 R.S) ?_
  refine s_gI R (t_50 R.S) (Nat.le_of_ble_eq_true rfl) rfl ?_
  exact SX3_run_b94 (N := N) (rE := rE) (RE := RE) (rN := rN) (RN := RN) @hrE @hrN R (c_add (c_mul (c_lit 100000 100000 rfl) rfl) rfl) (rr_I _) hF
def FX3_run_b64 (N : Nat) (RE : Int → fS → Option ((Unit ⊕ Nat) × fS)) (RN : fS → Option ((Int ⊕ Nat) × fS)) (l2 : Int) (s : fS) : Option (Int × fS) :=
  tC 50 (FX3_finish N s) (kt := fun a4 σ5 =>
    FX3_run_b71 N RE RN a4 σ5
    ) (k := fun x2 σ3 =>
  FX3_run_b94 N RE RN N l2 σ3
  )
theorem SX3_run_b64 {m b : Nat} {φ0 : Nat → Nat} {σo : fS} (hb : 1 ≤ b) {N : Nat} {rE : Nat → Int32 → eH → Option ((Unit ⊕ Nat) × eH)} {RE : Int → fS → Option ((Unit ⊕ Nat) × fS)} {rN : Nat → eH → Option ((Int32 ⊕ Nat) × eH)} {RN : fS → Option ((Int ⊕ Nat) × fS)} {q : Int × fS} (hrE : ∀ {φ : Nat → Nat} {h : eH} {s : fS} {x1' : Int32} {x1 : Int} {q}, fC m 3 φ s φ h s → x1' = iI x1 → r32 x1 → RE x1 s = some q → gG m 3 φ s (lT lU) q (rE 22 x1' h)) (hrN : ∀ {φ : Nat → Nat} {h : eH} {s : fS} {q}, fC m 3 φ s φ h s → RN s = some q → gG m 3 φ s (lT lI) q (rN 22 h)) {φ : Nat → Nat} {h : eH} {s : fS} {l2' : Int32} {l2 : Int} (R : fC m b φ0 σo φ h s) (el2 : l2' = iI l2) (rl2 : r32 l2) (hF : FX3_run_b64 N RE RN l2 s = some q) : gG m b φ0 σo lI q (fX3_run_b64 N rE rN 4 l2' h) := by
  subst el2
  unfold FX3_run_b64 at hF
  unfold fX3_run_b64
  refine s_kok R (t_4 R.S) (Nat.le_of_ble_eq_true rfl) ?_
  refine s_tC R hb (Nat.le_of_ble_eq_true rfl) (fun _ hq => SX3_finish (b := 1) (N := N) (Nat.le_of_ble_eq_true rfl) (R.rf) hq) hF (fun f2 a4 h2 σ5 R2 E2 hF => ?_) (fun f2 rv2 h2 x2 σ3 R2 e2 E2 hF => ?_)
  ·
    exact SX3_run_b71 (N := N) (rE := rE) (RE := RE) (rN := rN) (RN := RN) @hrE @hrN R2 hF
  ·
    exact SX3_run_b94 (N := N) (rE := rE) (RE := RE) (rN := rN) (RN := RN) @hrE @hrN R2 rfl rl2 hF
def FX3_run_b22 (N : Nat) (RE : Int → fS → Option ((Unit ⊕ Nat) × fS)) (RN : fS → Option ((Int ⊕ Nat) × fS)) : Nat → Int → Int → fS → Option (Int × fS)
  | 0, _, _, _ => none
  | n + 1, l2, l3, s =>
    if l3 = (-1) then
      FX3_run_b64 N RE RN l2 s
    else
      if ¬ ((s.i 4 35) = 0) then
        FX3_run_b64 N RE RN l2 s
      else
        tC 50 (FX8_tick s) (kt := fun a10 σ11 =>
          FX3_run_b71 N RE RN a10 σ11
          ) (k := fun x8 σ9 =>
        tC 50 (FX3_act N RE RN l3 σ9) (kt := fun a15 σ16 =>
          FX3_run_b71 N RE RN a15 σ16
          ) (k := fun x13 σ14 =>
        if ¬ ((σ14.i 4 35) = 0) then
          FX3_run_b22 N RE RN n l2 l3 σ14
        else
          tC 50 (FX8_getExpanded N RE σ14) (kt := fun a25 σ26 =>
            FX3_run_b71 N RE RN a25 σ26
            ) (k := fun x23 σ24 =>
          FX3_run_b22 N RE RN n l2 x23 σ24
          )
        )
        )
theorem SX3_run_b22 {m b : Nat} {φ0 : Nat → Nat} {σo : fS} (hb : 3 ≤ b) {N : Nat} {rE : Nat → Int32 → eH → Option ((Unit ⊕ Nat) × eH)} {RE : Int → fS → Option ((Unit ⊕ Nat) × fS)} {rN : Nat → eH → Option ((Int32 ⊕ Nat) × eH)} {RN : fS → Option ((Int ⊕ Nat) × fS)} {q : Int × fS} (hrE : ∀ {φ : Nat → Nat} {h : eH} {s : fS} {x1' : Int32} {x1 : Int} {q}, fC m 3 φ s φ h s → x1' = iI x1 → r32 x1 → RE x1 s = some q → gG m 3 φ s (lT lU) q (rE 22 x1' h)) (hrN : ∀ {φ : Nat → Nat} {h : eH} {s : fS} {q}, fC m 3 φ s φ h s → RN s = some q → gG m 3 φ s (lT lI) q (rN 22 h)) : ∀ {n : Nat} {φ : Nat → Nat} {h : eH} {s : fS} {l2' : Int32} {l2 : Int} {l3' : Int32} {l3 : Int}, fC m b φ0 σo φ h s → l2' = iI l2 → r32 l2 → l3' = iI l3 → r32 l3 → FX3_run_b22 N RE RN n l2 l3 s = some q → gG m b φ0 σo lI q (fX3_run_b22 N rE rN n 4 l2' l3' h) := by
  intro n
  induction n with
 | zero => intro φ h s l2' l2 l3' l3 R el2 rl2 el3 rl3 hF; simp [FX3_run_b22] at hF
  | succ n ih =>
    intro φ h s l2' l2 l3' l3 R el2 rl2 el3 rl3 hF
    subst el2; subst el3
    rw [FX3_run_b22] at hF
    rw [fX3_run_b22]
    refine s_if (i_eq rfl (c_lit (-1) (-1) rfl) rl3 ⟨by decide, by decide⟩) hF (fun c1 hF => ?_) (fun c1 hF => ?_)
    ·
      exact SX3_run_b64 (N := N) (rE := rE) (RE := RE) (rN := rN) (RN := RN) (Nat.le_trans (Nat.le_of_ble_eq_true rfl) hb) @hrE @hrN R rfl rl2 hF
    ·
      refine s_gI R (t_4 R.S) (Nat.le_of_ble_eq_true rfl) rfl ?_
      refine s_if (not_congr (i_eq rfl (c_lit 0 0 rfl) (R.ri (t_4 R.S) (Nat.le_of_ble_eq_true rfl) rfl) ⟨by decide, by decide⟩)) hF (fun c3 hF => ?_) (fun c3 hF => ?_)
      ·
        exact SX3_run_b64 (N := N) (rE := rE) (RE := RE) (rN := rN) (RN := RN) (Nat.le_trans (Nat.le_of_ble_eq_true rfl) hb) @hrE @hrN R rfl rl2 hF
      ·
        refine s_gO R (t_4 R.S) (Nat.le_of_ble_eq_true rfl) rfl (o_4_5 R.S) ?_
        refine s_kok R (t_22 R.S) (Nat.le_of_ble_eq_true rfl) ?_
        refine s_tC R (Nat.zero_le _) (Nat.le_of_ble_eq_true rfl) (fun _ hq => SX8_tick (b := 0) (R.rf) hq) hF (fun f6 a10 h6 σ11 R6 E6 hF => ?_) (fun f6 rv6 h6 x8 σ9 R6 e6 E6 hF => ?_)
        ·
          exact SX3_run_b71 (N := N) (rE := rE) (RE := RE) (rN := rN) (RN := RN) @hrE @hrN R6 hF
        ·
          refine s_kok R6 (t_4 R6.S) (Nat.le_of_ble_eq_true rfl) ?_
          refine s_tC R6 hb (Nat.le_of_ble_eq_true rfl) (fun _ hq => SX3_act (b := 3) (N := N) (rE := rE) (RE := RE) (rN := rN) (RN := RN) (Nat.le_of_ble_eq_true rfl) @hrE @hrN (R6.rf) rfl rl3 hq) hF (fun f8 a15 h8 σ16 R8 E8 hF => ?_) (fun f8 rv8 h8 x13 σ14 R8 e8 E8 hF => ?_)
          ·
            exact SX3_run_b71 (N := N) (rE := rE) (RE := RE) (rN := rN) (RN := RN) @hrE @hrN R8 hF
          ·
            refine s_gI R8 (t_4 R8.S) (Nat.le_of_ble_eq_true rfl) rfl ?_
            refine s_if (not_congr (i_eq rfl (c_lit 0 0 rfl) (R8.ri (t_4 R8.S) (Nat.le_of_ble_eq_true rfl) rfl) ⟨by decide, by decide⟩)) hF (fun c10 hF => ?_) (fun c10 hF => ?_)
            ·
              exact ih R8 rfl rl2 rfl rl3 hF
            ·
              refine s_gO R8 (t_4 R8.S) (Nat.le_of_ble_eq_true rfl) rfl (o_4_5 R8.S) ?_
              refine s_kok R8 (t_22 R8.S) (Nat.le_of_ble_eq_true rfl) ?_
              refine s_tC R8 hb (Nat.le_of_ble_eq_true rfl) (fun _ hq => SX8_getExpanded (b := 3) (N := N) (rE := rE) (RE := RE) (Nat.le_of_ble_eq_true rfl) @hrE (R8.rf) hq) hF (fun f13 a25 h13 σ26 R13 E13 hF => ?_) (fun f13 rv13 h13 x23 σ24 R13 e13 E13 hF => ?_)
              ·
                exact SX3_run_b71 (N := N) (rE := rE) (RE := RE) (rN := rN) (RN := RN) @hrE @hrN R13 hF
              ·
                exact ih R13 rfl rl2 e13.1 e13.2 hF
def FX3_run (N : Nat) (RE : Int → fS → Option ((Unit ⊕ Nat) × fS)) (RN : fS → Option ((Int ⊕ Nat) × fS)) (p0 : Int) (s : fS) : Option (Int × fS) :=
  (FX3_begin N s).bind fun q2 =>
  (uPI q2.2 22 9 p0).bind fun σ5 =>
  tC 50 (FX8_getExpanded N RE σ5) (kt := fun a12 σ13 =>
    FX3_run_b71 N RE RN a12 σ13
    ) (k := fun x10 σ11 =>
  FX3_run_b22 N RE RN N 0 x10 σ11
  )
theorem SX3_run {m b : Nat} {φ0 : Nat → Nat} {σo : fS} (hb : 3 ≤ b) {N : Nat} {rE : Nat → Int32 → eH → Option ((Unit ⊕ Nat) × eH)} {RE : Int → fS → Option ((Unit ⊕ Nat) × fS)} {rN : Nat → eH → Option ((Int32 ⊕ Nat) × eH)} {RN : fS → Option ((Int ⊕ Nat) × fS)} {q : Int × fS} (hrE : ∀ {φ : Nat → Nat} {h : eH} {s : fS} {x1' : Int32} {x1 : Int} {q}, fC m 3 φ s φ h s → x1' = iI x1 → r32 x1 → RE x1 s = some q → gG m 3 φ s (lT lU) q (rE 22 x1' h)) (hrN : ∀ {φ : Nat → Nat} {h : eH} {s : fS} {q}, fC m 3 φ s φ h s → RN s = some q → gG m 3 φ s (lT lI) q (rN 22 h)) {φ : Nat → Nat} {h : eH} {s : fS} {p0' : Int32} {p0 : Int} (R : fC m b φ0 σo φ h s) (ep0 : p0' = iI p0) (rp0 : r32 p0) (hF : FX3_run N RE RN p0 s = some q) : gG m b φ0 σo lI q (fX3_run N rE rN 4 p0' h) := by
  subst ep0
  unfold FX3_run at hF
  unfold fX3_run
  refine s_kok R (t_4 R.S) (Nat.le_of_ble_eq_true rfl) ?_
  refine s_call R (Nat.le_trans (Nat.le_of_ble_eq_true rfl) hb) (fun _ hq => SX3_begin (b := 1) (N := N) (Nat.le_of_ble_eq_true rfl) (R.rf) hq) hF (fun f2 rv2 h2 q2 R2 e2 E2 hF => ?_)
  refine s_gO R2 (t_4 R2.S) (Nat.le_of_ble_eq_true rfl) rfl (o_4_5 R2.S) ?_
  refine s_pI R2 (t_22 R2.S) (Nat.le_of_ble_eq_true rfl) rfl rfl rp0 hF (fun h4 σ5 R4 T4 hF => ?_)
  refine s_gO R4 (t_4 R4.S) (Nat.le_of_ble_eq_true rfl) rfl (o_4_5 R4.S) ?_
  refine s_kok R4 (t_22 R4.S) (Nat.le_of_ble_eq_true rfl) ?_
  refine s_tC R4 hb (Nat.le_of_ble_eq_true rfl) (fun _ hq => SX8_getExpanded (b := 3) (N := N) (rE := rE) (RE := RE) (Nat.le_of_ble_eq_true rfl) @hrE (R4.rf) hq) hF (fun f7 a12 h7 σ13 R7 E7 hF => ?_) (fun f7 rv7 h7 x10 σ11 R7 e7 E7 hF => ?_)
  ·
    exact SX3_run_b71 (N := N) (rE := rE) (RE := RE) (rN := rN) (RN := RN) @hrE @hrN R7 hF
  ·
    exact SX3_run_b22 (N := N) (rE := rE) (RE := RE) (rN := rN) (RN := RN) hb @hrE @hrN R7 (c_lit 0 0 rfl) ⟨by decide, by decide⟩ e7.1 e7.2 hF
def FX1_take_b32 (N : Nat) (RE : Int → fS → Option ((Unit ⊕ Nat) × fS)) (RN : fS → Option ((Int ⊕ Nat) × fS)) (s0 : Int) (s : fS) : Option (Int × fS) :=
  some (s0, s)
theorem SX1_take_b32 {m b : Nat} {φ0 : Nat → Nat} {σo : fS} {N : Nat} {rE : Nat → Int32 → eH → Option ((Unit ⊕ Nat) × eH)} {RE : Int → fS → Option ((Unit ⊕ Nat) × fS)} {rN : Nat → eH → Option ((Int32 ⊕ Nat) × eH)} {RN : fS → Option ((Int ⊕ Nat) × fS)} {q : Int × fS} (hrE : ∀ {φ : Nat → Nat} {h : eH} {s : fS} {x1' : Int32} {x1 : Int} {q}, fC m 3 φ s φ h s → x1' = iI x1 → r32 x1 → RE x1 s = some q → gG m 3 φ s (lT lU) q (rE 22 x1' h)) (hrN : ∀ {φ : Nat → Nat} {h : eH} {s : fS} {q}, fC m 3 φ s φ h s → RN s = some q → gG m 3 φ s (lT lI) q (rN 22 h)) {φ : Nat → Nat} {h : eH} {s : fS} {s0' : Int32} {s0 : Int} (R : fC m b φ0 σo φ h s) (es0 : s0' = iI s0) (rs0 : r32 s0) (hF : FX1_take_b32 N RE RN s0 s = some q) : gG m b φ0 σo lI q (fX1_take_b32 N rE rN s0' h) := by
  subst es0
  unfold FX1_take_b32 at hF
  unfold fX1_take_b32
  exact g_ret R hF ⟨rfl, rs0⟩
def FX1_take_b78 (N : Nat) (RE : Int → fS → Option ((Unit ⊕ Nat) × fS)) (RN : fS → Option ((Int ⊕ Nat) × fS)) (s2 : Int) (s3 : Int) (s : fS) : Option (Int × fS) :=
  (FX14_read N s2 s3 s).bind fun q2 =>
  some (q2.1, q2.2)
theorem SX1_take_b78 {m b : Nat} {φ0 : Nat → Nat} {σo : fS} (hb : 1 ≤ b) {N : Nat} {rE : Nat → Int32 → eH → Option ((Unit ⊕ Nat) × eH)} {RE : Int → fS → Option ((Unit ⊕ Nat) × fS)} {rN : Nat → eH → Option ((Int32 ⊕ Nat) × eH)} {RN : fS → Option ((Int ⊕ Nat) × fS)} {q : Int × fS} (hrE : ∀ {φ : Nat → Nat} {h : eH} {s : fS} {x1' : Int32} {x1 : Int} {q}, fC m 3 φ s φ h s → x1' = iI x1 → r32 x1 → RE x1 s = some q → gG m 3 φ s (lT lU) q (rE 22 x1' h)) (hrN : ∀ {φ : Nat → Nat} {h : eH} {s : fS} {q}, fC m 3 φ s φ h s → RN s = some q → gG m 3 φ s (lT lI) q (rN 22 h)) {φ : Nat → Nat} {h : eH} {s : fS} {s2' : Int32} {s2 : Int} {s3' : Int32} {s3 : Int} (R : fC m b φ0 σo φ h s) (es2 : s2' = iI s2) (rs2 : r32 s2) (es3 : s3' = iI s3) (rs3 : r32 s3) (hF : FX1_take_b78 N RE RN s2 s3 s = some q) : gG m b φ0 σo lI q (fX1_take_b78 N rE rN 60 1 s2' s3' h) := by
  subst es2; subst es3
  unfold FX1_take_b78 at hF
  unfold fX1_take_b78
  refine s_kok R (t_60 R.S) (Nat.le_of_ble_eq_true rfl) ?_
  refine s_call R hb (fun _ hq => SX14_read (b := 1) (N := N) (Nat.le_of_ble_eq_true rfl) (R.rf) rfl rs2 rfl rs3 hq) hF (fun f2 rv2 h2 q2 R2 e2 E2 hF => ?_)
  exact g_ret R2 hF ⟨e2.1, e2.2⟩
def FX1_take (N : Nat) (RE : Int → fS → Option ((Unit ⊕ Nat) × fS)) (RN : fS → Option ((Int ⊕ Nat) × fS)) (p0 : Int) (p1 : Int) (s : fS) : Option (Int × fS) :=
  if 16 ≤ p0 then
    if 18 ≤ p0 then
      (uCP s 1 0 51 0 p1).bind fun σ13 =>
      (uPI σ13 50 4 p1).bind fun σ21 =>
      (FX3_run N RE RN (σ21.i 0 4) σ21).bind fun q28 =>
      some (q28.1, q28.2)
    else
      if ¬ (p0 = 17) then
        FX1_take_b78 N RE RN p1 0 s
      else
        FX1_take_b78 N RE RN p1 1 s
  else
    (FX2_take p1 s).bind fun q41 =>
    if ¬ (q41.1 = 0) then
      (FX5_load N p0 q41.2).bind fun q50 =>
      some (q50.1, q50.2)
    else
      if 24 ≤ p1 then
        FX1_take_b32 N RE RN 4 q41.2
      else
        FX1_take_b32 N RE RN 1 q41.2
theorem SX1_take {m b : Nat} {φ0 : Nat → Nat} {σo : fS} (hb : 3 ≤ b) {N : Nat} {rE : Nat → Int32 → eH → Option ((Unit ⊕ Nat) × eH)} {RE : Int → fS → Option ((Unit ⊕ Nat) × fS)} {rN : Nat → eH → Option ((Int32 ⊕ Nat) × eH)} {RN : fS → Option ((Int ⊕ Nat) × fS)} {q : Int × fS} (hrE : ∀ {φ : Nat → Nat} {h : eH} {s : fS} {x1' : Int32} {x1 : Int} {q}, fC m 3 φ s φ h s → x1' = iI x1 → r32 x1 → RE x1 s = some q → gG m 3 φ s (lT lU) q (rE 22 x1' h)) (hrN : ∀ {φ : Nat → Nat} {h : eH} {s : fS} {q}, fC m 3 φ s φ h s → RN s = some q → gG m 3 φ s (lT lI) q (rN 22 h)) {φ : Nat → Nat} {h : eH} {s : fS} {p0' : Int32} {p0 : Int} {p1' : Int32} {p1 : Int} (R : fC m b φ0 σo φ h s) (ep0 : p0' = iI p0) (rp0 : r32 p0) (ep1 : p1' = iI p1) (rp1 : r32 p1) (hF : FX1_take N RE RN p0 p1 s = some q) : gG m b φ0 σo lI q (fX1_take N rE rN 0 p0' p1' h) := by
  subst ep0; subst ep1
  unfold FX1_take at hF
  unfold fX1_take
  refine s_if (i_le (c_lit 16 16 rfl) rfl ⟨by decide, by decide⟩ rp0) hF (fun c1 hF => ?_) (fun c1 hF => ?_)
  ·
    refine s_if (i_le (c_lit 18 18 rfl) rfl ⟨by decide, by decide⟩ rp0) hF (fun c2 hF => ?_) (fun c2 hF => ?_)
    ·
      refine s_gAs R (t_0 R.S) (Nat.le_of_ble_eq_true rfl) rfl (o_0_0 R.S) (a_1 R) ?_
      refine s_gO R (t_0 R.S) (Nat.le_of_ble_eq_true rfl) rfl (o_0_3 R.S) ?_
      refine s_gO R (t_4 R.S) (Nat.le_of_ble_eq_true rfl) rfl (o_4_5 R.S) ?_
      refine s_gO R (t_22 R.S) (Nat.le_of_ble_eq_true rfl) rfl (o_22_5 R.S) ?_
      refine s_gAs R (t_50 R.S) (Nat.le_of_ble_eq_true rfl) rfl (o_50_3 R.S) (a_51 R) ?_
      refine s_cp R (u_1 R.S).1 (u_51 R.S).1 (by rw [(u_51 R.S).2]; decide) (a_1 R) (a_51 R) (c_lit 0 0 rfl) ⟨by decide, by decide⟩ (c_lit 0 0 rfl) ⟨by decide, by decide⟩ rfl rp1 hF (fun h8 σ13 R8 T8 hF => ?_)
      refine s_gO R8 (t_0 R8.S) (Nat.le_of_ble_eq_true rfl) rfl (o_0_3 R8.S) ?_
      refine s_gO R8 (t_4 R8.S) (Nat.le_of_ble_eq_true rfl) rfl (o_4_5 R8.S) ?_
      refine s_gO R8 (t_22 R8.S) (Nat.le_of_ble_eq_true rfl) rfl (o_22_5 R8.S) ?_
      refine s_pI R8 (t_50 R8.S) (Nat.le_of_ble_eq_true rfl) rfl rfl rp1 hF (fun h12 σ21 R12 T12 hF => ?_)
      refine s_gO R12 (t_0 R12.S) (Nat.le_of_ble_eq_true rfl) rfl (o_0_3 R12.S) ?_
      refine s_gI R12 (t_0 R12.S) (Nat.le_of_ble_eq_true rfl) rfl ?_
      refine s_kok R12 (t_4 R12.S) (Nat.le_of_ble_eq_true rfl) ?_
      refine s_call R12 hb (fun _ hq => SX3_run (b := 3) (N := N) (rE := rE) (RE := RE) (rN := rN) (RN := RN) (Nat.le_of_ble_eq_true rfl) @hrE @hrN (R12.rf) rfl (R12.ri (t_0 R12.S) (Nat.le_of_ble_eq_true rfl) rfl) hq) hF (fun f16 rv16 h16 q28 R16 e16 E16 hF => ?_)
      exact g_ret R16 hF ⟨e16.1, e16.2⟩
    ·
      refine s_gO R (t_0 R.S) (Nat.le_of_ble_eq_true rfl) rfl (o_0_3 R.S) ?_
      refine s_gO R (t_4 R.S) (Nat.le_of_ble_eq_true rfl) rfl (o_4_7 R.S) ?_
      refine s_gAs R (t_0 R.S) (Nat.le_of_ble_eq_true rfl) rfl (o_0_0 R.S) (a_1 R) ?_
      refine s_if (not_congr (i_eq rfl (c_lit 17 17 rfl) rp0 ⟨by decide, by decide⟩)) hF (fun c20 hF => ?_) (fun c20 hF => ?_)
      ·
        exact SX1_take_b78 (N := N) (rE := rE) (RE := RE) (rN := rN) (RN := RN) (Nat.le_trans (Nat.le_of_ble_eq_true rfl) hb) @hrE @hrN R rfl rp1 (c_lit 0 0 rfl) ⟨by decide, by decide⟩ hF
      ·
        exact SX1_take_b78 (N := N) (rE := rE) (RE := RE) (rN := rN) (RN := RN) (Nat.le_trans (Nat.le_of_ble_eq_true rfl) hb) @hrE @hrN R rfl rp1 (c_lit 1 1 rfl) ⟨by decide, by decide⟩ hF
  ·
    refine s_gO R (t_0 R.S) (Nat.le_of_ble_eq_true rfl) rfl (o_0_2 R.S) ?_
    refine s_gAs R (t_0 R.S) (Nat.le_of_ble_eq_true rfl) rfl (o_0_0 R.S) (a_1 R) ?_
    refine s_kok R (t_2 R.S) (Nat.le_of_ble_eq_true rfl) ?_
    refine s_call R (Nat.zero_le _) (fun _ hq => SX2_take (b := 0) (R.rf) rfl rp1 hq) hF (fun f24 rv24 h24 q41 R24 e24 E24 hF => ?_)
    refine s_if (not_congr (i_eq e24.1 (c_lit 0 0 rfl) e24.2 ⟨by decide, by decide⟩)) hF (fun c25 hF => ?_) (fun c25 hF => ?_)
    ·
      refine s_gO R24 (t_0 R24.S) (Nat.le_of_ble_eq_true rfl) rfl (o_0_3 R24.S) ?_
      refine s_gO R24 (t_4 R24.S) (Nat.le_of_ble_eq_true rfl) rfl (o_4_1 R24.S) ?_
      refine s_gO R24 (t_0 R24.S) (Nat.le_of_ble_eq_true rfl) rfl (o_0_2 R24.S) ?_
      refine s_kok R24 (t_6 R24.S) (Nat.le_of_ble_eq_true rfl) ?_
      refine s_call R24 (Nat.zero_le _) (fun _ hq => SX5_load (b := 0) (N := N) (R24.rf) rfl rp0 hq) hF (fun f30 rv30 h30 q50 R30 e30 E30 hF => ?_)
      exact g_ret R30 hF ⟨e30.1, e30.2⟩
    ·
      refine s_if (i_le (c_lit 24 24 rfl) rfl ⟨by decide, by decide⟩ rp1) hF (fun c31 hF => ?_) (fun c31 hF => ?_)
      ·
        exact SX1_take_b32 (N := N) (rE := rE) (RE := RE) (rN := rN) (RN := RN) @hrE @hrN R24 (c_lit 4 4 rfl) ⟨by decide, by decide⟩ hF
      ·
        exact SX1_take_b32 (N := N) (rE := rE) (RE := RE) (rN := rN) (RN := RN) @hrE @hrN R24 (c_lit 1 1 rfl) ⟨by decide, by decide⟩ hF
def FX1_end_b22 (N : Nat) (RE : Int → fS → Option ((Unit ⊕ Nat) × fS)) (RN : fS → Option ((Int ⊕ Nat) × fS)) (s : fS) : Option ((Int ⊕ Nat) × fS) :=
  (uNX 50 s).bind fun q1 => some (.inr q1.1, q1.2)
theorem SX1_end_b22 {m b : Nat} {φ0 : Nat → Nat} {σo : fS} {N : Nat} {rE : Nat → Int32 → eH → Option ((Unit ⊕ Nat) × eH)} {RE : Int → fS → Option ((Unit ⊕ Nat) × fS)} {rN : Nat → eH → Option ((Int32 ⊕ Nat) × eH)} {RN : fS → Option ((Int ⊕ Nat) × fS)} {q : (Int ⊕ Nat) × fS} (hrE : ∀ {φ : Nat → Nat} {h : eH} {s : fS} {x1' : Int32} {x1 : Int} {q}, fC m 3 φ s φ h s → x1' = iI x1 → r32 x1 → RE x1 s = some q → gG m 3 φ s (lT lU) q (rE 22 x1' h)) (hrN : ∀ {φ : Nat → Nat} {h : eH} {s : fS} {q}, fC m 3 φ s φ h s → RN s = some q → gG m 3 φ s (lT lI) q (rN 22 h)) {φ : Nat → Nat} {h : eH} {s : fS} (R : fC m b φ0 σo φ h s) (hF : FX1_end_b22 N RE RN s = some q) : gG m b φ0 σo (lT lI) q (fX1_end_b22 N rE rN h) := by
  unfold FX1_end_b22 at hF
  unfold fX1_end_b22
  exact s_exc R (by decide) hF
def FX1_end (N : Nat) (RE : Int → fS → Option ((Unit ⊕ Nat) × fS)) (RN : fS → Option ((Int ⊕ Nat) × fS)) (p0 : Int) (p1 : Int) (s : fS) : Option ((Int ⊕ Nat) × fS) :=
  if p0 < 0 then
    FX1_end_b22 N RE RN s
  else
    if 18 < p0 then
      FX1_end_b22 N RE RN s
    else
      if p1 < 0 then
        FX1_end_b22 N RE RN s
      else
        if p1 ≤ (s.i 0 1) then
          (FX1_take N RE RN p0 p1 s).bind fun q8 =>
          (uPI q8.2 0 1 0).bind fun σ9 =>
          some (.inl q8.1, σ9)
        else
          FX1_end_b22 N RE RN s
theorem SX1_end {m b : Nat} {φ0 : Nat → Nat} {σo : fS} (hb : 3 ≤ b) {N : Nat} {rE : Nat → Int32 → eH → Option ((Unit ⊕ Nat) × eH)} {RE : Int → fS → Option ((Unit ⊕ Nat) × fS)} {rN : Nat → eH → Option ((Int32 ⊕ Nat) × eH)} {RN : fS → Option ((Int ⊕ Nat) × fS)} {q : (Int ⊕ Nat) × fS} (hrE : ∀ {φ : Nat → Nat} {h : eH} {s : fS} {x1' : Int32} {x1 : Int} {q}, fC m 3 φ s φ h s → x1' = iI x1 → r32 x1 → RE x1 s = some q → gG m 3 φ s (lT lU) q (rE 22 x1' h)) (hrN : ∀ {φ : Nat → Nat} {h : eH} {s : fS} {q}, fC m 3 φ s φ h s → RN s = some q → gG m 3 φ s (lT lI) q (rN 22 h)) {φ : Nat → Nat} {h : eH} {s : fS} {p0' : Int32} {p0 : Int} {p1' : Int32} {p1 : Int} (R : fC m b φ0 σo φ h s) (ep0 : p0' = iI p0) (rp0 : r32 p0) (ep1 : p1' = iI p1) (rp1 : r32 p1) (hF : FX1_end N RE RN p0 p1 s = some q) : gG m b φ0 σo (lT lI) q (fX1_end N rE rN 0 p0' p1' h) := by
  subst ep0; subst ep1
  unfold FX1_end at hF
  unfold fX1_end
  refine s_if (i_lt rfl (c_lit 0 0 rfl) rp0 ⟨by decide, by decide⟩) hF (fun c1 hF => ?_) (fun c1 hF => ?_)
  ·
    exact SX1_end_b22 (N := N) (rE := rE) (RE := RE) (rN := rN) (RN := RN) @hrE @hrN R hF
  ·
    refine s_if (i_lt (c_lit 18 18 rfl) rfl ⟨by decide, by decide⟩ rp0) hF (fun c2 hF => ?_) (fun c2 hF => ?_)
    ·
      exact SX1_end_b22 (N := N) (rE := rE) (RE := RE) (rN := rN) (RN := RN) @hrE @hrN R hF
    ·
      refine s_if (i_lt rfl (c_lit 0 0 rfl) rp1 ⟨by decide, by decide⟩) hF (fun c3 hF => ?_) (fun c3 hF => ?_)
      ·
        exact SX1_end_b22 (N := N) (rE := rE) (RE := RE) (rN := rN) (RN := RN) @hrE @hrN R hF
      ·
        refine s_gI R (t_0 R.S) (Nat.le_of_ble_eq_true rfl) rfl ?_
        refine s_if (i_le rfl rfl rp1 (R.ri (t_0 R.S) (Nat.le_of_ble_eq_true rfl) rfl)) hF (fun c5 hF => ?_) (fun c5 hF => ?_)
        ·
          refine s_kok R (t_0 R.S) (Nat.le_of_ble_eq_true rfl) ?_
          refine s_call R hb (fun _ hq => SX1_take (b := 3) (N := N) (rE := rE) (RE := RE) (rN := rN) (RN := RN) (Nat.le_of_ble_eq_true rfl) @hrE @hrN (R.rf) rfl rp0 rfl rp1 hq) hF (fun f7 rv7 h7 q8 R7 e7 E7 hF => ?_)
          refine s_pI R7 (t_0 R7.S) (Nat.le_of_ble_eq_true rfl) rfl (c_lit 0 0 rfl) ⟨by decide, by decide⟩ hF (fun h8 σ9 R8 T8 hF => ?_)
          exact g_ret R8 hF ⟨e7.1, e7.2⟩
        ·
          exact SX1_end_b22 (N := N) (rE := rE) (RE := RE) (rN := rN) (RN := RN) @hrE @hrN R hF
def FX1_lay_b3 (N : Nat) : Nat → Int → Int → fS → Option (Unit × fS)
  | 0, _, _, _ => none
  | n + 1, l1, l2, s =>
    if l2 < 0 then
      some ((), s)
    else
      (uPI s 0 1 (iadd (s.i 0 1) 1)).bind fun σ6 =>
      (uQI σ6 1 (s.i 0 1) (i2b (i2b (ishr l1 l2)))).bind fun σ8 =>
      FX1_lay_b3 N n l1 (iadd l2 (-8)) σ8
theorem SX1_lay_b3 {m b : Nat} {φ0 : Nat → Nat} {σo : fS} {N : Nat} {q : Unit × fS} : ∀ {n : Nat} {φ : Nat → Nat} {h : eH} {s : fS} {l1' : Int32} {l1 : Int} {l2' : Int32} {l2 : Int}, fC m b φ0 σo φ h s → l1' = iI l1 → r32 l1 → l2' = iI l2 → r32 l2 → FX1_lay_b3 N n l1 l2 s = some q → gG m b φ0 σo lU q (fX1_lay_b3 N n 0 l1' l2' h) := by
  intro n
  induction n with
 | zero => intro φ h s l1' l1 l2' l2 R el1 rl1 el2 rl2 hF; simp [FX1_lay_b3] at hF
  | succ n ih =>
    intro φ h s l1' l1 l2' l2 R el1 rl1 el2 rl2 hF
    subst el1; subst el2
    rw [FX1_lay_b3] at hF
    rw [fX1_lay_b3]
    refine s_if (i_lt rfl (c_lit 0 0 rfl) rl2 ⟨by decide, by decide⟩) hF (fun c1 hF => ?_) (fun c1 hF => ?_)
    ·
      exact g_ret R hF trivial
    ·
      refine s_gAs R (t_0 R.S) (Nat.le_of_ble_eq_true rfl) rfl (o_0_0 R.S) (a_1 R) ?_
      refine s_gI R (t_0 R.S) (Nat.le_of_ble_eq_true rfl) rfl ?_
      refine s_pI R (t_0 R.S) (Nat.le_of_ble_eq_true rfl) rfl (c_add rfl (c_lit 1 1 rfl)) (rr_I _) hF (fun h4 σ6 R4 T4 hF => ?_)
      refine s_qI R4 (u_1 R4.S).1 (u_1 R4.S).2 (by decide) (a_1 R4) rfl (R.ri (t_0 R.S) (Nat.le_of_ble_eq_true rfl) rfl) (c_2b (c_2b (c_shr rfl rfl))) (rr_I _) hF (fun h5 σ8 R5 T5 hF => ?_)
      exact ih R5 rfl rl1 (c_add rfl (c_lit (-8) (-8) rfl)) (rr_I _) hF
def FX1_lay (N : Nat) (p0 : Int) (s : fS) : Option (Unit × fS) :=
  FX1_lay_b3 N N p0 24 s
theorem SX1_lay {m b : Nat} {φ0 : Nat → Nat} {σo : fS} {N : Nat} {q : Unit × fS} {φ : Nat → Nat} {h : eH} {s : fS} {p0' : Int32} {p0 : Int} (R : fC m b φ0 σo φ h s) (ep0 : p0' = iI p0) (rp0 : r32 p0) (hF : FX1_lay N p0 s = some q) : gG m b φ0 σo lU q (fX1_lay N 0 p0' h) := by
  subst ep0
  unfold FX1_lay at hF
  unfold fX1_lay
  exact SX1_lay_b3 (N := N) R rfl rp0 (c_lit 24 24 rfl) ⟨by decide, by decide⟩ hF
def FX1_feed (N : Nat) (p0 : Int) (p1 : Int) (p2 : Int) (p3 : Int) (p4 : Int) (s : fS) : Option ((Unit ⊕ Nat) × fS) :=
  if (iadd (s.i 0 1) 20) ≤ 65536 then
    (FX1_lay N p0 s).bind fun q5 =>
    (FX1_lay N p1 q5.2).bind fun q7 =>
    (FX1_lay N p2 q7.2).bind fun q9 =>
    (FX1_lay N p3 q9.2).bind fun q11 =>
    (FX1_lay N p4 q11.2).bind fun q13 =>
    some (.inl (), q13.2)
  else
    (uNX 51 s).bind fun q1 => some (.inr q1.1, q1.2)
theorem SX1_feed {m b : Nat} {φ0 : Nat → Nat} {σo : fS} {N : Nat} {q : (Unit ⊕ Nat) × fS} {φ : Nat → Nat} {h : eH} {s : fS} {p0' : Int32} {p0 : Int} {p1' : Int32} {p1 : Int} {p2' : Int32} {p2 : Int} {p3' : Int32} {p3 : Int} {p4' : Int32} {p4 : Int} (R : fC m b φ0 σo φ h s) (ep0 : p0' = iI p0) (rp0 : r32 p0) (ep1 : p1' = iI p1) (rp1 : r32 p1) (ep2 : p2' = iI p2) (rp2 : r32 p2) (ep3 : p3' = iI p3) (rp3 : r32 p3) (ep4 : p4' = iI p4) (rp4 : r32 p4) (hF : FX1_feed N p0 p1 p2 p3 p4 s = some q) : gG m b φ0 σo (lT lU) q (fX1_feed N 0 p0' p1' p2' p3' p4' h) := by
  subst ep0; subst ep1; subst ep2; subst ep3; subst ep4
  unfold FX1_feed at hF
  unfold fX1_feed
  refine s_gI R (t_0 R.S) (Nat.le_of_ble_eq_true rfl) rfl ?_
  refine s_if (i_le (c_add rfl (c_lit 20 20 rfl)) (c_lit 65536 65536 rfl) (rr_I _) ⟨by decide, by decide⟩) hF (fun c2 hF => ?_) (fun c2 hF => ?_)
  ·
    refine s_kok R (t_0 R.S) (Nat.le_of_ble_eq_true rfl) ?_
    refine s_call R (Nat.zero_le _) (fun _ hq => SX1_lay (b := 0) (N := N) (R.rf) rfl rp0 hq) hF (fun f4 rv4 h4 q5 R4 e4 E4 hF => ?_)
    refine s_kok R4 (t_0 R4.S) (Nat.le_of_ble_eq_true rfl) ?_
    refine s_call R4 (Nat.zero_le _) (fun _ hq => SX1_lay (b := 0) (N := N) (R4.rf) rfl rp1 hq) hF (fun f6 rv6 h6 q7 R6 e6 E6 hF => ?_)
    refine s_kok R6 (t_0 R6.S) (Nat.le_of_ble_eq_true rfl) ?_
    refine s_call R6 (Nat.zero_le _) (fun _ hq => SX1_lay (b := 0) (N := N) (R6.rf) rfl rp2 hq) hF (fun f8 rv8 h8 q9 R8 e8 E8 hF => ?_)
    refine s_kok R8 (t_0 R8.S) (Nat.le_of_ble_eq_true rfl) ?_
    refine s_call R8 (Nat.zero_le _) (fun _ hq => SX1_lay (b := 0) (N := N) (R8.rf) rfl rp3 hq) hF (fun f10 rv10 h10 q11 R10 e10 E10 hF => ?_)
    refine s_kok R10 (t_0 R10.S) (Nat.le_of_ble_eq_true rfl) ?_
    refine s_call R10 (Nat.zero_le _) (fun _ hq => SX1_lay (b := 0) (N := N) (R10.rf) rfl rp4 hq) hF (fun f12 rv12 h12 q13 R12 e12 E12 hF => ?_)
    exact g_ret R12 hF trivial
  ·
    exact s_exc R (by decide) hF
def FX1_fuel_b10 (s : fS) : Option ((Unit ⊕ Nat) × fS) :=
  (uNX 50 s).bind fun q1 => some (.inr q1.1, q1.2)
theorem SX1_fuel_b10 {m b : Nat} {φ0 : Nat → Nat} {σo : fS} {q : (Unit ⊕ Nat) × fS} {φ : Nat → Nat} {h : eH} {s : fS} (R : fC m b φ0 σo φ h s) (hF : FX1_fuel_b10 s = some q) : gG m b φ0 σo (lT lU) q (fX1_fuel_b10 h) := by
  unfold FX1_fuel_b10 at hF
  unfold fX1_fuel_b10
  exact s_exc R (by decide) hF
def FX1_fuel (p0 : Int) (s : fS) : Option ((Unit ⊕ Nat) × fS) :=
  if p0 < 0 then
    FX1_fuel_b10 s
  else
    if p0 ≤ 200000 then
      (uPI s 0 4 p0).bind fun σ3 =>
      some (.inl (), σ3)
    else
      FX1_fuel_b10 s
theorem SX1_fuel {m b : Nat} {φ0 : Nat → Nat} {σo : fS} {q : (Unit ⊕ Nat) × fS} {φ : Nat → Nat} {h : eH} {s : fS} {p0' : Int32} {p0 : Int} (R : fC m b φ0 σo φ h s) (ep0 : p0' = iI p0) (rp0 : r32 p0) (hF : FX1_fuel p0 s = some q) : gG m b φ0 σo (lT lU) q (fX1_fuel 0 p0' h) := by
  subst ep0
  unfold FX1_fuel at hF
  unfold fX1_fuel
  refine s_if (i_lt rfl (c_lit 0 0 rfl) rp0 ⟨by decide, by decide⟩) hF (fun c1 hF => ?_) (fun c1 hF => ?_)
  ·
    exact SX1_fuel_b10 R hF
  ·
    refine s_if (i_le rfl (c_lit 200000 200000 rfl) rp0 ⟨by decide, by decide⟩) hF (fun c2 hF => ?_) (fun c2 hF => ?_)
    ·
      refine s_pI R (t_0 R.S) (Nat.le_of_ble_eq_true rfl) rfl rfl rp0 hF (fun h3 σ3 R3 T3 hF => ?_)
      exact g_ret R3 hF trivial
    ·
      exact SX1_fuel_b10 R hF
def FX32_at (p0 : Int) (s : fS) : Option (Int × fS) :=
  (uRI s 155 p0).bind fun x3 =>
  some ((iand x3 255), s)
theorem SX32_at {m b : Nat} {φ0 : Nat → Nat} {σo : fS} {q : Int × fS} {φ : Nat → Nat} {h : eH} {s : fS} {p0' : Int32} {p0 : Int} (R : fC m b φ0 σo φ h s) (ep0 : p0' = iI p0) (rp0 : r32 p0) (hF : FX32_at p0 s = some q) : gG m b φ0 σo lI q (fX32_at 154 p0' h) := by
  subst ep0
  unfold FX32_at at hF
  unfold fX32_at
  refine s_gAs R (t_154 R.S) (Nat.le_of_ble_eq_true rfl) rfl (o_154_0 R.S) (a_155 R) ?_
  refine s_rI R (u_155 R.S).1 (u_155 R.S).2 (by decide) (a_155 R) rfl rp0 hF (fun x3 ra2 hF => ?_)
  exact g_ret R hF ⟨(c_and rfl (c_lit 255 255 rfl)), (rr_I _)⟩
def FX1_out_b21 (s : fS) : Option ((Int ⊕ Nat) × fS) :=
  (uNX 52 s).bind fun q1 => some (.inr q1.1, q1.2)
theorem SX1_out_b21 {m b : Nat} {φ0 : Nat → Nat} {σo : fS} {q : (Int ⊕ Nat) × fS} {φ : Nat → Nat} {h : eH} {s : fS} (R : fC m b φ0 σo φ h s) (hF : FX1_out_b21 s = some q) : gG m b φ0 σo (lT lI) q (fX1_out_b21 h) := by
  unfold FX1_out_b21 at hF
  unfold fX1_out_b21
  exact s_exc R (by decide) hF
def FX1_out (p0 : Int) (s : fS) : Option ((Int ⊕ Nat) × fS) :=
  if p0 < 0 then
    FX1_out_b21 s
  else
    if p0 < (s.i 154 1) then
      (FX32_at p0 s).bind fun q18 =>
      some (.inl q18.1, q18.2)
    else
      FX1_out_b21 s
theorem SX1_out {m b : Nat} {φ0 : Nat → Nat} {σo : fS} {q : (Int ⊕ Nat) × fS} {φ : Nat → Nat} {h : eH} {s : fS} {p0' : Int32} {p0 : Int} (R : fC m b φ0 σo φ h s) (ep0 : p0' = iI p0) (rp0 : r32 p0) (hF : FX1_out p0 s = some q) : gG m b φ0 σo (lT lI) q (fX1_out 0 p0' h) := by
  subst ep0
  unfold FX1_out at hF
  unfold fX1_out
  refine s_if (i_lt rfl (c_lit 0 0 rfl) rp0 ⟨by decide, by decide⟩) hF (fun c1 hF => ?_) (fun c1 hF => ?_)
  ·
    exact SX1_out_b21 R hF
  ·
    refine s_gO R (t_0 R.S) (Nat.le_of_ble_eq_true rfl) rfl (o_0_3 R.S) ?_
    refine s_gO R (t_4 R.S) (Nat.le_of_ble_eq_true rfl) rfl (o_4_15 R.S) ?_
    refine s_gO R (t_153 R.S) (Nat.le_of_ble_eq_true rfl) rfl (o_153_1 R.S) ?_
    refine s_gI R (t_154 R.S) (Nat.le_of_ble_eq_true rfl) rfl ?_
    refine s_if (i_lt rfl rfl rp0 (R.ri (t_154 R.S) (Nat.le_of_ble_eq_true rfl) rfl)) hF (fun c6 hF => ?_) (fun c6 hF => ?_)
    ·
      refine s_gO R (t_0 R.S) (Nat.le_of_ble_eq_true rfl) rfl (o_0_3 R.S) ?_
      refine s_gO R (t_4 R.S) (Nat.le_of_ble_eq_true rfl) rfl (o_4_15 R.S) ?_
      refine s_gO R (t_153 R.S) (Nat.le_of_ble_eq_true rfl) rfl (o_153_1 R.S) ?_
      refine s_kok R (t_154 R.S) (Nat.le_of_ble_eq_true rfl) ?_
      refine s_call R (Nat.zero_le _) (fun _ hq => SX32_at (b := 0) (R.rf) rfl rp0 hq) hF (fun f11 rv11 h11 q18 R11 e11 E11 hF => ?_)
      exact g_ret R11 hF ⟨e11.1, e11.2⟩
    ·
      exact SX1_out_b21 R hF
def FX1_size (s : fS) : Option (Int × fS) :=
  some ((s.i 154 1), s)
theorem SX1_size {m b : Nat} {φ0 : Nat → Nat} {σo : fS} {q : Int × fS} {φ : Nat → Nat} {h : eH} {s : fS} (R : fC m b φ0 σo φ h s) (hF : FX1_size s = some q) : gG m b φ0 σo lI q (fX1_size 0 h) := by
  unfold FX1_size at hF
  unfold fX1_size
  refine s_gO R (t_0 R.S) (Nat.le_of_ble_eq_true rfl) rfl (o_0_3 R.S) ?_
  refine s_gO R (t_4 R.S) (Nat.le_of_ble_eq_true rfl) rfl (o_4_15 R.S) ?_
  refine s_gO R (t_153 R.S) (Nat.le_of_ble_eq_true rfl) rfl (o_153_1 R.S) ?_
  refine s_gI R (t_154 R.S) (Nat.le_of_ble_eq_true rfl) rfl ?_
  exact g_ret R hF ⟨rfl, (R.ri (t_154 R.S) (Nat.le_of_ble_eq_true rfl) rfl)⟩
def FX12_areAlike_b117 (N : Nat) (K70 : Int → Int → Int → Int → Int → fS → Option (Int × fS)) (l1 : Int) (l2 : Int) (l3 : Int) (l5 : Int) (s0 : Int) (s : fS) : Option (Int × fS) :=
  K70 l1 l2 l3 s0 (iadd l5 1) s
theorem SX12_areAlike_b117 {m b : Nat} {φ0 : Nat → Nat} {σo : fS} {N : Nat} {k70 : Nat → Int32 → Int32 → Int32 → Int32 → Int32 → eH → Option (Int32 × eH)} {K70 : Int → Int → Int → Int → Int → fS → Option (Int × fS)} {q : Int × fS} (hk70 : ∀ {φ : Nat → Nat} {h : eH} {s : fS} {l1' : Int32} {l1 : Int} {l2' : Int32} {l2 : Int} {l3' : Int32} {l3 : Int} {l4' : Int32} {l4 : Int} {l5' : Int32} {l5 : Int}, fC m b φ0 σo φ h s → l1' = iI l1 → r32 l1 → l2' = iI l2 → r32 l2 → l3' = iI l3 → r32 l3 → l4' = iI l4 → r32 l4 → l5' = iI l5 → r32 l5 → K70 l1 l2 l3 l4 l5 s = some q → gG m b φ0 σo lI q (k70 52 l1' l2' l3' l4' l5' h)) {φ : Nat → Nat} {h : eH} {s : fS} {l1' : Int32} {l1 : Int} {l2' : Int32} {l2 : Int} {l3' : Int32} {l3 : Int} {l5' : Int32} {l5 : Int} {s0' : Int32} {s0 : Int} (R : fC m b φ0 σo φ h s) (el1 : l1' = iI l1) (rl1 : r32 l1) (el2 : l2' = iI l2) (rl2 : r32 l2) (el3 : l3' = iI l3) (rl3 : r32 l3) (el5 : l5' = iI l5) (rl5 : r32 l5) (es0 : s0' = iI s0) (rs0 : r32 s0) (hF : FX12_areAlike_b117 N K70 l1 l2 l3 l5 s0 s = some q) : gG m b φ0 σo lI q (fX12_areAlike_b117 N k70 52 l1' l2' l3' l5' s0' h) := by
  subst el1; subst el2; subst el3; subst el5; subst es0
  unfold FX12_areAlike_b117 at hF
  unfold fX12_areAlike_b117
  exact hk70 R rfl rl1 rfl rl2 rfl rl3 rfl rs0 (c_add rfl (c_lit 1 1 rfl)) (rr_I _) hF
def FX12_areAlike_b125 (N : Nat) (l4 : Int) (s : fS) : Option (Int × fS) :=
  uZ l4 (l4, s)
theorem SX12_areAlike_b125 {m b : Nat} {φ0 : Nat → Nat} {σo : fS} {N : Nat} {q : Int × fS} {φ : Nat → Nat} {h : eH} {s : fS} {l4' : Int32} {l4 : Int} (R : fC m b φ0 σo φ h s) (el4 : l4' = iI l4) (rl4 : r32 l4) (hF : FX12_areAlike_b125 N l4 s = some q) : gG m b φ0 σo lI q (fX12_areAlike_b125 N l4' h) := by
  subst el4
  unfold FX12_areAlike_b125 at hF
  unfold fX12_areAlike_b125
  exact g_z R rfl hF ⟨rfl, rl4⟩
def FX12_areAlike_b70 (N : Nat) : Nat → Int → Int → Int → Int → Int → fS → Option (Int × fS)
  | 0, _, _, _, _, _, _ => none
  | n + 1, l1, l2, l3, l4, l5, s =>
    if l4 = 0 then
      FX12_areAlike_b125 N l4 s
    else
      if l3 ≤ l5 then
        FX12_areAlike_b125 N l4 s
      else
        (uRI s 54 l1).bind fun x7 =>
        (uRI s 53 (iadd x7 l5)).bind fun x9 =>
        (uRI s 54 l2).bind fun x15 =>
        (uRI s 53 (iadd x15 l5)).bind fun x17 =>
        if ¬ (x9 = x17) then
          FX12_areAlike_b117 N (FX12_areAlike_b70 N n) l1 l2 l3 l5 0 s
        else
          FX12_areAlike_b117 N (FX12_areAlike_b70 N n) l1 l2 l3 l5 1 s
theorem SX12_areAlike_b70 {m b : Nat} {φ0 : Nat → Nat} {σo : fS} {N : Nat} {q : Int × fS} : ∀ {n : Nat} {φ : Nat → Nat} {h : eH} {s : fS} {l1' : Int32} {l1 : Int} {l2' : Int32} {l2 : Int} {l3' : Int32} {l3 : Int} {l4' : Int32} {l4 : Int} {l5' : Int32} {l5 : Int}, fC m b φ0 σo φ h s → l1' = iI l1 → r32 l1 → l2' = iI l2 → r32 l2 → l3' = iI l3 → r32 l3 → l4' = iI l4 → r32 l4 → l5' = iI l5 → r32 l5 → FX12_areAlike_b70 N n l1 l2 l3 l4 l5 s = some q → gG m b φ0 σo lI q (fX12_areAlike_b70 N n 52 l1' l2' l3' l4' l5' h) := by
  intro n
  induction n with
 | zero => intro φ h s l1' l1 l2' l2 l3' l3 l4' l4 l5' l5 R el1 rl1 el2 rl2 el3 rl3 el4 rl4 el5 rl5 hF; simp [FX12_areAlike_b70] at hF
  | succ n ih =>
    intro φ h s l1' l1 l2' l2 l3' l3 l4' l4 l5' l5 R el1 rl1 el2 rl2 el3 rl3 el4 rl4 el5 rl5 hF
    subst el1; subst el2; subst el3; subst el4; subst el5
    rw [FX12_areAlike_b70] at hF
    rw [fX12_areAlike_b70]
    refine s_if (i_eq rfl (c_lit 0 0 rfl) rl4 ⟨by decide, by decide⟩) hF (fun c1 hF => ?_) (fun c1 hF => ?_)
    ·
      exact SX12_areAlike_b125 (N := N) R rfl rl4 hF
    ·
      refine s_if (i_le rfl rfl rl3 rl5) hF (fun c2 hF => ?_) (fun c2 hF => ?_)
      ·
        exact SX12_areAlike_b125 (N := N) R rfl rl4 hF
      ·
        refine s_gAs R (t_52 R.S) (Nat.le_of_ble_eq_true rfl) rfl (o_52_1 R.S) (a_53 R) ?_
        refine s_gA R (t_52 R.S) (Nat.le_of_ble_eq_true rfl) rfl (o_52_3 R.S) (fun _ _ => ?_)
        refine s_rI R (u_54 R.S).1 (u_54 R.S).2 (by decide) rfl rfl rl1 hF (fun x7 ra5 hF => ?_)
        refine s_rI R (u_53 R.S).1 (u_53 R.S).2 (by decide) (a_53 R) (c_add rfl rfl) (rr_I _) hF (fun x9 ra6 hF => ?_)
        refine s_gAs R (t_52 R.S) (Nat.le_of_ble_eq_true rfl) rfl (o_52_1 R.S) (a_53 R) ?_
        refine s_gA R (t_52 R.S) (Nat.le_of_ble_eq_true rfl) rfl (o_52_3 R.S) (fun _ _ => ?_)
        refine s_rI R (u_54 R.S).1 (u_54 R.S).2 (by decide) rfl rfl rl2 hF (fun x15 ra9 hF => ?_)
        refine s_rI R (u_53 R.S).1 (u_53 R.S).2 (by decide) (a_53 R) (c_add rfl rfl) (rr_I _) hF (fun x17 ra10 hF => ?_)
        refine s_if (not_congr (i_eq rfl rfl ra6 ra10)) hF (fun c11 hF => ?_) (fun c11 hF => ?_)
        ·
          exact SX12_areAlike_b117 (N := N) (k70 := fX12_areAlike_b70 N n) (K70 := FX12_areAlike_b70 N n) @ih R rfl rl1 rfl rl2 rfl rl3 rfl rl5 (c_lit 0 0 rfl) ⟨by decide, by decide⟩ hF
        ·
          exact SX12_areAlike_b117 (N := N) (k70 := fX12_areAlike_b70 N n) (K70 := FX12_areAlike_b70 N n) @ih R rfl rl1 rfl rl2 rfl rl3 rfl rl5 (c_lit 1 1 rfl) ⟨by decide, by decide⟩ hF
def FX12_areAlike_b65 (N : Nat) (l1 : Int) (l2 : Int) (l3 : Int) (s0 : Int) (s : fS) : Option (Int × fS) :=
  FX12_areAlike_b70 N N l1 l2 l3 s0 0 s
theorem SX12_areAlike_b65 {m b : Nat} {φ0 : Nat → Nat} {σo : fS} {N : Nat} {q : Int × fS} {φ : Nat → Nat} {h : eH} {s : fS} {l1' : Int32} {l1 : Int} {l2' : Int32} {l2 : Int} {l3' : Int32} {l3 : Int} {s0' : Int32} {s0 : Int} (R : fC m b φ0 σo φ h s) (el1 : l1' = iI l1) (rl1 : r32 l1) (el2 : l2' = iI l2) (rl2 : r32 l2) (el3 : l3' = iI l3) (rl3 : r32 l3) (es0 : s0' = iI s0) (rs0 : r32 s0) (hF : FX12_areAlike_b65 N l1 l2 l3 s0 s = some q) : gG m b φ0 σo lI q (fX12_areAlike_b65 N 52 l1' l2' l3' s0' h) := by
  subst el1; subst el2; subst el3; subst es0
  unfold FX12_areAlike_b65 at hF
  unfold fX12_areAlike_b65
  exact SX12_areAlike_b70 (N := N) R rfl rl1 rfl rl2 rfl rl3 rfl rs0 (c_lit 0 0 rfl) ⟨by decide, by decide⟩ hF
def FX12_areAlike_b64 (N : Nat) (l1 : Int) (l2 : Int) (l3 : Int) (s : fS) : Option (Int × fS) :=
  FX12_areAlike_b65 N l1 l2 l3 0 s
theorem SX12_areAlike_b64 {m b : Nat} {φ0 : Nat → Nat} {σo : fS} {N : Nat} {q : Int × fS} {φ : Nat → Nat} {h : eH} {s : fS} {l1' : Int32} {l1 : Int} {l2' : Int32} {l2 : Int} {l3' : Int32} {l3 : Int} (R : fC m b φ0 σo φ h s) (el1 : l1' = iI l1) (rl1 : r32 l1) (el2 : l2' = iI l2) (rl2 : r32 l2) (el3 : l3' = iI l3) (rl3 : r32 l3) (hF : FX12_areAlike_b64 N l1 l2 l3 s = some q) : gG m b φ0 σo lI q (fX12_areAlike_b64 N 52 l1' l2' l3' h) := by
  subst el1; subst el2; subst el3
  unfold FX12_areAlike_b64 at hF
  unfold fX12_areAlike_b64
  exact SX12_areAlike_b65 (N := N) R rfl rl1 rfl rl2 rfl rl3 (c_lit 0 0 rfl) ⟨by decide, by decide⟩ hF
def FX12_areAlike (N : Nat) (p0 : Int) (p1 : Int) (s : fS) : Option (Int × fS) :=
  (uRI s 56 p0).bind fun x3 =>
  (uRI s 54 p0).bind fun x7 =>
  (uRI s 56 p1).bind fun x11 =>
  (uRI s 54 p1).bind fun x15 =>
  if ¬ ((isub x11 x15) = (isub x3 x7)) then
    FX12_areAlike_b64 N p0 p1 (isub x3 x7) s
  else
    (uRI s 55 p1).bind fun x20 =>
    (uRI s 54 p1).bind fun x24 =>
    (uRI s 55 p0).bind fun x28 =>
    (uRI s 54 p0).bind fun x32 =>
    if ¬ ((isub x20 x24) = (isub x28 x32)) then
      FX12_areAlike_b64 N p0 p1 (isub x3 x7) s
    else
      FX12_areAlike_b65 N p0 p1 (isub x3 x7) 1 s
theorem SX12_areAlike {m b : Nat} {φ0 : Nat → Nat} {σo : fS} {N : Nat} {q : Int × fS} {φ : Nat → Nat} {h : eH} {s : fS} {p0' : Int32} {p0 : Int} {p1' : Int32} {p1 : Int} (R : fC m b φ0 σo φ h s) (ep0 : p0' = iI p0) (rp0 : r32 p0) (ep1 : p1' = iI p1) (rp1 : r32 p1) (hF : FX12_areAlike N p0 p1 s = some q) : gG m b φ0 σo lI q (fX12_areAlike N 52 p0' p1' h) := by
  subst ep0; subst ep1
  unfold FX12_areAlike at hF
  unfold fX12_areAlike
  refine s_gA R (t_52 R.S) (Nat.le_of_ble_eq_true rfl) rfl (o_52_5 R.S) (fun _ _ => ?_)
  refine s_rI R (u_56 R.S).1 (u_56 R.S).2 (by decide) rfl rfl rp0 hF (fun x3 ra2 hF => ?_)
  refine s_gA R (t_52 R.S) (Nat.le_of_ble_eq_true rfl) rfl (o_52_3 R.S) (fun _ _ => ?_)
  refine s_rI R (u_54 R.S).1 (u_54 R.S).2 (by decide) rfl rfl rp0 hF (fun x7 ra4 hF => ?_)
  refine s_gA R (t_52 R.S) (Nat.le_of_ble_eq_true rfl) rfl (o_52_5 R.S) (fun _ _ => ?_)
  refine s_rI R (u_56 R.S).1 (u_56 R.S).2 (by decide) rfl rfl rp1 hF (fun x11 ra6 hF => ?_)
  refine s_gA R (t_52 R.S) (Nat.le_of_ble_eq_true rfl) rfl (o_52_3 R.S) (fun _ _ => ?_)
  refine s_rI R (u_54 R.S).1 (u_54 R.S).2 (by decide) rfl rfl rp1 hF (fun x15 ra8 hF => ?_)
  refine s_if (not_congr (i_eq (c_sub rfl rfl) (c_sub rfl rfl) (rr_I _) (rr_I _))) hF (fun c9 hF => ?_) (fun c9 hF => ?_)
  ·
    exact SX12_areAlike_b64 (N := N) R rfl rp0 rfl rp1 (c_sub rfl rfl) (rr_I _) hF
  ·
    refine s_gA R (t_52 R.S) (Nat.le_of_ble_eq_true rfl) rfl (o_52_4 R.S) (fun _ _ => ?_)
    refine s_rI R (u_55 R.S).1 (u_55 R.S).2 (by decide) rfl rfl rp1 hF (fun x20 ra11 hF => ?_)
    refine s_gA R (t_52 R.S) (Nat.le_of_ble_eq_true rfl) rfl (o_52_3 R.S) (fun _ _ => ?_)
    refine s_rI R (u_54 R.S).1 (u_54 R.S).2 (by decide) rfl rfl rp1 hF (fun x24 ra13 hF => ?_)
    refine s_gA R (t_52 R.S) (Nat.le_of_ble_eq_true rfl) rfl (o_52_4 R.S) (fun _ _ => ?_)
    refine s_rI R (u_55 R.S).1 (u_55 R.S).2 (by decide) rfl rfl rp0 hF (fun x28 ra15 hF => ?_)
    refine s_gA R (t_52 R.S) (Nat.le_of_ble_eq_true rfl) rfl (o_52_3 R.S) (fun _ _ => ?_)
    refine s_rI R (u_54 R.S).1 (u_54 R.S).2 (by decide) rfl rfl rp0 hF (fun x32 ra17 hF => ?_)
    refine s_if (not_congr (i_eq (c_sub rfl rfl) (c_sub rfl rfl) (rr_I _) (rr_I _))) hF (fun c18 hF => ?_) (fun c18 hF => ?_)
    ·
      exact SX12_areAlike_b64 (N := N) R rfl rp0 rfl rp1 (c_sub rfl rfl) (rr_I _) hF
    ·
      exact SX12_areAlike_b65 (N := N) R rfl rp0 rfl rp1 (c_sub rfl rfl) (rr_I _) (c_lit 1 1 rfl) ⟨by decide, by decide⟩ hF
def FX8_areAlike_b68 (N : Nat) (s0 : Int) (s : fS) : Option (Int × fS) :=
  uZ s0 (s0, s)
theorem SX8_areAlike_b68 {m b : Nat} {φ0 : Nat → Nat} {σo : fS} {N : Nat} {q : Int × fS} {φ : Nat → Nat} {h : eH} {s : fS} {s0' : Int32} {s0 : Int} (R : fC m b φ0 σo φ h s) (es0 : s0' = iI s0) (rs0 : r32 s0) (hF : FX8_areAlike_b68 N s0 s = some q) : gG m b φ0 σo lI q (fX8_areAlike_b68 N s0' h) := by
  subst es0
  unfold FX8_areAlike_b68 at hF
  unfold fX8_areAlike_b68
  exact g_z R rfl hF ⟨rfl, rs0⟩
def FX8_areAlike_b63 (N : Nat) (s : fS) : Option (Int × fS) :=
  FX8_areAlike_b68 N 1 s
theorem SX8_areAlike_b63 {m b : Nat} {φ0 : Nat → Nat} {σo : fS} {N : Nat} {q : Int × fS} {φ : Nat → Nat} {h : eH} {s : fS} (R : fC m b φ0 σo φ h s) (hF : FX8_areAlike_b63 N s = some q) : gG m b φ0 σo lI q (fX8_areAlike_b63 N h) := by
  unfold FX8_areAlike_b63 at hF
  unfold fX8_areAlike_b63
  exact SX8_areAlike_b68 (N := N) R (c_lit 1 1 rfl) ⟨by decide, by decide⟩ hF
def FX8_areAlike (N : Nat) (p0 : Int) (p1 : Int) (s : fS) : Option (Int × fS) :=
  (FX8_kind p0 s).bind fun q2 =>
  (FX8_kind p1 q2.2).bind fun q4 =>
  if q2.1 = q4.1 then
    (FX8_kind p0 q4.2).bind fun q7 =>
    if ¬ (q7.1 = 2) then
      (FX8_kind p0 q7.2).bind fun q10 =>
      if q10.1 = 0 then
        FX8_areAlike_b63 N q10.2
      else
        (FX8_value p0 q10.2).bind fun q13 =>
        (FX8_value p1 q13.2).bind fun q15 =>
        if ¬ (q13.1 = q15.1) then
          FX8_areAlike_b68 N 0 q15.2
        else
          FX8_areAlike_b63 N q15.2
    else
      (FX8_value p0 q7.2).bind fun q20 =>
      (FX8_value p1 q20.2).bind fun q22 =>
      (FX12_areAlike N q20.1 q22.1 q22.2).bind fun q24 =>
      uZ q24.1 (q24.1, q24.2)
  else
    some (0, q4.2)
theorem SX8_areAlike {m b : Nat} {φ0 : Nat → Nat} {σo : fS} {N : Nat} {q : Int × fS} {φ : Nat → Nat} {h : eH} {s : fS} {p0' : Int32} {p0 : Int} {p1' : Int32} {p1 : Int} (R : fC m b φ0 σo φ h s) (ep0 : p0' = iI p0) (rp0 : r32 p0) (ep1 : p1' = iI p1) (rp1 : r32 p1) (hF : FX8_areAlike N p0 p1 s = some q) : gG m b φ0 σo lI q (fX8_areAlike N 22 p0' p1' h) := by
  subst ep0; subst ep1
  unfold FX8_areAlike at hF
  unfold fX8_areAlike
  refine s_kok R (t_22 R.S) (Nat.le_of_ble_eq_true rfl) ?_
  refine s_call R (Nat.zero_le _) (fun _ hq => SX8_kind (b := 0) (R.rf) rfl rp0 hq) hF (fun f2 rv2 h2 q2 R2 e2 E2 hF => ?_)
  refine s_kok R2 (t_22 R2.S) (Nat.le_of_ble_eq_true rfl) ?_
  refine s_call R2 (Nat.zero_le _) (fun _ hq => SX8_kind (b := 0) (R2.rf) rfl rp1 hq) hF (fun f4 rv4 h4 q4 R4 e4 E4 hF => ?_)
  refine s_if (i_eq e2.1 e4.1 e2.2 e4.2) hF (fun c5 hF => ?_) (fun c5 hF => ?_)
  ·
    refine s_kok R4 (t_22 R4.S) (Nat.le_of_ble_eq_true rfl) ?_
    refine s_call R4 (Nat.zero_le _) (fun _ hq => SX8_kind (b := 0) (R4.rf) rfl rp0 hq) hF (fun f7 rv7 h7 q7 R7 e7 E7 hF => ?_)
    refine s_if (not_congr (i_eq e7.1 (c_lit 2 2 rfl) e7.2 ⟨by decide, by decide⟩)) hF (fun c8 hF => ?_) (fun c8 hF => ?_)
    ·
      refine s_kok R7 (t_22 R7.S) (Nat.le_of_ble_eq_true rfl) ?_
      refine s_call R7 (Nat.zero_le _) (fun _ hq => SX8_kind (b := 0) (R7.rf) rfl rp0 hq) hF (fun f10 rv10 h10 q10 R10 e10 E10 hF => ?_)
      refine s_if (i_eq e10.1 (c_lit 0 0 rfl) e10.2 ⟨by decide, by decide⟩) hF (fun c11 hF => ?_) (fun c11 hF => ?_)
      ·
        exact SX8_areAlike_b63 (N := N) R10 hF
      ·
        refine s_kok R10 (t_22 R10.S) (Nat.le_of_ble_eq_true rfl) ?_
        refine s_call R10 (Nat.zero_le _) (fun _ hq => SX8_value (b := 0) (R10.rf) rfl rp0 hq) hF (fun f13 rv13 h13 q13 R13 e13 E13 hF => ?_)
        refine s_kok R13 (t_22 R13.S) (Nat.le_of_ble_eq_true rfl) ?_
        refine s_call R13 (Nat.zero_le _) (fun _ hq => SX8_value (b := 0) (R13.rf) rfl rp1 hq) hF (fun f15 rv15 h15 q15 R15 e15 E15 hF => ?_)
        refine s_if (not_congr (i_eq e13.1 e15.1 e13.2 e15.2)) hF (fun c16 hF => ?_) (fun c16 hF => ?_)
        ·
          exact SX8_areAlike_b68 (N := N) R15 (c_lit 0 0 rfl) ⟨by decide, by decide⟩ hF
        ·
          exact SX8_areAlike_b63 (N := N) R15 hF
    ·
      refine s_gO R7 (t_22 R7.S) (Nat.le_of_ble_eq_true rfl) rfl (o_22_6 R7.S) ?_
      refine s_kok R7 (t_22 R7.S) (Nat.le_of_ble_eq_true rfl) ?_
      refine s_call R7 (Nat.zero_le _) (fun _ hq => SX8_value (b := 0) (R7.rf) rfl rp0 hq) hF (fun f19 rv19 h19 q20 R19 e19 E19 hF => ?_)
      refine s_kok R19 (t_22 R19.S) (Nat.le_of_ble_eq_true rfl) ?_
      refine s_call R19 (Nat.zero_le _) (fun _ hq => SX8_value (b := 0) (R19.rf) rfl rp1 hq) hF (fun f21 rv21 h21 q22 R21 e21 E21 hF => ?_)
      refine s_kok R21 (t_52 R21.S) (Nat.le_of_ble_eq_true rfl) ?_
      refine s_call R21 (Nat.zero_le _) (fun _ hq => SX12_areAlike (b := 0) (N := N) (R21.rf) e19.1 e19.2 e21.1 e21.2 hq) hF (fun f23 rv23 h23 q24 R23 e23 E23 hF => ?_)
      exact g_z R23 e23.1 hF ⟨e23.1, e23.2⟩
  ·
    exact g_ret R4 hF ⟨(c_lit 0 0 rfl), ⟨by decide, by decide⟩⟩
def FX8_take (p0 : Int) (s : fS) : Option (Unit × fS) :=
  (FX1_grown 37 (iadd (s.i 22 17) 1) s).bind fun q5 =>
  (uMV q5.2 37 q5.1).bind fun σ6 =>
  (uPI σ6 22 17 (iadd (σ6.i 22 17) 1)).bind fun σ12 =>
  (uQI σ12 37 (σ6.i 22 17) p0).bind fun σ14 =>
  some ((), σ14)
theorem SX8_take {m b : Nat} {φ0 : Nat → Nat} {σo : fS} (hb : 3 ≤ b) {q : Unit × fS} {φ : Nat → Nat} {h : eH} {s : fS} {p0' : Int32} {p0 : Int} (R : fC m b φ0 σo φ h s) (ep0 : p0' = iI p0) (rp0 : r32 p0) (hF : FX8_take p0 s = some q) : gG m b φ0 σo lU q (fX8_take 22 p0' h) := by
  subst ep0
  unfold FX8_take at hF
  unfold fX8_take
  refine s_gA R (t_22 R.S) (Nat.le_of_ble_eq_true rfl) rfl (o_22_16 R.S) (fun _ _ => ?_)
  refine s_gI R (t_22 R.S) (Nat.le_of_ble_eq_true rfl) rfl ?_
  refine s_call R (Nat.zero_le _) (fun _ hq => SX1_grown (b := 0) (R.rf) rfl (u_37 R.S).1 (c_add rfl (c_lit 1 1 rfl)) (rr_I _) hq) hF (fun f3 rv3 h3 q5 R3 e3 E3 hF => ?_)
  refine s_mv R3 (t_22 R3.S) (Nat.le_of_ble_eq_true rfl) rfl (o_22_16 R3.S) (by decide) (f_mv_3 hb (by decide)) e3 hF (fun f4 h4 σ6 R4 E4 K4 hF => ?_)
  refine s_gA R4 (t_22 R4.S) (Nat.le_of_ble_eq_true rfl) rfl (o_22_16 R4.S) (fun _ _ => ?_)
  refine s_gI R4 (t_22 R4.S) (Nat.le_of_ble_eq_true rfl) rfl ?_
  refine s_pI R4 (t_22 R4.S) (Nat.le_of_ble_eq_true rfl) rfl (c_add rfl (c_lit 1 1 rfl)) (rr_I _) hF (fun h7 σ12 R7 T7 hF => ?_)
  refine s_qI R7 (u_37 R7.S).1 (u_37 R7.S).2 (by decide) rfl rfl (R4.ri (t_22 R4.S) (Nat.le_of_ble_eq_true rfl) rfl) rfl rp0 hF (fun h8 σ14 R8 T8 hF => ?_)
  exact g_ret R8 hF trivial
def FX8_single_b119 (N : Nat) (K61 : Int → Int → fS → Option ((Unit ⊕ Nat) × fS)) (l1 : Int) (l3 : Int) (s0 : Int) (s1 : Int) (s : fS) : Option ((Unit ⊕ Nat) × fS) :=
  if (iadd s0 s1) ≤ 0 then
    K61 (iadd s0 s1) l3 s
  else
    (FX8_take l1 s).bind fun q3 =>
    K61 (iadd s0 s1) l3 q3.2
theorem SX8_single_b119 {m b : Nat} {φ0 : Nat → Nat} {σo : fS} (hb : 3 ≤ b) {N : Nat} {k61 : Nat → Int32 → Int32 → eH → Option ((Unit ⊕ Nat) × eH)} {K61 : Int → Int → fS → Option ((Unit ⊕ Nat) × fS)} {q : (Unit ⊕ Nat) × fS} (hk61 : ∀ {φ : Nat → Nat} {h : eH} {s : fS} {l2' : Int32} {l2 : Int} {l3' : Int32} {l3 : Int}, fC m b φ0 σo φ h s → l2' = iI l2 → r32 l2 → l3' = iI l3 → r32 l3 → K61 l2 l3 s = some q → gG m b φ0 σo (lT lU) q (k61 22 l2' l3' h)) {φ : Nat → Nat} {h : eH} {s : fS} {l1' : Int32} {l1 : Int} {l3' : Int32} {l3 : Int} {s0' : Int32} {s0 : Int} {s1' : Int32} {s1 : Int} (R : fC m b φ0 σo φ h s) (el1 : l1' = iI l1) (rl1 : r32 l1) (el3 : l3' = iI l3) (rl3 : r32 l3) (es0 : s0' = iI s0) (rs0 : r32 s0) (es1 : s1' = iI s1) (rs1 : r32 s1) (hF : FX8_single_b119 N K61 l1 l3 s0 s1 s = some q) : gG m b φ0 σo (lT lU) q (fX8_single_b119 N k61 22 l1' l3' s0' s1' h) := by
  subst el1; subst el3; subst es0; subst es1
  unfold FX8_single_b119 at hF
  unfold fX8_single_b119
  refine s_if (i_le (c_add rfl rfl) (c_lit 0 0 rfl) (rr_I _) ⟨by decide, by decide⟩) hF (fun c1 hF => ?_) (fun c1 hF => ?_)
  ·
    exact hk61 R (c_add rfl rfl) (rr_I _) rfl rl3 hF
  ·
    refine s_kok R (t_22 R.S) (Nat.le_of_ble_eq_true rfl) ?_
    refine s_call R hb (fun _ hq => SX8_take (b := 3) (Nat.le_of_ble_eq_true rfl) (R.rf) rfl rl1 hq) hF (fun f3 rv3 h3 q3 R3 e3 E3 hF => ?_)
    exact hk61 R3 (c_add rfl rfl) (rr_I _) rfl rl3 hF
def FX8_single_b89 (N : Nat) (K61 : Int → Int → fS → Option ((Unit ⊕ Nat) × fS)) (l1 : Int) (l2 : Int) (l3 : Int) (s1 : Int) (s : fS) : Option ((Unit ⊕ Nat) × fS) :=
  tB (FX4_want s1 2 s) fun x2 σ3 =>
  (FX1_is l1 1 σ3).bind fun q4 =>
  if q4.1 = 0 then
    (FX1_is l1 2 q4.2).bind fun q6 =>
    if q6.1 = 0 then
      FX8_single_b119 N K61 l1 l3 l2 0 q6.2
    else
      FX8_single_b119 N K61 l1 l3 l2 (-1) q6.2
  else
    FX8_single_b119 N K61 l1 l3 l2 1 q4.2
theorem SX8_single_b89 {m b : Nat} {φ0 : Nat → Nat} {σo : fS} (hb : 3 ≤ b) {N : Nat} {k61 : Nat → Int32 → Int32 → eH → Option ((Unit ⊕ Nat) × eH)} {K61 : Int → Int → fS → Option ((Unit ⊕ Nat) × fS)} {q : (Unit ⊕ Nat) × fS} (hk61 : ∀ {φ : Nat → Nat} {h : eH} {s : fS} {l2' : Int32} {l2 : Int} {l3' : Int32} {l3 : Int}, fC m b φ0 σo φ h s → l2' = iI l2 → r32 l2 → l3' = iI l3 → r32 l3 → K61 l2 l3 s = some q → gG m b φ0 σo (lT lU) q (k61 22 l2' l3' h)) {φ : Nat → Nat} {h : eH} {s : fS} {l1' : Int32} {l1 : Int} {l2' : Int32} {l2 : Int} {l3' : Int32} {l3 : Int} {s1' : Int32} {s1 : Int} (R : fC m b φ0 σo φ h s) (el1 : l1' = iI l1) (rl1 : r32 l1) (el2 : l2' = iI l2) (rl2 : r32 l2) (el3 : l3' = iI l3) (rl3 : r32 l3) (es1 : s1' = iI s1) (rs1 : r32 s1) (hF : FX8_single_b89 N K61 l1 l2 l3 s1 s = some q) : gG m b φ0 σo (lT lU) q (fX8_single_b89 N k61 22 l1' l2' l3' 5 s1' h) := by
  subst el1; subst el2; subst el3; subst es1
  unfold FX8_single_b89 at hF
  unfold fX8_single_b89
  refine s_kok R (t_5 R.S) (Nat.le_of_ble_eq_true rfl) ?_
  refine s_tB R (Nat.zero_le _) (fun _ hq => SX4_want (b := 0) (R.rf) rfl rs1 (c_lit 2 2 rfl) ⟨by decide, by decide⟩ hq) hF (fun f2 rv2 h2 x2 σ3 R2 e2 E2 hF => ?_)
  refine s_call R2 (Nat.zero_le _) (fun _ hq => SX1_is (b := 0) (R2.rf) rfl rl1 (c_lit 1 1 rfl) ⟨by decide, by decide⟩ hq) hF (fun f3 rv3 h3 q4 R3 e3 E3 hF => ?_)
  refine s_if (i_eq e3.1 (c_lit 0 0 rfl) e3.2 ⟨by decide, by decide⟩) hF (fun c4 hF => ?_) (fun c4 hF => ?_)
  ·
    refine s_call R3 (Nat.zero_le _) (fun _ hq => SX1_is (b := 0) (R3.rf) rfl rl1 (c_lit 2 2 rfl) ⟨by decide, by decide⟩ hq) hF (fun f5 rv5 h5 q6 R5 e5 E5 hF => ?_)
    refine s_if (i_eq e5.1 (c_lit 0 0 rfl) e5.2 ⟨by decide, by decide⟩) hF (fun c6 hF => ?_) (fun c6 hF => ?_)
    ·
      exact SX8_single_b119 (N := N) (k61 := k61) (K61 := K61) hb @hk61 R5 rfl rl1 rfl rl3 rfl rl2 (c_lit 0 0 rfl) ⟨by decide, by decide⟩ hF
    ·
      exact SX8_single_b119 (N := N) (k61 := k61) (K61 := K61) hb @hk61 R5 rfl rl1 rfl rl3 rfl rl2 (c_lit (-1) (-1) rfl) ⟨by decide, by decide⟩ hF
  ·
    exact SX8_single_b119 (N := N) (k61 := k61) (K61 := K61) hb @hk61 R3 rfl rl1 rfl rl3 rfl rl2 (c_lit 1 1 rfl) ⟨by decide, by decide⟩ hF
def FX8_single_b61 (N : Nat) : Nat → Int → Int → fS → Option ((Unit ⊕ Nat) × fS)
  | 0, _, _, _ => none
  | n + 1, l2, l3, s =>
    if l2 ≤ 0 then
      some (.inl (), s)
    else
      tB (FX8_need N s) fun x3 σ4 =>
      if 10000 < (iadd l3 1) then
        FX8_single_b89 N (FX8_single_b61 N n) x3 l2 (iadd l3 1) 0 σ4
      else
        FX8_single_b89 N (FX8_single_b61 N n) x3 l2 (iadd l3 1) 1 σ4
theorem SX8_single_b61 {m b : Nat} {φ0 : Nat → Nat} {σo : fS} (hb : 3 ≤ b) {N : Nat} {q : (Unit ⊕ Nat) × fS} : ∀ {n : Nat} {φ : Nat → Nat} {h : eH} {s : fS} {l2' : Int32} {l2 : Int} {l3' : Int32} {l3 : Int}, fC m b φ0 σo φ h s → l2' = iI l2 → r32 l2 → l3' = iI l3 → r32 l3 → FX8_single_b61 N n l2 l3 s = some q → gG m b φ0 σo (lT lU) q (fX8_single_b61 N n 22 l2' l3' h) := by
  intro n
  induction n with
 | zero => intro φ h s l2' l2 l3' l3 R el2 rl2 el3 rl3 hF; simp [FX8_single_b61] at hF
  | succ n ih =>
    intro φ h s l2' l2 l3' l3 R el2 rl2 el3 rl3 hF
    subst el2; subst el3
    rw [FX8_single_b61] at hF
    rw [fX8_single_b61]
    refine s_if (i_le rfl (c_lit 0 0 rfl) rl2 ⟨by decide, by decide⟩) hF (fun c1 hF => ?_) (fun c1 hF => ?_)
    ·
      exact g_ret R hF trivial
    ·
      refine s_kok R (t_22 R.S) (Nat.le_of_ble_eq_true rfl) ?_
      refine s_tB R (Nat.le_trans (Nat.le_of_ble_eq_true rfl) hb) (fun _ hq => SX8_need (b := 2) (N := N) (Nat.le_of_ble_eq_true rfl) (R.rf) hq) hF (fun f3 rv3 h3 x3 σ4 R3 e3 E3 hF => ?_)
      refine s_gO R3 (t_22 R3.S) (Nat.le_of_ble_eq_true rfl) rfl (o_22_0 R3.S) ?_
      refine s_if (i_lt (c_lit 10000 10000 rfl) (c_add rfl (c_lit 1 1 rfl)) ⟨by decide, by decide⟩ (rr_I _)) hF (fun c5 hF => ?_) (fun c5 hF => ?_)
      ·
        exact SX8_single_b89 (N := N) (k61 := fX8_single_b61 N n) (K61 := FX8_single_b61 N n) hb @ih R3 e3.1 e3.2 rfl rl2 (c_add rfl (c_lit 1 1 rfl)) (rr_I _) (c_lit 0 0 rfl) ⟨by decide, by decide⟩ hF
      ·
        exact SX8_single_b89 (N := N) (k61 := fX8_single_b61 N n) (K61 := FX8_single_b61 N n) hb @ih R3 e3.1 e3.2 rfl rl2 (c_add rfl (c_lit 1 1 rfl)) (rr_I _) (c_lit 1 1 rfl) ⟨by decide, by decide⟩ hF
def FX8_single_b39 (N : Nat) (l1 : Int) (s1 : Int) (s : fS) : Option ((Unit ⊕ Nat) × fS) :=
  tB (FX4_want s1 5 s) fun x2 σ3 =>
  (FX1_is l1 1 σ3).bind fun q4 =>
  if ¬ (q4.1 = 0) then
    FX8_single_b61 N N 1 1 q4.2
  else
    (FX8_take l1 q4.2).bind fun q7 =>
    some (.inl (), q7.2)
theorem SX8_single_b39 {m b : Nat} {φ0 : Nat → Nat} {σo : fS} (hb : 3 ≤ b) {N : Nat} {q : (Unit ⊕ Nat) × fS} {φ : Nat → Nat} {h : eH} {s : fS} {l1' : Int32} {l1 : Int} {s1' : Int32} {s1 : Int} (R : fC m b φ0 σo φ h s) (el1 : l1' = iI l1) (rl1 : r32 l1) (es1 : s1' = iI s1) (rs1 : r32 s1) (hF : FX8_single_b39 N l1 s1 s = some q) : gG m b φ0 σo (lT lU) q (fX8_single_b39 N 22 l1' 5 s1' h) := by
  subst el1; subst es1
  unfold FX8_single_b39 at hF
  unfold fX8_single_b39
  refine s_kok R (t_5 R.S) (Nat.le_of_ble_eq_true rfl) ?_
  refine s_tB R (Nat.zero_le _) (fun _ hq => SX4_want (b := 0) (R.rf) rfl rs1 (c_lit 5 5 rfl) ⟨by decide, by decide⟩ hq) hF (fun f2 rv2 h2 x2 σ3 R2 e2 E2 hF => ?_)
  refine s_call R2 (Nat.zero_le _) (fun _ hq => SX1_is (b := 0) (R2.rf) rfl rl1 (c_lit 1 1 rfl) ⟨by decide, by decide⟩ hq) hF (fun f3 rv3 h3 q4 R3 e3 E3 hF => ?_)
  refine s_if (not_congr (i_eq e3.1 (c_lit 0 0 rfl) e3.2 ⟨by decide, by decide⟩)) hF (fun c4 hF => ?_) (fun c4 hF => ?_)
  ·
    exact SX8_single_b61 (N := N) hb R3 (c_lit 1 1 rfl) ⟨by decide, by decide⟩ (c_lit 1 1 rfl) ⟨by decide, by decide⟩ hF
  ·
    refine s_kok R3 (t_22 R3.S) (Nat.le_of_ble_eq_true rfl) ?_
    refine s_call R3 hb (fun _ hq => SX8_take (b := 3) (Nat.le_of_ble_eq_true rfl) (R3.rf) rfl rl1 hq) hF (fun f6 rv6 h6 q7 R6 e6 E6 hF => ?_)
    exact g_ret R6 hF trivial
def FX8_single_b5 (N : Nat) : Nat → Int → fS → Option ((Unit ⊕ Nat) × fS)
  | 0, _, _ => none
  | n + 1, l1, s =>
    (FX1_is l1 10 s).bind fun q1 =>
    if q1.1 = 0 then
      (FX1_is l1 2 q1.2).bind fun q5 =>
      if ¬ (q5.1 = 0) then
        FX8_single_b39 N l1 0 q5.2
      else
        FX8_single_b39 N l1 1 q5.2
    else
      tB (FX8_need N q1.2) fun x8 σ9 =>
      FX8_single_b5 N n x8 σ9
theorem SX8_single_b5 {m b : Nat} {φ0 : Nat → Nat} {σo : fS} (hb : 3 ≤ b) {N : Nat} {q : (Unit ⊕ Nat) × fS} : ∀ {n : Nat} {φ : Nat → Nat} {h : eH} {s : fS} {l1' : Int32} {l1 : Int}, fC m b φ0 σo φ h s → l1' = iI l1 → r32 l1 → FX8_single_b5 N n l1 s = some q → gG m b φ0 σo (lT lU) q (fX8_single_b5 N n 22 l1' h) := by
  intro n
  induction n with
 | zero => intro φ h s l1' l1 R el1 rl1 hF; simp [FX8_single_b5] at hF
  | succ n ih =>
    intro φ h s l1' l1 R el1 rl1 hF
    subst el1
    rw [FX8_single_b5] at hF
    rw [fX8_single_b5]
    refine s_call R (Nat.zero_le _) (fun _ hq => SX1_is (b := 0) (R.rf) rfl rl1 (c_lit 10 10 rfl) ⟨by decide, by decide⟩ hq) hF (fun f1 rv1 h1 q1 R1 e1 E1 hF => ?_)
    refine s_if (i_eq e1.1 (c_lit 0 0 rfl) e1.2 ⟨by decide, by decide⟩) hF (fun c2 hF => ?_) (fun c2 hF => ?_)
    ·
      refine s_gO R1 (t_22 R1.S) (Nat.le_of_ble_eq_true rfl) rfl (o_22_0 R1.S) ?_
      refine s_call R1 (Nat.zero_le _) (fun _ hq => SX1_is (b := 0) (R1.rf) rfl rl1 (c_lit 2 2 rfl) ⟨by decide, by decide⟩ hq) hF (fun f4 rv4 h4 q5 R4 e4 E4 hF => ?_)
      refine s_if (not_congr (i_eq e4.1 (c_lit 0 0 rfl) e4.2 ⟨by decide, by decide⟩)) hF (fun c5 hF => ?_) (fun c5 hF => ?_)
      ·
        exact SX8_single_b39 (N := N) hb R4 rfl rl1 (c_lit 0 0 rfl) ⟨by decide, by decide⟩ hF
      ·
        exact SX8_single_b39 (N := N) hb R4 rfl rl1 (c_lit 1 1 rfl) ⟨by decide, by decide⟩ hF
    ·
      refine s_kok R1 (t_22 R1.S) (Nat.le_of_ble_eq_true rfl) ?_
      refine s_tB R1 (Nat.le_trans (Nat.le_of_ble_eq_true rfl) hb) (fun _ hq => SX8_need (b := 2) (N := N) (Nat.le_of_ble_eq_true rfl) (R1.rf) hq) hF (fun f7 rv7 h7 x8 σ9 R7 e7 E7 hF => ?_)
      exact ih R7 e7.1 e7.2 hF
def FX8_single (N : Nat) (s : fS) : Option ((Unit ⊕ Nat) × fS) :=
  tB (FX8_need N s) fun x2 σ3 =>
  FX8_single_b5 N N x2 σ3
theorem SX8_single {m b : Nat} {φ0 : Nat → Nat} {σo : fS} (hb : 3 ≤ b) {N : Nat} {q : (Unit ⊕ Nat) × fS} {φ : Nat → Nat} {h : eH} {s : fS} (R : fC m b φ0 σo φ h s) (hF : FX8_single N s = some q) : gG m b φ0 σo (lT lU) q (fX8_single N 22 h) := by
  unfold FX8_single at hF
  unfold fX8_single
  refine s_kok R (t_22 R.S) (Nat.le_of_ble_eq_true rfl) ?_
  refine s_tB R (Nat.le_trans (Nat.le_of_ble_eq_true rfl) hb) (fun _ hq => SX8_need (b := 2) (N := N) (Nat.le_of_ble_eq_true rfl) (R.rf) hq) hF (fun f2 rv2 h2 x2 σ3 R2 e2 E2 hF => ?_)
  exact SX8_single_b5 (N := N) hb R2 e2.1 e2.2 hF
def FX8_strip_b25 (N : Nat) (s : fS) : Option (Unit × fS) :=
  some ((), s)
theorem SX8_strip_b25 {m b : Nat} {φ0 : Nat → Nat} {σo : fS} {N : Nat} {q : Unit × fS} {φ : Nat → Nat} {h : eH} {s : fS} (R : fC m b φ0 σo φ h s) (hF : FX8_strip_b25 N s = some q) : gG m b φ0 σo lU q (fX8_strip_b25 N h) := by
  unfold FX8_strip_b25 at hF
  unfold fX8_strip_b25
  exact g_ret R hF trivial
def FX8_strip_b99 (N : Nat) (K34 : Int → Int → Int → Int → Int → fS → Option (Unit × fS)) (l1 : Int) (l2 : Int) (l3 : Int) (l5 : Int) (s0 : Int) (s : fS) : Option (Unit × fS) :=
  K34 l1 l2 l3 s0 (iadd l5 1) s
theorem SX8_strip_b99 {m b : Nat} {φ0 : Nat → Nat} {σo : fS} {N : Nat} {k34 : Nat → Int32 → Int32 → Int32 → Int32 → Int32 → eH → Option (Unit × eH)} {K34 : Int → Int → Int → Int → Int → fS → Option (Unit × fS)} {q : Unit × fS} (hk34 : ∀ {φ : Nat → Nat} {h : eH} {s : fS} {l1' : Int32} {l1 : Int} {l2' : Int32} {l2 : Int} {l3' : Int32} {l3 : Int} {l4' : Int32} {l4 : Int} {l5' : Int32} {l5 : Int}, fC m b φ0 σo φ h s → l1' = iI l1 → r32 l1 → l2' = iI l2 → r32 l2 → l3' = iI l3 → r32 l3 → l4' = iI l4 → r32 l4 → l5' = iI l5 → r32 l5 → K34 l1 l2 l3 l4 l5 s = some q → gG m b φ0 σo lU q (k34 22 l1' l2' l3' l4' l5' h)) {φ : Nat → Nat} {h : eH} {s : fS} {l1' : Int32} {l1 : Int} {l2' : Int32} {l2 : Int} {l3' : Int32} {l3 : Int} {l5' : Int32} {l5 : Int} {s0' : Int32} {s0 : Int} (R : fC m b φ0 σo φ h s) (el1 : l1' = iI l1) (rl1 : r32 l1) (el2 : l2' = iI l2) (rl2 : r32 l2) (el3 : l3' = iI l3) (rl3 : r32 l3) (el5 : l5' = iI l5) (rl5 : r32 l5) (es0 : s0' = iI s0) (rs0 : r32 s0) (hF : FX8_strip_b99 N K34 l1 l2 l3 l5 s0 s = some q) : gG m b φ0 σo lU q (fX8_strip_b99 N k34 22 l1' l2' l3' l5' s0' h) := by
  subst el1; subst el2; subst el3; subst el5; subst es0
  unfold FX8_strip_b99 at hF
  unfold fX8_strip_b99
  exact hk34 R rfl rl1 rfl rl2 rfl rl3 rfl rs0 (c_add rfl (c_lit 1 1 rfl)) (rr_I _) hF
def FX8_strip_b87 (N : Nat) (K34 : Int → Int → Int → Int → Int → fS → Option (Unit × fS)) (l1 : Int) (l2 : Int) (l5 : Int) (s0 : Int) (s1 : Int) (s : fS) : Option (Unit × fS) :=
  if ¬ ((iadd s0 s1) = 0) then
    FX8_strip_b99 N K34 l1 l2 (iadd s0 s1) l5 (-1) s
  else
    FX8_strip_b99 N K34 l1 l2 (iadd s0 s1) l5 l5 s
theorem SX8_strip_b87 {m b : Nat} {φ0 : Nat → Nat} {σo : fS} {N : Nat} {k34 : Nat → Int32 → Int32 → Int32 → Int32 → Int32 → eH → Option (Unit × eH)} {K34 : Int → Int → Int → Int → Int → fS → Option (Unit × fS)} {q : Unit × fS} (hk34 : ∀ {φ : Nat → Nat} {h : eH} {s : fS} {l1' : Int32} {l1 : Int} {l2' : Int32} {l2 : Int} {l3' : Int32} {l3 : Int} {l4' : Int32} {l4 : Int} {l5' : Int32} {l5 : Int}, fC m b φ0 σo φ h s → l1' = iI l1 → r32 l1 → l2' = iI l2 → r32 l2 → l3' = iI l3 → r32 l3 → l4' = iI l4 → r32 l4 → l5' = iI l5 → r32 l5 → K34 l1 l2 l3 l4 l5 s = some q → gG m b φ0 σo lU q (k34 22 l1' l2' l3' l4' l5' h)) {φ : Nat → Nat} {h : eH} {s : fS} {l1' : Int32} {l1 : Int} {l2' : Int32} {l2 : Int} {l5' : Int32} {l5 : Int} {s0' : Int32} {s0 : Int} {s1' : Int32} {s1 : Int} (R : fC m b φ0 σo φ h s) (el1 : l1' = iI l1) (rl1 : r32 l1) (el2 : l2' = iI l2) (rl2 : r32 l2) (el5 : l5' = iI l5) (rl5 : r32 l5) (es0 : s0' = iI s0) (rs0 : r32 s0) (es1 : s1' = iI s1) (rs1 : r32 s1) (hF : FX8_strip_b87 N K34 l1 l2 l5 s0 s1 s = some q) : gG m b φ0 σo lU q (fX8_strip_b87 N k34 22 l1' l2' l5' s0' s1' h) := by
  subst el1; subst el2; subst el5; subst es0; subst es1
  unfold FX8_strip_b87 at hF
  unfold fX8_strip_b87
  refine s_if (not_congr (i_eq (c_add rfl rfl) (c_lit 0 0 rfl) (rr_I _) ⟨by decide, by decide⟩)) hF (fun c1 hF => ?_) (fun c1 hF => ?_)
  ·
    exact SX8_strip_b99 (N := N) (k34 := k34) (K34 := K34) @hk34 R rfl rl1 rfl rl2 (c_add rfl rfl) (rr_I _) rfl rl5 (c_lit (-1) (-1) rfl) ⟨by decide, by decide⟩ hF
  ·
    exact SX8_strip_b99 (N := N) (k34 := k34) (K34 := K34) @hk34 R rfl rl1 rfl rl2 (c_add rfl rfl) (rr_I _) rfl rl5 rfl rl5 hF
def FX8_strip_b107 (N : Nat) (l1 : Int) (l2 : Int) (l4 : Int) (s : fS) : Option (Unit × fS) :=
  if l4 = (isub (s.i 22 17) 1) then
    (uCP s 37 (iadd l1 1) 37 l1 (isub l2 2)).bind fun σ8 =>
    (uPI σ8 22 17 (isub (σ8.i 22 17) 2)).bind fun σ12 =>
    some ((), σ12)
  else
    some ((), s)
theorem SX8_strip_b107 {m b : Nat} {φ0 : Nat → Nat} {σo : fS} {N : Nat} {q : Unit × fS} {φ : Nat → Nat} {h : eH} {s : fS} {l1' : Int32} {l1 : Int} {l2' : Int32} {l2 : Int} {l4' : Int32} {l4 : Int} (R : fC m b φ0 σo φ h s) (el1 : l1' = iI l1) (rl1 : r32 l1) (el2 : l2' = iI l2) (rl2 : r32 l2) (el4 : l4' = iI l4) (rl4 : r32 l4) (hF : FX8_strip_b107 N l1 l2 l4 s = some q) : gG m b φ0 σo lU q (fX8_strip_b107 N 22 l1' l2' l4' h) := by
  subst el1; subst el2; subst el4
  unfold FX8_strip_b107 at hF
  unfold fX8_strip_b107
  refine s_gI R (t_22 R.S) (Nat.le_of_ble_eq_true rfl) rfl ?_
  refine s_if (i_eq rfl (c_sub rfl (c_lit 1 1 rfl)) rl4 (rr_I _)) hF (fun c2 hF => ?_) (fun c2 hF => ?_)
  ·
    refine s_gA R (t_22 R.S) (Nat.le_of_ble_eq_true rfl) rfl (o_22_16 R.S) (fun _ _ => ?_)
    refine s_gA R (t_22 R.S) (Nat.le_of_ble_eq_true rfl) rfl (o_22_16 R.S) (fun _ _ => ?_)
    refine s_cp R (u_37 R.S).1 (u_37 R.S).1 (by rw [(u_37 R.S).2]; decide) rfl rfl (c_add rfl (c_lit 1 1 rfl)) (rr_I _) rfl rl1 (c_sub rfl (c_lit 2 2 rfl)) (rr_I _) hF (fun h5 σ8 R5 T5 hF => ?_)
    refine s_gI R5 (t_22 R5.S) (Nat.le_of_ble_eq_true rfl) rfl ?_
    refine s_pI R5 (t_22 R5.S) (Nat.le_of_ble_eq_true rfl) rfl (c_sub rfl (c_lit 2 2 rfl)) (rr_I _) hF (fun h7 σ12 R7 T7 hF => ?_)
    exact g_ret R7 hF trivial
  ·
    exact g_ret R hF trivial
def FX8_strip_b34 (N : Nat) : Nat → Int → Int → Int → Int → Int → fS → Option (Unit × fS)
  | 0, _, _, _, _, _, _ => none
  | n + 1, l1, l2, l3, l4, l5, s =>
    if (s.i 22 17) ≤ l5 then
      FX8_strip_b107 N l1 l2 l4 s
    else
      if ¬ (l4 = (-1)) then
        FX8_strip_b107 N l1 l2 l4 s
      else
        (uRI s 37 l5).bind fun x7 =>
        (FX1_is x7 1 s).bind fun q9 =>
        if q9.1 = 0 then
          (uRI q9.2 37 l5).bind fun x13 =>
          (FX1_is x13 2 q9.2).bind fun q15 =>
          if q15.1 = 0 then
            FX8_strip_b87 N (FX8_strip_b34 N n) l1 l2 l5 l3 0 q15.2
          else
            FX8_strip_b87 N (FX8_strip_b34 N n) l1 l2 l5 l3 (-1) q15.2
        else
          FX8_strip_b87 N (FX8_strip_b34 N n) l1 l2 l5 l3 1 q9.2
theorem SX8_strip_b34 {m b : Nat} {φ0 : Nat → Nat} {σo : fS} {N : Nat} {q : Unit × fS} : ∀ {n : Nat} {φ : Nat → Nat} {h : eH} {s : fS} {l1' : Int32} {l1 : Int} {l2' : Int32} {l2 : Int} {l3' : Int32} {l3 : Int} {l4' : Int32} {l4 : Int} {l5' : Int32} {l5 : Int}, fC m b φ0 σo φ h s → l1' = iI l1 → r32 l1 → l2' = iI l2 → r32 l2 → l3' = iI l3 → r32 l3 → l4' = iI l4 → r32 l4 → l5' = iI l5 → r32 l5 → FX8_strip_b34 N n l1 l2 l3 l4 l5 s = some q → gG m b φ0 σo lU q (fX8_strip_b34 N n 22 l1' l2' l3' l4' l5' h) := by
  intro n
  induction n with
 | zero => intro φ h s l1' l1 l2' l2 l3' l3 l4' l4 l5' l5 R el1 rl1 el2 rl2 el3 rl3 el4 rl4 el5 rl5 hF; simp [FX8_strip_b34] at hF
  | succ n ih =>
    intro φ h s l1' l1 l2' l2 l3' l3 l4' l4 l5' l5 R el1 rl1 el2 rl2 el3 rl3 el4 rl4 el5 rl5 hF
    subst el1; subst el2; subst el3; subst el4; subst el5
    rw [FX8_strip_b34] at hF
    rw [fX8_strip_b34]
    refine s_gI R (t_22 R.S) (Nat.le_of_ble_eq_true rfl) rfl ?_
    refine s_if (i_le rfl rfl (R.ri (t_22 R.S) (Nat.le_of_ble_eq_true rfl) rfl) rl5) hF (fun c2 hF => ?_) (fun c2 hF => ?_)
    ·
      exact SX8_strip_b107 (N := N) R rfl rl1 rfl rl2 rfl rl4 hF
    ·
      refine s_if (not_congr (i_eq rfl (c_lit (-1) (-1) rfl) rl4 ⟨by decide, by decide⟩)) hF (fun c3 hF => ?_) (fun c3 hF => ?_)
      ·
        exact SX8_strip_b107 (N := N) R rfl rl1 rfl rl2 rfl rl4 hF
      ·
        refine s_gA R (t_22 R.S) (Nat.le_of_ble_eq_true rfl) rfl (o_22_16 R.S) (fun _ _ => ?_)
        refine s_rI R (u_37 R.S).1 (u_37 R.S).2 (by decide) rfl rfl rl5 hF (fun x7 ra5 hF => ?_)
        refine s_call R (Nat.zero_le _) (fun _ hq => SX1_is (b := 0) (R.rf) rfl ra5 (c_lit 1 1 rfl) ⟨by decide, by decide⟩ hq) hF (fun f6 rv6 h6 q9 R6 e6 E6 hF => ?_)
        refine s_if (i_eq e6.1 (c_lit 0 0 rfl) e6.2 ⟨by decide, by decide⟩) hF (fun c7 hF => ?_) (fun c7 hF => ?_)
        ·
          refine s_gA R6 (t_22 R6.S) (Nat.le_of_ble_eq_true rfl) rfl (o_22_16 R6.S) (fun _ _ => ?_)
          refine s_rI R6 (u_37 R6.S).1 (u_37 R6.S).2 (by decide) rfl rfl rl5 hF (fun x13 ra9 hF => ?_)
          refine s_call R6 (Nat.zero_le _) (fun _ hq => SX1_is (b := 0) (R6.rf) rfl ra9 (c_lit 2 2 rfl) ⟨by decide, by decide⟩ hq) hF (fun f10 rv10 h10 q15 R10 e10 E10 hF => ?_)
          refine s_if (i_eq e10.1 (c_lit 0 0 rfl) e10.2 ⟨by decide, by decide⟩) hF (fun c11 hF => ?_) (fun c11 hF => ?_)
          ·
            exact SX8_strip_b87 (N := N) (k34 := fX8_strip_b34 N n) (K34 := FX8_strip_b34 N n) @ih R10 rfl rl1 rfl rl2 rfl rl5 rfl rl3 (c_lit 0 0 rfl) ⟨by decide, by decide⟩ hF
          ·
            exact SX8_strip_b87 (N := N) (k34 := fX8_strip_b34 N n) (K34 := FX8_strip_b34 N n) @ih R10 rfl rl1 rfl rl2 rfl rl5 rfl rl3 (c_lit (-1) (-1) rfl) ⟨by decide, by decide⟩ hF
        ·
          exact SX8_strip_b87 (N := N) (k34 := fX8_strip_b34 N n) (K34 := FX8_strip_b34 N n) @ih R6 rfl rl1 rfl rl2 rfl rl5 rfl rl3 (c_lit 1 1 rfl) ⟨by decide, by decide⟩ hF
def FX8_strip (N : Nat) (p0 : Int) (s : fS) : Option (Unit × fS) :=
  if (isub (s.i 22 17) p0) < 2 then
    FX8_strip_b25 N s
  else
    (uRI s 37 p0).bind fun x6 =>
    (FX1_is x6 1 s).bind fun q8 =>
    if ¬ (q8.1 = 0) then
      FX8_strip_b34 N N p0 (isub (s.i 22 17) p0) 0 (-1) p0 q8.2
    else
      FX8_strip_b25 N q8.2
theorem SX8_strip {m b : Nat} {φ0 : Nat → Nat} {σo : fS} {N : Nat} {q : Unit × fS} {φ : Nat → Nat} {h : eH} {s : fS} {p0' : Int32} {p0 : Int} (R : fC m b φ0 σo φ h s) (ep0 : p0' = iI p0) (rp0 : r32 p0) (hF : FX8_strip N p0 s = some q) : gG m b φ0 σo lU q (fX8_strip N 22 p0' h) := by
  subst ep0
  unfold FX8_strip at hF
  unfold fX8_strip
  refine s_gI R (t_22 R.S) (Nat.le_of_ble_eq_true rfl) rfl ?_
  refine s_if (i_lt (c_sub rfl rfl) (c_lit 2 2 rfl) (rr_I _) ⟨by decide, by decide⟩) hF (fun c2 hF => ?_) (fun c2 hF => ?_)
  ·
    exact SX8_strip_b25 (N := N) R hF
  ·
    refine s_gA R (t_22 R.S) (Nat.le_of_ble_eq_true rfl) rfl (o_22_16 R.S) (fun _ _ => ?_)
    refine s_rI R (u_37 R.S).1 (u_37 R.S).2 (by decide) rfl rfl rp0 hF (fun x6 ra4 hF => ?_)
    refine s_call R (Nat.zero_le _) (fun _ hq => SX1_is (b := 0) (R.rf) rfl ra4 (c_lit 1 1 rfl) ⟨by decide, by decide⟩ hq) hF (fun f5 rv5 h5 q8 R5 e5 E5 hF => ?_)
    refine s_if (not_congr (i_eq e5.1 (c_lit 0 0 rfl) e5.2 ⟨by decide, by decide⟩)) hF (fun c6 hF => ?_) (fun c6 hF => ?_)
    ·
      exact SX8_strip_b34 (N := N) R5 rfl rp0 (c_sub rfl rfl) (rr_I _) (c_lit 0 0 rfl) ⟨by decide, by decide⟩ (c_lit (-1) (-1) rfl) ⟨by decide, by decide⟩ rfl rp0 hF
    ·
      exact SX8_strip_b25 (N := N) R5 hF
def FX8_delimited_b194 (N : Nat) (K144 : Int → Int → Int → Int → Int → Int → Int → fS → Option ((Unit ⊕ Nat) × fS)) (l1 : Int) (l3 : Int) (l4 : Int) (l5 : Int) (l6 : Int) (l9 : Int) (s0 : Int) (s : fS) : Option ((Unit ⊕ Nat) × fS) :=
  K144 l1 l3 l4 l5 l6 s0 (iadd l9 1) s
theorem SX8_delimited_b194 {m b : Nat} {φ0 : Nat → Nat} {σo : fS} (hb : 3 ≤ b) {N : Nat} {k144 : Nat → Int32 → Int32 → Int32 → Int32 → Int32 → Int32 → Int32 → eH → Option ((Unit ⊕ Nat) × eH)} {K144 : Int → Int → Int → Int → Int → Int → Int → fS → Option ((Unit ⊕ Nat) × fS)} {q : (Unit ⊕ Nat) × fS} (hk144 : ∀ {φ : Nat → Nat} {h : eH} {s : fS} {l1' : Int32} {l1 : Int} {l3' : Int32} {l3 : Int} {l4' : Int32} {l4 : Int} {l5' : Int32} {l5 : Int} {l6' : Int32} {l6 : Int} {l7' : Int32} {l7 : Int} {l9' : Int32} {l9 : Int}, fC m b φ0 σo φ h s → l1' = iI l1 → r32 l1 → l3' = iI l3 → r32 l3 → l4' = iI l4 → r32 l4 → l5' = iI l5 → r32 l5 → l6' = iI l6 → r32 l6 → l7' = iI l7 → r32 l7 → l9' = iI l9 → r32 l9 → K144 l1 l3 l4 l5 l6 l7 l9 s = some q → gG m b φ0 σo (lT lU) q (k144 22 l1' l3' l4' l5' l6' l7' l9' h)) {φ : Nat → Nat} {h : eH} {s : fS} {l1' : Int32} {l1 : Int} {l3' : Int32} {l3 : Int} {l4' : Int32} {l4 : Int} {l5' : Int32} {l5 : Int} {l6' : Int32} {l6 : Int} {l9' : Int32} {l9 : Int} {s0' : Int32} {s0 : Int} (R : fC m b φ0 σo φ h s) (el1 : l1' = iI l1) (rl1 : r32 l1) (el3 : l3' = iI l3) (rl3 : r32 l3) (el4 : l4' = iI l4) (rl4 : r32 l4) (el5 : l5' = iI l5) (rl5 : r32 l5) (el6 : l6' = iI l6) (rl6 : r32 l6) (el9 : l9' = iI l9) (rl9 : r32 l9) (es0 : s0' = iI s0) (rs0 : r32 s0) (hF : FX8_delimited_b194 N K144 l1 l3 l4 l5 l6 l9 s0 s = some q) : gG m b φ0 σo (lT lU) q (fX8_delimited_b194 N k144 22 l1' l3' l4' l5' l6' l9' s0' h) := by
  subst el1; subst el3; subst el4; subst el5; subst el6; subst el9; subst es0
  unfold FX8_delimited_b194 at hF
  unfold fX8_delimited_b194
  exact hk144 R rfl rl1 rfl rl3 rfl rl4 rfl rl5 rfl rl6 rfl rs0 (c_add rfl (c_lit 1 1 rfl)) (rr_I _) hF
def FX8_delimited_b202 (N : Nat) (K19 : Int → Int → Int → Int → Int → Int → fS → Option ((Unit ⊕ Nat) × fS)) (l1 : Int) (l3 : Int) (l4 : Int) (l5 : Int) (l6 : Int) (l7 : Int) (s : fS) : Option ((Unit ⊕ Nat) × fS) :=
  K19 l1 l3 l4 l5 l6 l7 s
theorem SX8_delimited_b202 {m b : Nat} {φ0 : Nat → Nat} {σo : fS} (hb : 3 ≤ b) {N : Nat} {k19 : Nat → Int32 → Int32 → Int32 → Int32 → Int32 → Int32 → eH → Option ((Unit ⊕ Nat) × eH)} {K19 : Int → Int → Int → Int → Int → Int → fS → Option ((Unit ⊕ Nat) × fS)} {q : (Unit ⊕ Nat) × fS} (hk19 : ∀ {φ : Nat → Nat} {h : eH} {s : fS} {l1' : Int32} {l1 : Int} {l3' : Int32} {l3 : Int} {l4' : Int32} {l4 : Int} {l5' : Int32} {l5 : Int} {l6' : Int32} {l6 : Int} {l7' : Int32} {l7 : Int}, fC m b φ0 σo φ h s → l1' = iI l1 → r32 l1 → l3' = iI l3 → r32 l3 → l4' = iI l4 → r32 l4 → l5' = iI l5 → r32 l5 → l6' = iI l6 → r32 l6 → l7' = iI l7 → r32 l7 → K19 l1 l3 l4 l5 l6 l7 s = some q → gG m b φ0 σo (lT lU) q (k19 22 l1' l3' l4' l5' l6' l7' h)) {φ : Nat → Nat} {h : eH} {s : fS} {l1' : Int32} {l1 : Int} {l3' : Int32} {l3 : Int} {l4' : Int32} {l4 : Int} {l5' : Int32} {l5 : Int} {l6' : Int32} {l6 : Int} {l7' : Int32} {l7 : Int} (R : fC m b φ0 σo φ h s) (el1 : l1' = iI l1) (rl1 : r32 l1) (el3 : l3' = iI l3) (rl3 : r32 l3) (el4 : l4' = iI l4) (rl4 : r32 l4) (el5 : l5' = iI l5) (rl5 : r32 l5) (el6 : l6' = iI l6) (rl6 : r32 l6) (el7 : l7' = iI l7) (rl7 : r32 l7) (hF : FX8_delimited_b202 N K19 l1 l3 l4 l5 l6 l7 s = some q) : gG m b φ0 σo (lT lU) q (fX8_delimited_b202 N k19 22 l1' l3' l4' l5' l6' l7' h) := by
  subst el1; subst el3; subst el4; subst el5; subst el6; subst el7
  unfold FX8_delimited_b202 at hF
  unfold fX8_delimited_b202
  exact hk19 R rfl rl1 rfl rl3 rfl rl4 rfl rl5 rfl rl6 rfl rl7 hF
def FX8_delimited_b144 (N : Nat) (K19 : Int → Int → Int → Int → Int → Int → fS → Option ((Unit ⊕ Nat) × fS)) : Nat → Int → Int → Int → Int → Int → Int → Int → fS → Option ((Unit ⊕ Nat) × fS)
  | 0, _, _, _, _, _, _, _, _ => none
  | n + 1, l1, l3, l4, l5, l6, l7, l9, s =>
    if l7 = 0 then
      FX8_delimited_b202 N K19 l1 l3 l4 l5 l6 l7 s
    else
      if l4 ≤ l9 then
        FX8_delimited_b202 N K19 l1 l3 l4 l5 l6 l7 s
      else
        (uRI s 37 (iadd (isub (s.i 22 17) l4) l9)).bind fun x7 =>
        (FX8_bare x7 s).bind fun q9 =>
        (uRI q9.2 53 (iadd l1 l9)).bind fun x14 =>
        if ¬ (q9.1 = x14) then
          FX8_delimited_b194 N (FX8_delimited_b144 N K19 n) l1 l3 l4 l5 l6 l9 0 q9.2
        else
          FX8_delimited_b194 N (FX8_delimited_b144 N K19 n) l1 l3 l4 l5 l6 l9 1 q9.2
theorem SX8_delimited_b144 {m b : Nat} {φ0 : Nat → Nat} {σo : fS} (hb : 3 ≤ b) {N : Nat} {k19 : Nat → Int32 → Int32 → Int32 → Int32 → Int32 → Int32 → eH → Option ((Unit ⊕ Nat) × eH)} {K19 : Int → Int → Int → Int → Int → Int → fS → Option ((Unit ⊕ Nat) × fS)} {q : (Unit ⊕ Nat) × fS} (hk19 : ∀ {φ : Nat → Nat} {h : eH} {s : fS} {l1' : Int32} {l1 : Int} {l3' : Int32} {l3 : Int} {l4' : Int32} {l4 : Int} {l5' : Int32} {l5 : Int} {l6' : Int32} {l6 : Int} {l7' : Int32} {l7 : Int}, fC m b φ0 σo φ h s → l1' = iI l1 → r32 l1 → l3' = iI l3 → r32 l3 → l4' = iI l4 → r32 l4 → l5' = iI l5 → r32 l5 → l6' = iI l6 → r32 l6 → l7' = iI l7 → r32 l7 → K19 l1 l3 l4 l5 l6 l7 s = some q → gG m b φ0 σo (lT lU) q (k19 22 l1' l3' l4' l5' l6' l7' h)) : ∀ {n : Nat} {φ : Nat → Nat} {h : eH} {s : fS} {l1' : Int32} {l1 : Int} {l3' : Int32} {l3 : Int} {l4' : Int32} {l4 : Int} {l5' : Int32} {l5 : Int} {l6' : Int32} {l6 : Int} {l7' : Int32} {l7 : Int} {l9' : Int32} {l9 : Int}, fC m b φ0 σo φ h s → l1' = iI l1 → r32 l1 → l3' = iI l3 → r32 l3 → l4' = iI l4 → r32 l4 → l5' = iI l5 → r32 l5 → l6' = iI l6 → r32 l6 → l7' = iI l7 → r32 l7 → l9' = iI l9 → r32 l9 → FX8_delimited_b144 N K19 n l1 l3 l4 l5 l6 l7 l9 s = some q → gG m b φ0 σo (lT lU) q (fX8_delimited_b144 N k19 n 22 l1' l3' l4' l5' l6' l7' l9' h) := by
  intro n
  induction n with
 | zero => intro φ h s l1' l1 l3' l3 l4' l4 l5' l5 l6' l6 l7' l7 l9' l9 R el1 rl1 el3 rl3 el4 rl4 el5 rl5 el6 rl6 el7 rl7 el9 rl9 hF; simp [FX8_delimited_b144] at hF
  | succ n ih =>
    intro φ h s l1' l1 l3' l3 l4' l4 l5' l5 l6' l6 l7' l7 l9' l9 R el1 rl1 el3 rl3 el4 rl4 el5 rl5 el6 rl6 el7 rl7 el9 rl9 hF
    subst el1; subst el3; subst el4; subst el5; subst el6; subst el7; subst el9
    rw [FX8_delimited_b144] at hF
    rw [fX8_delimited_b144]
    refine s_if (i_eq rfl (c_lit 0 0 rfl) rl7 ⟨by decide, by decide⟩) hF (fun c1 hF => ?_) (fun c1 hF => ?_)
    ·
      exact SX8_delimited_b202 (N := N) (k19 := k19) (K19 := K19) hb @hk19 R rfl rl1 rfl rl3 rfl rl4 rfl rl5 rfl rl6 rfl rl7 hF
    ·
      refine s_if (i_le rfl rfl rl4 rl9) hF (fun c2 hF => ?_) (fun c2 hF => ?_)
      ·
        exact SX8_delimited_b202 (N := N) (k19 := k19) (K19 := K19) hb @hk19 R rfl rl1 rfl rl3 rfl rl4 rfl rl5 rfl rl6 rfl rl7 hF
      ·
        refine s_gA R (t_22 R.S) (Nat.le_of_ble_eq_true rfl) rfl (o_22_16 R.S) (fun _ _ => ?_)
        refine s_gI R (t_22 R.S) (Nat.le_of_ble_eq_true rfl) rfl ?_
        refine s_rI R (u_37 R.S).1 (u_37 R.S).2 (by decide) rfl (c_add (c_sub rfl rfl) rfl) (rr_I _) hF (fun x7 ra5 hF => ?_)
        refine s_call R (Nat.zero_le _) (fun _ hq => SX8_bare (b := 0) (R.rf) rfl ra5 hq) hF (fun f6 rv6 h6 q9 R6 e6 E6 hF => ?_)
        refine s_gO R6 (t_22 R6.S) (Nat.le_of_ble_eq_true rfl) rfl (o_22_6 R6.S) ?_
        refine s_gAs R6 (t_52 R6.S) (Nat.le_of_ble_eq_true rfl) rfl (o_52_1 R6.S) (a_53 R6) ?_
        refine s_rI R6 (u_53 R6.S).1 (u_53 R6.S).2 (by decide) (a_53 R6) (c_add rfl rfl) (rr_I _) hF (fun x14 ra9 hF => ?_)
        refine s_if (not_congr (i_eq e6.1 rfl e6.2 ra9)) hF (fun c10 hF => ?_) (fun c10 hF => ?_)
        ·
          exact SX8_delimited_b194 (N := N) (k144 := fX8_delimited_b144 N k19 n) (K144 := FX8_delimited_b144 N K19 n) hb @ih R6 rfl rl1 rfl rl3 rfl rl4 rfl rl5 rfl rl6 rfl rl9 (c_lit 0 0 rfl) ⟨by decide, by decide⟩ hF
        ·
          exact SX8_delimited_b194 (N := N) (k144 := fX8_delimited_b144 N k19 n) (K144 := FX8_delimited_b144 N K19 n) hb @ih R6 rfl rl1 rfl rl3 rfl rl4 rfl rl5 rfl rl6 rfl rl9 (c_lit 1 1 rfl) ⟨by decide, by decide⟩ hF
def FX8_delimited_b139 (N : Nat) (K19 : Int → Int → Int → Int → Int → Int → fS → Option ((Unit ⊕ Nat) × fS)) (l1 : Int) (l3 : Int) (l4 : Int) (l5 : Int) (l6 : Int) (s0 : Int) (s : fS) : Option ((Unit ⊕ Nat) × fS) :=
  FX8_delimited_b144 N K19 N l1 l3 l4 l5 l6 s0 0 s
theorem SX8_delimited_b139 {m b : Nat} {φ0 : Nat → Nat} {σo : fS} (hb : 3 ≤ b) {N : Nat} {k19 : Nat → Int32 → Int32 → Int32 → Int32 → Int32 → Int32 → eH → Option ((Unit ⊕ Nat) × eH)} {K19 : Int → Int → Int → Int → Int → Int → fS → Option ((Unit ⊕ Nat) × fS)} {q : (Unit ⊕ Nat) × fS} (hk19 : ∀ {φ : Nat → Nat} {h : eH} {s : fS} {l1' : Int32} {l1 : Int} {l3' : Int32} {l3 : Int} {l4' : Int32} {l4 : Int} {l5' : Int32} {l5 : Int} {l6' : Int32} {l6 : Int} {l7' : Int32} {l7 : Int}, fC m b φ0 σo φ h s → l1' = iI l1 → r32 l1 → l3' = iI l3 → r32 l3 → l4' = iI l4 → r32 l4 → l5' = iI l5 → r32 l5 → l6' = iI l6 → r32 l6 → l7' = iI l7 → r32 l7 → K19 l1 l3 l4 l5 l6 l7 s = some q → gG m b φ0 σo (lT lU) q (k19 22 l1' l3' l4' l5' l6' l7' h)) {φ : Nat → Nat} {h : eH} {s : fS} {l1' : Int32} {l1 : Int} {l3' : Int32} {l3 : Int} {l4' : Int32} {l4 : Int} {l5' : Int32} {l5 : Int} {l6' : Int32} {l6 : Int} {s0' : Int32} {s0 : Int} (R : fC m b φ0 σo φ h s) (el1 : l1' = iI l1) (rl1 : r32 l1) (el3 : l3' = iI l3) (rl3 : r32 l3) (el4 : l4' = iI l4) (rl4 : r32 l4) (el5 : l5' = iI l5) (rl5 : r32 l5) (el6 : l6' = iI l6) (rl6 : r32 l6) (es0 : s0' = iI s0) (rs0 : r32 s0) (hF : FX8_delimited_b139 N K19 l1 l3 l4 l5 l6 s0 s = some q) : gG m b φ0 σo (lT lU) q (fX8_delimited_b139 N k19 22 l1' l3' l4' l5' l6' s0' h) := by
  subst el1; subst el3; subst el4; subst el5; subst el6; subst es0
  unfold FX8_delimited_b139 at hF
  unfold fX8_delimited_b139
  exact SX8_delimited_b144 (N := N) (k19 := k19) (K19 := K19) hb @hk19 R rfl rl1 rfl rl3 rfl rl4 rfl rl5 rfl rl6 rfl rs0 (c_lit 0 0 rfl) ⟨by decide, by decide⟩ hF
def FX8_delimited_b125 (N : Nat) (K19 : Int → Int → Int → Int → Int → Int → fS → Option ((Unit ⊕ Nat) × fS)) (l1 : Int) (l3 : Int) (l4 : Int) (l5 : Int) (s0 : Int) (s : fS) : Option ((Unit ⊕ Nat) × fS) :=
  if s0 < l4 then
    FX8_delimited_b139 N K19 l1 l3 l4 l5 s0 0 s
  else
    FX8_delimited_b139 N K19 l1 l3 l4 l5 s0 1 s
theorem SX8_delimited_b125 {m b : Nat} {φ0 : Nat → Nat} {σo : fS} (hb : 3 ≤ b) {N : Nat} {k19 : Nat → Int32 → Int32 → Int32 → Int32 → Int32 → Int32 → eH → Option ((Unit ⊕ Nat) × eH)} {K19 : Int → Int → Int → Int → Int → Int → fS → Option ((Unit ⊕ Nat) × fS)} {q : (Unit ⊕ Nat) × fS} (hk19 : ∀ {φ : Nat → Nat} {h : eH} {s : fS} {l1' : Int32} {l1 : Int} {l3' : Int32} {l3 : Int} {l4' : Int32} {l4 : Int} {l5' : Int32} {l5 : Int} {l6' : Int32} {l6 : Int} {l7' : Int32} {l7 : Int}, fC m b φ0 σo φ h s → l1' = iI l1 → r32 l1 → l3' = iI l3 → r32 l3 → l4' = iI l4 → r32 l4 → l5' = iI l5 → r32 l5 → l6' = iI l6 → r32 l6 → l7' = iI l7 → r32 l7 → K19 l1 l3 l4 l5 l6 l7 s = some q → gG m b φ0 σo (lT lU) q (k19 22 l1' l3' l4' l5' l6' l7' h)) {φ : Nat → Nat} {h : eH} {s : fS} {l1' : Int32} {l1 : Int} {l3' : Int32} {l3 : Int} {l4' : Int32} {l4 : Int} {l5' : Int32} {l5 : Int} {s0' : Int32} {s0 : Int} (R : fC m b φ0 σo φ h s) (el1 : l1' = iI l1) (rl1 : r32 l1) (el3 : l3' = iI l3) (rl3 : r32 l3) (el4 : l4' = iI l4) (rl4 : r32 l4) (el5 : l5' = iI l5) (rl5 : r32 l5) (es0 : s0' = iI s0) (rs0 : r32 s0) (hF : FX8_delimited_b125 N K19 l1 l3 l4 l5 s0 s = some q) : gG m b φ0 σo (lT lU) q (fX8_delimited_b125 N k19 22 l1' l3' l4' l5' s0' h) := by
  subst el1; subst el3; subst el4; subst el5; subst es0
  unfold FX8_delimited_b125 at hF
  unfold fX8_delimited_b125
  refine s_if (i_lt rfl rfl rs0 rl4) hF (fun c1 hF => ?_) (fun c1 hF => ?_)
  ·
    exact SX8_delimited_b139 (N := N) (k19 := k19) (K19 := K19) hb @hk19 R rfl rl1 rfl rl3 rfl rl4 rfl rl5 rfl rs0 (c_lit 0 0 rfl) ⟨by decide, by decide⟩ hF
  ·
    exact SX8_delimited_b139 (N := N) (k19 := k19) (K19 := K19) hb @hk19 R rfl rl1 rfl rl3 rfl rl4 rfl rl5 rfl rs0 (c_lit 1 1 rfl) ⟨by decide, by decide⟩ hF
def FX8_delimited_b117 (N : Nat) (K19 : Int → Int → Int → Int → Int → Int → fS → Option ((Unit ⊕ Nat) × fS)) (l1 : Int) (l3 : Int) (l4 : Int) (l5 : Int) (s : fS) : Option ((Unit ⊕ Nat) × fS) :=
  FX8_delimited_b125 N K19 l1 l3 l4 l5 0 s
theorem SX8_delimited_b117 {m b : Nat} {φ0 : Nat → Nat} {σo : fS} (hb : 3 ≤ b) {N : Nat} {k19 : Nat → Int32 → Int32 → Int32 → Int32 → Int32 → Int32 → eH → Option ((Unit ⊕ Nat) × eH)} {K19 : Int → Int → Int → Int → Int → Int → fS → Option ((Unit ⊕ Nat) × fS)} {q : (Unit ⊕ Nat) × fS} (hk19 : ∀ {φ : Nat → Nat} {h : eH} {s : fS} {l1' : Int32} {l1 : Int} {l3' : Int32} {l3 : Int} {l4' : Int32} {l4 : Int} {l5' : Int32} {l5 : Int} {l6' : Int32} {l6 : Int} {l7' : Int32} {l7 : Int}, fC m b φ0 σo φ h s → l1' = iI l1 → r32 l1 → l3' = iI l3 → r32 l3 → l4' = iI l4 → r32 l4 → l5' = iI l5 → r32 l5 → l6' = iI l6 → r32 l6 → l7' = iI l7 → r32 l7 → K19 l1 l3 l4 l5 l6 l7 s = some q → gG m b φ0 σo (lT lU) q (k19 22 l1' l3' l4' l5' l6' l7' h)) {φ : Nat → Nat} {h : eH} {s : fS} {l1' : Int32} {l1 : Int} {l3' : Int32} {l3 : Int} {l4' : Int32} {l4 : Int} {l5' : Int32} {l5 : Int} (R : fC m b φ0 σo φ h s) (el1 : l1' = iI l1) (rl1 : r32 l1) (el3 : l3' = iI l3) (rl3 : r32 l3) (el4 : l4' = iI l4) (rl4 : r32 l4) (el5 : l5' = iI l5) (rl5 : r32 l5) (hF : FX8_delimited_b117 N K19 l1 l3 l4 l5 s = some q) : gG m b φ0 σo (lT lU) q (fX8_delimited_b117 N k19 22 l1' l3' l4' l5' h) := by
  subst el1; subst el3; subst el4; subst el5
  unfold FX8_delimited_b117 at hF
  unfold fX8_delimited_b117
  exact SX8_delimited_b125 (N := N) (k19 := k19) (K19 := K19) hb @hk19 R rfl rl1 rfl rl3 rfl rl4 rfl rl5 (c_lit 0 0 rfl) ⟨by decide, by decide⟩ hF
def FX8_delimited_b99 (N : Nat) (K19 : Int → Int → Int → Int → Int → Int → fS → Option ((Unit ⊕ Nat) × fS)) (l1 : Int) (l3 : Int) (l4 : Int) (l5 : Int) (l6 : Int) (l8 : Int) (s1 : Int) (s : fS) : Option ((Unit ⊕ Nat) × fS) :=
  tB (FX4_want s1 5 s) fun x2 σ3 =>
  if 0 < l5 then
    FX8_delimited_b117 N K19 l1 l3 l4 l5 σ3
  else
    (FX1_is l8 2 σ3).bind fun q5 =>
    if q5.1 = 0 then
      FX8_delimited_b125 N K19 l1 l3 l4 l5 (iadd l6 1) q5.2
    else
      FX8_delimited_b117 N K19 l1 l3 l4 l5 q5.2
theorem SX8_delimited_b99 {m b : Nat} {φ0 : Nat → Nat} {σo : fS} (hb : 3 ≤ b) {N : Nat} {k19 : Nat → Int32 → Int32 → Int32 → Int32 → Int32 → Int32 → eH → Option ((Unit ⊕ Nat) × eH)} {K19 : Int → Int → Int → Int → Int → Int → fS → Option ((Unit ⊕ Nat) × fS)} {q : (Unit ⊕ Nat) × fS} (hk19 : ∀ {φ : Nat → Nat} {h : eH} {s : fS} {l1' : Int32} {l1 : Int} {l3' : Int32} {l3 : Int} {l4' : Int32} {l4 : Int} {l5' : Int32} {l5 : Int} {l6' : Int32} {l6 : Int} {l7' : Int32} {l7 : Int}, fC m b φ0 σo φ h s → l1' = iI l1 → r32 l1 → l3' = iI l3 → r32 l3 → l4' = iI l4 → r32 l4 → l5' = iI l5 → r32 l5 → l6' = iI l6 → r32 l6 → l7' = iI l7 → r32 l7 → K19 l1 l3 l4 l5 l6 l7 s = some q → gG m b φ0 σo (lT lU) q (k19 22 l1' l3' l4' l5' l6' l7' h)) {φ : Nat → Nat} {h : eH} {s : fS} {l1' : Int32} {l1 : Int} {l3' : Int32} {l3 : Int} {l4' : Int32} {l4 : Int} {l5' : Int32} {l5 : Int} {l6' : Int32} {l6 : Int} {l8' : Int32} {l8 : Int} {s1' : Int32} {s1 : Int} (R : fC m b φ0 σo φ h s) (el1 : l1' = iI l1) (rl1 : r32 l1) (el3 : l3' = iI l3) (rl3 : r32 l3) (el4 : l4' = iI l4) (rl4 : r32 l4) (el5 : l5' = iI l5) (rl5 : r32 l5) (el6 : l6' = iI l6) (rl6 : r32 l6) (el8 : l8' = iI l8) (rl8 : r32 l8) (es1 : s1' = iI s1) (rs1 : r32 s1) (hF : FX8_delimited_b99 N K19 l1 l3 l4 l5 l6 l8 s1 s = some q) : gG m b φ0 σo (lT lU) q (fX8_delimited_b99 N k19 22 l1' l3' l4' l5' l6' l8' 5 s1' h) := by
  subst el1; subst el3; subst el4; subst el5; subst el6; subst el8; subst es1
  unfold FX8_delimited_b99 at hF
  unfold fX8_delimited_b99
  refine s_kok R (t_5 R.S) (Nat.le_of_ble_eq_true rfl) ?_
  refine s_tB R (Nat.zero_le _) (fun _ hq => SX4_want (b := 0) (R.rf) rfl rs1 (c_lit 5 5 rfl) ⟨by decide, by decide⟩ hq) hF (fun f2 rv2 h2 x2 σ3 R2 e2 E2 hF => ?_)
  refine s_if (i_lt (c_lit 0 0 rfl) rfl ⟨by decide, by decide⟩ rl5) hF (fun c3 hF => ?_) (fun c3 hF => ?_)
  ·
    exact SX8_delimited_b117 (N := N) (k19 := k19) (K19 := K19) hb @hk19 R2 rfl rl1 rfl rl3 rfl rl4 rfl rl5 hF
  ·
    refine s_call R2 (Nat.zero_le _) (fun _ hq => SX1_is (b := 0) (R2.rf) rfl rl8 (c_lit 2 2 rfl) ⟨by decide, by decide⟩ hq) hF (fun f4 rv4 h4 q5 R4 e4 E4 hF => ?_)
    refine s_if (i_eq e4.1 (c_lit 0 0 rfl) e4.2 ⟨by decide, by decide⟩) hF (fun c5 hF => ?_) (fun c5 hF => ?_)
    ·
      exact SX8_delimited_b125 (N := N) (k19 := k19) (K19 := K19) hb @hk19 R4 rfl rl1 rfl rl3 rfl rl4 rfl rl5 (c_add rfl (c_lit 1 1 rfl)) (rr_I _) hF
    ·
      exact SX8_delimited_b117 (N := N) (k19 := k19) (K19 := K19) hb @hk19 R4 rfl rl1 rfl rl3 rfl rl4 rfl rl5 hF
def FX8_delimited_b85 (N : Nat) (K19 : Int → Int → Int → Int → Int → Int → fS → Option ((Unit ⊕ Nat) × fS)) (l1 : Int) (l3 : Int) (l4 : Int) (l5 : Int) (l6 : Int) (l8 : Int) (s : fS) : Option ((Unit ⊕ Nat) × fS) :=
  if l5 < 0 then
    FX8_delimited_b99 N K19 l1 l3 l4 l5 l6 l8 0 s
  else
    FX8_delimited_b99 N K19 l1 l3 l4 l5 l6 l8 1 s
theorem SX8_delimited_b85 {m b : Nat} {φ0 : Nat → Nat} {σo : fS} (hb : 3 ≤ b) {N : Nat} {k19 : Nat → Int32 → Int32 → Int32 → Int32 → Int32 → Int32 → eH → Option ((Unit ⊕ Nat) × eH)} {K19 : Int → Int → Int → Int → Int → Int → fS → Option ((Unit ⊕ Nat) × fS)} {q : (Unit ⊕ Nat) × fS} (hk19 : ∀ {φ : Nat → Nat} {h : eH} {s : fS} {l1' : Int32} {l1 : Int} {l3' : Int32} {l3 : Int} {l4' : Int32} {l4 : Int} {l5' : Int32} {l5 : Int} {l6' : Int32} {l6 : Int} {l7' : Int32} {l7 : Int}, fC m b φ0 σo φ h s → l1' = iI l1 → r32 l1 → l3' = iI l3 → r32 l3 → l4' = iI l4 → r32 l4 → l5' = iI l5 → r32 l5 → l6' = iI l6 → r32 l6 → l7' = iI l7 → r32 l7 → K19 l1 l3 l4 l5 l6 l7 s = some q → gG m b φ0 σo (lT lU) q (k19 22 l1' l3' l4' l5' l6' l7' h)) {φ : Nat → Nat} {h : eH} {s : fS} {l1' : Int32} {l1 : Int} {l3' : Int32} {l3 : Int} {l4' : Int32} {l4 : Int} {l5' : Int32} {l5 : Int} {l6' : Int32} {l6 : Int} {l8' : Int32} {l8 : Int} (R : fC m b φ0 σo φ h s) (el1 : l1' = iI l1) (rl1 : r32 l1) (el3 : l3' = iI l3) (rl3 : r32 l3) (el4 : l4' = iI l4) (rl4 : r32 l4) (el5 : l5' = iI l5) (rl5 : r32 l5) (el6 : l6' = iI l6) (rl6 : r32 l6) (el8 : l8' = iI l8) (rl8 : r32 l8) (hF : FX8_delimited_b85 N K19 l1 l3 l4 l5 l6 l8 s = some q) : gG m b φ0 σo (lT lU) q (fX8_delimited_b85 N k19 22 l1' l3' l4' l5' l6' l8' h) := by
  subst el1; subst el3; subst el4; subst el5; subst el6; subst el8
  unfold FX8_delimited_b85 at hF
  unfold fX8_delimited_b85
  refine s_gO R (t_22 R.S) (Nat.le_of_ble_eq_true rfl) rfl (o_22_0 R.S) ?_
  refine s_if (i_lt rfl (c_lit 0 0 rfl) rl5 ⟨by decide, by decide⟩) hF (fun c2 hF => ?_) (fun c2 hF => ?_)
  ·
    exact SX8_delimited_b99 (N := N) (k19 := k19) (K19 := K19) hb @hk19 R rfl rl1 rfl rl3 rfl rl4 rfl rl5 rfl rl6 rfl rl8 (c_lit 0 0 rfl) ⟨by decide, by decide⟩ hF
  ·
    exact SX8_delimited_b99 (N := N) (k19 := k19) (K19 := K19) hb @hk19 R rfl rl1 rfl rl3 rfl rl4 rfl rl5 rfl rl6 rfl rl8 (c_lit 1 1 rfl) ⟨by decide, by decide⟩ hF
def FX8_delimited_b73 (N : Nat) (K19 : Int → Int → Int → Int → Int → Int → fS → Option ((Unit ⊕ Nat) × fS)) (l1 : Int) (l3 : Int) (l4 : Int) (l5 : Int) (l6 : Int) (l8 : Int) (s : fS) : Option ((Unit ⊕ Nat) × fS) :=
  (FX1_is l8 2 s).bind fun q1 =>
  if q1.1 = 0 then
    FX8_delimited_b85 N K19 l1 l3 l4 l5 l6 l8 q1.2
  else
    FX8_delimited_b85 N K19 l1 l3 l4 (iadd l5 (-1)) l6 l8 q1.2
theorem SX8_delimited_b73 {m b : Nat} {φ0 : Nat → Nat} {σo : fS} (hb : 3 ≤ b) {N : Nat} {k19 : Nat → Int32 → Int32 → Int32 → Int32 → Int32 → Int32 → eH → Option ((Unit ⊕ Nat) × eH)} {K19 : Int → Int → Int → Int → Int → Int → fS → Option ((Unit ⊕ Nat) × fS)} {q : (Unit ⊕ Nat) × fS} (hk19 : ∀ {φ : Nat → Nat} {h : eH} {s : fS} {l1' : Int32} {l1 : Int} {l3' : Int32} {l3 : Int} {l4' : Int32} {l4 : Int} {l5' : Int32} {l5 : Int} {l6' : Int32} {l6 : Int} {l7' : Int32} {l7 : Int}, fC m b φ0 σo φ h s → l1' = iI l1 → r32 l1 → l3' = iI l3 → r32 l3 → l4' = iI l4 → r32 l4 → l5' = iI l5 → r32 l5 → l6' = iI l6 → r32 l6 → l7' = iI l7 → r32 l7 → K19 l1 l3 l4 l5 l6 l7 s = some q → gG m b φ0 σo (lT lU) q (k19 22 l1' l3' l4' l5' l6' l7' h)) {φ : Nat → Nat} {h : eH} {s : fS} {l1' : Int32} {l1 : Int} {l3' : Int32} {l3 : Int} {l4' : Int32} {l4 : Int} {l5' : Int32} {l5 : Int} {l6' : Int32} {l6 : Int} {l8' : Int32} {l8 : Int} (R : fC m b φ0 σo φ h s) (el1 : l1' = iI l1) (rl1 : r32 l1) (el3 : l3' = iI l3) (rl3 : r32 l3) (el4 : l4' = iI l4) (rl4 : r32 l4) (el5 : l5' = iI l5) (rl5 : r32 l5) (el6 : l6' = iI l6) (rl6 : r32 l6) (el8 : l8' = iI l8) (rl8 : r32 l8) (hF : FX8_delimited_b73 N K19 l1 l3 l4 l5 l6 l8 s = some q) : gG m b φ0 σo (lT lU) q (fX8_delimited_b73 N k19 22 l1' l3' l4' l5' l6' l8' h) := by
  subst el1; subst el3; subst el4; subst el5; subst el6; subst el8
  unfold FX8_delimited_b73 at hF
  unfold fX8_delimited_b73
  refine s_call R (Nat.zero_le _) (fun _ hq => SX1_is (b := 0) (R.rf) rfl rl8 (c_lit 2 2 rfl) ⟨by decide, by decide⟩ hq) hF (fun f1 rv1 h1 q1 R1 e1 E1 hF => ?_)
  refine s_if (i_eq e1.1 (c_lit 0 0 rfl) e1.2 ⟨by decide, by decide⟩) hF (fun c2 hF => ?_) (fun c2 hF => ?_)
  ·
    exact SX8_delimited_b85 (N := N) (k19 := k19) (K19 := K19) hb @hk19 R1 rfl rl1 rfl rl3 rfl rl4 rfl rl5 rfl rl6 rfl rl8 hF
  ·
    exact SX8_delimited_b85 (N := N) (k19 := k19) (K19 := K19) hb @hk19 R1 rfl rl1 rfl rl3 rfl rl4 (c_add rfl (c_lit (-1) (-1) rfl)) (rr_I _) rfl rl6 rfl rl8 hF
def FX8_delimited_b57 (N : Nat) (K19 : Int → Int → Int → Int → Int → Int → fS → Option ((Unit ⊕ Nat) × fS)) (l1 : Int) (l3 : Int) (l4 : Int) (l5 : Int) (l6 : Int) (l8 : Int) (s1 : Int) (s : fS) : Option ((Unit ⊕ Nat) × fS) :=
  tB (FX4_want s1 2 s) fun x2 σ3 =>
  (FX1_is l8 1 σ3).bind fun q4 =>
  if q4.1 = 0 then
    FX8_delimited_b73 N K19 l1 l3 l4 l5 l6 l8 q4.2
  else
    FX8_delimited_b73 N K19 l1 l3 l4 (iadd l5 1) l6 l8 q4.2
theorem SX8_delimited_b57 {m b : Nat} {φ0 : Nat → Nat} {σo : fS} (hb : 3 ≤ b) {N : Nat} {k19 : Nat → Int32 → Int32 → Int32 → Int32 → Int32 → Int32 → eH → Option ((Unit ⊕ Nat) × eH)} {K19 : Int → Int → Int → Int → Int → Int → fS → Option ((Unit ⊕ Nat) × fS)} {q : (Unit ⊕ Nat) × fS} (hk19 : ∀ {φ : Nat → Nat} {h : eH} {s : fS} {l1' : Int32} {l1 : Int} {l3' : Int32} {l3 : Int} {l4' : Int32} {l4 : Int} {l5' : Int32} {l5 : Int} {l6' : Int32} {l6 : Int} {l7' : Int32} {l7 : Int}, fC m b φ0 σo φ h s → l1' = iI l1 → r32 l1 → l3' = iI l3 → r32 l3 → l4' = iI l4 → r32 l4 → l5' = iI l5 → r32 l5 → l6' = iI l6 → r32 l6 → l7' = iI l7 → r32 l7 → K19 l1 l3 l4 l5 l6 l7 s = some q → gG m b φ0 σo (lT lU) q (k19 22 l1' l3' l4' l5' l6' l7' h)) {φ : Nat → Nat} {h : eH} {s : fS} {l1' : Int32} {l1 : Int} {l3' : Int32} {l3 : Int} {l4' : Int32} {l4 : Int} {l5' : Int32} {l5 : Int} {l6' : Int32} {l6 : Int} {l8' : Int32} {l8 : Int} {s1' : Int32} {s1 : Int} (R : fC m b φ0 σo φ h s) (el1 : l1' = iI l1) (rl1 : r32 l1) (el3 : l3' = iI l3) (rl3 : r32 l3) (el4 : l4' = iI l4) (rl4 : r32 l4) (el5 : l5' = iI l5) (rl5 : r32 l5) (el6 : l6' = iI l6) (rl6 : r32 l6) (el8 : l8' = iI l8) (rl8 : r32 l8) (es1 : s1' = iI s1) (rs1 : r32 s1) (hF : FX8_delimited_b57 N K19 l1 l3 l4 l5 l6 l8 s1 s = some q) : gG m b φ0 σo (lT lU) q (fX8_delimited_b57 N k19 22 l1' l3' l4' l5' l6' l8' 5 s1' h) := by
  subst el1; subst el3; subst el4; subst el5; subst el6; subst el8; subst es1
  unfold FX8_delimited_b57 at hF
  unfold fX8_delimited_b57
  refine s_kok R (t_5 R.S) (Nat.le_of_ble_eq_true rfl) ?_
  refine s_tB R (Nat.zero_le _) (fun _ hq => SX4_want (b := 0) (R.rf) rfl rs1 (c_lit 2 2 rfl) ⟨by decide, by decide⟩ hq) hF (fun f2 rv2 h2 x2 σ3 R2 e2 E2 hF => ?_)
  refine s_call R2 (Nat.zero_le _) (fun _ hq => SX1_is (b := 0) (R2.rf) rfl rl8 (c_lit 1 1 rfl) ⟨by decide, by decide⟩ hq) hF (fun f3 rv3 h3 q4 R3 e3 E3 hF => ?_)
  refine s_if (i_eq e3.1 (c_lit 0 0 rfl) e3.2 ⟨by decide, by decide⟩) hF (fun c4 hF => ?_) (fun c4 hF => ?_)
  ·
    exact SX8_delimited_b73 (N := N) (k19 := k19) (K19 := K19) hb @hk19 R3 rfl rl1 rfl rl3 rfl rl4 rfl rl5 rfl rl6 rfl rl8 hF
  ·
    exact SX8_delimited_b73 (N := N) (k19 := k19) (K19 := K19) hb @hk19 R3 rfl rl1 rfl rl3 rfl rl4 (c_add rfl (c_lit 1 1 rfl)) (rr_I _) rfl rl6 rfl rl8 hF
def FX8_delimited_b19 (N : Nat) : Nat → Int → Int → Int → Int → Int → Int → fS → Option ((Unit ⊕ Nat) × fS)
  | 0, _, _, _, _, _, _, _ => none
  | n + 1, l1, l3, l4, l5, l6, l7, s =>
    if ¬ (l7 = 0) then
      (uPI s 22 17 (isub (s.i 22 17) l4)).bind fun σ4 =>
      (FX8_strip N l3 σ4).bind fun q7 =>
      some (.inl (), q7.2)
    else
      tB (FX8_need N s) fun x9 σ10 =>
      (FX8_take x9 σ10).bind fun q12 =>
      if 10000 < (isub (q12.2.i 22 17) l3) then
        FX8_delimited_b57 N (FX8_delimited_b19 N n) l1 l3 l4 l5 l6 x9 0 q12.2
      else
        FX8_delimited_b57 N (FX8_delimited_b19 N n) l1 l3 l4 l5 l6 x9 1 q12.2
theorem SX8_delimited_b19 {m b : Nat} {φ0 : Nat → Nat} {σo : fS} (hb : 3 ≤ b) {N : Nat} {q : (Unit ⊕ Nat) × fS} : ∀ {n : Nat} {φ : Nat → Nat} {h : eH} {s : fS} {l1' : Int32} {l1 : Int} {l3' : Int32} {l3 : Int} {l4' : Int32} {l4 : Int} {l5' : Int32} {l5 : Int} {l6' : Int32} {l6 : Int} {l7' : Int32} {l7 : Int}, fC m b φ0 σo φ h s → l1' = iI l1 → r32 l1 → l3' = iI l3 → r32 l3 → l4' = iI l4 → r32 l4 → l5' = iI l5 → r32 l5 → l6' = iI l6 → r32 l6 → l7' = iI l7 → r32 l7 → FX8_delimited_b19 N n l1 l3 l4 l5 l6 l7 s = some q → gG m b φ0 σo (lT lU) q (fX8_delimited_b19 N n 22 l1' l3' l4' l5' l6' l7' h) := by
  intro n
  induction n with
 | zero => intro φ h s l1' l1 l3' l3 l4' l4 l5' l5 l6' l6 l7' l7 R el1 rl1 el3 rl3 el4 rl4 el5 rl5 el6 rl6 el7 rl7 hF; simp [FX8_delimited_b19] at hF
  | succ n ih =>
    intro φ h s l1' l1 l3' l3 l4' l4 l5' l5 l6' l6 l7' l7 R el1 rl1 el3 rl3 el4 rl4 el5 rl5 el6 rl6 el7 rl7 hF
    subst el1; subst el3; subst el4; subst el5; subst el6; subst el7
    rw [FX8_delimited_b19] at hF
    rw [fX8_delimited_b19]
    refine s_if (not_congr (i_eq rfl (c_lit 0 0 rfl) rl7 ⟨by decide, by decide⟩)) hF (fun c1 hF => ?_) (fun c1 hF => ?_)
    ·
      refine s_gI R (t_22 R.S) (Nat.le_of_ble_eq_true rfl) rfl ?_
      refine s_pI R (t_22 R.S) (Nat.le_of_ble_eq_true rfl) rfl (c_sub rfl rfl) (rr_I _) hF (fun h3 σ4 R3 T3 hF => ?_)
      refine s_kok R3 (t_22 R3.S) (Nat.le_of_ble_eq_true rfl) ?_
      refine s_call R3 (Nat.zero_le _) (fun _ hq => SX8_strip (b := 0) (N := N) (R3.rf) rfl rl3 hq) hF (fun f5 rv5 h5 q7 R5 e5 E5 hF => ?_)
      exact g_ret R5 hF trivial
    ·
      refine s_kok R (t_22 R.S) (Nat.le_of_ble_eq_true rfl) ?_
      refine s_tB R (Nat.le_trans (Nat.le_of_ble_eq_true rfl) hb) (fun _ hq => SX8_need (b := 2) (N := N) (Nat.le_of_ble_eq_true rfl) (R.rf) hq) hF (fun f7 rv7 h7 x9 σ10 R7 e7 E7 hF => ?_)
      refine s_kok R7 (t_22 R7.S) (Nat.le_of_ble_eq_true rfl) ?_
      refine s_call R7 hb (fun _ hq => SX8_take (b := 3) (Nat.le_of_ble_eq_true rfl) (R7.rf) e7.1 e7.2 hq) hF (fun f9 rv9 h9 q12 R9 e9 E9 hF => ?_)
      refine s_gO R9 (t_22 R9.S) (Nat.le_of_ble_eq_true rfl) rfl (o_22_0 R9.S) ?_
      refine s_gI R9 (t_22 R9.S) (Nat.le_of_ble_eq_true rfl) rfl ?_
      refine s_if (i_lt (c_lit 10000 10000 rfl) (c_sub rfl rfl) ⟨by decide, by decide⟩ (rr_I _)) hF (fun c12 hF => ?_) (fun c12 hF => ?_)
      ·
        exact SX8_delimited_b57 (N := N) (k19 := fX8_delimited_b19 N n) (K19 := FX8_delimited_b19 N n) hb @ih R9 rfl rl1 rfl rl3 rfl rl4 rfl rl5 rfl rl6 e7.1 e7.2 (c_lit 0 0 rfl) ⟨by decide, by decide⟩ hF
      ·
        exact SX8_delimited_b57 (N := N) (k19 := fX8_delimited_b19 N n) (K19 := FX8_delimited_b19 N n) hb @ih R9 rfl rl1 rfl rl3 rfl rl4 rfl rl5 rfl rl6 e7.1 e7.2 (c_lit 1 1 rfl) ⟨by decide, by decide⟩ hF
def FX8_delimited (N : Nat) (p0 : Int) (p1 : Int) (s : fS) : Option ((Unit ⊕ Nat) × fS) :=
  FX8_delimited_b19 N N p0 (s.i 22 17) (isub p1 p0) 0 0 0 s
theorem SX8_delimited {m b : Nat} {φ0 : Nat → Nat} {σo : fS} (hb : 3 ≤ b) {N : Nat} {q : (Unit ⊕ Nat) × fS} {φ : Nat → Nat} {h : eH} {s : fS} {p0' : Int32} {p0 : Int} {p1' : Int32} {p1 : Int} (R : fC m b φ0 σo φ h s) (ep0 : p0' = iI p0) (rp0 : r32 p0) (ep1 : p1' = iI p1) (rp1 : r32 p1) (hF : FX8_delimited N p0 p1 s = some q) : gG m b φ0 σo (lT lU) q (fX8_delimited N 22 p0' p1' h) := by
  subst ep0; subst ep1
  unfold FX8_delimited at hF
  unfold fX8_delimited
  refine s_gI R (t_22 R.S) (Nat.le_of_ble_eq_true rfl) rfl ?_
  exact SX8_delimited_b19 (N := N) hb R rfl rp0 rfl (R.ri (t_22 R.S) (Nat.le_of_ble_eq_true rfl) rfl) (c_sub rfl rfl) (rr_I _) (c_lit 0 0 rfl) ⟨by decide, by decide⟩ (c_lit 0 0 rfl) ⟨by decide, by decide⟩ (c_lit 0 0 rfl) ⟨by decide, by decide⟩ hF
def FX13_length_b73 (N : Nat) (K13 : Int → Int → Int → fS → Option (Int × fS)) (l1 : Int) (l5 : Int) (s0 : Int) (s1 : Int) (s : fS) : Option (Int × fS) :=
  K13 l1 (ladd s0 s1) (iadd l5 1) s
theorem SX13_length_b73 {m b : Nat} {φ0 : Nat → Nat} {σo : fS} {N : Nat} {k13 : Nat → Int32 → Nat → Int64 → Int32 → eH → Option (Int64 × eH)} {K13 : Int → Int → Int → fS → Option (Int × fS)} {q : Int × fS} (hk13 : ∀ {φ : Nat → Nat} {h : eH} {s : fS} {l1' : Int32} {l1 : Int} {l3' : Int64} {l3 : Int} {l5' : Int32} {l5 : Int}, fC m b φ0 σo φ h s → l1' = iI l1 → r32 l1 → l3' = iJ l3 → r64 l3 → l5' = iI l5 → r32 l5 → K13 l1 l3 l5 s = some q → gG m b φ0 σo lJ q (k13 58 l1' 38 l3' l5' h)) {φ : Nat → Nat} {h : eH} {s : fS} {l1' : Int32} {l1 : Int} {l5' : Int32} {l5 : Int} {s0' : Int64} {s0 : Int} {s1' : Int64} {s1 : Int} (R : fC m b φ0 σo φ h s) (el1 : l1' = iI l1) (rl1 : r32 l1) (el5 : l5' = iI l5) (rl5 : r32 l5) (es0 : s0' = iJ s0) (rs0 : r64 s0) (es1 : s1' = iJ s1) (rs1 : r64 s1) (hF : FX13_length_b73 N K13 l1 l5 s0 s1 s = some q) : gG m b φ0 σo lJ q (fX13_length_b73 N k13 58 l1' 38 l5' s0' s1' h) := by
  subst el1; subst el5; subst es0; subst es1
  unfold FX13_length_b73 at hF
  unfold fX13_length_b73
  exact hk13 R rfl rl1 (d_add rfl rfl) (rr_J _) (c_add rfl (c_lit 1 1 rfl)) (rr_I _) hF
def FX13_length_b71 (N : Nat) (K13 : Int → Int → Int → fS → Option (Int × fS)) (l1 : Int) (l5 : Int) (s0 : Int) (s1 : Int) (s2 : Int) (s : fS) : Option (Int × fS) :=
  FX13_length_b73 N K13 l1 l5 s0 (isub s1 s2) s
theorem SX13_length_b71 {m b : Nat} {φ0 : Nat → Nat} {σo : fS} {N : Nat} {k13 : Nat → Int32 → Nat → Int64 → Int32 → eH → Option (Int64 × eH)} {K13 : Int → Int → Int → fS → Option (Int × fS)} {q : Int × fS} (hk13 : ∀ {φ : Nat → Nat} {h : eH} {s : fS} {l1' : Int32} {l1 : Int} {l3' : Int64} {l3 : Int} {l5' : Int32} {l5 : Int}, fC m b φ0 σo φ h s → l1' = iI l1 → r32 l1 → l3' = iJ l3 → r64 l3 → l5' = iI l5 → r32 l5 → K13 l1 l3 l5 s = some q → gG m b φ0 σo lJ q (k13 58 l1' 38 l3' l5' h)) {φ : Nat → Nat} {h : eH} {s : fS} {l1' : Int32} {l1 : Int} {l5' : Int32} {l5 : Int} {s0' : Int64} {s0 : Int} {s1' : Int32} {s1 : Int} {s2' : Int32} {s2 : Int} (R : fC m b φ0 σo φ h s) (el1 : l1' = iI l1) (rl1 : r32 l1) (el5 : l5' = iI l5) (rl5 : r32 l5) (es0 : s0' = iJ s0) (rs0 : r64 s0) (es1 : s1' = iI s1) (rs1 : r32 s1) (es2 : s2' = iI s2) (rs2 : r32 s2) (hF : FX13_length_b71 N K13 l1 l5 s0 s1 s2 s = some q) : gG m b φ0 σo lJ q (fX13_length_b71 N k13 58 l1' 38 l5' s0' s1' s2' h) := by
  subst el1; subst el5; subst es0; subst es1; subst es2
  unfold FX13_length_b71 at hF
  unfold fX13_length_b71
  exact SX13_length_b73 (N := N) (k13 := k13) (K13 := K13) @hk13 R rfl rl1 rfl rl5 rfl rs0 (c_2l (c_sub rfl rfl) (rr_I _)) (r32.w (rr_I _)) hF
def FX13_length_b13 (N : Nat) : Nat → Int → Int → Int → fS → Option (Int × fS)
  | 0, _, _, _, _ => none
  | n + 1, l1, l3, l5, s =>
    (uRI s 56 l1).bind fun x5 =>
    if x5 ≤ l5 then
      some (l3, s)
    else
      (uRI s 53 l5).bind fun x12 =>
      if 0 ≤ (isub x12 262144) then
        (uRI s 38 (isub x12 262144)).bind fun x15 =>
        if ¬ ((isub x12 262144) = 0) then
          (uRI s 38 (isub (isub x12 262144) 1)).bind fun x18 =>
          FX13_length_b71 N (FX13_length_b13 N n) l1 l5 l3 x15 x18 s
        else
          FX13_length_b71 N (FX13_length_b13 N n) l1 l5 l3 x15 0 s
      else
        FX13_length_b73 N (FX13_length_b13 N n) l1 l5 l3 1 s
theorem SX13_length_b13 {m b : Nat} {φ0 : Nat → Nat} {σo : fS} {N : Nat} {q : Int × fS} : ∀ {n : Nat} {φ : Nat → Nat} {h : eH} {s : fS} {l1' : Int32} {l1 : Int} {l3' : Int64} {l3 : Int} {l5' : Int32} {l5 : Int}, fC m b φ0 σo φ h s → l1' = iI l1 → r32 l1 → l3' = iJ l3 → r64 l3 → l5' = iI l5 → r32 l5 → FX13_length_b13 N n l1 l3 l5 s = some q → gG m b φ0 σo lJ q (fX13_length_b13 N n 58 l1' 38 l3' l5' h) := by
  intro n
  induction n with
 | zero => intro φ h s l1' l1 l3' l3 l5' l5 R el1 rl1 el3 rl3 el5 rl5 hF; simp [FX13_length_b13] at hF
  | succ n ih =>
    intro φ h s l1' l1 l3' l3 l5' l5 R el1 rl1 el3 rl3 el5 rl5 hF
    subst el1; subst el3; subst el5
    rw [FX13_length_b13] at hF
    rw [fX13_length_b13]
    refine s_gO R (t_58 R.S) (Nat.le_of_ble_eq_true rfl) rfl (o_58_0 R.S) ?_
    refine s_gA R (t_52 R.S) (Nat.le_of_ble_eq_true rfl) rfl (o_52_5 R.S) (fun _ _ => ?_)
    refine s_rI R (u_56 R.S).1 (u_56 R.S).2 (by decide) rfl rfl rl1 hF (fun x5 ra3 hF => ?_)
    refine s_if (i_le rfl rfl ra3 rl5) hF (fun c4 hF => ?_) (fun c4 hF => ?_)
    ·
      exact g_ret R hF ⟨rfl, rl3⟩
    ·
      refine s_gO R (t_58 R.S) (Nat.le_of_ble_eq_true rfl) rfl (o_58_0 R.S) ?_
      refine s_gAs R (t_52 R.S) (Nat.le_of_ble_eq_true rfl) rfl (o_52_1 R.S) (a_53 R) ?_
      refine s_rI R (u_53 R.S).1 (u_53 R.S).2 (by decide) (a_53 R) rfl rl5 hF (fun x12 ra7 hF => ?_)
      refine s_if (i_le (c_lit 0 0 rfl) (c_sub rfl (c_lit 262144 262144 rfl)) ⟨by decide, by decide⟩ (rr_I _)) hF (fun c8 hF => ?_) (fun c8 hF => ?_)
      ·
        refine s_rI R (u_38 R.S).1 (u_38 R.S).2 (by decide) (a_38 R) (c_sub rfl (c_lit 262144 262144 rfl)) (rr_I _) hF (fun x15 ra9 hF => ?_)
        refine s_if (not_congr (i_eq (c_sub rfl (c_lit 262144 262144 rfl)) (c_lit 0 0 rfl) (rr_I _) ⟨by decide, by decide⟩)) hF (fun c10 hF => ?_) (fun c10 hF => ?_)
        ·
          refine s_rI R (u_38 R.S).1 (u_38 R.S).2 (by decide) (a_38 R) (c_sub (c_sub rfl (c_lit 262144 262144 rfl)) (c_lit 1 1 rfl)) (rr_I _) hF (fun x18 ra11 hF => ?_)
          exact SX13_length_b71 (N := N) (k13 := fX13_length_b13 N n) (K13 := FX13_length_b13 N n) @ih R rfl rl1 rfl rl5 rfl rl3 rfl ra9 rfl ra11 hF
        ·
          exact SX13_length_b71 (N := N) (k13 := fX13_length_b13 N n) (K13 := FX13_length_b13 N n) @ih R rfl rl1 rfl rl5 rfl rl3 rfl ra9 (c_lit 0 0 rfl) ⟨by decide, by decide⟩ hF
      ·
        exact SX13_length_b73 (N := N) (k13 := fX13_length_b13 N n) (K13 := FX13_length_b13 N n) @ih R rfl rl1 rfl rl5 rfl rl3 (d_lit 1 1 rfl) ⟨by decide, by decide⟩ hF
def FX13_length (N : Nat) (p0 : Int) (s : fS) : Option (Int × fS) :=
  (uRI s 55 p0).bind fun x5 =>
  FX13_length_b13 N N p0 0 x5 s
theorem SX13_length {m b : Nat} {φ0 : Nat → Nat} {σo : fS} {N : Nat} {q : Int × fS} {φ : Nat → Nat} {h : eH} {s : fS} {p0' : Int32} {p0 : Int} (R : fC m b φ0 σo φ h s) (ep0 : p0' = iI p0) (rp0 : r32 p0) (hF : FX13_length N p0 s = some q) : gG m b φ0 σo lJ q (fX13_length N 58 p0' 38 h) := by
  subst ep0
  unfold FX13_length at hF
  unfold fX13_length
  refine s_gO R (t_58 R.S) (Nat.le_of_ble_eq_true rfl) rfl (o_58_0 R.S) ?_
  refine s_gA R (t_52 R.S) (Nat.le_of_ble_eq_true rfl) rfl (o_52_4 R.S) (fun _ _ => ?_)
  refine s_rI R (u_55 R.S).1 (u_55 R.S).2 (by decide) rfl rfl rp0 hF (fun x5 ra3 hF => ?_)
  exact SX13_length_b13 (N := N) R rfl rp0 (d_lit 0 0 rfl) ⟨by decide, by decide⟩ rfl ra3 hF
def FX13_call_b110 (N : Nat) (K13 : Int → Int → fS → Option (Unit × fS)) (l1 : Int) (l4 : Int) (s : fS) : Option (Unit × fS) :=
  K13 l1 (iadd l4 (-1)) s
theorem SX13_call_b110 {m b : Nat} {φ0 : Nat → Nat} {σo : fS} (hb : 1 ≤ b) {N : Nat} {k13 : Nat → Int32 → Nat → Nat → Int32 → eH → Option (Unit × eH)} {K13 : Int → Int → fS → Option (Unit × fS)} {q : Unit × fS} (hk13 : ∀ {φ : Nat → Nat} {h : eH} {s : fS} {l1' : Int32} {l1 : Int} {l2' : Nat} {l4' : Int32} {l4 : Int}, fC m b φ0 σo φ h s → l1' = iI l1 → r32 l1 → l2' = φ 37 → l4' = iI l4 → r32 l4 → K13 l1 l4 s = some q → gG m b φ0 σo lU q (k13 58 l1' l2' 38 l4' h)) {φ : Nat → Nat} {h : eH} {s : fS} {l1' : Int32} {l1 : Int} {l2' : Nat} {l4' : Int32} {l4 : Int} (R : fC m b φ0 σo φ h s) (el1 : l1' = iI l1) (rl1 : r32 l1) (el2 : l2' = φ 37) (el4 : l4' = iI l4) (rl4 : r32 l4) (hF : FX13_call_b110 N K13 l1 l4 s = some q) : gG m b φ0 σo lU q (fX13_call_b110 N k13 58 l1' l2' 38 l4' h) := by
  subst el1; subst el4
  unfold FX13_call_b110 at hF
  unfold fX13_call_b110
  exact hk13 R rfl rl1 el2 (c_add rfl (c_lit (-1) (-1) rfl)) (rr_I _) hF
def FX13_call_b89 (N : Nat) (K13 : Int → Int → fS → Option (Unit × fS)) : Nat → Int → Int → Int → Int → fS → Option (Unit × fS)
  | 0, _, _, _, _, _ => none
  | n + 1, l1, l4, l6, l7, s =>
    if l7 < l6 then
      FX13_call_b110 N K13 l1 l4 s
    else
      (uRI s 37 l7).bind fun x2 =>
      (FX13_put x2 s).bind fun q5 =>
      FX13_call_b89 N K13 n l1 l4 l6 (iadd l7 (-1)) q5.2
theorem SX13_call_b89 {m b : Nat} {φ0 : Nat → Nat} {σo : fS} (hb : 1 ≤ b) {N : Nat} {k13 : Nat → Int32 → Nat → Nat → Int32 → eH → Option (Unit × eH)} {K13 : Int → Int → fS → Option (Unit × fS)} {q : Unit × fS} (hk13 : ∀ {φ : Nat → Nat} {h : eH} {s : fS} {l1' : Int32} {l1 : Int} {l2' : Nat} {l4' : Int32} {l4 : Int}, fC m b φ0 σo φ h s → l1' = iI l1 → r32 l1 → l2' = φ 37 → l4' = iI l4 → r32 l4 → K13 l1 l4 s = some q → gG m b φ0 σo lU q (k13 58 l1' l2' 38 l4' h)) : ∀ {n : Nat} {φ : Nat → Nat} {h : eH} {s : fS} {l1' : Int32} {l1 : Int} {l2' : Nat} {l4' : Int32} {l4 : Int} {l6' : Int32} {l6 : Int} {l7' : Int32} {l7 : Int}, fC m b φ0 σo φ h s → l1' = iI l1 → r32 l1 → l2' = φ 37 → l4' = iI l4 → r32 l4 → l6' = iI l6 → r32 l6 → l7' = iI l7 → r32 l7 → FX13_call_b89 N K13 n l1 l4 l6 l7 s = some q → gG m b φ0 σo lU q (fX13_call_b89 N k13 n 58 l1' l2' 38 l4' l6' l7' h) := by
  intro n
  induction n with
 | zero => intro φ h s l1' l1 l2' l4' l4 l6' l6 l7' l7 R el1 rl1 el2 el4 rl4 el6 rl6 el7 rl7 hF; simp [FX13_call_b89] at hF
  | succ n ih =>
    intro φ h s l1' l1 l2' l4' l4 l6' l6 l7' l7 R el1 rl1 el2 el4 rl4 el6 rl6 el7 rl7 hF
    subst el1; subst el4; subst el6; subst el7
    rw [FX13_call_b89] at hF
    rw [fX13_call_b89]
    refine s_if (i_lt rfl rfl rl7 rl6) hF (fun c1 hF => ?_) (fun c1 hF => ?_)
    ·
      exact SX13_call_b110 (N := N) (k13 := k13) (K13 := K13) hb @hk13 R rfl rl1 el2 rfl rl4 hF
    ·
      refine s_rI R (u_37 R.S).1 (u_37 R.S).2 (by decide) el2 rfl rl7 hF (fun x2 ra2 hF => ?_)
      refine s_kok R (t_58 R.S) (Nat.le_of_ble_eq_true rfl) ?_
      refine s_call R hb (fun _ hq => SX13_put (b := 1) (Nat.le_of_ble_eq_true rfl) (R.rf) rfl ra2 hq) hF (fun f4 rv4 h4 q5 R4 e4 E4 hF => ?_)
      exact ih R4 rfl rl1 (el2.trans (E4.k _ (v_37 R.S) rfl).symm) rfl rl4 rfl rl6 (c_add rfl (c_lit (-1) (-1) rfl)) (rr_I _) hF
def FX13_call_b79 (N : Nat) (K13 : Int → Int → fS → Option (Unit × fS)) (l1 : Int) (l4 : Int) (l5 : Int) (s0 : Int) (s : fS) : Option (Unit × fS) :=
  (uRI s 38 l5).bind fun x1 =>
  FX13_call_b89 N K13 N l1 l4 s0 (isub x1 1) s
theorem SX13_call_b79 {m b : Nat} {φ0 : Nat → Nat} {σo : fS} (hb : 1 ≤ b) {N : Nat} {k13 : Nat → Int32 → Nat → Nat → Int32 → eH → Option (Unit × eH)} {K13 : Int → Int → fS → Option (Unit × fS)} {q : Unit × fS} (hk13 : ∀ {φ : Nat → Nat} {h : eH} {s : fS} {l1' : Int32} {l1 : Int} {l2' : Nat} {l4' : Int32} {l4 : Int}, fC m b φ0 σo φ h s → l1' = iI l1 → r32 l1 → l2' = φ 37 → l4' = iI l4 → r32 l4 → K13 l1 l4 s = some q → gG m b φ0 σo lU q (k13 58 l1' l2' 38 l4' h)) {φ : Nat → Nat} {h : eH} {s : fS} {l1' : Int32} {l1 : Int} {l2' : Nat} {l4' : Int32} {l4 : Int} {l5' : Int32} {l5 : Int} {s0' : Int32} {s0 : Int} (R : fC m b φ0 σo φ h s) (el1 : l1' = iI l1) (rl1 : r32 l1) (el2 : l2' = φ 37) (el4 : l4' = iI l4) (rl4 : r32 l4) (el5 : l5' = iI l5) (rl5 : r32 l5) (es0 : s0' = iI s0) (rs0 : r32 s0) (hF : FX13_call_b79 N K13 l1 l4 l5 s0 s = some q) : gG m b φ0 σo lU q (fX13_call_b79 N k13 58 l1' l2' 38 l4' l5' s0' h) := by
  subst el1; subst el4; subst el5; subst es0
  unfold FX13_call_b79 at hF
  unfold fX13_call_b79
  refine s_rI R (u_38 R.S).1 (u_38 R.S).2 (by decide) (a_38 R) rfl rl5 hF (fun x1 ra1 hF => ?_)
  exact SX13_call_b89 (N := N) (k13 := k13) (K13 := K13) hb @hk13 R rfl rl1 el2 rfl rl4 rfl rs0 (c_sub rfl (c_lit 1 1 rfl)) (rr_I _) hF
def FX13_call_b13 (N : Nat) : Nat → Int → Int → fS → Option (Unit × fS)
  | 0, _, _, _ => none
  | n + 1, l1, l4, s =>
    (uRI s 55 l1).bind fun x5 =>
    if l4 < x5 then
      some ((), s)
    else
      (uRI s 53 l4).bind fun x12 =>
      if 0 ≤ (isub x12 262144) then
        if ¬ ((isub x12 262144) = 0) then
          (uRI s 38 (isub (isub x12 262144) 1)).bind fun x16 =>
          FX13_call_b79 N (FX13_call_b13 N n) l1 l4 (isub x12 262144) x16 s
        else
          FX13_call_b79 N (FX13_call_b13 N n) l1 l4 (isub x12 262144) 0 s
      else
        (uRI s 53 l4).bind fun x22 =>
        (FX13_put x22 s).bind fun q25 =>
        FX13_call_b110 N (FX13_call_b13 N n) l1 l4 q25.2
theorem SX13_call_b13 {m b : Nat} {φ0 : Nat → Nat} {σo : fS} (hb : 1 ≤ b) {N : Nat} {q : Unit × fS} : ∀ {n : Nat} {φ : Nat → Nat} {h : eH} {s : fS} {l1' : Int32} {l1 : Int} {l2' : Nat} {l4' : Int32} {l4 : Int}, fC m b φ0 σo φ h s → l1' = iI l1 → r32 l1 → l2' = φ 37 → l4' = iI l4 → r32 l4 → FX13_call_b13 N n l1 l4 s = some q → gG m b φ0 σo lU q (fX13_call_b13 N n 58 l1' l2' 38 l4' h) := by
  intro n
  induction n with
 | zero => intro φ h s l1' l1 l2' l4' l4 R el1 rl1 el2 el4 rl4 hF; simp [FX13_call_b13] at hF
  | succ n ih =>
    intro φ h s l1' l1 l2' l4' l4 R el1 rl1 el2 el4 rl4 hF
    subst el1; subst el4
    rw [FX13_call_b13] at hF
    rw [fX13_call_b13]
    refine s_gO R (t_58 R.S) (Nat.le_of_ble_eq_true rfl) rfl (o_58_0 R.S) ?_
    refine s_gA R (t_52 R.S) (Nat.le_of_ble_eq_true rfl) rfl (o_52_4 R.S) (fun _ _ => ?_)
    refine s_rI R (u_55 R.S).1 (u_55 R.S).2 (by decide) rfl rfl rl1 hF (fun x5 ra3 hF => ?_)
    refine s_if (i_lt rfl rfl rl4 ra3) hF (fun c4 hF => ?_) (fun c4 hF => ?_)
    ·
      exact g_ret R hF trivial
    ·
      refine s_gO R (t_58 R.S) (Nat.le_of_ble_eq_true rfl) rfl (o_58_0 R.S) ?_
      refine s_gAs R (t_52 R.S) (Nat.le_of_ble_eq_true rfl) rfl (o_52_1 R.S) (a_53 R) ?_
      refine s_rI R (u_53 R.S).1 (u_53 R.S).2 (by decide) (a_53 R) rfl rl4 hF (fun x12 ra7 hF => ?_)
      refine s_if (i_le (c_lit 0 0 rfl) (c_sub rfl (c_lit 262144 262144 rfl)) ⟨by decide, by decide⟩ (rr_I _)) hF (fun c8 hF => ?_) (fun c8 hF => ?_)
      ·
        refine s_if (not_congr (i_eq (c_sub rfl (c_lit 262144 262144 rfl)) (c_lit 0 0 rfl) (rr_I _) ⟨by decide, by decide⟩)) hF (fun c9 hF => ?_) (fun c9 hF => ?_)
        ·
          refine s_rI R (u_38 R.S).1 (u_38 R.S).2 (by decide) (a_38 R) (c_sub (c_sub rfl (c_lit 262144 262144 rfl)) (c_lit 1 1 rfl)) (rr_I _) hF (fun x16 ra10 hF => ?_)
          exact SX13_call_b79 (N := N) (k13 := fX13_call_b13 N n) (K13 := FX13_call_b13 N n) hb @ih R rfl rl1 el2 rfl rl4 (c_sub rfl (c_lit 262144 262144 rfl)) (rr_I _) rfl ra10 hF
        ·
          exact SX13_call_b79 (N := N) (k13 := fX13_call_b13 N n) (K13 := FX13_call_b13 N n) hb @ih R rfl rl1 el2 rfl rl4 (c_sub rfl (c_lit 262144 262144 rfl)) (rr_I _) (c_lit 0 0 rfl) ⟨by decide, by decide⟩ hF
      ·
        refine s_gO R (t_58 R.S) (Nat.le_of_ble_eq_true rfl) rfl (o_58_0 R.S) ?_
        refine s_gAs R (t_52 R.S) (Nat.le_of_ble_eq_true rfl) rfl (o_52_1 R.S) (a_53 R) ?_
        refine s_rI R (u_53 R.S).1 (u_53 R.S).2 (by decide) (a_53 R) rfl rl4 hF (fun x22 ra13 hF => ?_)
        refine s_kok R (t_58 R.S) (Nat.le_of_ble_eq_true rfl) ?_
        refine s_call R hb (fun _ hq => SX13_put (b := 1) (Nat.le_of_ble_eq_true rfl) (R.rf) rfl ra13 hq) hF (fun f15 rv15 h15 q25 R15 e15 E15 hF => ?_)
        exact SX13_call_b110 (N := N) (k13 := fX13_call_b13 N n) (K13 := FX13_call_b13 N n) hb @ih R15 rfl rl1 (el2.trans (E15.k _ (v_37 R.S) rfl).symm) rfl rl4 hF
def FX13_call (N : Nat) (p0 : Int) (s : fS) : Option (Unit × fS) :=
  (uRI s 56 p0).bind fun x5 =>
  FX13_call_b13 N N p0 (isub x5 1) s
theorem SX13_call {m b : Nat} {φ0 : Nat → Nat} {σo : fS} (hb : 1 ≤ b) {N : Nat} {q : Unit × fS} {φ : Nat → Nat} {h : eH} {s : fS} {p0' : Int32} {p0 : Int} {p1' : Nat} (R : fC m b φ0 σo φ h s) (ep0 : p0' = iI p0) (rp0 : r32 p0) (ep1 : p1' = φ 37) (hF : FX13_call N p0 s = some q) : gG m b φ0 σo lU q (fX13_call N 58 p0' p1' 38 h) := by
  subst ep0
  unfold FX13_call at hF
  unfold fX13_call
  refine s_gO R (t_58 R.S) (Nat.le_of_ble_eq_true rfl) rfl (o_58_0 R.S) ?_
  refine s_gA R (t_52 R.S) (Nat.le_of_ble_eq_true rfl) rfl (o_52_5 R.S) (fun _ _ => ?_)
  refine s_rI R (u_56 R.S).1 (u_56 R.S).2 (by decide) rfl rfl rp0 hF (fun x5 ra3 hF => ?_)
  exact SX13_call_b13 (N := N) hb R rfl rp0 ep1 (c_sub rfl (c_lit 1 1 rfl)) (rr_I _) hF
def FX8_call_b85 (N : Nat) (K36 : Int → Int → Int → Int → fS → Option ((Unit ⊕ Nat) × fS)) (l1 : Int) (l2 : Int) (l3 : Int) (l4 : Int) (s1 : Int) (s : fS) : Option ((Unit ⊕ Nat) × fS) :=
  tB (FX4_want s1 4 s) fun x2 σ3 =>
  K36 l1 l2 (iadd l3 1) l4 σ3
theorem SX8_call_b85 {m b : Nat} {φ0 : Nat → Nat} {σo : fS} (hb : 3 ≤ b) {N : Nat} {k36 : Nat → Int32 → Int32 → Int32 → Int32 → eH → Option ((Unit ⊕ Nat) × eH)} {K36 : Int → Int → Int → Int → fS → Option ((Unit ⊕ Nat) × fS)} {q : (Unit ⊕ Nat) × fS} (hk36 : ∀ {φ : Nat → Nat} {h : eH} {s : fS} {l1' : Int32} {l1 : Int} {l2' : Int32} {l2 : Int} {l3' : Int32} {l3 : Int} {l4' : Int32} {l4 : Int}, fC m b φ0 σo φ h s → l1' = iI l1 → r32 l1 → l2' = iI l2 → r32 l2 → l3' = iI l3 → r32 l3 → l4' = iI l4 → r32 l4 → K36 l1 l2 l3 l4 s = some q → gG m b φ0 σo (lT lU) q (k36 22 l1' l2' l3' l4' h)) {φ : Nat → Nat} {h : eH} {s : fS} {l1' : Int32} {l1 : Int} {l2' : Int32} {l2 : Int} {l3' : Int32} {l3 : Int} {l4' : Int32} {l4 : Int} {s1' : Int32} {s1 : Int} (R : fC m b φ0 σo φ h s) (el1 : l1' = iI l1) (rl1 : r32 l1) (el2 : l2' = iI l2) (rl2 : r32 l2) (el3 : l3' = iI l3) (rl3 : r32 l3) (el4 : l4' = iI l4) (rl4 : r32 l4) (es1 : s1' = iI s1) (rs1 : r32 s1) (hF : FX8_call_b85 N K36 l1 l2 l3 l4 s1 s = some q) : gG m b φ0 σo (lT lU) q (fX8_call_b85 N k36 22 l1' l2' l3' l4' 5 s1' h) := by
  subst el1; subst el2; subst el3; subst el4; subst es1
  unfold FX8_call_b85 at hF
  unfold fX8_call_b85
  refine s_kok R (t_5 R.S) (Nat.le_of_ble_eq_true rfl) ?_
  refine s_tB R (Nat.zero_le _) (fun _ hq => SX4_want (b := 0) (R.rf) rfl rs1 (c_lit 4 4 rfl) ⟨by decide, by decide⟩ hq) hF (fun f2 rv2 h2 x2 σ3 R2 e2 E2 hF => ?_)
  exact hk36 R2 rfl rl1 rfl rl2 (c_add rfl (c_lit 1 1 rfl)) (rr_I _) rfl rl4 hF
def FX8_call_b157 (N : Nat) (K98 : Int → Int → Int → Int → Int → fS → Option ((Unit ⊕ Nat) × fS)) (l1 : Int) (l2 : Int) (l3 : Int) (l4 : Int) (l5 : Int) (s : fS) : Option ((Unit ⊕ Nat) × fS) :=
  (uQI s 38 l5 (s.i 22 17)).bind fun σ5 =>
  K98 l1 l2 l3 l4 (iadd l5 1) σ5
theorem SX8_call_b157 {m b : Nat} {φ0 : Nat → Nat} {σo : fS} (hb : 3 ≤ b) {N : Nat} {k98 : Nat → Int32 → Int32 → Int32 → Int32 → Int32 → eH → Option ((Unit ⊕ Nat) × eH)} {K98 : Int → Int → Int → Int → Int → fS → Option ((Unit ⊕ Nat) × fS)} {q : (Unit ⊕ Nat) × fS} (hk98 : ∀ {φ : Nat → Nat} {h : eH} {s : fS} {l1' : Int32} {l1 : Int} {l2' : Int32} {l2 : Int} {l3' : Int32} {l3 : Int} {l4' : Int32} {l4 : Int} {l5' : Int32} {l5 : Int}, fC m b φ0 σo φ h s → l1' = iI l1 → r32 l1 → l2' = iI l2 → r32 l2 → l3' = iI l3 → r32 l3 → l4' = iI l4 → r32 l4 → l5' = iI l5 → r32 l5 → K98 l1 l2 l3 l4 l5 s = some q → gG m b φ0 σo (lT lU) q (k98 22 l1' l2' l3' l4' l5' h)) {φ : Nat → Nat} {h : eH} {s : fS} {l1' : Int32} {l1 : Int} {l2' : Int32} {l2 : Int} {l3' : Int32} {l3 : Int} {l4' : Int32} {l4 : Int} {l5' : Int32} {l5 : Int} (R : fC m b φ0 σo φ h s) (el1 : l1' = iI l1) (rl1 : r32 l1) (el2 : l2' = iI l2) (rl2 : r32 l2) (el3 : l3' = iI l3) (rl3 : r32 l3) (el4 : l4' = iI l4) (rl4 : r32 l4) (el5 : l5' = iI l5) (rl5 : r32 l5) (hF : FX8_call_b157 N K98 l1 l2 l3 l4 l5 s = some q) : gG m b φ0 σo (lT lU) q (fX8_call_b157 N k98 22 l1' l2' l3' l4' l5' h) := by
  subst el1; subst el2; subst el3; subst el4; subst el5
  unfold FX8_call_b157 at hF
  unfold fX8_call_b157
  refine s_gAs R (t_22 R.S) (Nat.le_of_ble_eq_true rfl) rfl (o_22_18 R.S) (a_38 R) ?_
  refine s_gI R (t_22 R.S) (Nat.le_of_ble_eq_true rfl) rfl ?_
  refine s_qI R (u_38 R.S).1 (u_38 R.S).2 (by decide) (a_38 R) rfl rl5 rfl (R.ri (t_22 R.S) (Nat.le_of_ble_eq_true rfl) rfl) hF (fun h3 σ5 R3 T3 hF => ?_)
  exact hk98 R3 rfl rl1 rfl rl2 rfl rl3 rfl rl4 (c_add rfl (c_lit 1 1 rfl)) (rr_I _) hF
def FX8_call_b137 (N : Nat) (K98 : Int → Int → Int → Int → Int → fS → Option ((Unit ⊕ Nat) × fS)) (l1 : Int) (l2 : Int) (l3 : Int) (l4 : Int) (l5 : Int) (l6 : Int) (s : fS) : Option ((Unit ⊕ Nat) × fS) :=
  if ¬ (l6 = l3) then
    tB (FX8_delimited N l6 l3 s) fun x3 σ4 =>
    FX8_call_b157 N K98 l1 l2 l3 l4 l5 σ4
  else
    tB (FX8_single N s) fun x6 σ7 =>
    FX8_call_b157 N K98 l1 l2 l3 l4 l5 σ7
theorem SX8_call_b137 {m b : Nat} {φ0 : Nat → Nat} {σo : fS} (hb : 3 ≤ b) {N : Nat} {k98 : Nat → Int32 → Int32 → Int32 → Int32 → Int32 → eH → Option ((Unit ⊕ Nat) × eH)} {K98 : Int → Int → Int → Int → Int → fS → Option ((Unit ⊕ Nat) × fS)} {q : (Unit ⊕ Nat) × fS} (hk98 : ∀ {φ : Nat → Nat} {h : eH} {s : fS} {l1' : Int32} {l1 : Int} {l2' : Int32} {l2 : Int} {l3' : Int32} {l3 : Int} {l4' : Int32} {l4 : Int} {l5' : Int32} {l5 : Int}, fC m b φ0 σo φ h s → l1' = iI l1 → r32 l1 → l2' = iI l2 → r32 l2 → l3' = iI l3 → r32 l3 → l4' = iI l4 → r32 l4 → l5' = iI l5 → r32 l5 → K98 l1 l2 l3 l4 l5 s = some q → gG m b φ0 σo (lT lU) q (k98 22 l1' l2' l3' l4' l5' h)) {φ : Nat → Nat} {h : eH} {s : fS} {l1' : Int32} {l1 : Int} {l2' : Int32} {l2 : Int} {l3' : Int32} {l3 : Int} {l4' : Int32} {l4 : Int} {l5' : Int32} {l5 : Int} {l6' : Int32} {l6 : Int} (R : fC m b φ0 σo φ h s) (el1 : l1' = iI l1) (rl1 : r32 l1) (el2 : l2' = iI l2) (rl2 : r32 l2) (el3 : l3' = iI l3) (rl3 : r32 l3) (el4 : l4' = iI l4) (rl4 : r32 l4) (el5 : l5' = iI l5) (rl5 : r32 l5) (el6 : l6' = iI l6) (rl6 : r32 l6) (hF : FX8_call_b137 N K98 l1 l2 l3 l4 l5 l6 s = some q) : gG m b φ0 σo (lT lU) q (fX8_call_b137 N k98 22 l1' l2' l3' l4' l5' l6' h) := by
  subst el1; subst el2; subst el3; subst el4; subst el5; subst el6
  unfold FX8_call_b137 at hF
  unfold fX8_call_b137
  refine s_if (not_congr (i_eq rfl rfl rl6 rl3)) hF (fun c1 hF => ?_) (fun c1 hF => ?_)
  ·
    refine s_kok R (t_22 R.S) (Nat.le_of_ble_eq_true rfl) ?_
    refine s_tB R hb (fun _ hq => SX8_delimited (b := 3) (N := N) (Nat.le_of_ble_eq_true rfl) (R.rf) rfl rl6 rfl rl3 hq) hF (fun f3 rv3 h3 x3 σ4 R3 e3 E3 hF => ?_)
    exact SX8_call_b157 (N := N) (k98 := k98) (K98 := K98) hb @hk98 R3 rfl rl1 rfl rl2 rfl rl3 rfl rl4 rfl rl5 hF
  ·
    refine s_kok R (t_22 R.S) (Nat.le_of_ble_eq_true rfl) ?_
    refine s_tB R hb (fun _ hq => SX8_single (b := 3) (N := N) (Nat.le_of_ble_eq_true rfl) (R.rf) hq) hF (fun f5 rv5 h5 x6 σ7 R5 e5 E5 hF => ?_)
    exact SX8_call_b157 (N := N) (k98 := k98) (K98 := K98) hb @hk98 R5 rfl rl1 rfl rl2 rfl rl3 rfl rl4 rfl rl5 hF
def FX8_call_b110 (N : Nat) (K98 : Int → Int → Int → Int → Int → fS → Option ((Unit ⊕ Nat) × fS)) : Nat → Int → Int → Int → Int → Int → Int → fS → Option ((Unit ⊕ Nat) × fS)
  | 0, _, _, _, _, _, _, _ => none
  | n + 1, l1, l2, l3, l4, l5, l6, s =>
    if l4 ≤ l3 then
      FX8_call_b137 N K98 l1 l2 l3 l4 l5 l6 s
    else
      (uRI s 53 l3).bind fun x6 =>
      if 262144 ≤ x6 then
        FX8_call_b137 N K98 l1 l2 l3 l4 l5 l6 s
      else
        FX8_call_b110 N K98 n l1 l2 (iadd l3 1) l4 l5 l6 s
theorem SX8_call_b110 {m b : Nat} {φ0 : Nat → Nat} {σo : fS} (hb : 3 ≤ b) {N : Nat} {k98 : Nat → Int32 → Int32 → Int32 → Int32 → Int32 → eH → Option ((Unit ⊕ Nat) × eH)} {K98 : Int → Int → Int → Int → Int → fS → Option ((Unit ⊕ Nat) × fS)} {q : (Unit ⊕ Nat) × fS} (hk98 : ∀ {φ : Nat → Nat} {h : eH} {s : fS} {l1' : Int32} {l1 : Int} {l2' : Int32} {l2 : Int} {l3' : Int32} {l3 : Int} {l4' : Int32} {l4 : Int} {l5' : Int32} {l5 : Int}, fC m b φ0 σo φ h s → l1' = iI l1 → r32 l1 → l2' = iI l2 → r32 l2 → l3' = iI l3 → r32 l3 → l4' = iI l4 → r32 l4 → l5' = iI l5 → r32 l5 → K98 l1 l2 l3 l4 l5 s = some q → gG m b φ0 σo (lT lU) q (k98 22 l1' l2' l3' l4' l5' h)) : ∀ {n : Nat} {φ : Nat → Nat} {h : eH} {s : fS} {l1' : Int32} {l1 : Int} {l2' : Int32} {l2 : Int} {l3' : Int32} {l3 : Int} {l4' : Int32} {l4 : Int} {l5' : Int32} {l5 : Int} {l6' : Int32} {l6 : Int}, fC m b φ0 σo φ h s → l1' = iI l1 → r32 l1 → l2' = iI l2 → r32 l2 → l3' = iI l3 → r32 l3 → l4' = iI l4 → r32 l4 → l5' = iI l5 → r32 l5 → l6' = iI l6 → r32 l6 → FX8_call_b110 N K98 n l1 l2 l3 l4 l5 l6 s = some q → gG m b φ0 σo (lT lU) q (fX8_call_b110 N k98 n 22 l1' l2' l3' l4' l5' l6' h) := by
  intro n
  induction n with
 | zero => intro φ h s l1' l1 l2' l2 l3' l3 l4' l4 l5' l5 l6' l6 R el1 rl1 el2 rl2 el3 rl3 el4 rl4 el5 rl5 el6 rl6 hF; simp [FX8_call_b110] at hF
  | succ n ih =>
    intro φ h s l1' l1 l2' l2 l3' l3 l4' l4 l5' l5 l6' l6 R el1 rl1 el2 rl2 el3 rl3 el4 rl4 el5 rl5 el6 rl6 hF
    subst el1; subst el2; subst el3; subst el4; subst el5; subst el6
    rw [FX8_call_b110] at hF
    rw [fX8_call_b110]
    refine s_if (i_le rfl rfl rl4 rl3) hF (fun c1 hF => ?_) (fun c1 hF => ?_)
    ·
      exact SX8_call_b137 (N := N) (k98 := k98) (K98 := K98) hb @hk98 R rfl rl1 rfl rl2 rfl rl3 rfl rl4 rfl rl5 rfl rl6 hF
    ·
      refine s_gO R (t_22 R.S) (Nat.le_of_ble_eq_true rfl) rfl (o_22_6 R.S) ?_
      refine s_gAs R (t_52 R.S) (Nat.le_of_ble_eq_true rfl) rfl (o_52_1 R.S) (a_53 R) ?_
      refine s_rI R (u_53 R.S).1 (u_53 R.S).2 (by decide) (a_53 R) rfl rl3 hF (fun x6 ra4 hF => ?_)
      refine s_if (i_le (c_lit 262144 262144 rfl) rfl ⟨by decide, by decide⟩ ra4) hF (fun c5 hF => ?_) (fun c5 hF => ?_)
      ·
        exact SX8_call_b137 (N := N) (k98 := k98) (K98 := K98) hb @hk98 R rfl rl1 rfl rl2 rfl rl3 rfl rl4 rfl rl5 rfl rl6 hF
      ·
        exact ih R rfl rl1 rfl rl2 (c_add rfl (c_lit 1 1 rfl)) (rr_I _) rfl rl4 rfl rl5 rfl rl6 hF
def FX8_call_b215 (N : Nat) (l1 : Int) (s1 : Int) (s : fS) : Option ((Unit ⊕ Nat) × fS) :=
  tB (FX4_want s1 2 s) fun x2 σ3 =>
  (FX13_call N l1 σ3).bind fun q11 =>
  some (.inl (), q11.2)
theorem SX8_call_b215 {m b : Nat} {φ0 : Nat → Nat} {σo : fS} (hb : 1 ≤ b) {N : Nat} {q : (Unit ⊕ Nat) × fS} {φ : Nat → Nat} {h : eH} {s : fS} {l1' : Int32} {l1 : Int} {s1' : Int32} {s1 : Int} (R : fC m b φ0 σo φ h s) (el1 : l1' = iI l1) (rl1 : r32 l1) (es1 : s1' = iI s1) (rs1 : r32 s1) (hF : FX8_call_b215 N l1 s1 s = some q) : gG m b φ0 σo (lT lU) q (fX8_call_b215 N 22 l1' 5 s1' h) := by
  subst el1; subst es1
  unfold FX8_call_b215 at hF
  unfold fX8_call_b215
  refine s_kok R (t_5 R.S) (Nat.le_of_ble_eq_true rfl) ?_
  refine s_tB R (Nat.zero_le _) (fun _ hq => SX4_want (b := 0) (R.rf) rfl rs1 (c_lit 2 2 rfl) ⟨by decide, by decide⟩ hq) hF (fun f2 rv2 h2 x2 σ3 R2 e2 E2 hF => ?_)
  refine s_gO R2 (t_22 R2.S) (Nat.le_of_ble_eq_true rfl) rfl (o_22_7 R2.S) ?_
  refine s_gA R2 (t_22 R2.S) (Nat.le_of_ble_eq_true rfl) rfl (o_22_16 R2.S) (fun _ _ => ?_)
  refine s_gAs R2 (t_22 R2.S) (Nat.le_of_ble_eq_true rfl) rfl (o_22_18 R2.S) (a_38 R2) ?_
  refine s_kok R2 (t_58 R2.S) (Nat.le_of_ble_eq_true rfl) ?_
  refine s_call R2 hb (fun _ hq => SX13_call (b := 1) (N := N) (Nat.le_of_ble_eq_true rfl) (R2.rf) rfl rl1 rfl hq) hF (fun f7 rv7 h7 q11 R7 e7 E7 hF => ?_)
  exact g_ret R7 hF trivial
def FX8_call_b98 (N : Nat) : Nat → Int → Int → Int → Int → Int → fS → Option ((Unit ⊕ Nat) × fS)
  | 0, _, _, _, _, _, _ => none
  | n + 1, l1, l2, l3, l4, l5, s =>
    if l2 ≤ l5 then
      (FX13_length N l1 s).bind fun q7 =>
      if 10000 < (ladd q7.1 (q7.2.i 58 3)) then
        FX8_call_b215 N l1 0 q7.2
      else
        FX8_call_b215 N l1 1 q7.2
    else
      FX8_call_b110 N (FX8_call_b98 N n) N l1 l2 (iadd l3 1) l4 l5 (iadd l3 1) s
theorem SX8_call_b98 {m b : Nat} {φ0 : Nat → Nat} {σo : fS} (hb : 3 ≤ b) {N : Nat} {q : (Unit ⊕ Nat) × fS} : ∀ {n : Nat} {φ : Nat → Nat} {h : eH} {s : fS} {l1' : Int32} {l1 : Int} {l2' : Int32} {l2 : Int} {l3' : Int32} {l3 : Int} {l4' : Int32} {l4 : Int} {l5' : Int32} {l5 : Int}, fC m b φ0 σo φ h s → l1' = iI l1 → r32 l1 → l2' = iI l2 → r32 l2 → l3' = iI l3 → r32 l3 → l4' = iI l4 → r32 l4 → l5' = iI l5 → r32 l5 → FX8_call_b98 N n l1 l2 l3 l4 l5 s = some q → gG m b φ0 σo (lT lU) q (fX8_call_b98 N n 22 l1' l2' l3' l4' l5' h) := by
  intro n
  induction n with
 | zero => intro φ h s l1' l1 l2' l2 l3' l3 l4' l4 l5' l5 R el1 rl1 el2 rl2 el3 rl3 el4 rl4 el5 rl5 hF; simp [FX8_call_b98] at hF
  | succ n ih =>
    intro φ h s l1' l1 l2' l2 l3' l3 l4' l4 l5' l5 R el1 rl1 el2 rl2 el3 rl3 el4 rl4 el5 rl5 hF
    subst el1; subst el2; subst el3; subst el4; subst el5
    rw [FX8_call_b98] at hF
    rw [fX8_call_b98]
    refine s_if (i_le rfl rfl rl2 rl5) hF (fun c1 hF => ?_) (fun c1 hF => ?_)
    ·
      refine s_gO R (t_22 R.S) (Nat.le_of_ble_eq_true rfl) rfl (o_22_7 R.S) ?_
      refine s_gAs R (t_22 R.S) (Nat.le_of_ble_eq_true rfl) rfl (o_22_18 R.S) (a_38 R) ?_
      refine s_kok R (t_58 R.S) (Nat.le_of_ble_eq_true rfl) ?_
      refine s_call R (Nat.zero_le _) (fun _ hq => SX13_length (b := 0) (N := N) (R.rf) rfl rl1 hq) hF (fun f5 rv5 h5 q7 R5 e5 E5 hF => ?_)
      refine s_gO R5 (t_22 R5.S) (Nat.le_of_ble_eq_true rfl) rfl (o_22_0 R5.S) ?_
      refine s_gO R5 (t_22 R5.S) (Nat.le_of_ble_eq_true rfl) rfl (o_22_7 R5.S) ?_
      refine s_gI R5 (t_58 R5.S) (Nat.le_of_ble_eq_true rfl) rfl ?_
      refine s_if ((lg_cmp_gt _ _).trans (j_lt (d_lit 10000 10000 rfl) (d_add e5.1 (c_2l rfl (R5.ri (t_58 R5.S) (Nat.le_of_ble_eq_true rfl) rfl))) ⟨by decide, by decide⟩ (rr_J _))) hF (fun c9 hF => ?_) (fun c9 hF => ?_)
      ·
        exact SX8_call_b215 (N := N) (Nat.le_trans (Nat.le_of_ble_eq_true rfl) hb) R5 rfl rl1 (c_lit 0 0 rfl) ⟨by decide, by decide⟩ hF
      ·
        exact SX8_call_b215 (N := N) (Nat.le_trans (Nat.le_of_ble_eq_true rfl) hb) R5 rfl rl1 (c_lit 1 1 rfl) ⟨by decide, by decide⟩ hF
    ·
      exact SX8_call_b110 (N := N) (k98 := fX8_call_b98 N n) (K98 := FX8_call_b98 N n) hb @ih R rfl rl1 rfl rl2 (c_add rfl (c_lit 1 1 rfl)) (rr_I _) rfl rl4 rfl rl5 (c_add rfl (c_lit 1 1 rfl)) (rr_I _) hF
def FX8_call_b95 (N : Nat) (l1 : Int) (l2 : Int) (l3 : Int) (l4 : Int) (s : fS) : Option ((Unit ⊕ Nat) × fS) :=
  FX8_call_b98 N N l1 l2 l3 l4 0 s
theorem SX8_call_b95 {m b : Nat} {φ0 : Nat → Nat} {σo : fS} (hb : 3 ≤ b) {N : Nat} {q : (Unit ⊕ Nat) × fS} {φ : Nat → Nat} {h : eH} {s : fS} {l1' : Int32} {l1 : Int} {l2' : Int32} {l2 : Int} {l3' : Int32} {l3 : Int} {l4' : Int32} {l4 : Int} (R : fC m b φ0 σo φ h s) (el1 : l1' = iI l1) (rl1 : r32 l1) (el2 : l2' = iI l2) (rl2 : r32 l2) (el3 : l3' = iI l3) (rl3 : r32 l3) (el4 : l4' = iI l4) (rl4 : r32 l4) (hF : FX8_call_b95 N l1 l2 l3 l4 s = some q) : gG m b φ0 σo (lT lU) q (fX8_call_b95 N 22 l1' l2' l3' l4' h) := by
  subst el1; subst el2; subst el3; subst el4
  unfold FX8_call_b95 at hF
  unfold fX8_call_b95
  exact SX8_call_b98 (N := N) hb R rfl rl1 rfl rl2 rfl rl3 rfl rl4 (c_lit 0 0 rfl) ⟨by decide, by decide⟩ hF
def FX8_call_b36 (N : Nat) : Nat → Int → Int → Int → Int → fS → Option ((Unit ⊕ Nat) × fS)
  | 0, _, _, _, _, _ => none
  | n + 1, l1, l2, l3, l4, s =>
    if l4 ≤ l3 then
      FX8_call_b95 N l1 l2 l3 l4 s
    else
      (uRI s 53 l3).bind fun x6 =>
      if 262144 ≤ x6 then
        FX8_call_b95 N l1 l2 l3 l4 s
      else
        tB (FX8_need N s) fun x12 σ13 =>
        (FX8_bare x12 σ13).bind fun q14 =>
        (uRI q14.2 53 l3).bind fun x19 =>
        if ¬ (q14.1 = x19) then
          FX8_call_b85 N (FX8_call_b36 N n) l1 l2 l3 l4 0 q14.2
        else
          FX8_call_b85 N (FX8_call_b36 N n) l1 l2 l3 l4 1 q14.2
theorem SX8_call_b36 {m b : Nat} {φ0 : Nat → Nat} {σo : fS} (hb : 3 ≤ b) {N : Nat} {q : (Unit ⊕ Nat) × fS} : ∀ {n : Nat} {φ : Nat → Nat} {h : eH} {s : fS} {l1' : Int32} {l1 : Int} {l2' : Int32} {l2 : Int} {l3' : Int32} {l3 : Int} {l4' : Int32} {l4 : Int}, fC m b φ0 σo φ h s → l1' = iI l1 → r32 l1 → l2' = iI l2 → r32 l2 → l3' = iI l3 → r32 l3 → l4' = iI l4 → r32 l4 → FX8_call_b36 N n l1 l2 l3 l4 s = some q → gG m b φ0 σo (lT lU) q (fX8_call_b36 N n 22 l1' l2' l3' l4' h) := by
  intro n
  induction n with
 | zero => intro φ h s l1' l1 l2' l2 l3' l3 l4' l4 R el1 rl1 el2 rl2 el3 rl3 el4 rl4 hF; simp [FX8_call_b36] at hF
  | succ n ih =>
    intro φ h s l1' l1 l2' l2 l3' l3 l4' l4 R el1 rl1 el2 rl2 el3 rl3 el4 rl4 hF
    subst el1; subst el2; subst el3; subst el4
    rw [FX8_call_b36] at hF
    rw [fX8_call_b36]
    refine s_if (i_le rfl rfl rl4 rl3) hF (fun c1 hF => ?_) (fun c1 hF => ?_)
    ·
      exact SX8_call_b95 (N := N) hb R rfl rl1 rfl rl2 rfl rl3 rfl rl4 hF
    ·
      refine s_gO R (t_22 R.S) (Nat.le_of_ble_eq_true rfl) rfl (o_22_6 R.S) ?_
      refine s_gAs R (t_52 R.S) (Nat.le_of_ble_eq_true rfl) rfl (o_52_1 R.S) (a_53 R) ?_
      refine s_rI R (u_53 R.S).1 (u_53 R.S).2 (by decide) (a_53 R) rfl rl3 hF (fun x6 ra4 hF => ?_)
      refine s_if (i_le (c_lit 262144 262144 rfl) rfl ⟨by decide, by decide⟩ ra4) hF (fun c5 hF => ?_) (fun c5 hF => ?_)
      ·
        exact SX8_call_b95 (N := N) hb R rfl rl1 rfl rl2 rfl rl3 rfl rl4 hF
      ·
        refine s_gO R (t_22 R.S) (Nat.le_of_ble_eq_true rfl) rfl (o_22_0 R.S) ?_
        refine s_kok R (t_22 R.S) (Nat.le_of_ble_eq_true rfl) ?_
        refine s_tB R (Nat.le_trans (Nat.le_of_ble_eq_true rfl) hb) (fun _ hq => SX8_need (b := 2) (N := N) (Nat.le_of_ble_eq_true rfl) (R.rf) hq) hF (fun f8 rv8 h8 x12 σ13 R8 e8 E8 hF => ?_)
        refine s_call R8 (Nat.zero_le _) (fun _ hq => SX8_bare (b := 0) (R8.rf) e8.1 e8.2 hq) hF (fun f9 rv9 h9 q14 R9 e9 E9 hF => ?_)
        refine s_gO R9 (t_22 R9.S) (Nat.le_of_ble_eq_true rfl) rfl (o_22_6 R9.S) ?_
        refine s_gAs R9 (t_52 R9.S) (Nat.le_of_ble_eq_true rfl) rfl (o_52_1 R9.S) (a_53 R9) ?_
        refine s_rI R9 (u_53 R9.S).1 (u_53 R9.S).2 (by decide) (a_53 R9) rfl rl3 hF (fun x19 ra12 hF => ?_)
        refine s_if (not_congr (i_eq e9.1 rfl e9.2 ra12)) hF (fun c13 hF => ?_) (fun c13 hF => ?_)
        ·
          exact SX8_call_b85 (N := N) (k36 := fX8_call_b36 N n) (K36 := FX8_call_b36 N n) hb @ih R9 rfl rl1 rfl rl2 rfl rl3 rfl rl4 (c_lit 0 0 rfl) ⟨by decide, by decide⟩ hF
        ·
          exact SX8_call_b85 (N := N) (k36 := fX8_call_b36 N n) (K36 := FX8_call_b36 N n) hb @ih R9 rfl rl1 rfl rl2 rfl rl3 rfl rl4 (c_lit 1 1 rfl) ⟨by decide, by decide⟩ hF
def FX8_call (N : Nat) (p0 : Int) (s : fS) : Option ((Unit ⊕ Nat) × fS) :=
  (uRI s 57 p0).bind fun x5 =>
  (uRI s 54 p0).bind fun x11 =>
  (uRI s 55 p0).bind fun x17 =>
  (uPI s 22 17 0).bind fun σ19 =>
  FX8_call_b36 N N p0 x5 x11 x17 σ19
theorem SX8_call {m b : Nat} {φ0 : Nat → Nat} {σo : fS} (hb : 3 ≤ b) {N : Nat} {q : (Unit ⊕ Nat) × fS} {φ : Nat → Nat} {h : eH} {s : fS} {p0' : Int32} {p0 : Int} (R : fC m b φ0 σo φ h s) (ep0 : p0' = iI p0) (rp0 : r32 p0) (hF : FX8_call N p0 s = some q) : gG m b φ0 σo (lT lU) q (fX8_call N 22 p0' h) := by
  subst ep0
  unfold FX8_call at hF
  unfold fX8_call
  refine s_gO R (t_22 R.S) (Nat.le_of_ble_eq_true rfl) rfl (o_22_6 R.S) ?_
  refine s_gA R (t_52 R.S) (Nat.le_of_ble_eq_true rfl) rfl (o_52_6 R.S) (fun _ _ => ?_)
  refine s_rI R (u_57 R.S).1 (u_57 R.S).2 (by decide) rfl rfl rp0 hF (fun x5 ra3 hF => ?_)
  refine s_gO R (t_22 R.S) (Nat.le_of_ble_eq_true rfl) rfl (o_22_6 R.S) ?_
  refine s_gA R (t_52 R.S) (Nat.le_of_ble_eq_true rfl) rfl (o_52_3 R.S) (fun _ _ => ?_)
  refine s_rI R (u_54 R.S).1 (u_54 R.S).2 (by decide) rfl rfl rp0 hF (fun x11 ra6 hF => ?_)
  refine s_gO R (t_22 R.S) (Nat.le_of_ble_eq_true rfl) rfl (o_22_6 R.S) ?_
  refine s_gA R (t_52 R.S) (Nat.le_of_ble_eq_true rfl) rfl (o_52_4 R.S) (fun _ _ => ?_)
  refine s_rI R (u_55 R.S).1 (u_55 R.S).2 (by decide) rfl rfl rp0 hF (fun x17 ra9 hF => ?_)
  refine s_pI R (t_22 R.S) (Nat.le_of_ble_eq_true rfl) rfl (c_lit 0 0 rfl) ⟨by decide, by decide⟩ hF (fun h10 σ19 R10 T10 hF => ?_)
  exact SX8_call_b36 (N := N) hb R10 rfl rp0 rfl ra3 rfl ra6 rfl ra9 hF
def FX8_categoryOf_b22 (s0 : Int) (s : fS) : Option (Int × fS) :=
  some (s0, s)
theorem SX8_categoryOf_b22 {m b : Nat} {φ0 : Nat → Nat} {σo : fS} {q : Int × fS} {φ : Nat → Nat} {h : eH} {s : fS} {s0' : Int32} {s0 : Int} (R : fC m b φ0 σo φ h s) (es0 : s0' = iI s0) (rs0 : r32 s0) (hF : FX8_categoryOf_b22 s0 s = some q) : gG m b φ0 σo lI q (fX8_categoryOf_b22 s0' h) := by
  subst es0
  unfold FX8_categoryOf_b22 at hF
  unfold fX8_categoryOf_b22
  exact g_ret R hF ⟨rfl, rs0⟩
def FX8_categoryOf (p0 : Int) (s : fS) : Option (Int × fS) :=
  (FX8_kind p0 s).bind fun q2 =>
  if ¬ (q2.1 = 3) then
    FX8_categoryOf_b22 16 q2.2
  else
    (FX8_value p0 q2.2).bind fun q5 =>
    (FX1_category q5.1 q5.2).bind fun q6 =>
    FX8_categoryOf_b22 q6.1 q6.2
theorem SX8_categoryOf {m b : Nat} {φ0 : Nat → Nat} {σo : fS} {q : Int × fS} {φ : Nat → Nat} {h : eH} {s : fS} {p0' : Int32} {p0 : Int} (R : fC m b φ0 σo φ h s) (ep0 : p0' = iI p0) (rp0 : r32 p0) (hF : FX8_categoryOf p0 s = some q) : gG m b φ0 σo lI q (fX8_categoryOf 22 p0' h) := by
  subst ep0
  unfold FX8_categoryOf at hF
  unfold fX8_categoryOf
  refine s_kok R (t_22 R.S) (Nat.le_of_ble_eq_true rfl) ?_
  refine s_call R (Nat.zero_le _) (fun _ hq => SX8_kind (b := 0) (R.rf) rfl rp0 hq) hF (fun f2 rv2 h2 q2 R2 e2 E2 hF => ?_)
  refine s_if (not_congr (i_eq e2.1 (c_lit 3 3 rfl) e2.2 ⟨by decide, by decide⟩)) hF (fun c3 hF => ?_) (fun c3 hF => ?_)
  ·
    exact SX8_categoryOf_b22 R2 (c_lit 16 16 rfl) ⟨by decide, by decide⟩ hF
  ·
    refine s_kok R2 (t_22 R2.S) (Nat.le_of_ble_eq_true rfl) ?_
    refine s_call R2 (Nat.zero_le _) (fun _ hq => SX8_value (b := 0) (R2.rf) rfl rp0 hq) hF (fun f5 rv5 h5 q5 R5 e5 E5 hF => ?_)
    refine s_call R5 (Nat.zero_le _) (fun _ hq => SX1_category (b := 0) (R5.rf) e5.1 e5.2 hq) hF (fun f6 rv6 h6 q6 R6 e6 E6 hF => ?_)
    exact SX8_categoryOf_b22 R6 e6.1 e6.2 hF
def FX8_pass_b33 (N : Nat) (l2 : Int) (s : fS) : Option ((Int ⊕ Nat) × fS) :=
  some (.inl l2, s)
theorem SX8_pass_b33 {m b : Nat} {φ0 : Nat → Nat} {σo : fS} {N : Nat} {q : (Int ⊕ Nat) × fS} {φ : Nat → Nat} {h : eH} {s : fS} {l2' : Int32} {l2 : Int} (R : fC m b φ0 σo φ h s) (el2 : l2' = iI l2) (rl2 : r32 l2) (hF : FX8_pass_b33 N l2 s = some q) : gG m b φ0 σo (lT lI) q (fX8_pass_b33 N l2' h) := by
  subst el2
  unfold FX8_pass_b33 at hF
  unfold fX8_pass_b33
  exact g_ret R hF ⟨rfl, rl2⟩
def FX8_pass_b63 (N : Nat) (K2 : Int → fS → Option ((Int ⊕ Nat) × fS)) (s0 : Int) (s1 : Int) (s : fS) : Option ((Int ⊕ Nat) × fS) :=
  K2 (iadd s0 s1) s
theorem SX8_pass_b63 {m b : Nat} {φ0 : Nat → Nat} {σo : fS} (hb : 2 ≤ b) {N : Nat} {k2 : Nat → Int32 → eH → Option ((Int32 ⊕ Nat) × eH)} {K2 : Int → fS → Option ((Int ⊕ Nat) × fS)} {q : (Int ⊕ Nat) × fS} (hk2 : ∀ {φ : Nat → Nat} {h : eH} {s : fS} {l1' : Int32} {l1 : Int}, fC m b φ0 σo φ h s → l1' = iI l1 → r32 l1 → K2 l1 s = some q → gG m b φ0 σo (lT lI) q (k2 22 l1' h)) {φ : Nat → Nat} {h : eH} {s : fS} {s0' : Int32} {s0 : Int} {s1' : Int32} {s1 : Int} (R : fC m b φ0 σo φ h s) (es0 : s0' = iI s0) (rs0 : r32 s0) (es1 : s1' = iI s1) (rs1 : r32 s1) (hF : FX8_pass_b63 N K2 s0 s1 s = some q) : gG m b φ0 σo (lT lI) q (fX8_pass_b63 N k2 22 s0' s1' h) := by
  subst es0; subst es1
  unfold FX8_pass_b63 at hF
  unfold fX8_pass_b63
  exact hk2 R (c_add rfl rfl) (rr_I _) hF
def FX8_pass_b52 (N : Nat) (K2 : Int → fS → Option ((Int ⊕ Nat) × fS)) (l2 : Int) (s0 : Int) (s : fS) : Option ((Int ⊕ Nat) × fS) :=
  if ¬ (l2 = 21) then
    FX8_pass_b63 N K2 s0 0 s
  else
    FX8_pass_b63 N K2 s0 (-1) s
theorem SX8_pass_b52 {m b : Nat} {φ0 : Nat → Nat} {σo : fS} (hb : 2 ≤ b) {N : Nat} {k2 : Nat → Int32 → eH → Option ((Int32 ⊕ Nat) × eH)} {K2 : Int → fS → Option ((Int ⊕ Nat) × fS)} {q : (Int ⊕ Nat) × fS} (hk2 : ∀ {φ : Nat → Nat} {h : eH} {s : fS} {l1' : Int32} {l1 : Int}, fC m b φ0 σo φ h s → l1' = iI l1 → r32 l1 → K2 l1 s = some q → gG m b φ0 σo (lT lI) q (k2 22 l1' h)) {φ : Nat → Nat} {h : eH} {s : fS} {l2' : Int32} {l2 : Int} {s0' : Int32} {s0 : Int} (R : fC m b φ0 σo φ h s) (el2 : l2' = iI l2) (rl2 : r32 l2) (es0 : s0' = iI s0) (rs0 : r32 s0) (hF : FX8_pass_b52 N K2 l2 s0 s = some q) : gG m b φ0 σo (lT lI) q (fX8_pass_b52 N k2 22 l2' s0' h) := by
  subst el2; subst es0
  unfold FX8_pass_b52 at hF
  unfold fX8_pass_b52
  refine s_if (not_congr (i_eq rfl (c_lit 21 21 rfl) rl2 ⟨by decide, by decide⟩)) hF (fun c1 hF => ?_) (fun c1 hF => ?_)
  ·
    exact SX8_pass_b63 (N := N) (k2 := k2) (K2 := K2) hb @hk2 R rfl rs0 (c_lit 0 0 rfl) ⟨by decide, by decide⟩ hF
  ·
    exact SX8_pass_b63 (N := N) (k2 := k2) (K2 := K2) hb @hk2 R rfl rs0 (c_lit (-1) (-1) rfl) ⟨by decide, by decide⟩ hF
def FX8_pass_b35 (N : Nat) (K2 : Int → fS → Option ((Int ⊕ Nat) × fS)) (l1 : Int) (l2 : Int) (s : fS) : Option ((Int ⊕ Nat) × fS) :=
  if l2 < 7 then
    FX8_pass_b52 N K2 l2 l1 s
  else
    if 18 < l2 then
      FX8_pass_b52 N K2 l2 l1 s
    else
      FX8_pass_b63 N K2 l1 1 s
theorem SX8_pass_b35 {m b : Nat} {φ0 : Nat → Nat} {σo : fS} (hb : 2 ≤ b) {N : Nat} {k2 : Nat → Int32 → eH → Option ((Int32 ⊕ Nat) × eH)} {K2 : Int → fS → Option ((Int ⊕ Nat) × fS)} {q : (Int ⊕ Nat) × fS} (hk2 : ∀ {φ : Nat → Nat} {h : eH} {s : fS} {l1' : Int32} {l1 : Int}, fC m b φ0 σo φ h s → l1' = iI l1 → r32 l1 → K2 l1 s = some q → gG m b φ0 σo (lT lI) q (k2 22 l1' h)) {φ : Nat → Nat} {h : eH} {s : fS} {l1' : Int32} {l1 : Int} {l2' : Int32} {l2 : Int} (R : fC m b φ0 σo φ h s) (el1 : l1' = iI l1) (rl1 : r32 l1) (el2 : l2' = iI l2) (rl2 : r32 l2) (hF : FX8_pass_b35 N K2 l1 l2 s = some q) : gG m b φ0 σo (lT lI) q (fX8_pass_b35 N k2 22 l1' l2' h) := by
  subst el1; subst el2
  unfold FX8_pass_b35 at hF
  unfold fX8_pass_b35
  refine s_if (i_lt rfl (c_lit 7 7 rfl) rl2 ⟨by decide, by decide⟩) hF (fun c1 hF => ?_) (fun c1 hF => ?_)
  ·
    exact SX8_pass_b52 (N := N) (k2 := k2) (K2 := K2) hb @hk2 R rfl rl2 rfl rl1 hF
  ·
    refine s_if (i_lt (c_lit 18 18 rfl) rfl ⟨by decide, by decide⟩ rl2) hF (fun c2 hF => ?_) (fun c2 hF => ?_)
    ·
      exact SX8_pass_b52 (N := N) (k2 := k2) (K2 := K2) hb @hk2 R rfl rl2 rfl rl1 hF
    ·
      exact SX8_pass_b63 (N := N) (k2 := k2) (K2 := K2) hb @hk2 R rfl rl1 (c_lit 1 1 rfl) ⟨by decide, by decide⟩ hF
def FX8_pass_b2 (N : Nat) : Nat → Int → fS → Option ((Int ⊕ Nat) × fS)
  | 0, _, _ => none
  | n + 1, l1, s =>
    tB (FX8_need N s) fun x2 σ3 =>
    (FX8_primitive x2 σ3).bind fun q5 =>
    if ¬ (l1 = 0) then
      FX8_pass_b35 N (FX8_pass_b2 N n) l1 q5.1 q5.2
    else
      if q5.1 = 19 then
        FX8_pass_b33 N q5.1 q5.2
      else
        if q5.1 = 20 then
          FX8_pass_b33 N q5.1 q5.2
        else
          if ¬ (q5.1 = 21) then
            FX8_pass_b35 N (FX8_pass_b2 N n) l1 q5.1 q5.2
          else
            FX8_pass_b33 N q5.1 q5.2
theorem SX8_pass_b2 {m b : Nat} {φ0 : Nat → Nat} {σo : fS} (hb : 2 ≤ b) {N : Nat} {q : (Int ⊕ Nat) × fS} : ∀ {n : Nat} {φ : Nat → Nat} {h : eH} {s : fS} {l1' : Int32} {l1 : Int}, fC m b φ0 σo φ h s → l1' = iI l1 → r32 l1 → FX8_pass_b2 N n l1 s = some q → gG m b φ0 σo (lT lI) q (fX8_pass_b2 N n 22 l1' h) := by
  intro n
  induction n with
 | zero => intro φ h s l1' l1 R el1 rl1 hF; simp [FX8_pass_b2] at hF
  | succ n ih =>
    intro φ h s l1' l1 R el1 rl1 hF
    subst el1
    rw [FX8_pass_b2] at hF
    rw [fX8_pass_b2]
    refine s_kok R (t_22 R.S) (Nat.le_of_ble_eq_true rfl) ?_
    refine s_tB R hb (fun _ hq => SX8_need (b := 2) (N := N) (Nat.le_of_ble_eq_true rfl) (R.rf) hq) hF (fun f2 rv2 h2 x2 σ3 R2 e2 E2 hF => ?_)
    refine s_kok R2 (t_22 R2.S) (Nat.le_of_ble_eq_true rfl) ?_
    refine s_call R2 (Nat.zero_le _) (fun _ hq => SX8_primitive (b := 0) (R2.rf) e2.1 e2.2 hq) hF (fun f4 rv4 h4 q5 R4 e4 E4 hF => ?_)
    refine s_if (not_congr (i_eq rfl (c_lit 0 0 rfl) rl1 ⟨by decide, by decide⟩)) hF (fun c5 hF => ?_) (fun c5 hF => ?_)
    ·
      exact SX8_pass_b35 (N := N) (k2 := fX8_pass_b2 N n) (K2 := FX8_pass_b2 N n) hb @ih R4 rfl rl1 e4.1 e4.2 hF
    ·
      refine s_if (i_eq e4.1 (c_lit 19 19 rfl) e4.2 ⟨by decide, by decide⟩) hF (fun c6 hF => ?_) (fun c6 hF => ?_)
      ·
        exact SX8_pass_b33 (N := N) R4 e4.1 e4.2 hF
      ·
        refine s_if (i_eq e4.1 (c_lit 20 20 rfl) e4.2 ⟨by decide, by decide⟩) hF (fun c7 hF => ?_) (fun c7 hF => ?_)
        ·
          exact SX8_pass_b33 (N := N) R4 e4.1 e4.2 hF
        ·
          refine s_if (not_congr (i_eq e4.1 (c_lit 21 21 rfl) e4.2 ⟨by decide, by decide⟩)) hF (fun c8 hF => ?_) (fun c8 hF => ?_)
          ·
            exact SX8_pass_b35 (N := N) (k2 := fX8_pass_b2 N n) (K2 := FX8_pass_b2 N n) hb @ih R4 rfl rl1 e4.1 e4.2 hF
          ·
            exact SX8_pass_b33 (N := N) R4 e4.1 e4.2 hF
def FX8_pass (N : Nat) (s : fS) : Option ((Int ⊕ Nat) × fS) :=
  FX8_pass_b2 N N 0 s
theorem SX8_pass {m b : Nat} {φ0 : Nat → Nat} {σo : fS} (hb : 2 ≤ b) {N : Nat} {q : (Int ⊕ Nat) × fS} {φ : Nat → Nat} {h : eH} {s : fS} (R : fC m b φ0 σo φ h s) (hF : FX8_pass N s = some q) : gG m b φ0 σo (lT lI) q (fX8_pass N 22 h) := by
  unfold FX8_pass at hF
  unfold fX8_pass
  exact SX8_pass_b2 (N := N) hb R (c_lit 0 0 rfl) ⟨by decide, by decide⟩ hF
def FX8_passOwn_b31 (N : Nat) (K5 : Int → Int → fS → Option ((Int ⊕ Nat) × fS)) (l1 : Int) (s1 : Int) (s2 : Int) (s : fS) : Option ((Int ⊕ Nat) × fS) :=
  (uPI s 22 15 (isub s1 s2)).bind fun σ1 =>
  tB (FX8_pass N σ1) fun x4 σ5 =>
  K5 l1 x4 σ5
theorem SX8_passOwn_b31 {m b : Nat} {φ0 : Nat → Nat} {σo : fS} (hb : 2 ≤ b) {N : Nat} {k5 : Nat → Int32 → Int32 → eH → Option ((Int32 ⊕ Nat) × eH)} {K5 : Int → Int → fS → Option ((Int ⊕ Nat) × fS)} {q : (Int ⊕ Nat) × fS} (hk5 : ∀ {φ : Nat → Nat} {h : eH} {s : fS} {l1' : Int32} {l1 : Int} {l2' : Int32} {l2 : Int}, fC m b φ0 σo φ h s → l1' = iI l1 → r32 l1 → l2' = iI l2 → r32 l2 → K5 l1 l2 s = some q → gG m b φ0 σo (lT lI) q (k5 22 l1' l2' h)) {φ : Nat → Nat} {h : eH} {s : fS} {l1' : Int32} {l1 : Int} {s1' : Int32} {s1 : Int} {s2' : Int32} {s2 : Int} (R : fC m b φ0 σo φ h s) (el1 : l1' = iI l1) (rl1 : r32 l1) (es1 : s1' = iI s1) (rs1 : r32 s1) (es2 : s2' = iI s2) (rs2 : r32 s2) (hF : FX8_passOwn_b31 N K5 l1 s1 s2 s = some q) : gG m b φ0 σo (lT lI) q (fX8_passOwn_b31 N k5 22 l1' 22 s1' s2' h) := by
  subst el1; subst es1; subst es2
  unfold FX8_passOwn_b31 at hF
  unfold fX8_passOwn_b31
  refine s_pI R (t_22 R.S) (Nat.le_of_ble_eq_true rfl) rfl (c_sub rfl rfl) (rr_I _) hF (fun h1 σ1 R1 T1 hF => ?_)
  refine s_kok R1 (t_22 R1.S) (Nat.le_of_ble_eq_true rfl) ?_
  refine s_tB R1 hb (fun _ hq => SX8_pass (b := 2) (N := N) (Nat.le_of_ble_eq_true rfl) (R1.rf) hq) hF (fun f3 rv3 h3 x4 σ5 R3 e3 E3 hF => ?_)
  exact hk5 R3 rfl rl1 e3.1 e3.2 hF
def FX8_passOwn_b5 (N : Nat) : Nat → Int → Int → fS → Option ((Int ⊕ Nat) × fS)
  | 0, _, _, _ => none
  | n + 1, l1, l2, s =>
    if (s.i 22 15) ≤ (iadd l1 1) then
      some (.inl l2, s)
    else
      if ¬ (l2 = 21) then
        FX8_passOwn_b31 N (FX8_passOwn_b5 N n) l1 (s.i 22 15) 0 s
      else
        FX8_passOwn_b31 N (FX8_passOwn_b5 N n) l1 (s.i 22 15) 1 s
theorem SX8_passOwn_b5 {m b : Nat} {φ0 : Nat → Nat} {σo : fS} (hb : 2 ≤ b) {N : Nat} {q : (Int ⊕ Nat) × fS} : ∀ {n : Nat} {φ : Nat → Nat} {h : eH} {s : fS} {l1' : Int32} {l1 : Int} {l2' : Int32} {l2 : Int}, fC m b φ0 σo φ h s → l1' = iI l1 → r32 l1 → l2' = iI l2 → r32 l2 → FX8_passOwn_b5 N n l1 l2 s = some q → gG m b φ0 σo (lT lI) q (fX8_passOwn_b5 N n 22 l1' l2' h) := by
  intro n
  induction n with
 | zero => intro φ h s l1' l1 l2' l2 R el1 rl1 el2 rl2 hF; simp [FX8_passOwn_b5] at hF
  | succ n ih =>
    intro φ h s l1' l1 l2' l2 R el1 rl1 el2 rl2 hF
    subst el1; subst el2
    rw [FX8_passOwn_b5] at hF
    rw [fX8_passOwn_b5]
    refine s_gI R (t_22 R.S) (Nat.le_of_ble_eq_true rfl) rfl ?_
    refine s_if (i_le rfl (c_add rfl (c_lit 1 1 rfl)) (R.ri (t_22 R.S) (Nat.le_of_ble_eq_true rfl) rfl) (rr_I _)) hF (fun c2 hF => ?_) (fun c2 hF => ?_)
    ·
      exact g_ret R hF ⟨rfl, rl2⟩
    ·
      refine s_gI R (t_22 R.S) (Nat.le_of_ble_eq_true rfl) rfl ?_
      refine s_if (not_congr (i_eq rfl (c_lit 21 21 rfl) rl2 ⟨by decide, by decide⟩)) hF (fun c4 hF => ?_) (fun c4 hF => ?_)
      ·
        exact SX8_passOwn_b31 (N := N) (k5 := fX8_passOwn_b5 N n) (K5 := FX8_passOwn_b5 N n) hb @ih R rfl rl1 rfl (R.ri (t_22 R.S) (Nat.le_of_ble_eq_true rfl) rfl) (c_lit 0 0 rfl) ⟨by decide, by decide⟩ hF
      ·
        exact SX8_passOwn_b31 (N := N) (k5 := fX8_passOwn_b5 N n) (K5 := FX8_passOwn_b5 N n) hb @ih R rfl rl1 rfl (R.ri (t_22 R.S) (Nat.le_of_ble_eq_true rfl) rfl) (c_lit 1 1 rfl) ⟨by decide, by decide⟩ hF
def FX8_passOwn (N : Nat) (p0 : Int) (s : fS) : Option ((Int ⊕ Nat) × fS) :=
  tB (FX8_pass N s) fun x2 σ3 =>
  FX8_passOwn_b5 N N p0 x2 σ3
theorem SX8_passOwn {m b : Nat} {φ0 : Nat → Nat} {σo : fS} (hb : 2 ≤ b) {N : Nat} {q : (Int ⊕ Nat) × fS} {φ : Nat → Nat} {h : eH} {s : fS} {p0' : Int32} {p0 : Int} (R : fC m b φ0 σo φ h s) (ep0 : p0' = iI p0) (rp0 : r32 p0) (hF : FX8_passOwn N p0 s = some q) : gG m b φ0 σo (lT lI) q (fX8_passOwn N 22 p0' h) := by
  subst ep0
  unfold FX8_passOwn at hF
  unfold fX8_passOwn
  refine s_kok R (t_22 R.S) (Nat.le_of_ble_eq_true rfl) ?_
  refine s_tB R hb (fun _ hq => SX8_pass (b := 2) (N := N) (Nat.le_of_ble_eq_true rfl) (R.rf) hq) hF (fun f2 rv2 h2 x2 σ3 R2 e2 E2 hF => ?_)
  exact SX8_passOwn_b5 (N := N) hb R2 rfl rp0 e2.1 e2.2 hF
def FX8_chooseCase_b48 (N : Nat) (K13 : Int → Int → Int → fS → Option ((Unit ⊕ Nat) × fS)) (l1 : Int) (l4 : Int) (s0 : Int) (s1 : Int) (s : fS) : Option ((Unit ⊕ Nat) × fS) :=
  K13 l1 (isub s0 s1) l4 s
theorem SX8_chooseCase_b48 {m b : Nat} {φ0 : Nat → Nat} {σo : fS} (hb : 2 ≤ b) {N : Nat} {k13 : Nat → Int32 → Int32 → Int32 → eH → Option ((Unit ⊕ Nat) × eH)} {K13 : Int → Int → Int → fS → Option ((Unit ⊕ Nat) × fS)} {q : (Unit ⊕ Nat) × fS} (hk13 : ∀ {φ : Nat → Nat} {h : eH} {s : fS} {l1' : Int32} {l1 : Int} {l3' : Int32} {l3 : Int} {l4' : Int32} {l4 : Int}, fC m b φ0 σo φ h s → l1' = iI l1 → r32 l1 → l3' = iI l3 → r32 l3 → l4' = iI l4 → r32 l4 → K13 l1 l3 l4 s = some q → gG m b φ0 σo (lT lU) q (k13 22 l1' l3' l4' h)) {φ : Nat → Nat} {h : eH} {s : fS} {l1' : Int32} {l1 : Int} {l4' : Int32} {l4 : Int} {s0' : Int32} {s0 : Int} {s1' : Int32} {s1 : Int} (R : fC m b φ0 σo φ h s) (el1 : l1' = iI l1) (rl1 : r32 l1) (el4 : l4' = iI l4) (rl4 : r32 l4) (es0 : s0' = iI s0) (rs0 : r32 s0) (es1 : s1' = iI s1) (rs1 : r32 s1) (hF : FX8_chooseCase_b48 N K13 l1 l4 s0 s1 s = some q) : gG m b φ0 σo (lT lU) q (fX8_chooseCase_b48 N k13 22 l1' l4' s0' s1' h) := by
  subst el1; subst el4; subst es0; subst es1
  unfold FX8_chooseCase_b48 at hF
  unfold fX8_chooseCase_b48
  exact hk13 R rfl rl1 (c_sub rfl rfl) (rr_I _) rfl rl4 hF
def FX8_chooseCase_b47 (N : Nat) (K13 : Int → Int → Int → fS → Option ((Unit ⊕ Nat) × fS)) (l1 : Int) (l4 : Int) (s0 : Int) (s : fS) : Option ((Unit ⊕ Nat) × fS) :=
  FX8_chooseCase_b48 N K13 l1 l4 s0 0 s
theorem SX8_chooseCase_b47 {m b : Nat} {φ0 : Nat → Nat} {σo : fS} (hb : 2 ≤ b) {N : Nat} {k13 : Nat → Int32 → Int32 → Int32 → eH → Option ((Unit ⊕ Nat) × eH)} {K13 : Int → Int → Int → fS → Option ((Unit ⊕ Nat) × fS)} {q : (Unit ⊕ Nat) × fS} (hk13 : ∀ {φ : Nat → Nat} {h : eH} {s : fS} {l1' : Int32} {l1 : Int} {l3' : Int32} {l3 : Int} {l4' : Int32} {l4 : Int}, fC m b φ0 σo φ h s → l1' = iI l1 → r32 l1 → l3' = iI l3 → r32 l3 → l4' = iI l4 → r32 l4 → K13 l1 l3 l4 s = some q → gG m b φ0 σo (lT lU) q (k13 22 l1' l3' l4' h)) {φ : Nat → Nat} {h : eH} {s : fS} {l1' : Int32} {l1 : Int} {l4' : Int32} {l4 : Int} {s0' : Int32} {s0 : Int} (R : fC m b φ0 σo φ h s) (el1 : l1' = iI l1) (rl1 : r32 l1) (el4 : l4' = iI l4) (rl4 : r32 l4) (es0 : s0' = iI s0) (rs0 : r32 s0) (hF : FX8_chooseCase_b47 N K13 l1 l4 s0 s = some q) : gG m b φ0 σo (lT lU) q (fX8_chooseCase_b47 N k13 22 l1' l4' s0' h) := by
  subst el1; subst el4; subst es0
  unfold FX8_chooseCase_b47 at hF
  unfold fX8_chooseCase_b47
  exact SX8_chooseCase_b48 (N := N) (k13 := k13) (K13 := K13) hb @hk13 R rfl rl1 rfl rl4 rfl rs0 (c_lit 0 0 rfl) ⟨by decide, by decide⟩ hF
def FX8_chooseCase_b88 (N : Nat) (s : fS) : Option ((Unit ⊕ Nat) × fS) :=
  some (.inl (), s)
theorem SX8_chooseCase_b88 {m b : Nat} {φ0 : Nat → Nat} {σo : fS} {N : Nat} {q : (Unit ⊕ Nat) × fS} {φ : Nat → Nat} {h : eH} {s : fS} (R : fC m b φ0 σo φ h s) (hF : FX8_chooseCase_b88 N s = some q) : gG m b φ0 σo (lT lU) q (fX8_chooseCase_b88 N h) := by
  unfold FX8_chooseCase_b88 at hF
  unfold fX8_chooseCase_b88
  exact g_ret R hF trivial
def FX8_chooseCase_b70 (N : Nat) (l4 : Int) (s1 : Int) (s2 : Int) (s : fS) : Option ((Unit ⊕ Nat) × fS) :=
  (uQI s 36 s1 (iand s2 1)).bind fun σ1 =>
  if ¬ (l4 = 21) then
    FX8_chooseCase_b88 N σ1
  else
    (uPI σ1 22 15 (isub (σ1.i 22 15) 1)).bind fun σ6 =>
    FX8_chooseCase_b88 N σ6
theorem SX8_chooseCase_b70 {m b : Nat} {φ0 : Nat → Nat} {σo : fS} {N : Nat} {q : (Unit ⊕ Nat) × fS} {φ : Nat → Nat} {h : eH} {s : fS} {l4' : Int32} {l4 : Int} {s1' : Int32} {s1 : Int} {s2' : Int32} {s2 : Int} (R : fC m b φ0 σo φ h s) (el4 : l4' = iI l4) (rl4 : r32 l4) (es1 : s1' = iI s1) (rs1 : r32 s1) (es2 : s2' = iI s2) (rs2 : r32 s2) (hF : FX8_chooseCase_b70 N l4 s1 s2 s = some q) : gG m b φ0 σo (lT lU) q (fX8_chooseCase_b70 N 22 l4' 36 s1' s2' h) := by
  subst el4; subst es1; subst es2
  unfold FX8_chooseCase_b70 at hF
  unfold fX8_chooseCase_b70
  refine s_qI R (u_36 R.S).1 (u_36 R.S).2 (by decide) (a_36 R) rfl rs1 (c_and rfl (c_lit 1 1 rfl)) (rr_I _) hF (fun h1 σ1 R1 T1 hF => ?_)
  refine s_if (not_congr (i_eq rfl (c_lit 21 21 rfl) rl4 ⟨by decide, by decide⟩)) hF (fun c2 hF => ?_) (fun c2 hF => ?_)
  ·
    exact SX8_chooseCase_b88 (N := N) R1 hF
  ·
    refine s_gI R1 (t_22 R1.S) (Nat.le_of_ble_eq_true rfl) rfl ?_
    refine s_pI R1 (t_22 R1.S) (Nat.le_of_ble_eq_true rfl) rfl (c_sub rfl (c_lit 1 1 rfl)) (rr_I _) hF (fun h4 σ6 R4 T4 hF => ?_)
    exact SX8_chooseCase_b88 (N := N) R4 hF
def FX8_chooseCase_b53 (N : Nat) (l1 : Int) (l4 : Int) (s : fS) : Option ((Unit ⊕ Nat) × fS) :=
  if ¬ (l4 = 19) then
    FX8_chooseCase_b70 N l4 l1 0 s
  else
    FX8_chooseCase_b70 N l4 l1 1 s
theorem SX8_chooseCase_b53 {m b : Nat} {φ0 : Nat → Nat} {σo : fS} {N : Nat} {q : (Unit ⊕ Nat) × fS} {φ : Nat → Nat} {h : eH} {s : fS} {l1' : Int32} {l1 : Int} {l4' : Int32} {l4 : Int} (R : fC m b φ0 σo φ h s) (el1 : l1' = iI l1) (rl1 : r32 l1) (el4 : l4' = iI l4) (rl4 : r32 l4) (hF : FX8_chooseCase_b53 N l1 l4 s = some q) : gG m b φ0 σo (lT lU) q (fX8_chooseCase_b53 N 22 l1' l4' h) := by
  subst el1; subst el4
  unfold FX8_chooseCase_b53 at hF
  unfold fX8_chooseCase_b53
  refine s_gAs R (t_22 R.S) (Nat.le_of_ble_eq_true rfl) rfl (o_22_14 R.S) (a_36 R) ?_
  refine s_if (not_congr (i_eq rfl (c_lit 19 19 rfl) rl4 ⟨by decide, by decide⟩)) hF (fun c2 hF => ?_) (fun c2 hF => ?_)
  ·
    exact SX8_chooseCase_b70 (N := N) R rfl rl4 rfl rl1 (c_lit 0 0 rfl) ⟨by decide, by decide⟩ hF
  ·
    exact SX8_chooseCase_b70 (N := N) R rfl rl4 rfl rl1 (c_lit 1 1 rfl) ⟨by decide, by decide⟩ hF
def FX8_chooseCase_b13 (N : Nat) : Nat → Int → Int → Int → fS → Option ((Unit ⊕ Nat) × fS)
  | 0, _, _, _, _ => none
  | n + 1, l1, l3, l4, s =>
    if l3 = 0 then
      FX8_chooseCase_b53 N l1 l4 s
    else
      if ¬ (l4 = 20) then
        FX8_chooseCase_b53 N l1 l4 s
      else
        tB (FX8_passOwn N l1 s) fun x4 σ5 =>
        if ¬ (x4 = 20) then
          FX8_chooseCase_b47 N (FX8_chooseCase_b13 N n) l1 x4 l3 σ5
        else
          if l3 ≤ 0 then
            FX8_chooseCase_b47 N (FX8_chooseCase_b13 N n) l1 x4 l3 σ5
          else
            FX8_chooseCase_b48 N (FX8_chooseCase_b13 N n) l1 x4 l3 1 σ5
theorem SX8_chooseCase_b13 {m b : Nat} {φ0 : Nat → Nat} {σo : fS} (hb : 2 ≤ b) {N : Nat} {q : (Unit ⊕ Nat) × fS} : ∀ {n : Nat} {φ : Nat → Nat} {h : eH} {s : fS} {l1' : Int32} {l1 : Int} {l3' : Int32} {l3 : Int} {l4' : Int32} {l4 : Int}, fC m b φ0 σo φ h s → l1' = iI l1 → r32 l1 → l3' = iI l3 → r32 l3 → l4' = iI l4 → r32 l4 → FX8_chooseCase_b13 N n l1 l3 l4 s = some q → gG m b φ0 σo (lT lU) q (fX8_chooseCase_b13 N n 22 l1' l3' l4' h) := by
  intro n
  induction n with
 | zero => intro φ h s l1' l1 l3' l3 l4' l4 R el1 rl1 el3 rl3 el4 rl4 hF; simp [FX8_chooseCase_b13] at hF
  | succ n ih =>
    intro φ h s l1' l1 l3' l3 l4' l4 R el1 rl1 el3 rl3 el4 rl4 hF
    subst el1; subst el3; subst el4
    rw [FX8_chooseCase_b13] at hF
    rw [fX8_chooseCase_b13]
    refine s_if (i_eq rfl (c_lit 0 0 rfl) rl3 ⟨by decide, by decide⟩) hF (fun c1 hF => ?_) (fun c1 hF => ?_)
    ·
      exact SX8_chooseCase_b53 (N := N) R rfl rl1 rfl rl4 hF
    ·
      refine s_if (not_congr (i_eq rfl (c_lit 20 20 rfl) rl4 ⟨by decide, by decide⟩)) hF (fun c2 hF => ?_) (fun c2 hF => ?_)
      ·
        exact SX8_chooseCase_b53 (N := N) R rfl rl1 rfl rl4 hF
      ·
        refine s_kok R (t_22 R.S) (Nat.le_of_ble_eq_true rfl) ?_
        refine s_tB R hb (fun _ hq => SX8_passOwn (b := 2) (N := N) (Nat.le_of_ble_eq_true rfl) (R.rf) rfl rl1 hq) hF (fun f4 rv4 h4 x4 σ5 R4 e4 E4 hF => ?_)
        refine s_if (not_congr (i_eq e4.1 (c_lit 20 20 rfl) e4.2 ⟨by decide, by decide⟩)) hF (fun c5 hF => ?_) (fun c5 hF => ?_)
        ·
          exact SX8_chooseCase_b47 (N := N) (k13 := fX8_chooseCase_b13 N n) (K13 := FX8_chooseCase_b13 N n) hb @ih R4 rfl rl1 e4.1 e4.2 rfl rl3 hF
        ·
          refine s_if (i_le rfl (c_lit 0 0 rfl) rl3 ⟨by decide, by decide⟩) hF (fun c6 hF => ?_) (fun c6 hF => ?_)
          ·
            exact SX8_chooseCase_b47 (N := N) (k13 := fX8_chooseCase_b13 N n) (K13 := FX8_chooseCase_b13 N n) hb @ih R4 rfl rl1 e4.1 e4.2 rfl rl3 hF
          ·
            exact SX8_chooseCase_b48 (N := N) (k13 := fX8_chooseCase_b13 N n) (K13 := FX8_chooseCase_b13 N n) hb @ih R4 rfl rl1 e4.1 e4.2 rfl rl3 (c_lit 1 1 rfl) ⟨by decide, by decide⟩ hF
def FX8_chooseCase (N : Nat) (p0 : Int) (p1 : Int) (s : fS) : Option ((Unit ⊕ Nat) × fS) :=
  (uQI s 34 p0 (iand 1 1)).bind fun σ3 =>
  FX8_chooseCase_b13 N N p0 p1 20 σ3
theorem SX8_chooseCase {m b : Nat} {φ0 : Nat → Nat} {σo : fS} (hb : 2 ≤ b) {N : Nat} {q : (Unit ⊕ Nat) × fS} {φ : Nat → Nat} {h : eH} {s : fS} {p0' : Int32} {p0 : Int} {p1' : Int32} {p1 : Int} (R : fC m b φ0 σo φ h s) (ep0 : p0' = iI p0) (rp0 : r32 p0) (ep1 : p1' = iI p1) (rp1 : r32 p1) (hF : FX8_chooseCase N p0 p1 s = some q) : gG m b φ0 σo (lT lU) q (fX8_chooseCase N 22 p0' p1' h) := by
  subst ep0; subst ep1
  unfold FX8_chooseCase at hF
  unfold fX8_chooseCase
  refine s_gAs R (t_22 R.S) (Nat.le_of_ble_eq_true rfl) rfl (o_22_12 R.S) (a_34 R) ?_
  refine s_qI R (u_34 R.S).1 (u_34 R.S).2 (by decide) (a_34 R) rfl rp0 (c_and (c_lit 1 1 rfl) (c_lit 1 1 rfl)) (rr_I _) hF (fun h2 σ3 R2 T2 hF => ?_)
  exact SX8_chooseCase_b13 (N := N) hb R2 rfl rp0 rfl rp1 (c_lit 20 20 rfl) ⟨by decide, by decide⟩ hF
def FX8_codeOf_b24 (s0 : Int) (s : fS) : Option (Int × fS) :=
  some (s0, s)
theorem SX8_codeOf_b24 {m b : Nat} {φ0 : Nat → Nat} {σo : fS} {q : Int × fS} {φ : Nat → Nat} {h : eH} {s : fS} {s0' : Int32} {s0 : Int} (R : fC m b φ0 σo φ h s) (es0 : s0' = iI s0) (rs0 : r32 s0) (hF : FX8_codeOf_b24 s0 s = some q) : gG m b φ0 σo lI q (fX8_codeOf_b24 s0' h) := by
  subst es0
  unfold FX8_codeOf_b24 at hF
  unfold fX8_codeOf_b24
  exact g_ret R hF ⟨rfl, rs0⟩
def FX8_codeOf (p0 : Int) (s : fS) : Option (Int × fS) :=
  (FX8_kind p0 s).bind fun q2 =>
  if ¬ (q2.1 = 3) then
    FX8_codeOf_b24 256 q2.2
  else
    (FX8_value p0 q2.2).bind fun q5 =>
    FX8_codeOf_b24 (iand q5.1 255) q5.2
theorem SX8_codeOf {m b : Nat} {φ0 : Nat → Nat} {σo : fS} {q : Int × fS} {φ : Nat → Nat} {h : eH} {s : fS} {p0' : Int32} {p0 : Int} (R : fC m b φ0 σo φ h s) (ep0 : p0' = iI p0) (rp0 : r32 p0) (hF : FX8_codeOf p0 s = some q) : gG m b φ0 σo lI q (fX8_codeOf 22 p0' h) := by
  subst ep0
  unfold FX8_codeOf at hF
  unfold fX8_codeOf
  refine s_kok R (t_22 R.S) (Nat.le_of_ble_eq_true rfl) ?_
  refine s_call R (Nat.zero_le _) (fun _ hq => SX8_kind (b := 0) (R.rf) rfl rp0 hq) hF (fun f2 rv2 h2 q2 R2 e2 E2 hF => ?_)
  refine s_if (not_congr (i_eq e2.1 (c_lit 3 3 rfl) e2.2 ⟨by decide, by decide⟩)) hF (fun c3 hF => ?_) (fun c3 hF => ?_)
  ·
    exact SX8_codeOf_b24 R2 (c_lit 256 256 rfl) ⟨by decide, by decide⟩ hF
  ·
    refine s_kok R2 (t_22 R2.S) (Nat.le_of_ble_eq_true rfl) ?_
    refine s_call R2 (Nat.zero_le _) (fun _ hq => SX8_value (b := 0) (R2.rf) rfl rp0 hq) hF (fun f5 rv5 h5 q5 R5 e5 E5 hF => ?_)
    exact SX8_codeOf_b24 R5 (c_and e5.1 (c_lit 255 255 rfl)) (rr_I _) hF
def FX8_compare_b136 (N : Nat) (RE : Int → fS → Option ((Unit ⊕ Nat) × fS)) (RN : fS → Option ((Int ⊕ Nat) × fS)) (s0 : Int) (s : fS) : Option ((Int ⊕ Nat) × fS) :=
  uZ s0 (.inl s0, s)
theorem SX8_compare_b136 {m b : Nat} {φ0 : Nat → Nat} {σo : fS} {N : Nat} {rE : Nat → Int32 → eH → Option ((Unit ⊕ Nat) × eH)} {RE : Int → fS → Option ((Unit ⊕ Nat) × fS)} {rN : Nat → eH → Option ((Int32 ⊕ Nat) × eH)} {RN : fS → Option ((Int ⊕ Nat) × fS)} {q : (Int ⊕ Nat) × fS} (hrE : ∀ {φ : Nat → Nat} {h : eH} {s : fS} {x1' : Int32} {x1 : Int} {q}, fC m 3 φ s φ h s → x1' = iI x1 → r32 x1 → RE x1 s = some q → gG m 3 φ s (lT lU) q (rE 22 x1' h)) (hrN : ∀ {φ : Nat → Nat} {h : eH} {s : fS} {q}, fC m 3 φ s φ h s → RN s = some q → gG m 3 φ s (lT lI) q (rN 22 h)) {φ : Nat → Nat} {h : eH} {s : fS} {s0' : Int32} {s0 : Int} (R : fC m b φ0 σo φ h s) (es0 : s0' = iI s0) (rs0 : r32 s0) (hF : FX8_compare_b136 N RE RN s0 s = some q) : gG m b φ0 σo (lT lI) q (fX8_compare_b136 N rE rN s0' h) := by
  subst es0
  unfold FX8_compare_b136 at hF
  unfold fX8_compare_b136
  exact g_z R rfl hF ⟨rfl, rs0⟩
def FX8_compare_b77 (N : Nat) (RE : Int → fS → Option ((Unit ⊕ Nat) × fS)) (RN : fS → Option ((Int ⊕ Nat) × fS)) (l2 : Int) (l3 : Int) (s0 : Int) (s : fS) : Option ((Int ⊕ Nat) × fS) :=
  (FX1_other 60 s).bind fun q1 =>
  if ¬ (l3 = q1.1) then
    (FX1_other 62 q1.2).bind fun q3 =>
    if ¬ (l3 = q3.1) then
      if ¬ (l2 = s0) then
        FX8_compare_b136 N RE RN 0 q3.2
      else
        FX8_compare_b136 N RE RN 1 q3.2
    else
      if l2 ≤ s0 then
        FX8_compare_b136 N RE RN 0 q3.2
      else
        FX8_compare_b136 N RE RN 1 q3.2
  else
    if s0 ≤ l2 then
      FX8_compare_b136 N RE RN 0 q1.2
    else
      FX8_compare_b136 N RE RN 1 q1.2
theorem SX8_compare_b77 {m b : Nat} {φ0 : Nat → Nat} {σo : fS} {N : Nat} {rE : Nat → Int32 → eH → Option ((Unit ⊕ Nat) × eH)} {RE : Int → fS → Option ((Unit ⊕ Nat) × fS)} {rN : Nat → eH → Option ((Int32 ⊕ Nat) × eH)} {RN : fS → Option ((Int ⊕ Nat) × fS)} {q : (Int ⊕ Nat) × fS} (hrE : ∀ {φ : Nat → Nat} {h : eH} {s : fS} {x1' : Int32} {x1 : Int} {q}, fC m 3 φ s φ h s → x1' = iI x1 → r32 x1 → RE x1 s = some q → gG m 3 φ s (lT lU) q (rE 22 x1' h)) (hrN : ∀ {φ : Nat → Nat} {h : eH} {s : fS} {q}, fC m 3 φ s φ h s → RN s = some q → gG m 3 φ s (lT lI) q (rN 22 h)) {φ : Nat → Nat} {h : eH} {s : fS} {l2' : Int32} {l2 : Int} {l3' : Int32} {l3 : Int} {s0' : Int32} {s0 : Int} (R : fC m b φ0 σo φ h s) (el2 : l2' = iI l2) (rl2 : r32 l2) (el3 : l3' = iI l3) (rl3 : r32 l3) (es0 : s0' = iI s0) (rs0 : r32 s0) (hF : FX8_compare_b77 N RE RN l2 l3 s0 s = some q) : gG m b φ0 σo (lT lI) q (fX8_compare_b77 N rE rN l2' l3' s0' h) := by
  subst el2; subst el3; subst es0
  unfold FX8_compare_b77 at hF
  unfold fX8_compare_b77
  refine s_call R (Nat.zero_le _) (fun _ hq => SX1_other (b := 0) (R.rf) (c_lit 60 60 rfl) ⟨by decide, by decide⟩ hq) hF (fun f1 rv1 h1 q1 R1 e1 E1 hF => ?_)
  refine s_if (not_congr (i_eq rfl e1.1 rl3 e1.2)) hF (fun c2 hF => ?_) (fun c2 hF => ?_)
  ·
    refine s_call R1 (Nat.zero_le _) (fun _ hq => SX1_other (b := 0) (R1.rf) (c_lit 62 62 rfl) ⟨by decide, by decide⟩ hq) hF (fun f3 rv3 h3 q3 R3 e3 E3 hF => ?_)
    refine s_if (not_congr (i_eq rfl e3.1 rl3 e3.2)) hF (fun c4 hF => ?_) (fun c4 hF => ?_)
    ·
      refine s_if (not_congr (i_eq rfl rfl rl2 rs0)) hF (fun c5 hF => ?_) (fun c5 hF => ?_)
      ·
        exact SX8_compare_b136 (N := N) (rE := rE) (RE := RE) (rN := rN) (RN := RN) @hrE @hrN R3 (c_lit 0 0 rfl) ⟨by decide, by decide⟩ hF
      ·
        exact SX8_compare_b136 (N := N) (rE := rE) (RE := RE) (rN := rN) (RN := RN) @hrE @hrN R3 (c_lit 1 1 rfl) ⟨by decide, by decide⟩ hF
    ·
      refine s_if (i_le rfl rfl rl2 rs0) hF (fun c6 hF => ?_) (fun c6 hF => ?_)
      ·
        exact SX8_compare_b136 (N := N) (rE := rE) (RE := RE) (rN := rN) (RN := RN) @hrE @hrN R3 (c_lit 0 0 rfl) ⟨by decide, by decide⟩ hF
      ·
        exact SX8_compare_b136 (N := N) (rE := rE) (RE := RE) (rN := rN) (RN := RN) @hrE @hrN R3 (c_lit 1 1 rfl) ⟨by decide, by decide⟩ hF
  ·
    refine s_if (i_le rfl rfl rs0 rl2) hF (fun c7 hF => ?_) (fun c7 hF => ?_)
    ·
      exact SX8_compare_b136 (N := N) (rE := rE) (RE := RE) (rN := rN) (RN := RN) @hrE @hrN R1 (c_lit 0 0 rfl) ⟨by decide, by decide⟩ hF
    ·
      exact SX8_compare_b136 (N := N) (rE := rE) (RE := RE) (rN := rN) (RN := RN) @hrE @hrN R1 (c_lit 1 1 rfl) ⟨by decide, by decide⟩ hF
def FX8_compare_b57 (N : Nat) (RE : Int → fS → Option ((Unit ⊕ Nat) × fS)) (RN : fS → Option ((Int ⊕ Nat) × fS)) (l1 : Int) (l2 : Int) (l3 : Int) (s1 : Int) (s : fS) : Option ((Int ⊕ Nat) × fS) :=
  tB (FX4_want s1 6 s) fun x2 σ3 =>
  if l1 = 0 then
    tB (RN σ3) fun x6 σ7 =>
    FX8_compare_b77 N RE RN l2 l3 x6 σ7
  else
    tB (FX8_dimension N RE RN σ3) fun x9 σ10 =>
    FX8_compare_b77 N RE RN l2 l3 x9 σ10
theorem SX8_compare_b57 {m b : Nat} {φ0 : Nat → Nat} {σo : fS} (hb : 3 ≤ b) {N : Nat} {rE : Nat → Int32 → eH → Option ((Unit ⊕ Nat) × eH)} {RE : Int → fS → Option ((Unit ⊕ Nat) × fS)} {rN : Nat → eH → Option ((Int32 ⊕ Nat) × eH)} {RN : fS → Option ((Int ⊕ Nat) × fS)} {q : (Int ⊕ Nat) × fS} (hrE : ∀ {φ : Nat → Nat} {h : eH} {s : fS} {x1' : Int32} {x1 : Int} {q}, fC m 3 φ s φ h s → x1' = iI x1 → r32 x1 → RE x1 s = some q → gG m 3 φ s (lT lU) q (rE 22 x1' h)) (hrN : ∀ {φ : Nat → Nat} {h : eH} {s : fS} {q}, fC m 3 φ s φ h s → RN s = some q → gG m 3 φ s (lT lI) q (rN 22 h)) {φ : Nat → Nat} {h : eH} {s : fS} {l1' : Int32} {l1 : Int} {l2' : Int32} {l2 : Int} {l3' : Int32} {l3 : Int} {s1' : Int32} {s1 : Int} (R : fC m b φ0 σo φ h s) (el1 : l1' = iI l1) (rl1 : r32 l1) (el2 : l2' = iI l2) (rl2 : r32 l2) (el3 : l3' = iI l3) (rl3 : r32 l3) (es1 : s1' = iI s1) (rs1 : r32 s1) (hF : FX8_compare_b57 N RE RN l1 l2 l3 s1 s = some q) : gG m b φ0 σo (lT lI) q (fX8_compare_b57 N rE rN 22 l1' l2' l3' 5 s1' h) := by
  subst el1; subst el2; subst el3; subst es1
  unfold FX8_compare_b57 at hF
  unfold fX8_compare_b57
  refine s_kok R (t_5 R.S) (Nat.le_of_ble_eq_true rfl) ?_
  refine s_tB R (Nat.zero_le _) (fun _ hq => SX4_want (b := 0) (R.rf) rfl rs1 (c_lit 6 6 rfl) ⟨by decide, by decide⟩ hq) hF (fun f2 rv2 h2 x2 σ3 R2 e2 E2 hF => ?_)
  refine s_if (i_eq rfl (c_lit 0 0 rfl) rl1 ⟨by decide, by decide⟩) hF (fun c3 hF => ?_) (fun c3 hF => ?_)
  ·
    refine s_kok R2 (t_22 R2.S) (Nat.le_of_ble_eq_true rfl) ?_
    refine s_tB R2 hb (fun _ hq => hrN (R2.rf)  hq) hF (fun f5 rv5 h5 x6 σ7 R5 e5 E5 hF => ?_)
    exact SX8_compare_b77 (N := N) (rE := rE) (RE := RE) (rN := rN) (RN := RN) @hrE @hrN R5 rfl rl2 rfl rl3 e5.1 e5.2 hF
  ·
    refine s_kok R2 (t_22 R2.S) (Nat.le_of_ble_eq_true rfl) ?_
    refine s_tB R2 hb (fun _ hq => SX8_dimension (b := 3) (N := N) (rE := rE) (RE := RE) (rN := rN) (RN := RN) (Nat.le_of_ble_eq_true rfl) @hrE @hrN (R2.rf) hq) hF (fun f7 rv7 h7 x9 σ10 R7 e7 E7 hF => ?_)
    exact SX8_compare_b77 (N := N) (rE := rE) (RE := RE) (rN := rN) (RN := RN) @hrE @hrN R7 rfl rl2 rfl rl3 e7.1 e7.2 hF
def FX8_compare_b52 (N : Nat) (RE : Int → fS → Option ((Unit ⊕ Nat) × fS)) (RN : fS → Option ((Int ⊕ Nat) × fS)) (l1 : Int) (l2 : Int) (l3 : Int) (s : fS) : Option ((Int ⊕ Nat) × fS) :=
  FX8_compare_b57 N RE RN l1 l2 l3 1 s
theorem SX8_compare_b52 {m b : Nat} {φ0 : Nat → Nat} {σo : fS} (hb : 3 ≤ b) {N : Nat} {rE : Nat → Int32 → eH → Option ((Unit ⊕ Nat) × eH)} {RE : Int → fS → Option ((Unit ⊕ Nat) × fS)} {rN : Nat → eH → Option ((Int32 ⊕ Nat) × eH)} {RN : fS → Option ((Int ⊕ Nat) × fS)} {q : (Int ⊕ Nat) × fS} (hrE : ∀ {φ : Nat → Nat} {h : eH} {s : fS} {x1' : Int32} {x1 : Int} {q}, fC m 3 φ s φ h s → x1' = iI x1 → r32 x1 → RE x1 s = some q → gG m 3 φ s (lT lU) q (rE 22 x1' h)) (hrN : ∀ {φ : Nat → Nat} {h : eH} {s : fS} {q}, fC m 3 φ s φ h s → RN s = some q → gG m 3 φ s (lT lI) q (rN 22 h)) {φ : Nat → Nat} {h : eH} {s : fS} {l1' : Int32} {l1 : Int} {l2' : Int32} {l2 : Int} {l3' : Int32} {l3 : Int} (R : fC m b φ0 σo φ h s) (el1 : l1' = iI l1) (rl1 : r32 l1) (el2 : l2' = iI l2) (rl2 : r32 l2) (el3 : l3' = iI l3) (rl3 : r32 l3) (hF : FX8_compare_b52 N RE RN l1 l2 l3 s = some q) : gG m b φ0 σo (lT lI) q (fX8_compare_b52 N rE rN 22 l1' l2' l3' 5 h) := by
  subst el1; subst el2; subst el3
  unfold FX8_compare_b52 at hF
  unfold fX8_compare_b52
  exact SX8_compare_b57 (N := N) (rE := rE) (RE := RE) (rN := rN) (RN := RN) hb @hrE @hrN R rfl rl1 rfl rl2 rfl rl3 (c_lit 1 1 rfl) ⟨by decide, by decide⟩ hF
def FX8_compare_b15 (N : Nat) (RE : Int → fS → Option ((Unit ⊕ Nat) × fS)) (RN : fS → Option ((Int ⊕ Nat) × fS)) (l1 : Int) (s0 : Int) (s : fS) : Option ((Int ⊕ Nat) × fS) :=
  tB (FX8_needSolid N RE s) fun x2 σ3 =>
  (FX1_other 60 σ3).bind fun q6 =>
  if x2 = q6.1 then
    FX8_compare_b52 N RE RN l1 s0 x2 q6.2
  else
    (FX1_other 61 q6.2).bind fun q8 =>
    if x2 = q8.1 then
      FX8_compare_b52 N RE RN l1 s0 x2 q8.2
    else
      (FX1_other 62 q8.2).bind fun q10 =>
      if ¬ (x2 = q10.1) then
        FX8_compare_b57 N RE RN l1 s0 x2 0 q10.2
      else
        FX8_compare_b52 N RE RN l1 s0 x2 q10.2
theorem SX8_compare_b15 {m b : Nat} {φ0 : Nat → Nat} {σo : fS} (hb : 3 ≤ b) {N : Nat} {rE : Nat → Int32 → eH → Option ((Unit ⊕ Nat) × eH)} {RE : Int → fS → Option ((Unit ⊕ Nat) × fS)} {rN : Nat → eH → Option ((Int32 ⊕ Nat) × eH)} {RN : fS → Option ((Int ⊕ Nat) × fS)} {q : (Int ⊕ Nat) × fS} (hrE : ∀ {φ : Nat → Nat} {h : eH} {s : fS} {x1' : Int32} {x1 : Int} {q}, fC m 3 φ s φ h s → x1' = iI x1 → r32 x1 → RE x1 s = some q → gG m 3 φ s (lT lU) q (rE 22 x1' h)) (hrN : ∀ {φ : Nat → Nat} {h : eH} {s : fS} {q}, fC m 3 φ s φ h s → RN s = some q → gG m 3 φ s (lT lI) q (rN 22 h)) {φ : Nat → Nat} {h : eH} {s : fS} {l1' : Int32} {l1 : Int} {s0' : Int32} {s0 : Int} (R : fC m b φ0 σo φ h s) (el1 : l1' = iI l1) (rl1 : r32 l1) (es0 : s0' = iI s0) (rs0 : r32 s0) (hF : FX8_compare_b15 N RE RN l1 s0 s = some q) : gG m b φ0 σo (lT lI) q (fX8_compare_b15 N rE rN 22 l1' s0' h) := by
  subst el1; subst es0
  unfold FX8_compare_b15 at hF
  unfold fX8_compare_b15
  refine s_kok R (t_22 R.S) (Nat.le_of_ble_eq_true rfl) ?_
  refine s_tB R hb (fun _ hq => SX8_needSolid (b := 3) (N := N) (rE := rE) (RE := RE) (Nat.le_of_ble_eq_true rfl) @hrE (R.rf) hq) hF (fun f2 rv2 h2 x2 σ3 R2 e2 E2 hF => ?_)
  refine s_gO R2 (t_22 R2.S) (Nat.le_of_ble_eq_true rfl) rfl (o_22_0 R2.S) ?_
  refine s_call R2 (Nat.zero_le _) (fun _ hq => SX1_other (b := 0) (R2.rf) (c_lit 60 60 rfl) ⟨by decide, by decide⟩ hq) hF (fun f4 rv4 h4 q6 R4 e4 E4 hF => ?_)
  refine s_if (i_eq e2.1 e4.1 e2.2 e4.2) hF (fun c5 hF => ?_) (fun c5 hF => ?_)
  ·
    exact SX8_compare_b52 (N := N) (rE := rE) (RE := RE) (rN := rN) (RN := RN) hb @hrE @hrN R4 rfl rl1 rfl rs0 e2.1 e2.2 hF
  ·
    refine s_call R4 (Nat.zero_le _) (fun _ hq => SX1_other (b := 0) (R4.rf) (c_lit 61 61 rfl) ⟨by decide, by decide⟩ hq) hF (fun f6 rv6 h6 q8 R6 e6 E6 hF => ?_)
    refine s_if (i_eq e2.1 e6.1 e2.2 e6.2) hF (fun c7 hF => ?_) (fun c7 hF => ?_)
    ·
      exact SX8_compare_b52 (N := N) (rE := rE) (RE := RE) (rN := rN) (RN := RN) hb @hrE @hrN R6 rfl rl1 rfl rs0 e2.1 e2.2 hF
    ·
      refine s_call R6 (Nat.zero_le _) (fun _ hq => SX1_other (b := 0) (R6.rf) (c_lit 62 62 rfl) ⟨by decide, by decide⟩ hq) hF (fun f8 rv8 h8 q10 R8 e8 E8 hF => ?_)
      refine s_if (not_congr (i_eq e2.1 e8.1 e2.2 e8.2)) hF (fun c9 hF => ?_) (fun c9 hF => ?_)
      ·
        exact SX8_compare_b57 (N := N) (rE := rE) (RE := RE) (rN := rN) (RN := RN) hb @hrE @hrN R8 rfl rl1 rfl rs0 e2.1 e2.2 (c_lit 0 0 rfl) ⟨by decide, by decide⟩ hF
      ·
        exact SX8_compare_b52 (N := N) (rE := rE) (RE := RE) (rN := rN) (RN := RN) hb @hrE @hrN R8 rfl rl1 rfl rs0 e2.1 e2.2 hF
def FX8_compare (N : Nat) (RE : Int → fS → Option ((Unit ⊕ Nat) × fS)) (RN : fS → Option ((Int ⊕ Nat) × fS)) (p0 : Int) (s : fS) : Option ((Int ⊕ Nat) × fS) :=
  if p0 = 0 then
    tB (RN s) fun x3 σ4 =>
    FX8_compare_b15 N RE RN p0 x3 σ4
  else
    tB (FX8_dimension N RE RN s) fun x6 σ7 =>
    FX8_compare_b15 N RE RN p0 x6 σ7
theorem SX8_compare {m b : Nat} {φ0 : Nat → Nat} {σo : fS} (hb : 3 ≤ b) {N : Nat} {rE : Nat → Int32 → eH → Option ((Unit ⊕ Nat) × eH)} {RE : Int → fS → Option ((Unit ⊕ Nat) × fS)} {rN : Nat → eH → Option ((Int32 ⊕ Nat) × eH)} {RN : fS → Option ((Int ⊕ Nat) × fS)} {q : (Int ⊕ Nat) × fS} (hrE : ∀ {φ : Nat → Nat} {h : eH} {s : fS} {x1' : Int32} {x1 : Int} {q}, fC m 3 φ s φ h s → x1' = iI x1 → r32 x1 → RE x1 s = some q → gG m 3 φ s (lT lU) q (rE 22 x1' h)) (hrN : ∀ {φ : Nat → Nat} {h : eH} {s : fS} {q}, fC m 3 φ s φ h s → RN s = some q → gG m 3 φ s (lT lI) q (rN 22 h)) {φ : Nat → Nat} {h : eH} {s : fS} {p0' : Int32} {p0 : Int} (R : fC m b φ0 σo φ h s) (ep0 : p0' = iI p0) (rp0 : r32 p0) (hF : FX8_compare N RE RN p0 s = some q) : gG m b φ0 σo (lT lI) q (fX8_compare N rE rN 22 p0' h) := by
  subst ep0
  unfold FX8_compare at hF
  unfold fX8_compare
  refine s_if (i_eq rfl (c_lit 0 0 rfl) rp0 ⟨by decide, by decide⟩) hF (fun c1 hF => ?_) (fun c1 hF => ?_)
  ·
    refine s_kok R (t_22 R.S) (Nat.le_of_ble_eq_true rfl) ?_
    refine s_tB R hb (fun _ hq => hrN (R.rf)  hq) hF (fun f3 rv3 h3 x3 σ4 R3 e3 E3 hF => ?_)
    exact SX8_compare_b15 (N := N) (rE := rE) (RE := RE) (rN := rN) (RN := RN) hb @hrE @hrN R3 rfl rp0 e3.1 e3.2 hF
  ·
    refine s_kok R (t_22 R.S) (Nat.le_of_ble_eq_true rfl) ?_
    refine s_tB R hb (fun _ hq => SX8_dimension (b := 3) (N := N) (rE := rE) (RE := RE) (rN := rN) (RN := RN) (Nat.le_of_ble_eq_true rfl) @hrE @hrN (R.rf) hq) hF (fun f5 rv5 h5 x6 σ7 R5 e5 E5 hF => ?_)
    exact SX8_compare_b15 (N := N) (rE := rE) (RE := RE) (rN := rN) (RN := RN) hb @hrE @hrN R5 rfl rp0 e5.1 e5.2 hF
def FX8_test_b78 (N : Nat) (RE : Int → fS → Option ((Unit ⊕ Nat) × fS)) (RN : fS → Option ((Int ⊕ Nat) × fS)) (s0 : Int) (s : fS) : Option ((Int ⊕ Nat) × fS) :=
  uZ s0 (.inl s0, s)
theorem SX8_test_b78 {m b : Nat} {φ0 : Nat → Nat} {σo : fS} {N : Nat} {rE : Nat → Int32 → eH → Option ((Unit ⊕ Nat) × eH)} {RE : Int → fS → Option ((Unit ⊕ Nat) × fS)} {rN : Nat → eH → Option ((Int32 ⊕ Nat) × eH)} {RN : fS → Option ((Int ⊕ Nat) × fS)} {q : (Int ⊕ Nat) × fS} (hrE : ∀ {φ : Nat → Nat} {h : eH} {s : fS} {x1' : Int32} {x1 : Int} {q}, fC m 3 φ s φ h s → x1' = iI x1 → r32 x1 → RE x1 s = some q → gG m 3 φ s (lT lU) q (rE 22 x1' h)) (hrN : ∀ {φ : Nat → Nat} {h : eH} {s : fS} {q}, fC m 3 φ s φ h s → RN s = some q → gG m 3 φ s (lT lI) q (rN 22 h)) {φ : Nat → Nat} {h : eH} {s : fS} {s0' : Int32} {s0 : Int} (R : fC m b φ0 σo φ h s) (es0 : s0' = iI s0) (rs0 : r32 s0) (hF : FX8_test_b78 N RE RN s0 s = some q) : gG m b φ0 σo (lT lI) q (fX8_test_b78 N rE rN s0' h) := by
  subst es0
  unfold FX8_test_b78 at hF
  unfold fX8_test_b78
  exact g_z R rfl hF ⟨rfl, rs0⟩
def FX8_test_b105 (N : Nat) (RE : Int → fS → Option ((Unit ⊕ Nat) × fS)) (RN : fS → Option ((Int ⊕ Nat) × fS)) (s0 : Int) (s : fS) : Option ((Int ⊕ Nat) × fS) :=
  uZ s0 (.inl s0, s)
theorem SX8_test_b105 {m b : Nat} {φ0 : Nat → Nat} {σo : fS} {N : Nat} {rE : Nat → Int32 → eH → Option ((Unit ⊕ Nat) × eH)} {RE : Int → fS → Option ((Unit ⊕ Nat) × fS)} {rN : Nat → eH → Option ((Int32 ⊕ Nat) × eH)} {RN : fS → Option ((Int ⊕ Nat) × fS)} {q : (Int ⊕ Nat) × fS} (hrE : ∀ {φ : Nat → Nat} {h : eH} {s : fS} {x1' : Int32} {x1 : Int} {q}, fC m 3 φ s φ h s → x1' = iI x1 → r32 x1 → RE x1 s = some q → gG m 3 φ s (lT lU) q (rE 22 x1' h)) (hrN : ∀ {φ : Nat → Nat} {h : eH} {s : fS} {q}, fC m 3 φ s φ h s → RN s = some q → gG m 3 φ s (lT lI) q (rN 22 h)) {φ : Nat → Nat} {h : eH} {s : fS} {s0' : Int32} {s0 : Int} (R : fC m b φ0 σo φ h s) (es0 : s0' = iI s0) (rs0 : r32 s0) (hF : FX8_test_b105 N RE RN s0 s = some q) : gG m b φ0 σo (lT lI) q (fX8_test_b105 N rE rN s0' h) := by
  subst es0
  unfold FX8_test_b105 at hF
  unfold fX8_test_b105
  exact g_z R rfl hF ⟨rfl, rs0⟩
def FX8_test_b152 (N : Nat) (RE : Int → fS → Option ((Unit ⊕ Nat) × fS)) (RN : fS → Option ((Int ⊕ Nat) × fS)) (s0 : Int) (s : fS) : Option ((Int ⊕ Nat) × fS) :=
  uZ s0 (.inl s0, s)
theorem SX8_test_b152 {m b : Nat} {φ0 : Nat → Nat} {σo : fS} {N : Nat} {rE : Nat → Int32 → eH → Option ((Unit ⊕ Nat) × eH)} {RE : Int → fS → Option ((Unit ⊕ Nat) × fS)} {rN : Nat → eH → Option ((Int32 ⊕ Nat) × eH)} {RN : fS → Option ((Int ⊕ Nat) × fS)} {q : (Int ⊕ Nat) × fS} (hrE : ∀ {φ : Nat → Nat} {h : eH} {s : fS} {x1' : Int32} {x1 : Int} {q}, fC m 3 φ s φ h s → x1' = iI x1 → r32 x1 → RE x1 s = some q → gG m 3 φ s (lT lU) q (rE 22 x1' h)) (hrN : ∀ {φ : Nat → Nat} {h : eH} {s : fS} {q}, fC m 3 φ s φ h s → RN s = some q → gG m 3 φ s (lT lI) q (rN 22 h)) {φ : Nat → Nat} {h : eH} {s : fS} {s0' : Int32} {s0 : Int} (R : fC m b φ0 σo φ h s) (es0 : s0' = iI s0) (rs0 : r32 s0) (hF : FX8_test_b152 N RE RN s0 s = some q) : gG m b φ0 σo (lT lI) q (fX8_test_b152 N rE rN s0' h) := by
  subst es0
  unfold FX8_test_b152 at hF
  unfold fX8_test_b152
  exact g_z R rfl hF ⟨rfl, rs0⟩
def FX8_test_b181 (N : Nat) (RE : Int → fS → Option ((Unit ⊕ Nat) × fS)) (RN : fS → Option ((Int ⊕ Nat) × fS)) (s0 : Int) (s : fS) : Option ((Int ⊕ Nat) × fS) :=
  uZ s0 (.inl s0, s)
theorem SX8_test_b181 {m b : Nat} {φ0 : Nat → Nat} {σo : fS} {N : Nat} {rE : Nat → Int32 → eH → Option ((Unit ⊕ Nat) × eH)} {RE : Int → fS → Option ((Unit ⊕ Nat) × fS)} {rN : Nat → eH → Option ((Int32 ⊕ Nat) × eH)} {RN : fS → Option ((Int ⊕ Nat) × fS)} {q : (Int ⊕ Nat) × fS} (hrE : ∀ {φ : Nat → Nat} {h : eH} {s : fS} {x1' : Int32} {x1 : Int} {q}, fC m 3 φ s φ h s → x1' = iI x1 → r32 x1 → RE x1 s = some q → gG m 3 φ s (lT lU) q (rE 22 x1' h)) (hrN : ∀ {φ : Nat → Nat} {h : eH} {s : fS} {q}, fC m 3 φ s φ h s → RN s = some q → gG m 3 φ s (lT lI) q (rN 22 h)) {φ : Nat → Nat} {h : eH} {s : fS} {s0' : Int32} {s0 : Int} (R : fC m b φ0 σo φ h s) (es0 : s0' = iI s0) (rs0 : r32 s0) (hF : FX8_test_b181 N RE RN s0 s = some q) : gG m b φ0 σo (lT lI) q (fX8_test_b181 N rE rN s0' h) := by
  subst es0
  unfold FX8_test_b181 at hF
  unfold fX8_test_b181
  exact g_z R rfl hF ⟨rfl, rs0⟩
def FX8_test_b196 (N : Nat) (RE : Int → fS → Option ((Unit ⊕ Nat) × fS)) (RN : fS → Option ((Int ⊕ Nat) × fS)) (s0 : Int) (s : fS) : Option ((Int ⊕ Nat) × fS) :=
  uZ s0 (.inl s0, s)
theorem SX8_test_b196 {m b : Nat} {φ0 : Nat → Nat} {σo : fS} {N : Nat} {rE : Nat → Int32 → eH → Option ((Unit ⊕ Nat) × eH)} {RE : Int → fS → Option ((Unit ⊕ Nat) × fS)} {rN : Nat → eH → Option ((Int32 ⊕ Nat) × eH)} {RN : fS → Option ((Int ⊕ Nat) × fS)} {q : (Int ⊕ Nat) × fS} (hrE : ∀ {φ : Nat → Nat} {h : eH} {s : fS} {x1' : Int32} {x1 : Int} {q}, fC m 3 φ s φ h s → x1' = iI x1 → r32 x1 → RE x1 s = some q → gG m 3 φ s (lT lU) q (rE 22 x1' h)) (hrN : ∀ {φ : Nat → Nat} {h : eH} {s : fS} {q}, fC m 3 φ s φ h s → RN s = some q → gG m 3 φ s (lT lI) q (rN 22 h)) {φ : Nat → Nat} {h : eH} {s : fS} {s0' : Int32} {s0 : Int} (R : fC m b φ0 σo φ h s) (es0 : s0' = iI s0) (rs0 : r32 s0) (hF : FX8_test_b196 N RE RN s0 s = some q) : gG m b φ0 σo (lT lI) q (fX8_test_b196 N rE rN s0' h) := by
  subst es0
  unfold FX8_test_b196 at hF
  unfold fX8_test_b196
  exact g_z R rfl hF ⟨rfl, rs0⟩
def FX8_test_b208 (N : Nat) (RE : Int → fS → Option ((Unit ⊕ Nat) × fS)) (RN : fS → Option ((Int ⊕ Nat) × fS)) (s0 : Int) (s : fS) : Option ((Int ⊕ Nat) × fS) :=
  uZ s0 (.inl s0, s)
theorem SX8_test_b208 {m b : Nat} {φ0 : Nat → Nat} {σo : fS} {N : Nat} {rE : Nat → Int32 → eH → Option ((Unit ⊕ Nat) × eH)} {RE : Int → fS → Option ((Unit ⊕ Nat) × fS)} {rN : Nat → eH → Option ((Int32 ⊕ Nat) × eH)} {RN : fS → Option ((Int ⊕ Nat) × fS)} {q : (Int ⊕ Nat) × fS} (hrE : ∀ {φ : Nat → Nat} {h : eH} {s : fS} {x1' : Int32} {x1 : Int} {q}, fC m 3 φ s φ h s → x1' = iI x1 → r32 x1 → RE x1 s = some q → gG m 3 φ s (lT lU) q (rE 22 x1' h)) (hrN : ∀ {φ : Nat → Nat} {h : eH} {s : fS} {q}, fC m 3 φ s φ h s → RN s = some q → gG m 3 φ s (lT lI) q (rN 22 h)) {φ : Nat → Nat} {h : eH} {s : fS} {s0' : Int32} {s0 : Int} (R : fC m b φ0 σo φ h s) (es0 : s0' = iI s0) (rs0 : r32 s0) (hF : FX8_test_b208 N RE RN s0 s = some q) : gG m b φ0 σo (lT lI) q (fX8_test_b208 N rE rN s0' h) := by
  subst es0
  unfold FX8_test_b208 at hF
  unfold fX8_test_b208
  exact g_z R rfl hF ⟨rfl, rs0⟩
def FX8_test (N : Nat) (RE : Int → fS → Option ((Unit ⊕ Nat) × fS)) (RN : fS → Option ((Int ⊕ Nat) × fS)) (p0 : Int) (s : fS) : Option ((Int ⊕ Nat) × fS) :=
  if p0 = 7 then
    tB (FX8_needExpanded N RE s) fun x3 σ4 =>
    (FX8_codeOf x3 σ4).bind fun q6 =>
    tB (FX8_needExpanded N RE q6.2) fun x8 σ9 =>
    (FX8_codeOf x8 σ9).bind fun q11 =>
    if ¬ (q6.1 = q11.1) then
      FX8_test_b78 N RE RN 0 q11.2
    else
      FX8_test_b78 N RE RN 1 q11.2
  else
    if p0 = 8 then
      tB (FX8_needExpanded N RE s) fun x15 σ16 =>
      (FX8_categoryOf x15 σ16).bind fun q18 =>
      tB (FX8_needExpanded N RE q18.2) fun x20 σ21 =>
      (FX8_categoryOf x20 σ21).bind fun q23 =>
      if ¬ (q18.1 = q23.1) then
        FX8_test_b105 N RE RN 0 q23.2
      else
        FX8_test_b105 N RE RN 1 q23.2
    else
      if p0 = 9 then
        tB (FX8_need N s) fun x27 σ28 =>
        tB (FX8_need N σ28) fun x30 σ31 =>
        (FX8_areAlike N x27 x30 σ31).bind fun q33 =>
        uZ q33.1 (.inl q33.1, q33.2)
      else
        if p0 = 10 then
          tB (FX8_compare N RE RN 0 s) fun x37 σ38 =>
          uZ x37 (.inl x37, σ38)
        else
          if p0 = 11 then
            tB (FX8_compare N RE RN 1 s) fun x42 σ43 =>
            uZ x42 (.inl x42, σ43)
          else
            if p0 = 12 then
              tB (RN s) fun x47 σ48 =>
              if (irem x47 2) = 0 then
                FX8_test_b196 N RE RN 0 σ48
              else
                FX8_test_b196 N RE RN 1 σ48
            else
              if p0 = 13 then
                uZ (s.i 22 11) (.inl (s.i 22 11), s)
              else
                if p0 = 14 then
                  if ¬ ((s.i 22 11) = 0) then
                    FX8_test_b152 N RE RN 0 s
                  else
                    FX8_test_b152 N RE RN 1 s
                else
                  if p0 = 15 then
                    tB (FX8_within RN 255 s) fun x64 σ65 =>
                    (uRI σ65 27 (iadd 1583 x64)).bind fun x66 =>
                    if ¬ (x66 = (-1)) then
                      FX8_test_b181 N RE RN 0 σ65
                    else
                      FX8_test_b181 N RE RN 1 σ65
                  else
                    if ¬ (p0 = 16) then
                      FX8_test_b208 N RE RN 0 s
                    else
                      FX8_test_b208 N RE RN 1 s
theorem SX8_test {m b : Nat} {φ0 : Nat → Nat} {σo : fS} (hb : 3 ≤ b) {N : Nat} {rE : Nat → Int32 → eH → Option ((Unit ⊕ Nat) × eH)} {RE : Int → fS → Option ((Unit ⊕ Nat) × fS)} {rN : Nat → eH → Option ((Int32 ⊕ Nat) × eH)} {RN : fS → Option ((Int ⊕ Nat) × fS)} {q : (Int ⊕ Nat) × fS} (hrE : ∀ {φ : Nat → Nat} {h : eH} {s : fS} {x1' : Int32} {x1 : Int} {q}, fC m 3 φ s φ h s → x1' = iI x1 → r32 x1 → RE x1 s = some q → gG m 3 φ s (lT lU) q (rE 22 x1' h)) (hrN : ∀ {φ : Nat → Nat} {h : eH} {s : fS} {q}, fC m 3 φ s φ h s → RN s = some q → gG m 3 φ s (lT lI) q (rN 22 h)) {φ : Nat → Nat} {h : eH} {s : fS} {p0' : Int32} {p0 : Int} (R : fC m b φ0 σo φ h s) (ep0 : p0' = iI p0) (rp0 : r32 p0) (hF : FX8_test N RE RN p0 s = some q) : gG m b φ0 σo (lT lI) q (fX8_test N rE rN 22 p0' h) := by
  subst ep0
  unfold FX8_test at hF
  unfold fX8_test
  refine s_if (i_eq rfl (c_lit 7 7 rfl) rp0 ⟨by decide, by decide⟩) hF (fun c1 hF => ?_) (fun c1 hF => ?_)
  ·
    refine s_kok R (t_22 R.S) (Nat.le_of_ble_eq_true rfl) ?_
    refine s_tB R hb (fun _ hq => SX8_needExpanded (b := 3) (N := N) (rE := rE) (RE := RE) (Nat.le_of_ble_eq_true rfl) @hrE (R.rf) hq) hF (fun f3 rv3 h3 x3 σ4 R3 e3 E3 hF => ?_)
    refine s_kok R3 (t_22 R3.S) (Nat.le_of_ble_eq_true rfl) ?_
    refine s_call R3 (Nat.zero_le _) (fun _ hq => SX8_codeOf (b := 0) (R3.rf) e3.1 e3.2 hq) hF (fun f5 rv5 h5 q6 R5 e5 E5 hF => ?_)
    refine s_kok R5 (t_22 R5.S) (Nat.le_of_ble_eq_true rfl) ?_
    refine s_tB R5 hb (fun _ hq => SX8_needExpanded (b := 3) (N := N) (rE := rE) (RE := RE) (Nat.le_of_ble_eq_true rfl) @hrE (R5.rf) hq) hF (fun f7 rv7 h7 x8 σ9 R7 e7 E7 hF => ?_)
    refine s_kok R7 (t_22 R7.S) (Nat.le_of_ble_eq_true rfl) ?_
    refine s_call R7 (Nat.zero_le _) (fun _ hq => SX8_codeOf (b := 0) (R7.rf) e7.1 e7.2 hq) hF (fun f9 rv9 h9 q11 R9 e9 E9 hF => ?_)
    refine s_if (not_congr (i_eq e5.1 e9.1 e5.2 e9.2)) hF (fun c10 hF => ?_) (fun c10 hF => ?_)
    ·
      exact SX8_test_b78 (N := N) (rE := rE) (RE := RE) (rN := rN) (RN := RN) @hrE @hrN R9 (c_lit 0 0 rfl) ⟨by decide, by decide⟩ hF
    ·
      exact SX8_test_b78 (N := N) (rE := rE) (RE := RE) (rN := rN) (RN := RN) @hrE @hrN R9 (c_lit 1 1 rfl) ⟨by decide, by decide⟩ hF
  ·
    refine s_if (i_eq rfl (c_lit 8 8 rfl) rp0 ⟨by decide, by decide⟩) hF (fun c11 hF => ?_) (fun c11 hF => ?_)
    ·
      refine s_kok R (t_22 R.S) (Nat.le_of_ble_eq_true rfl) ?_
      refine s_tB R hb (fun _ hq => SX8_needExpanded (b := 3) (N := N) (rE := rE) (RE := RE) (Nat.le_of_ble_eq_true rfl) @hrE (R.rf) hq) hF (fun f13 rv13 h13 x15 σ16 R13 e13 E13 hF => ?_)
      refine s_kok R13 (t_22 R13.S) (Nat.le_of_ble_eq_true rfl) ?_
      refine s_call R13 (Nat.zero_le _) (fun _ hq => SX8_categoryOf (b := 0) (R13.rf) e13.1 e13.2 hq) hF (fun f15 rv15 h15 q18 R15 e15 E15 hF => ?_)
      refine s_kok R15 (t_22 R15.S) (Nat.le_of_ble_eq_true rfl) ?_
      refine s_tB R15 hb (fun _ hq => SX8_needExpanded (b := 3) (N := N) (rE := rE) (RE := RE) (Nat.le_of_ble_eq_true rfl) @hrE (R15.rf) hq) hF (fun f17 rv17 h17 x20 σ21 R17 e17 E17 hF => ?_)
      refine s_kok R17 (t_22 R17.S) (Nat.le_of_ble_eq_true rfl) ?_
      refine s_call R17 (Nat.zero_le _) (fun _ hq => SX8_categoryOf (b := 0) (R17.rf) e17.1 e17.2 hq) hF (fun f19 rv19 h19 q23 R19 e19 E19 hF => ?_)
      refine s_if (not_congr (i_eq e15.1 e19.1 e15.2 e19.2)) hF (fun c20 hF => ?_) (fun c20 hF => ?_)
      ·
        exact SX8_test_b105 (N := N) (rE := rE) (RE := RE) (rN := rN) (RN := RN) @hrE @hrN R19 (c_lit 0 0 rfl) ⟨by decide, by decide⟩ hF
      ·
        exact SX8_test_b105 (N := N) (rE := rE) (RE := RE) (rN := rN) (RN := RN) @hrE @hrN R19 (c_lit 1 1 rfl) ⟨by decide, by decide⟩ hF
    ·
      refine s_if (i_eq rfl (c_lit 9 9 rfl) rp0 ⟨by decide, by decide⟩) hF (fun c21 hF => ?_) (fun c21 hF => ?_)
      ·
        refine s_kok R (t_22 R.S) (Nat.le_of_ble_eq_true rfl) ?_
        refine s_tB R (Nat.le_trans (Nat.le_of_ble_eq_true rfl) hb) (fun _ hq => SX8_need (b := 2) (N := N) (Nat.le_of_ble_eq_true rfl) (R.rf) hq) hF (fun f23 rv23 h23 x27 σ28 R23 e23 E23 hF => ?_)
        refine s_kok R23 (t_22 R23.S) (Nat.le_of_ble_eq_true rfl) ?_
        refine s_tB R23 (Nat.le_trans (Nat.le_of_ble_eq_true rfl) hb) (fun _ hq => SX8_need (b := 2) (N := N) (Nat.le_of_ble_eq_true rfl) (R23.rf) hq) hF (fun f25 rv25 h25 x30 σ31 R25 e25 E25 hF => ?_)
        refine s_kok R25 (t_22 R25.S) (Nat.le_of_ble_eq_true rfl) ?_
        refine s_call R25 (Nat.zero_le _) (fun _ hq => SX8_areAlike (b := 0) (N := N) (R25.rf) e23.1 e23.2 e25.1 e25.2 hq) hF (fun f27 rv27 h27 q33 R27 e27 E27 hF => ?_)
        exact g_z R27 e27.1 hF ⟨e27.1, e27.2⟩
      ·
        refine s_if (i_eq rfl (c_lit 10 10 rfl) rp0 ⟨by decide, by decide⟩) hF (fun c28 hF => ?_) (fun c28 hF => ?_)
        ·
          refine s_kok R (t_22 R.S) (Nat.le_of_ble_eq_true rfl) ?_
          refine s_tB R hb (fun _ hq => SX8_compare (b := 3) (N := N) (rE := rE) (RE := RE) (rN := rN) (RN := RN) (Nat.le_of_ble_eq_true rfl) @hrE @hrN (R.rf) (c_lit 0 0 rfl) ⟨by decide, by decide⟩ hq) hF (fun f30 rv30 h30 x37 σ38 R30 e30 E30 hF => ?_)
          exact g_z R30 e30.1 hF ⟨e30.1, e30.2⟩
        ·
          refine s_if (i_eq rfl (c_lit 11 11 rfl) rp0 ⟨by decide, by decide⟩) hF (fun c31 hF => ?_) (fun c31 hF => ?_)
          ·
            refine s_kok R (t_22 R.S) (Nat.le_of_ble_eq_true rfl) ?_
            refine s_tB R hb (fun _ hq => SX8_compare (b := 3) (N := N) (rE := rE) (RE := RE) (rN := rN) (RN := RN) (Nat.le_of_ble_eq_true rfl) @hrE @hrN (R.rf) (c_lit 1 1 rfl) ⟨by decide, by decide⟩ hq) hF (fun f33 rv33 h33 x42 σ43 R33 e33 E33 hF => ?_)
            exact g_z R33 e33.1 hF ⟨e33.1, e33.2⟩
          ·
            refine s_if (i_eq rfl (c_lit 12 12 rfl) rp0 ⟨by decide, by decide⟩) hF (fun c34 hF => ?_) (fun c34 hF => ?_)
            ·
              refine s_kok R (t_22 R.S) (Nat.le_of_ble_eq_true rfl) ?_
              refine s_tB R hb (fun _ hq => hrN (R.rf)  hq) hF (fun f36 rv36 h36 x47 σ48 R36 e36 E36 hF => ?_)
              refine s_if (i_eq (c_rem e36.1 (c_lit 2 2 rfl)) (c_lit 0 0 rfl) (rr_I _) ⟨by decide, by decide⟩) hF (fun c37 hF => ?_) (fun c37 hF => ?_)
              ·
                exact SX8_test_b196 (N := N) (rE := rE) (RE := RE) (rN := rN) (RN := RN) @hrE @hrN R36 (c_lit 0 0 rfl) ⟨by decide, by decide⟩ hF
              ·
                exact SX8_test_b196 (N := N) (rE := rE) (RE := RE) (rN := rN) (RN := RN) @hrE @hrN R36 (c_lit 1 1 rfl) ⟨by decide, by decide⟩ hF
            ·
              refine s_if (i_eq rfl (c_lit 13 13 rfl) rp0 ⟨by decide, by decide⟩) hF (fun c38 hF => ?_) (fun c38 hF => ?_)
              ·
                refine s_gI R (t_22 R.S) (Nat.le_of_ble_eq_true rfl) rfl ?_
                exact g_z R rfl hF ⟨rfl, (R.ri (t_22 R.S) (Nat.le_of_ble_eq_true rfl) rfl)⟩
              ·
                refine s_if (i_eq rfl (c_lit 14 14 rfl) rp0 ⟨by decide, by decide⟩) hF (fun c40 hF => ?_) (fun c40 hF => ?_)
                ·
                  refine s_gI R (t_22 R.S) (Nat.le_of_ble_eq_true rfl) rfl ?_
                  refine s_if (not_congr (i_eq rfl (c_lit 0 0 rfl) (R.ri (t_22 R.S) (Nat.le_of_ble_eq_true rfl) rfl) ⟨by decide, by decide⟩)) hF (fun c42 hF => ?_) (fun c42 hF => ?_)
                  ·
                    exact SX8_test_b152 (N := N) (rE := rE) (RE := RE) (rN := rN) (RN := RN) @hrE @hrN R (c_lit 0 0 rfl) ⟨by decide, by decide⟩ hF
                  ·
                    exact SX8_test_b152 (N := N) (rE := rE) (RE := RE) (rN := rN) (RN := RN) @hrE @hrN R (c_lit 1 1 rfl) ⟨by decide, by decide⟩ hF
                ·
                  refine s_if (i_eq rfl (c_lit 15 15 rfl) rp0 ⟨by decide, by decide⟩) hF (fun c43 hF => ?_) (fun c43 hF => ?_)
                  ·
                    refine s_gO R (t_22 R.S) (Nat.le_of_ble_eq_true rfl) rfl (o_22_4 R.S) ?_
                    refine s_gAs R (t_23 R.S) (Nat.le_of_ble_eq_true rfl) rfl (o_23_3 R.S) (a_27 R) ?_
                    refine s_kok R (t_22 R.S) (Nat.le_of_ble_eq_true rfl) ?_
                    refine s_tB R hb (fun _ hq => SX8_within (b := 3) (rN := rN) (RN := RN) (Nat.le_of_ble_eq_true rfl) @hrN (R.rf) (c_lit 255 255 rfl) ⟨by decide, by decide⟩ hq) hF (fun f47 rv47 h47 x64 σ65 R47 e47 E47 hF => ?_)
                    refine s_rI R47 (u_27 R47.S).1 (u_27 R47.S).2 (by decide) (a_27 R47) (c_add (c_lit 1583 1583 rfl) e47.1) (rr_I _) hF (fun x66 ra48 hF => ?_)
                    refine s_if (not_congr (i_eq rfl (c_lit (-1) (-1) rfl) ra48 ⟨by decide, by decide⟩)) hF (fun c49 hF => ?_) (fun c49 hF => ?_)
                    ·
                      exact SX8_test_b181 (N := N) (rE := rE) (RE := RE) (rN := rN) (RN := RN) @hrE @hrN R47 (c_lit 0 0 rfl) ⟨by decide, by decide⟩ hF
                    ·
                      exact SX8_test_b181 (N := N) (rE := rE) (RE := RE) (rN := rN) (RN := RN) @hrE @hrN R47 (c_lit 1 1 rfl) ⟨by decide, by decide⟩ hF
                  ·
                    refine s_if (not_congr (i_eq rfl (c_lit 16 16 rfl) rp0 ⟨by decide, by decide⟩)) hF (fun c50 hF => ?_) (fun c50 hF => ?_)
                    ·
                      exact SX8_test_b208 (N := N) (rE := rE) (RE := RE) (rN := rN) (RN := RN) @hrE @hrN R (c_lit 0 0 rfl) ⟨by decide, by decide⟩ hF
                    ·
                      exact SX8_test_b208 (N := N) (rE := rE) (RE := RE) (rN := rN) (RN := RN) @hrE @hrN R (c_lit 1 1 rfl) ⟨by decide, by decide⟩ hF
