set_option maxRecDepth 100000
set_option maxHeartbeats 4000000
def FX3_takeItem_b256 (s : fS) : Option (Unit × fS) :=
  some ((), s)
theorem SX3_takeItem_b256 {m b : Nat} {φ0 : Nat → Nat} {σo : fS} {q : Unit × fS} {φ : Nat → Nat} {h : eH} {s : fS} (R : fC m b φ0 σo φ h s) (hF : FX3_takeItem_b256 s = some q) : gG m b φ0 σo lU q (fX3_takeItem_b256 h) := by
  unfold FX3_takeItem_b256 at hF
  unfold fX3_takeItem_b256
  exact g_ret R hF trivial
def FX3_takeItem_b95 (s1 : Int) (s2 : Int) (s : fS) : Option (Unit × fS) :=
  (FX22_add s1 s2 0 0 0 s).bind fun q2 =>
  FX3_takeItem_b256 q2.2
theorem SX3_takeItem_b95 {m b : Nat} {φ0 : Nat → Nat} {σo : fS} {q : Unit × fS} {φ : Nat → Nat} {h : eH} {s : fS} {s1' : Int32} {s1 : Int} {s2' : Int32} {s2 : Int} (R : fC m b φ0 σo φ h s) (es1 : s1' = iI s1) (rs1 : r32 s1) (es2 : s2' = iI s2) (rs2 : r32 s2) (hF : FX3_takeItem_b95 s1 s2 s = some q) : gG m b φ0 σo lU q (fX3_takeItem_b95 104 s1' s2' h) := by
  subst es1; subst es2
  unfold FX3_takeItem_b95 at hF
  unfold fX3_takeItem_b95
  refine s_kok R (t_104 R.S) (Nat.le_of_ble_eq_true rfl) ?_
  refine s_call R (Nat.zero_le _) (fun _ hq => SX22_add (b := 0) (R.rf) rfl rs1 rfl rs2 (c_lit 0 0 rfl) ⟨by decide, by decide⟩ (c_lit 0 0 rfl) ⟨by decide, by decide⟩ (c_lit 0 0 rfl) ⟨by decide, by decide⟩ hq) hF (fun f2 rv2 h2 q2 R2 e2 E2 hF => ?_)
  exact SX3_takeItem_b256 R2 hF
def FX3_takeItem_b183 (l2 : Int) (s1 : Int) (s : fS) : Option (Unit × fS) :=
  (FX34_of 172 l2 0 s).bind fun q2 =>
  (FX22_add s1 q2.1 0 0 0 q2.2).bind fun q4 =>
  FX3_takeItem_b256 q4.2
theorem SX3_takeItem_b183 {m b : Nat} {φ0 : Nat → Nat} {σo : fS} {q : Unit × fS} {φ : Nat → Nat} {h : eH} {s : fS} {l2' : Int32} {l2 : Int} {s1' : Int32} {s1 : Int} (R : fC m b φ0 σo φ h s) (el2 : l2' = iI l2) (rl2 : r32 l2) (es1 : s1' = iI s1) (rs1 : r32 s1) (hF : FX3_takeItem_b183 l2 s1 s = some q) : gG m b φ0 σo lU q (fX3_takeItem_b183 172 l2' 104 s1' h) := by
  subst el2; subst es1
  unfold FX3_takeItem_b183 at hF
  unfold fX3_takeItem_b183
  refine s_kok R (t_172 R.S) (Nat.le_of_ble_eq_true rfl) ?_
  refine s_call R (Nat.zero_le _) (fun _ hq => SX34_of (b := 0) (R.rf) rfl rl2 (c_lit 0 0 rfl) ⟨by decide, by decide⟩ hq) hF (fun f2 rv2 h2 q2 R2 e2 E2 hF => ?_)
  refine s_kok R2 (t_104 R2.S) (Nat.le_of_ble_eq_true rfl) ?_
  refine s_call R2 (Nat.zero_le _) (fun _ hq => SX22_add (b := 0) (R2.rf) rfl rs1 e2.1 e2.2 (c_lit 0 0 rfl) ⟨by decide, by decide⟩ (c_lit 0 0 rfl) ⟨by decide, by decide⟩ (c_lit 0 0 rfl) ⟨by decide, by decide⟩ hq) hF (fun f4 rv4 h4 q4 R4 e4 E4 hF => ?_)
  exact SX3_takeItem_b256 R4 hF
def FX3_takeItem_b242 (l2 : Int) (s1 : Int) (s2 : Int) (s : fS) : Option (Unit × fS) :=
  (FX34_of 172 l2 2 s).bind fun q2 =>
  (FX22_add s1 s2 (-2147483648) q2.1 0 q2.2).bind fun q4 =>
  FX3_takeItem_b256 q4.2
theorem SX3_takeItem_b242 {m b : Nat} {φ0 : Nat → Nat} {σo : fS} {q : Unit × fS} {φ : Nat → Nat} {h : eH} {s : fS} {l2' : Int32} {l2 : Int} {s1' : Int32} {s1 : Int} {s2' : Int32} {s2 : Int} (R : fC m b φ0 σo φ h s) (el2 : l2' = iI l2) (rl2 : r32 l2) (es1 : s1' = iI s1) (rs1 : r32 s1) (es2 : s2' = iI s2) (rs2 : r32 s2) (hF : FX3_takeItem_b242 l2 s1 s2 s = some q) : gG m b φ0 σo lU q (fX3_takeItem_b242 172 l2' 104 s1' s2' h) := by
  subst el2; subst es1; subst es2
  unfold FX3_takeItem_b242 at hF
  unfold fX3_takeItem_b242
  refine s_kok R (t_172 R.S) (Nat.le_of_ble_eq_true rfl) ?_
  refine s_call R (Nat.zero_le _) (fun _ hq => SX34_of (b := 0) (R.rf) rfl rl2 (c_lit 2 2 rfl) ⟨by decide, by decide⟩ hq) hF (fun f2 rv2 h2 q2 R2 e2 E2 hF => ?_)
  refine s_kok R2 (t_104 R2.S) (Nat.le_of_ble_eq_true rfl) ?_
  refine s_call R2 (Nat.zero_le _) (fun _ hq => SX22_add (b := 0) (R2.rf) rfl rs1 rfl rs2 (c_lit (-2147483648) (-2147483648) rfl) ⟨by decide, by decide⟩ e2.1 e2.2 (c_lit 0 0 rfl) ⟨by decide, by decide⟩ hq) hF (fun f4 rv4 h4 q4 R4 e4 E4 hF => ?_)
  exact SX3_takeItem_b256 R4 hF
def FX3_takeItem (p1 : Int) (s : fS) : Option (Unit × fS) :=
  (FX34_kind 172 p1 s).bind fun q6 =>
  if q6.1 = 0 then
    (FX34_of 172 p1 1 q6.2).bind fun q9 =>
    (FX22_add 0 q9.1 0 0 0 q9.2).bind fun q11 =>
    FX3_takeItem_b256 q11.2
  else
    if q6.1 = 1 then
      (FX34_of 172 p1 0 q6.2).bind fun q14 =>
      if ¬ (q14.1 = (-1073741824)) then
        (FX34_of 172 p1 0 q14.2).bind fun q17 =>
        FX3_takeItem_b95 0 q17.1 q17.2
      else
        FX3_takeItem_b95 0 0 q14.2
    else
      if q6.1 = 2 then
        (FX34_of 172 p1 0 q6.2).bind fun q20 =>
        (FX34_of 172 p1 1 q20.2).bind fun q22 =>
        (FX34_of 172 p1 2 q22.2).bind fun q24 =>
        (FX34_of 172 p1 3 q24.2).bind fun q26 =>
        (FX22_add 1 q20.1 q22.1 q24.1 q26.1 q26.2).bind fun q28 =>
        FX3_takeItem_b256 q28.2
      else
        if q6.1 = 3 then
          (FX34_of 172 p1 1 q6.2).bind fun q31 =>
          if ¬ (q31.1 = 1) then
            FX3_takeItem_b183 p1 2 q31.2
          else
            FX3_takeItem_b183 p1 3 q31.2
        else
          if q6.1 = 4 then
            (FX34_of 172 p1 0 q6.2).bind fun q37 =>
            (uRO q37.2 21 q37.1).bind fun a38 =>
            (uK 41 q37.2 a38).bind fun _ =>
            (FX22_add 0 (q37.2.i a38 3) 0 0 0 q37.2).bind fun q43 =>
            FX3_takeItem_b256 q43.2
          else
            if q6.1 = 5 then
              (FX34_of 172 p1 0 q6.2).bind fun q46 =>
              (FX22_add 4 q46.1 0 0 0 q46.2).bind fun q48 =>
              FX3_takeItem_b256 q48.2
            else
              (FX34_of 172 p1 3 q6.2).bind fun q50 =>
              if ¬ (q50.1 = 1) then
                FX3_takeItem_b242 p1 5 (-2147483648) q50.2
              else
                (FX34_of 172 p1 0 q50.2).bind fun q53 =>
                FX3_takeItem_b242 p1 5 q53.1 q53.2
theorem SX3_takeItem {m b : Nat} {φ0 : Nat → Nat} {σo : fS} {q : Unit × fS} {φ : Nat → Nat} {h : eH} {s : fS} {p1' : Int32} {p1 : Int} (R : fC m b φ0 σo φ h s) (ep1 : p1' = iI p1) (rp1 : r32 p1) (hF : FX3_takeItem p1 s = some q) : gG m b φ0 σo lU q (fX3_takeItem 4 172 p1' h) := by
  subst ep1
  unfold FX3_takeItem at hF
  unfold fX3_takeItem
  refine s_gO R (t_4 R.S) (Nat.le_of_ble_eq_true rfl) rfl (o_4_11 R.S) ?_
  refine s_gO R (t_103 R.S) (Nat.le_of_ble_eq_true rfl) rfl (o_103_0 R.S) ?_
  refine s_kok R (t_172 R.S) (Nat.le_of_ble_eq_true rfl) ?_
  refine s_call R (Nat.zero_le _) (fun _ hq => SX34_kind (b := 0) (R.rf) rfl rp1 hq) hF (fun f4 rv4 h4 q6 R4 e4 E4 hF => ?_)
  refine s_if (i_eq e4.1 (c_lit 0 0 rfl) e4.2 ⟨by decide, by decide⟩) hF (fun c5 hF => ?_) (fun c5 hF => ?_)
  ·
    refine s_kok R4 (t_172 R4.S) (Nat.le_of_ble_eq_true rfl) ?_
    refine s_call R4 (Nat.zero_le _) (fun _ hq => SX34_of (b := 0) (R4.rf) rfl rp1 (c_lit 1 1 rfl) ⟨by decide, by decide⟩ hq) hF (fun f7 rv7 h7 q9 R7 e7 E7 hF => ?_)
    refine s_kok R7 (t_104 R7.S) (Nat.le_of_ble_eq_true rfl) ?_
    refine s_call R7 (Nat.zero_le _) (fun _ hq => SX22_add (b := 0) (R7.rf) (c_lit 0 0 rfl) ⟨by decide, by decide⟩ e7.1 e7.2 (c_lit 0 0 rfl) ⟨by decide, by decide⟩ (c_lit 0 0 rfl) ⟨by decide, by decide⟩ (c_lit 0 0 rfl) ⟨by decide, by decide⟩ hq) hF (fun f9 rv9 h9 q11 R9 e9 E9 hF => ?_)
    exact SX3_takeItem_b256 R9 hF
  ·
    refine s_if (i_eq e4.1 (c_lit 1 1 rfl) e4.2 ⟨by decide, by decide⟩) hF (fun c10 hF => ?_) (fun c10 hF => ?_)
    ·
      refine s_kok R4 (t_172 R4.S) (Nat.le_of_ble_eq_true rfl) ?_
      refine s_call R4 (Nat.zero_le _) (fun _ hq => SX34_of (b := 0) (R4.rf) rfl rp1 (c_lit 0 0 rfl) ⟨by decide, by decide⟩ hq) hF (fun f12 rv12 h12 q14 R12 e12 E12 hF => ?_)
      refine s_if (not_congr (i_eq e12.1 (c_lit (-1073741824) (-1073741824) rfl) e12.2 ⟨by decide, by decide⟩)) hF (fun c13 hF => ?_) (fun c13 hF => ?_)
      ·
        refine s_kok R12 (t_172 R12.S) (Nat.le_of_ble_eq_true rfl) ?_
        refine s_call R12 (Nat.zero_le _) (fun _ hq => SX34_of (b := 0) (R12.rf) rfl rp1 (c_lit 0 0 rfl) ⟨by decide, by decide⟩ hq) hF (fun f15 rv15 h15 q17 R15 e15 E15 hF => ?_)
        exact SX3_takeItem_b95 R15 (c_lit 0 0 rfl) ⟨by decide, by decide⟩ e15.1 e15.2 hF
      ·
        exact SX3_takeItem_b95 R12 (c_lit 0 0 rfl) ⟨by decide, by decide⟩ (c_lit 0 0 rfl) ⟨by decide, by decide⟩ hF
    ·
      refine s_if (i_eq e4.1 (c_lit 2 2 rfl) e4.2 ⟨by decide, by decide⟩) hF (fun c16 hF => ?_) (fun c16 hF => ?_)
      ·
        refine s_kok R4 (t_172 R4.S) (Nat.le_of_ble_eq_true rfl) ?_
        refine s_call R4 (Nat.zero_le _) (fun _ hq => SX34_of (b := 0) (R4.rf) rfl rp1 (c_lit 0 0 rfl) ⟨by decide, by decide⟩ hq) hF (fun f18 rv18 h18 q20 R18 e18 E18 hF => ?_)
        refine s_kok R18 (t_172 R18.S) (Nat.le_of_ble_eq_true rfl) ?_
        refine s_call R18 (Nat.zero_le _) (fun _ hq => SX34_of (b := 0) (R18.rf) rfl rp1 (c_lit 1 1 rfl) ⟨by decide, by decide⟩ hq) hF (fun f20 rv20 h20 q22 R20 e20 E20 hF => ?_)
        refine s_kok R20 (t_172 R20.S) (Nat.le_of_ble_eq_true rfl) ?_
        refine s_call R20 (Nat.zero_le _) (fun _ hq => SX34_of (b := 0) (R20.rf) rfl rp1 (c_lit 2 2 rfl) ⟨by decide, by decide⟩ hq) hF (fun f22 rv22 h22 q24 R22 e22 E22 hF => ?_)
        refine s_kok R22 (t_172 R22.S) (Nat.le_of_ble_eq_true rfl) ?_
        refine s_call R22 (Nat.zero_le _) (fun _ hq => SX34_of (b := 0) (R22.rf) rfl rp1 (c_lit 3 3 rfl) ⟨by decide, by decide⟩ hq) hF (fun f24 rv24 h24 q26 R24 e24 E24 hF => ?_)
        refine s_kok R24 (t_104 R24.S) (Nat.le_of_ble_eq_true rfl) ?_
        refine s_call R24 (Nat.zero_le _) (fun _ hq => SX22_add (b := 0) (R24.rf) (c_lit 1 1 rfl) ⟨by decide, by decide⟩ e18.1 e18.2 e20.1 e20.2 e22.1 e22.2 e24.1 e24.2 hq) hF (fun f26 rv26 h26 q28 R26 e26 E26 hF => ?_)
        exact SX3_takeItem_b256 R26 hF
      ·
        refine s_if (i_eq e4.1 (c_lit 3 3 rfl) e4.2 ⟨by decide, by decide⟩) hF (fun c27 hF => ?_) (fun c27 hF => ?_)
        ·
          refine s_kok R4 (t_172 R4.S) (Nat.le_of_ble_eq_true rfl) ?_
          refine s_call R4 (Nat.zero_le _) (fun _ hq => SX34_of (b := 0) (R4.rf) rfl rp1 (c_lit 1 1 rfl) ⟨by decide, by decide⟩ hq) hF (fun f29 rv29 h29 q31 R29 e29 E29 hF => ?_)
          refine s_if (not_congr (i_eq e29.1 (c_lit 1 1 rfl) e29.2 ⟨by decide, by decide⟩)) hF (fun c30 hF => ?_) (fun c30 hF => ?_)
          ·
            exact SX3_takeItem_b183 R29 rfl rp1 (c_lit 2 2 rfl) ⟨by decide, by decide⟩ hF
          ·
            exact SX3_takeItem_b183 R29 rfl rp1 (c_lit 3 3 rfl) ⟨by decide, by decide⟩ hF
        ·
          refine s_if (i_eq e4.1 (c_lit 4 4 rfl) e4.2 ⟨by decide, by decide⟩) hF (fun c31 hF => ?_) (fun c31 hF => ?_)
          ·
            refine s_gAs R4 (t_4 R4.S) (Nat.le_of_ble_eq_true rfl) rfl (o_4_3 R4.S) (a_21 R4) ?_
            refine s_kok R4 (t_172 R4.S) (Nat.le_of_ble_eq_true rfl) ?_
            refine s_call R4 (Nat.zero_le _) (fun _ hq => SX34_of (b := 0) (R4.rf) rfl rp1 (c_lit 0 0 rfl) ⟨by decide, by decide⟩ hq) hF (fun f34 rv34 h34 q37 R34 e34 E34 hF => ?_)
            refine s_rO R34 (u_21 R34.S).1 (u_21 R34.S).2 rfl (fun _ => rfl) (Nat.le_of_ble_eq_true rfl) (a_21 R34) e34.1 e34.2 hF (fun a38 y35 hF => ?_)
            refine s_K hF (fun t37 hF => ?_)
            refine s_gI R34 t37 (Nat.le_of_ble_eq_true rfl) rfl ?_
            refine s_kok R34 (t_104 R34.S) (Nat.le_of_ble_eq_true rfl) ?_
            refine s_call R34 (Nat.zero_le _) (fun _ hq => SX22_add (b := 0) (R34.rf) (c_lit 0 0 rfl) ⟨by decide, by decide⟩ rfl (R34.ri t37 (Nat.le_of_ble_eq_true rfl) rfl) (c_lit 0 0 rfl) ⟨by decide, by decide⟩ (c_lit 0 0 rfl) ⟨by decide, by decide⟩ (c_lit 0 0 rfl) ⟨by decide, by decide⟩ hq) hF (fun f39 rv39 h39 q43 R39 e39 E39 hF => ?_)
            exact SX3_takeItem_b256 R39 hF
          ·
            refine s_if (i_eq e4.1 (c_lit 5 5 rfl) e4.2 ⟨by decide, by decide⟩) hF (fun c40 hF => ?_) (fun c40 hF => ?_)
            ·
              refine s_kok R4 (t_172 R4.S) (Nat.le_of_ble_eq_true rfl) ?_
              refine s_call R4 (Nat.zero_le _) (fun _ hq => SX34_of (b := 0) (R4.rf) rfl rp1 (c_lit 0 0 rfl) ⟨by decide, by decide⟩ hq) hF (fun f42 rv42 h42 q46 R42 e42 E42 hF => ?_)
              refine s_kok R42 (t_104 R42.S) (Nat.le_of_ble_eq_true rfl) ?_
              refine s_call R42 (Nat.zero_le _) (fun _ hq => SX22_add (b := 0) (R42.rf) (c_lit 4 4 rfl) ⟨by decide, by decide⟩ e42.1 e42.2 (c_lit 0 0 rfl) ⟨by decide, by decide⟩ (c_lit 0 0 rfl) ⟨by decide, by decide⟩ (c_lit 0 0 rfl) ⟨by decide, by decide⟩ hq) hF (fun f44 rv44 h44 q48 R44 e44 E44 hF => ?_)
              exact SX3_takeItem_b256 R44 hF
            ·
              refine s_kok R4 (t_172 R4.S) (Nat.le_of_ble_eq_true rfl) ?_
              refine s_call R4 (Nat.zero_le _) (fun _ hq => SX34_of (b := 0) (R4.rf) rfl rp1 (c_lit 3 3 rfl) ⟨by decide, by decide⟩ hq) hF (fun f46 rv46 h46 q50 R46 e46 E46 hF => ?_)
              refine s_if (not_congr (i_eq e46.1 (c_lit 1 1 rfl) e46.2 ⟨by decide, by decide⟩)) hF (fun c47 hF => ?_) (fun c47 hF => ?_)
              ·
                exact SX3_takeItem_b242 R46 rfl rp1 (c_lit 5 5 rfl) ⟨by decide, by decide⟩ (c_lit (-2147483648) (-2147483648) rfl) ⟨by decide, by decide⟩ hF
              ·
                refine s_kok R46 (t_172 R46.S) (Nat.le_of_ble_eq_true rfl) ?_
                refine s_call R46 (Nat.zero_le _) (fun _ hq => SX34_of (b := 0) (R46.rf) rfl rp1 (c_lit 0 0 rfl) ⟨by decide, by decide⟩ hq) hF (fun f49 rv49 h49 q53 R49 e49 E49 hF => ?_)
                exact SX3_takeItem_b242 R49 rfl rp1 (c_lit 5 5 rfl) ⟨by decide, by decide⟩ e49.1 e49.2 hF
def FX21_plain_b12 (s0 : Int) (s : fS) : Option (Int × fS) :=
  some (s0, s)
theorem SX21_plain_b12 {m b : Nat} {φ0 : Nat → Nat} {σo : fS} {q : Int × fS} {φ : Nat → Nat} {h : eH} {s : fS} {s0' : Int64} {s0 : Int} (R : fC m b φ0 σo φ h s) (es0 : s0' = iJ s0) (rs0 : r64 s0) (hF : FX21_plain_b12 s0 s = some q) : gG m b φ0 σo lJ q (fX21_plain_b12 s0' h) := by
  subst es0
  unfold FX21_plain_b12 at hF
  unfold fX21_plain_b12
  exact g_ret R hF ⟨rfl, rs0⟩
def FX21_plain (p0 : Int) (s : fS) : Option (Int × fS) :=
  if 0 ≤ p0 then
    FX21_plain_b12 p0 s
  else
    FX21_plain_b12 (lneg p0) s
theorem SX21_plain {m b : Nat} {φ0 : Nat → Nat} {σo : fS} {q : Int × fS} {φ : Nat → Nat} {h : eH} {s : fS} {p0' : Int32} {p0 : Int} (R : fC m b φ0 σo φ h s) (ep0 : p0' = iI p0) (rp0 : r32 p0) (hF : FX21_plain p0 s = some q) : gG m b φ0 σo lJ q (fX21_plain p0' h) := by
  subst ep0
  unfold FX21_plain at hF
  unfold fX21_plain
  refine s_if (i_le (c_lit 0 0 rfl) rfl ⟨by decide, by decide⟩ rp0) hF (fun c1 hF => ?_) (fun c1 hF => ?_)
  ·
    exact SX21_plain_b12 R (c_2l rfl rp0) (r32.w rp0) hF
  ·
    exact SX21_plain_b12 R (d_neg (c_2l rfl rp0)) (rr_J _) hF
def FX1_solid_b11 (s0 : Int) (s : fS) : Option (Int × fS) :=
  some (s0, s)
theorem SX1_solid_b11 {m b : Nat} {φ0 : Nat → Nat} {σo : fS} {q : Int × fS} {φ : Nat → Nat} {h : eH} {s : fS} {s0' : Int32} {s0 : Int} (R : fC m b φ0 σo φ h s) (es0 : s0' = iI s0) (rs0 : r32 s0) (hF : FX1_solid_b11 s0 s = some q) : gG m b φ0 σo lI q (fX1_solid_b11 s0' h) := by
  subst es0
  unfold FX1_solid_b11 at hF
  unfold fX1_solid_b11
  exact g_ret R hF ⟨rfl, rs0⟩
def FX1_solid (p0 : Int) (s : fS) : Option (Int × fS) :=
  if ¬ (p0 = (-2147483648)) then
    FX1_solid_b11 p0 s
  else
    FX1_solid_b11 0 s
theorem SX1_solid {m b : Nat} {φ0 : Nat → Nat} {σo : fS} {q : Int × fS} {φ : Nat → Nat} {h : eH} {s : fS} {p0' : Int32} {p0 : Int} (R : fC m b φ0 σo φ h s) (ep0 : p0' = iI p0) (rp0 : r32 p0) (hF : FX1_solid p0 s = some q) : gG m b φ0 σo lI q (fX1_solid p0' h) := by
  subst ep0
  unfold FX1_solid at hF
  unfold fX1_solid
  refine s_if (not_congr (i_eq rfl (c_lit (-2147483648) (-2147483648) rfl) rp0 ⟨by decide, by decide⟩)) hF (fun c1 hF => ?_) (fun c1 hF => ?_)
  ·
    exact SX1_solid_b11 R rfl rp0 hF
  ·
    exact SX1_solid_b11 R (c_lit 0 0 rfl) ⟨by decide, by decide⟩ hF
def FX21_areSizes_b190 (N : Nat) (K74 : Int → Int → Int → Int → fS → Option (Int × fS)) (l1 : Int) (l3 : Int) (l5 : Int) (l7 : Int) (s : fS) : Option (Int × fS) :=
  K74 l1 l3 l5 (iadd l7 1) s
theorem SX21_areSizes_b190 {m b : Nat} {φ0 : Nat → Nat} {σo : fS} {N : Nat} {k74 : Nat → Int64 → Int64 → Int64 → Int32 → eH → Option (Int32 × eH)} {K74 : Int → Int → Int → Int → fS → Option (Int × fS)} {q : Int × fS} (hk74 : ∀ {φ : Nat → Nat} {h : eH} {s : fS} {l1' : Int64} {l1 : Int} {l3' : Int64} {l3 : Int} {l5' : Int64} {l5 : Int} {l7' : Int32} {l7 : Int}, fC m b φ0 σo φ h s → l1' = iJ l1 → r64 l1 → l3' = iJ l3 → r64 l3 → l5' = iJ l5 → r64 l5 → l7' = iI l7 → r32 l7 → K74 l1 l3 l5 l7 s = some q → gG m b φ0 σo lI q (k74 103 l1' l3' l5' l7' h)) {φ : Nat → Nat} {h : eH} {s : fS} {l1' : Int64} {l1 : Int} {l3' : Int64} {l3 : Int} {l5' : Int64} {l5 : Int} {l7' : Int32} {l7 : Int} (R : fC m b φ0 σo φ h s) (el1 : l1' = iJ l1) (rl1 : r64 l1) (el3 : l3' = iJ l3) (rl3 : r64 l3) (el5 : l5' = iJ l5) (rl5 : r64 l5) (el7 : l7' = iI l7) (rl7 : r32 l7) (hF : FX21_areSizes_b190 N K74 l1 l3 l5 l7 s = some q) : gG m b φ0 σo lI q (fX21_areSizes_b190 N k74 103 l1' l3' l5' l7' h) := by
  subst el1; subst el3; subst el5; subst el7
  unfold FX21_areSizes_b190 at hF
  unfold fX21_areSizes_b190
  exact hk74 R rfl rl1 rfl rl3 rfl rl5 (c_add rfl (c_lit 1 1 rfl)) (rr_I _) hF
def FX21_areSizes_b151 (N : Nat) (K74 : Int → Int → Int → Int → fS → Option (Int × fS)) (l1 : Int) (l3 : Int) (l5 : Int) (l7 : Int) (l8 : Int) (s : fS) : Option (Int × fS) :=
  if l8 = 1 then
    (uRI s 107 l7).bind fun x6 =>
    (uRI s 109 l7).bind fun x12 =>
    FX21_areSizes_b190 N K74 l1 (ladd l3 x6) (ladd l5 x12) l7 s
  else
    FX21_areSizes_b190 N K74 l1 l3 l5 l7 s
theorem SX21_areSizes_b151 {m b : Nat} {φ0 : Nat → Nat} {σo : fS} {N : Nat} {k74 : Nat → Int64 → Int64 → Int64 → Int32 → eH → Option (Int32 × eH)} {K74 : Int → Int → Int → Int → fS → Option (Int × fS)} {q : Int × fS} (hk74 : ∀ {φ : Nat → Nat} {h : eH} {s : fS} {l1' : Int64} {l1 : Int} {l3' : Int64} {l3 : Int} {l5' : Int64} {l5 : Int} {l7' : Int32} {l7 : Int}, fC m b φ0 σo φ h s → l1' = iJ l1 → r64 l1 → l3' = iJ l3 → r64 l3 → l5' = iJ l5 → r64 l5 → l7' = iI l7 → r32 l7 → K74 l1 l3 l5 l7 s = some q → gG m b φ0 σo lI q (k74 103 l1' l3' l5' l7' h)) {φ : Nat → Nat} {h : eH} {s : fS} {l1' : Int64} {l1 : Int} {l3' : Int64} {l3 : Int} {l5' : Int64} {l5 : Int} {l7' : Int32} {l7 : Int} {l8' : Int32} {l8 : Int} (R : fC m b φ0 σo φ h s) (el1 : l1' = iJ l1) (rl1 : r64 l1) (el3 : l3' = iJ l3) (rl3 : r64 l3) (el5 : l5' = iJ l5) (rl5 : r64 l5) (el7 : l7' = iI l7) (rl7 : r32 l7) (el8 : l8' = iI l8) (rl8 : r32 l8) (hF : FX21_areSizes_b151 N K74 l1 l3 l5 l7 l8 s = some q) : gG m b φ0 σo lI q (fX21_areSizes_b151 N k74 103 l1' l3' l5' l7' l8' h) := by
  subst el1; subst el3; subst el5; subst el7; subst el8
  unfold FX21_areSizes_b151 at hF
  unfold fX21_areSizes_b151
  refine s_if (i_eq rfl (c_lit 1 1 rfl) rl8 ⟨by decide, by decide⟩) hF (fun c1 hF => ?_) (fun c1 hF => ?_)
  ·
    refine s_gO R (t_103 R.S) (Nat.le_of_ble_eq_true rfl) rfl (o_103_0 R.S) ?_
    refine s_gAs R (t_104 R.S) (Nat.le_of_ble_eq_true rfl) rfl (o_104_2 R.S) (a_107 R) ?_
    refine s_rI R (u_107 R.S).1 (u_107 R.S).2 (by decide) (a_107 R) rfl rl7 hF (fun x6 ra4 hF => ?_)
    refine s_gO R (t_103 R.S) (Nat.le_of_ble_eq_true rfl) rfl (o_103_0 R.S) ?_
    refine s_gAs R (t_104 R.S) (Nat.le_of_ble_eq_true rfl) rfl (o_104_4 R.S) (a_109 R) ?_
    refine s_rI R (u_109 R.S).1 (u_109 R.S).2 (by decide) (a_109 R) rfl rl7 hF (fun x12 ra7 hF => ?_)
    exact SX21_areSizes_b190 (N := N) (k74 := k74) (K74 := K74) @hk74 R rfl rl1 (d_add rfl (c_2l rfl ra4)) (rr_J _) (d_add rfl (c_2l rfl ra7)) (rr_J _) rfl rl7 hF
  ·
    exact SX21_areSizes_b190 (N := N) (k74 := k74) (K74 := K74) @hk74 R rfl rl1 rfl rl3 rfl rl5 rfl rl7 hF
def FX21_areSizes_b226 (N : Nat) (s0 : Int) (s : fS) : Option (Int × fS) :=
  uZ s0 (s0, s)
theorem SX21_areSizes_b226 {m b : Nat} {φ0 : Nat → Nat} {σo : fS} {N : Nat} {q : Int × fS} {φ : Nat → Nat} {h : eH} {s : fS} {s0' : Int32} {s0 : Int} (R : fC m b φ0 σo φ h s) (es0 : s0' = iI s0) (rs0 : r32 s0) (hF : FX21_areSizes_b226 N s0 s = some q) : gG m b φ0 σo lI q (fX21_areSizes_b226 N s0' h) := by
  subst es0
  unfold FX21_areSizes_b226 at hF
  unfold fX21_areSizes_b226
  exact g_z R rfl hF ⟨rfl, rs0⟩
def FX21_areSizes_b225 (N : Nat) (s : fS) : Option (Int × fS) :=
  FX21_areSizes_b226 N 0 s
theorem SX21_areSizes_b225 {m b : Nat} {φ0 : Nat → Nat} {σo : fS} {N : Nat} {q : Int × fS} {φ : Nat → Nat} {h : eH} {s : fS} (R : fC m b φ0 σo φ h s) (hF : FX21_areSizes_b225 N s = some q) : gG m b φ0 σo lI q (fX21_areSizes_b225 N h) := by
  unfold FX21_areSizes_b225 at hF
  unfold fX21_areSizes_b225
  exact SX21_areSizes_b226 (N := N) R (c_lit 0 0 rfl) ⟨by decide, by decide⟩ hF
def FX21_areSizes_b74 (N : Nat) : Nat → Int → Int → Int → Int → fS → Option (Int × fS)
  | 0, _, _, _, _, _ => none
  | n + 1, l1, l3, l5, l7, s =>
    if (s.i 104 5) ≤ l7 then
      if 1073741823 < l1 then
        FX21_areSizes_b225 N s
      else
        if 1073741823 < l3 then
          FX21_areSizes_b225 N s
        else
          if 1073741823 < l5 then
            FX21_areSizes_b225 N s
          else
            FX21_areSizes_b226 N 1 s
    else
      (uRI s 105 l7).bind fun x13 =>
      if ¬ (x13 = 4) then
        (uRI s 106 l7).bind fun x20 =>
        (FX1_solid x20 s).bind fun q22 =>
        (FX21_plain q22.1 q22.2).bind fun q23 =>
        if ¬ (x13 = 5) then
          FX21_areSizes_b151 N (FX21_areSizes_b74 N n) (ladd l1 q23.1) l3 l5 l7 x13 q23.2
        else
          (uRI q23.2 107 l7).bind fun x29 =>
          (FX1_solid x29 q23.2).bind fun q31 =>
          (FX21_plain q31.1 q31.2).bind fun q32 =>
          FX21_areSizes_b151 N (FX21_areSizes_b74 N n) (ladd (ladd l1 q23.1) q32.1) l3 l5 l7 x13 q32.2
      else
        FX21_areSizes_b190 N (FX21_areSizes_b74 N n) l1 l3 l5 l7 s
theorem SX21_areSizes_b74 {m b : Nat} {φ0 : Nat → Nat} {σo : fS} {N : Nat} {q : Int × fS} : ∀ {n : Nat} {φ : Nat → Nat} {h : eH} {s : fS} {l1' : Int64} {l1 : Int} {l3' : Int64} {l3 : Int} {l5' : Int64} {l5 : Int} {l7' : Int32} {l7 : Int}, fC m b φ0 σo φ h s → l1' = iJ l1 → r64 l1 → l3' = iJ l3 → r64 l3 → l5' = iJ l5 → r64 l5 → l7' = iI l7 → r32 l7 → FX21_areSizes_b74 N n l1 l3 l5 l7 s = some q → gG m b φ0 σo lI q (fX21_areSizes_b74 N n 103 l1' l3' l5' l7' h) := by
  intro n
  induction n with
 | zero => intro φ h s l1' l1 l3' l3 l5' l5 l7' l7 R el1 rl1 el3 rl3 el5 rl5 el7 rl7 hF; simp [FX21_areSizes_b74] at hF
  | succ n ih =>
    intro φ h s l1' l1 l3' l3 l5' l5 l7' l7 R el1 rl1 el3 rl3 el5 rl5 el7 rl7 hF
    subst el1; subst el3; subst el5; subst el7
    rw [FX21_areSizes_b74] at hF
    rw [fX21_areSizes_b74]
    refine s_gO R (t_103 R.S) (Nat.le_of_ble_eq_true rfl) rfl (o_103_0 R.S) ?_
    refine s_gI R (t_104 R.S) (Nat.le_of_ble_eq_true rfl) rfl ?_
    refine s_if (i_le rfl rfl (R.ri (t_104 R.S) (Nat.le_of_ble_eq_true rfl) rfl) rl7) hF (fun c3 hF => ?_) (fun c3 hF => ?_)
    ·
      refine s_if ((lg_cmp_gt _ _).trans (j_lt (d_lit 1073741823 1073741823 rfl) rfl ⟨by decide, by decide⟩ rl1)) hF (fun c4 hF => ?_) (fun c4 hF => ?_)
      ·
        exact SX21_areSizes_b225 (N := N) R hF
      ·
        refine s_if ((lg_cmp_gt _ _).trans (j_lt (d_lit 1073741823 1073741823 rfl) rfl ⟨by decide, by decide⟩ rl3)) hF (fun c5 hF => ?_) (fun c5 hF => ?_)
        ·
          exact SX21_areSizes_b225 (N := N) R hF
        ·
          refine s_if ((lg_cmp_gt _ _).trans (j_lt (d_lit 1073741823 1073741823 rfl) rfl ⟨by decide, by decide⟩ rl5)) hF (fun c6 hF => ?_) (fun c6 hF => ?_)
          ·
            exact SX21_areSizes_b225 (N := N) R hF
          ·
            exact SX21_areSizes_b226 (N := N) R (c_lit 1 1 rfl) ⟨by decide, by decide⟩ hF
    ·
      refine s_gO R (t_103 R.S) (Nat.le_of_ble_eq_true rfl) rfl (o_103_0 R.S) ?_
      refine s_gAs R (t_104 R.S) (Nat.le_of_ble_eq_true rfl) rfl (o_104_0 R.S) (a_105 R) ?_
      refine s_rI R (u_105 R.S).1 (u_105 R.S).2 (by decide) (a_105 R) rfl rl7 hF (fun x13 ra9 hF => ?_)
      refine s_if (not_congr (i_eq rfl (c_lit 4 4 rfl) ra9 ⟨by decide, by decide⟩)) hF (fun c10 hF => ?_) (fun c10 hF => ?_)
      ·
        refine s_gO R (t_103 R.S) (Nat.le_of_ble_eq_true rfl) rfl (o_103_0 R.S) ?_
        refine s_gAs R (t_104 R.S) (Nat.le_of_ble_eq_true rfl) rfl (o_104_1 R.S) (a_106 R) ?_
        refine s_rI R (u_106 R.S).1 (u_106 R.S).2 (by decide) (a_106 R) rfl rl7 hF (fun x20 ra13 hF => ?_)
        refine s_call R (Nat.zero_le _) (fun _ hq => SX1_solid (b := 0) (R.rf) rfl ra13 hq) hF (fun f14 rv14 h14 q22 R14 e14 E14 hF => ?_)
        refine s_call R14 (Nat.zero_le _) (fun _ hq => SX21_plain (b := 0) (R14.rf) e14.1 e14.2 hq) hF (fun f15 rv15 h15 q23 R15 e15 E15 hF => ?_)
        refine s_if (not_congr (i_eq rfl (c_lit 5 5 rfl) ra9 ⟨by decide, by decide⟩)) hF (fun c16 hF => ?_) (fun c16 hF => ?_)
        ·
          exact SX21_areSizes_b151 (N := N) (k74 := fX21_areSizes_b74 N n) (K74 := FX21_areSizes_b74 N n) @ih R15 (d_add rfl e15.1) (rr_J _) rfl rl3 rfl rl5 rfl rl7 rfl ra9 hF
        ·
          refine s_gO R15 (t_103 R15.S) (Nat.le_of_ble_eq_true rfl) rfl (o_103_0 R15.S) ?_
          refine s_gAs R15 (t_104 R15.S) (Nat.le_of_ble_eq_true rfl) rfl (o_104_2 R15.S) (a_107 R15) ?_
          refine s_rI R15 (u_107 R15.S).1 (u_107 R15.S).2 (by decide) (a_107 R15) rfl rl7 hF (fun x29 ra19 hF => ?_)
          refine s_call R15 (Nat.zero_le _) (fun _ hq => SX1_solid (b := 0) (R15.rf) rfl ra19 hq) hF (fun f20 rv20 h20 q31 R20 e20 E20 hF => ?_)
          refine s_call R20 (Nat.zero_le _) (fun _ hq => SX21_plain (b := 0) (R20.rf) e20.1 e20.2 hq) hF (fun f21 rv21 h21 q32 R21 e21 E21 hF => ?_)
          exact SX21_areSizes_b151 (N := N) (k74 := fX21_areSizes_b74 N n) (K74 := FX21_areSizes_b74 N n) @ih R21 (d_add (d_add rfl e15.1) e21.1) (rr_J _) rfl rl3 rfl rl5 rfl rl7 rfl ra9 hF
      ·
        exact SX21_areSizes_b190 (N := N) (k74 := fX21_areSizes_b74 N n) (K74 := FX21_areSizes_b74 N n) @ih R rfl rl1 rfl rl3 rfl rl5 rfl rl7 hF
def FX21_areSizes_b17 (N : Nat) : Nat → Int → Int → Int → Int → fS → Option (Int × fS)
  | 0, _, _, _, _, _ => none
  | n + 1, l1, l3, l5, l7, s =>
    if 12 ≤ l7 then
      FX21_areSizes_b74 N N l1 l3 l5 0 s
    else
      (uRI s 119 l7).bind fun x4 =>
      (FX21_plain x4 s).bind fun q6 =>
      (uRI q6.2 119 (iadd l7 1)).bind fun x9 =>
      (uRI q6.2 119 (iadd l7 3)).bind fun x13 =>
      FX21_areSizes_b17 N n (ladd l1 q6.1) (ladd l3 x9) (ladd l5 x13) (iadd l7 4) q6.2
theorem SX21_areSizes_b17 {m b : Nat} {φ0 : Nat → Nat} {σo : fS} {N : Nat} {q : Int × fS} : ∀ {n : Nat} {φ : Nat → Nat} {h : eH} {s : fS} {l1' : Int64} {l1 : Int} {l3' : Int64} {l3 : Int} {l5' : Int64} {l5 : Int} {l7' : Int32} {l7 : Int}, fC m b φ0 σo φ h s → l1' = iJ l1 → r64 l1 → l3' = iJ l3 → r64 l3 → l5' = iJ l5 → r64 l5 → l7' = iI l7 → r32 l7 → FX21_areSizes_b17 N n l1 l3 l5 l7 s = some q → gG m b φ0 σo lI q (fX21_areSizes_b17 N n 103 l1' l3' l5' l7' h) := by
  intro n
  induction n with
 | zero => intro φ h s l1' l1 l3' l3 l5' l5 l7' l7 R el1 rl1 el3 rl3 el5 rl5 el7 rl7 hF; simp [FX21_areSizes_b17] at hF
  | succ n ih =>
    intro φ h s l1' l1 l3' l3 l5' l5 l7' l7 R el1 rl1 el3 rl3 el5 rl5 el7 rl7 hF
    subst el1; subst el3; subst el5; subst el7
    rw [FX21_areSizes_b17] at hF
    rw [fX21_areSizes_b17]
    refine s_if (i_le (c_lit 12 12 rfl) rfl ⟨by decide, by decide⟩ rl7) hF (fun c1 hF => ?_) (fun c1 hF => ?_)
    ·
      exact SX21_areSizes_b74 (N := N) R rfl rl1 rfl rl3 rfl rl5 (c_lit 0 0 rfl) ⟨by decide, by decide⟩ hF
    ·
      refine s_gAs R (t_103 R.S) (Nat.le_of_ble_eq_true rfl) rfl (o_103_4 R.S) (a_119 R) ?_
      refine s_rI R (u_119 R.S).1 (u_119 R.S).2 (by decide) (a_119 R) rfl rl7 hF (fun x4 ra3 hF => ?_)
      refine s_call R (Nat.zero_le _) (fun _ hq => SX21_plain (b := 0) (R.rf) rfl ra3 hq) hF (fun f4 rv4 h4 q6 R4 e4 E4 hF => ?_)
      refine s_gAs R4 (t_103 R4.S) (Nat.le_of_ble_eq_true rfl) rfl (o_103_4 R4.S) (a_119 R4) ?_
      refine s_rI R4 (u_119 R4.S).1 (u_119 R4.S).2 (by decide) (a_119 R4) (c_add rfl (c_lit 1 1 rfl)) (rr_I _) hF (fun x9 ra6 hF => ?_)
      refine s_gAs R4 (t_103 R4.S) (Nat.le_of_ble_eq_true rfl) rfl (o_103_4 R4.S) (a_119 R4) ?_
      refine s_rI R4 (u_119 R4.S).1 (u_119 R4.S).2 (by decide) (a_119 R4) (c_add rfl (c_lit 3 3 rfl)) (rr_I _) hF (fun x13 ra8 hF => ?_)
      exact ih R4 (d_add rfl e4.1) (rr_J _) (d_add rfl (c_2l rfl ra6)) (rr_J _) (d_add rfl (c_2l rfl ra8)) (rr_J _) (c_add rfl (c_lit 4 4 rfl)) (rr_I _) hF
def FX21_areSizes (N : Nat) (s : fS) : Option (Int × fS) :=
  (uRI s 117 8).bind fun x3 =>
  FX21_areSizes_b17 N N 0 x3 0 0 s
theorem SX21_areSizes {m b : Nat} {φ0 : Nat → Nat} {σo : fS} {N : Nat} {q : Int × fS} {φ : Nat → Nat} {h : eH} {s : fS} (R : fC m b φ0 σo φ h s) (hF : FX21_areSizes N s = some q) : gG m b φ0 σo lI q (fX21_areSizes N 103 h) := by
  unfold FX21_areSizes at hF
  unfold fX21_areSizes
  refine s_gAs R (t_103 R.S) (Nat.le_of_ble_eq_true rfl) rfl (o_103_2 R.S) (a_117 R) ?_
  refine s_rI R (u_117 R.S).1 (u_117 R.S).2 (by decide) (a_117 R) (c_lit 8 8 rfl) ⟨by decide, by decide⟩ hF (fun x3 ra2 hF => ?_)
  exact SX21_areSizes_b17 (N := N) R (d_lit 0 0 rfl) ⟨by decide, by decide⟩ (c_2l rfl ra2) (r32.w ra2) (d_lit 0 0 rfl) ⟨by decide, by decide⟩ (c_lit 0 0 rfl) ⟨by decide, by decide⟩ hF
def FX22_isDropped_b35 (s0 : Int) (s : fS) : Option (Int × fS) :=
  uZ s0 (s0, s)
theorem SX22_isDropped_b35 {m b : Nat} {φ0 : Nat → Nat} {σo : fS} {q : Int × fS} {φ : Nat → Nat} {h : eH} {s : fS} {s0' : Int32} {s0 : Int} (R : fC m b φ0 σo φ h s) (es0 : s0' = iI s0) (rs0 : r32 s0) (hF : FX22_isDropped_b35 s0 s = some q) : gG m b φ0 σo lI q (fX22_isDropped_b35 s0' h) := by
  subst es0
  unfold FX22_isDropped_b35 at hF
  unfold fX22_isDropped_b35
  exact g_z R rfl hF ⟨rfl, rs0⟩
def FX22_isDropped_b30 (s : fS) : Option (Int × fS) :=
  FX22_isDropped_b35 1 s
theorem SX22_isDropped_b30 {m b : Nat} {φ0 : Nat → Nat} {σo : fS} {q : Int × fS} {φ : Nat → Nat} {h : eH} {s : fS} (R : fC m b φ0 σo φ h s) (hF : FX22_isDropped_b30 s = some q) : gG m b φ0 σo lI q (fX22_isDropped_b30 h) := by
  unfold FX22_isDropped_b30 at hF
  unfold fX22_isDropped_b30
  exact SX22_isDropped_b35 R (c_lit 1 1 rfl) ⟨by decide, by decide⟩ hF
def FX22_isDropped (p0 : Int) (s : fS) : Option (Int × fS) :=
  (uRI s 105 p0).bind fun x3 =>
  if x3 = 1 then
    FX22_isDropped_b30 s
  else
    (uRI s 105 p0).bind fun x8 =>
    if x8 = 3 then
      FX22_isDropped_b30 s
    else
      (uRI s 105 p0).bind fun x13 =>
      if ¬ (x13 = 4) then
        FX22_isDropped_b35 0 s
      else
        FX22_isDropped_b30 s
theorem SX22_isDropped {m b : Nat} {φ0 : Nat → Nat} {σo : fS} {q : Int × fS} {φ : Nat → Nat} {h : eH} {s : fS} {p0' : Int32} {p0 : Int} (R : fC m b φ0 σo φ h s) (ep0 : p0' = iI p0) (rp0 : r32 p0) (hF : FX22_isDropped p0 s = some q) : gG m b φ0 σo lI q (fX22_isDropped 104 p0' h) := by
  subst ep0
  unfold FX22_isDropped at hF
  unfold fX22_isDropped
  refine s_gAs R (t_104 R.S) (Nat.le_of_ble_eq_true rfl) rfl (o_104_0 R.S) (a_105 R) ?_
  refine s_rI R (u_105 R.S).1 (u_105 R.S).2 (by decide) (a_105 R) rfl rp0 hF (fun x3 ra2 hF => ?_)
  refine s_if (i_eq rfl (c_lit 1 1 rfl) ra2 ⟨by decide, by decide⟩) hF (fun c3 hF => ?_) (fun c3 hF => ?_)
  ·
    exact SX22_isDropped_b30 R hF
  ·
    refine s_gAs R (t_104 R.S) (Nat.le_of_ble_eq_true rfl) rfl (o_104_0 R.S) (a_105 R) ?_
    refine s_rI R (u_105 R.S).1 (u_105 R.S).2 (by decide) (a_105 R) rfl rp0 hF (fun x8 ra5 hF => ?_)
    refine s_if (i_eq rfl (c_lit 3 3 rfl) ra5 ⟨by decide, by decide⟩) hF (fun c6 hF => ?_) (fun c6 hF => ?_)
    ·
      exact SX22_isDropped_b30 R hF
    ·
      refine s_gAs R (t_104 R.S) (Nat.le_of_ble_eq_true rfl) rfl (o_104_0 R.S) (a_105 R) ?_
      refine s_rI R (u_105 R.S).1 (u_105 R.S).2 (by decide) (a_105 R) rfl rp0 hF (fun x13 ra8 hF => ?_)
      refine s_if (not_congr (i_eq rfl (c_lit 4 4 rfl) ra8 ⟨by decide, by decide⟩)) hF (fun c9 hF => ?_) (fun c9 hF => ?_)
      ·
        exact SX22_isDropped_b35 R (c_lit 0 0 rfl) ⟨by decide, by decide⟩ hF
      ·
        exact SX22_isDropped_b30 R hF
def FX23_take_b166 (N : Nat) (K111 : Int → Int → Int → Int → fS → Option (Unit × fS)) (l2 : Int) (l3 : Int) (l5 : Int) (l6 : Int) (s1 : Int) (s2 : Int) (s3 : Int) (s : fS) : Option (Unit × fS) :=
  (uQJ s 113 s1 (ladd s2 s3)).bind fun σ1 =>
  K111 l2 l3 l5 (iadd l6 1) σ1
theorem SX23_take_b166 {m b : Nat} {φ0 : Nat → Nat} {σo : fS} {N : Nat} {k111 : Nat → Nat → Int32 → Int32 → Int32 → Int32 → eH → Option (Unit × eH)} {K111 : Int → Int → Int → Int → fS → Option (Unit × fS)} {q : Unit × fS} (hk111 : ∀ {φ : Nat → Nat} {h : eH} {s : fS} {l2' : Int32} {l2 : Int} {l3' : Int32} {l3 : Int} {l5' : Int32} {l5 : Int} {l6' : Int32} {l6 : Int}, fC m b φ0 σo φ h s → l2' = iI l2 → r32 l2 → l3' = iI l3 → r32 l3 → l5' = iI l5 → r32 l5 → l6' = iI l6 → r32 l6 → K111 l2 l3 l5 l6 s = some q → gG m b φ0 σo lU q (k111 110 104 l2' l3' l5' l6' h)) {φ : Nat → Nat} {h : eH} {s : fS} {l2' : Int32} {l2 : Int} {l3' : Int32} {l3 : Int} {l5' : Int32} {l5 : Int} {l6' : Int32} {l6 : Int} {s1' : Int32} {s1 : Int} {s2' : Int64} {s2 : Int} {s3' : Int32} {s3 : Int} (R : fC m b φ0 σo φ h s) (el2 : l2' = iI l2) (rl2 : r32 l2) (el3 : l3' = iI l3) (rl3 : r32 l3) (el5 : l5' = iI l5) (rl5 : r32 l5) (el6 : l6' = iI l6) (rl6 : r32 l6) (es1 : s1' = iI s1) (rs1 : r32 s1) (es2 : s2' = iJ s2) (rs2 : r64 s2) (es3 : s3' = iI s3) (rs3 : r32 s3) (hF : FX23_take_b166 N K111 l2 l3 l5 l6 s1 s2 s3 s = some q) : gG m b φ0 σo lU q (fX23_take_b166 N k111 110 104 l2' l3' l5' l6' 113 s1' s2' s3' h) := by
  subst el2; subst el3; subst el5; subst el6; subst es1; subst es2; subst es3
  unfold FX23_take_b166 at hF
  unfold fX23_take_b166
  refine s_qJ R (u_113 R.S).1 (u_113 R.S).2 (a_113 R) rfl rs1 (d_add rfl (c_2l rfl rs3)) (rr_J _) hF (fun h1 σ1 R1 T1 hF => ?_)
  exact hk111 R1 rfl rl2 rfl rl3 rfl rl5 (c_add rfl (c_lit 1 1 rfl)) (rr_I _) hF
def FX23_take_b165 (N : Nat) (K111 : Int → Int → Int → Int → fS → Option (Unit × fS)) (l2 : Int) (l3 : Int) (l5 : Int) (l6 : Int) (s1 : Int) (s2 : Int) (s : fS) : Option (Unit × fS) :=
  FX23_take_b166 N K111 l2 l3 l5 l6 s1 s2 0 s
theorem SX23_take_b165 {m b : Nat} {φ0 : Nat → Nat} {σo : fS} {N : Nat} {k111 : Nat → Nat → Int32 → Int32 → Int32 → Int32 → eH → Option (Unit × eH)} {K111 : Int → Int → Int → Int → fS → Option (Unit × fS)} {q : Unit × fS} (hk111 : ∀ {φ : Nat → Nat} {h : eH} {s : fS} {l2' : Int32} {l2 : Int} {l3' : Int32} {l3 : Int} {l5' : Int32} {l5 : Int} {l6' : Int32} {l6 : Int}, fC m b φ0 σo φ h s → l2' = iI l2 → r32 l2 → l3' = iI l3 → r32 l3 → l5' = iI l5 → r32 l5 → l6' = iI l6 → r32 l6 → K111 l2 l3 l5 l6 s = some q → gG m b φ0 σo lU q (k111 110 104 l2' l3' l5' l6' h)) {φ : Nat → Nat} {h : eH} {s : fS} {l2' : Int32} {l2 : Int} {l3' : Int32} {l3 : Int} {l5' : Int32} {l5 : Int} {l6' : Int32} {l6 : Int} {s1' : Int32} {s1 : Int} {s2' : Int64} {s2 : Int} (R : fC m b φ0 σo φ h s) (el2 : l2' = iI l2) (rl2 : r32 l2) (el3 : l3' = iI l3) (rl3 : r32 l3) (el5 : l5' = iI l5) (rl5 : r32 l5) (el6 : l6' = iI l6) (rl6 : r32 l6) (es1 : s1' = iI s1) (rs1 : r32 s1) (es2 : s2' = iJ s2) (rs2 : r64 s2) (hF : FX23_take_b165 N K111 l2 l3 l5 l6 s1 s2 s = some q) : gG m b φ0 σo lU q (fX23_take_b165 N k111 110 104 l2' l3' l5' l6' 113 s1' s2' h) := by
  subst el2; subst el3; subst el5; subst el6; subst es1; subst es2
  unfold FX23_take_b165 at hF
  unfold fX23_take_b165
  exact SX23_take_b166 (N := N) (k111 := k111) (K111 := K111) @hk111 R rfl rl2 rfl rl3 rfl rl5 rfl rl6 rfl rs1 rfl rs2 (c_lit 0 0 rfl) ⟨by decide, by decide⟩ hF
def FX23_take_b216 (N : Nat) (K4 : Int → Int → fS → Option (Unit × fS)) (l3 : Int) (s0 : Int) (s : fS) : Option (Unit × fS) :=
  K4 s0 (iadd l3 1) s
theorem SX23_take_b216 {m b : Nat} {φ0 : Nat → Nat} {σo : fS} {N : Nat} {k4 : Nat → Nat → Int32 → Int32 → eH → Option (Unit × eH)} {K4 : Int → Int → fS → Option (Unit × fS)} {q : Unit × fS} (hk4 : ∀ {φ : Nat → Nat} {h : eH} {s : fS} {l2' : Int32} {l2 : Int} {l3' : Int32} {l3 : Int}, fC m b φ0 σo φ h s → l2' = iI l2 → r32 l2 → l3' = iI l3 → r32 l3 → K4 l2 l3 s = some q → gG m b φ0 σo lU q (k4 110 104 l2' l3' h)) {φ : Nat → Nat} {h : eH} {s : fS} {l3' : Int32} {l3 : Int} {s0' : Int32} {s0 : Int} (R : fC m b φ0 σo φ h s) (el3 : l3' = iI l3) (rl3 : r32 l3) (es0 : s0' = iI s0) (rs0 : r32 s0) (hF : FX23_take_b216 N K4 l3 s0 s = some q) : gG m b φ0 σo lU q (fX23_take_b216 N k4 110 104 l3' s0' h) := by
  subst el3; subst es0
  unfold FX23_take_b216 at hF
  unfold fX23_take_b216
  exact hk4 R rfl rs0 (c_add rfl (c_lit 1 1 rfl)) (rr_I _) hF
def FX23_take_b189 (N : Nat) (K4 : Int → Int → fS → Option (Unit × fS)) (l2 : Int) (l3 : Int) (s1 : Int) (s2 : Int) (s : fS) : Option (Unit × fS) :=
  (uQI s 114 s1 (iand s2 1)).bind fun σ1 =>
  (uRI σ1 105 l3).bind fun x5 =>
  if ¬ (x5 = 5) then
    FX23_take_b216 N K4 l3 (imax 0 (isub l2 1)) σ1
  else
    (uRI σ1 108 l3).bind fun x10 =>
    FX23_take_b216 N K4 l3 x10 σ1
theorem SX23_take_b189 {m b : Nat} {φ0 : Nat → Nat} {σo : fS} {N : Nat} {k4 : Nat → Nat → Int32 → Int32 → eH → Option (Unit × eH)} {K4 : Int → Int → fS → Option (Unit × fS)} {q : Unit × fS} (hk4 : ∀ {φ : Nat → Nat} {h : eH} {s : fS} {l2' : Int32} {l2 : Int} {l3' : Int32} {l3 : Int}, fC m b φ0 σo φ h s → l2' = iI l2 → r32 l2 → l3' = iI l3 → r32 l3 → K4 l2 l3 s = some q → gG m b φ0 σo lU q (k4 110 104 l2' l3' h)) {φ : Nat → Nat} {h : eH} {s : fS} {l2' : Int32} {l2 : Int} {l3' : Int32} {l3 : Int} {s1' : Int32} {s1 : Int} {s2' : Int32} {s2 : Int} (R : fC m b φ0 σo φ h s) (el2 : l2' = iI l2) (rl2 : r32 l2) (el3 : l3' = iI l3) (rl3 : r32 l3) (es1 : s1' = iI s1) (rs1 : r32 s1) (es2 : s2' = iI s2) (rs2 : r32 s2) (hF : FX23_take_b189 N K4 l2 l3 s1 s2 s = some q) : gG m b φ0 σo lU q (fX23_take_b189 N k4 110 104 l2' l3' 114 s1' s2' h) := by
  subst el2; subst el3; subst es1; subst es2
  unfold FX23_take_b189 at hF
  unfold fX23_take_b189
  refine s_qI R (u_114 R.S).1 (u_114 R.S).2 (by decide) (a_114 R) rfl rs1 (c_and rfl (c_lit 1 1 rfl)) (rr_I _) hF (fun h1 σ1 R1 T1 hF => ?_)
  refine s_gAs R1 (t_104 R1.S) (Nat.le_of_ble_eq_true rfl) rfl (o_104_0 R1.S) (a_105 R1) ?_
  refine s_rI R1 (u_105 R1.S).1 (u_105 R1.S).2 (by decide) (a_105 R1) rfl rl3 hF (fun x5 ra3 hF => ?_)
  refine s_if (not_congr (i_eq rfl (c_lit 5 5 rfl) ra3 ⟨by decide, by decide⟩)) hF (fun c4 hF => ?_) (fun c4 hF => ?_)
  ·
    exact SX23_take_b216 (N := N) (k4 := k4) (K4 := K4) @hk4 R1 rfl rl3 (c_max (c_lit 0 0 rfl) (c_sub rfl (c_lit 1 1 rfl)) ⟨by decide, by decide⟩ (rr_I _)) (r_max ⟨by decide, by decide⟩ (rr_I _)) hF
  ·
    refine s_gAs R1 (t_104 R1.S) (Nat.le_of_ble_eq_true rfl) rfl (o_104_3 R1.S) (a_108 R1) ?_
    refine s_rI R1 (u_108 R1.S).1 (u_108 R1.S).2 (by decide) (a_108 R1) rfl rl3 hF (fun x10 ra6 hF => ?_)
    exact SX23_take_b216 (N := N) (k4 := k4) (K4 := K4) @hk4 R1 rfl rl3 rfl ra6 hF
def FX23_take_b111 (N : Nat) (K4 : Int → Int → fS → Option (Unit × fS)) : Nat → Int → Int → Int → Int → fS → Option (Unit × fS)
  | 0, _, _, _, _, _ => none
  | n + 1, l2, l3, l5, l6, s =>
    if 4 ≤ l6 then
      if l2 ≤ 0 then
        FX23_take_b189 N K4 l2 l3 l3 0 s
      else
        FX23_take_b189 N K4 l2 l3 l3 1 s
    else
      (uRJ s 113 (iadd (imul 4 l3) l6)).bind fun x9 =>
      if l5 = 0 then
        FX23_take_b165 N (FX23_take_b111 N K4 n) l2 l3 l5 l6 (iadd (imul 4 (iadd l3 1)) l6) x9 s
      else
        (uRI s 108 l3).bind fun x14 =>
        if ¬ (x14 = l6) then
          FX23_take_b165 N (FX23_take_b111 N K4 n) l2 l3 l5 l6 (iadd (imul 4 (iadd l3 1)) l6) x9 s
        else
          (uRI s 107 l3).bind fun x19 =>
          FX23_take_b166 N (FX23_take_b111 N K4 n) l2 l3 l5 l6 (iadd (imul 4 (iadd l3 1)) l6) x9 x19 s
theorem SX23_take_b111 {m b : Nat} {φ0 : Nat → Nat} {σo : fS} {N : Nat} {k4 : Nat → Nat → Int32 → Int32 → eH → Option (Unit × eH)} {K4 : Int → Int → fS → Option (Unit × fS)} {q : Unit × fS} (hk4 : ∀ {φ : Nat → Nat} {h : eH} {s : fS} {l2' : Int32} {l2 : Int} {l3' : Int32} {l3 : Int}, fC m b φ0 σo φ h s → l2' = iI l2 → r32 l2 → l3' = iI l3 → r32 l3 → K4 l2 l3 s = some q → gG m b φ0 σo lU q (k4 110 104 l2' l3' h)) : ∀ {n : Nat} {φ : Nat → Nat} {h : eH} {s : fS} {l2' : Int32} {l2 : Int} {l3' : Int32} {l3 : Int} {l5' : Int32} {l5 : Int} {l6' : Int32} {l6 : Int}, fC m b φ0 σo φ h s → l2' = iI l2 → r32 l2 → l3' = iI l3 → r32 l3 → l5' = iI l5 → r32 l5 → l6' = iI l6 → r32 l6 → FX23_take_b111 N K4 n l2 l3 l5 l6 s = some q → gG m b φ0 σo lU q (fX23_take_b111 N k4 n 110 104 l2' l3' l5' l6' h) := by
  intro n
  induction n with
 | zero => intro φ h s l2' l2 l3' l3 l5' l5 l6' l6 R el2 rl2 el3 rl3 el5 rl5 el6 rl6 hF; simp [FX23_take_b111] at hF
  | succ n ih =>
    intro φ h s l2' l2 l3' l3 l5' l5 l6' l6 R el2 rl2 el3 rl3 el5 rl5 el6 rl6 hF
    subst el2; subst el3; subst el5; subst el6
    rw [FX23_take_b111] at hF
    rw [fX23_take_b111]
    refine s_if (i_le (c_lit 4 4 rfl) rfl ⟨by decide, by decide⟩ rl6) hF (fun c1 hF => ?_) (fun c1 hF => ?_)
    ·
      refine s_gAs R (t_110 R.S) (Nat.le_of_ble_eq_true rfl) rfl (o_110_3 R.S) (a_114 R) ?_
      refine s_if (i_le rfl (c_lit 0 0 rfl) rl2 ⟨by decide, by decide⟩) hF (fun c3 hF => ?_) (fun c3 hF => ?_)
      ·
        exact SX23_take_b189 (N := N) (k4 := k4) (K4 := K4) @hk4 R rfl rl2 rfl rl3 rfl rl3 (c_lit 0 0 rfl) ⟨by decide, by decide⟩ hF
      ·
        exact SX23_take_b189 (N := N) (k4 := k4) (K4 := K4) @hk4 R rfl rl2 rfl rl3 rfl rl3 (c_lit 1 1 rfl) ⟨by decide, by decide⟩ hF
    ·
      refine s_gAs R (t_110 R.S) (Nat.le_of_ble_eq_true rfl) rfl (o_110_2 R.S) (a_113 R) ?_
      refine s_gAs R (t_110 R.S) (Nat.le_of_ble_eq_true rfl) rfl (o_110_2 R.S) (a_113 R) ?_
      refine s_rJ R (u_113 R.S).1 (u_113 R.S).2 (a_113 R) (c_add (c_mul (c_lit 4 4 rfl) rfl) rfl) (rr_I _) hF (fun x9 ra6 hF => ?_)
      refine s_if (i_eq rfl (c_lit 0 0 rfl) rl5 ⟨by decide, by decide⟩) hF (fun c7 hF => ?_) (fun c7 hF => ?_)
      ·
        exact SX23_take_b165 (N := N) (k111 := fX23_take_b111 N k4 n) (K111 := FX23_take_b111 N K4 n) @ih R rfl rl2 rfl rl3 rfl rl5 rfl rl6 (c_add (c_mul (c_lit 4 4 rfl) (c_add rfl (c_lit 1 1 rfl))) rfl) (rr_I _) rfl ra6 hF
      ·
        refine s_gAs R (t_104 R.S) (Nat.le_of_ble_eq_true rfl) rfl (o_104_3 R.S) (a_108 R) ?_
        refine s_rI R (u_108 R.S).1 (u_108 R.S).2 (by decide) (a_108 R) rfl rl3 hF (fun x14 ra9 hF => ?_)
        refine s_if (not_congr (i_eq rfl rfl ra9 rl6)) hF (fun c10 hF => ?_) (fun c10 hF => ?_)
        ·
          exact SX23_take_b165 (N := N) (k111 := fX23_take_b111 N k4 n) (K111 := FX23_take_b111 N K4 n) @ih R rfl rl2 rfl rl3 rfl rl5 rfl rl6 (c_add (c_mul (c_lit 4 4 rfl) (c_add rfl (c_lit 1 1 rfl))) rfl) (rr_I _) rfl ra6 hF
        ·
          refine s_gAs R (t_104 R.S) (Nat.le_of_ble_eq_true rfl) rfl (o_104_2 R.S) (a_107 R) ?_
          refine s_rI R (u_107 R.S).1 (u_107 R.S).2 (by decide) (a_107 R) rfl rl3 hF (fun x19 ra12 hF => ?_)
          exact SX23_take_b166 (N := N) (k111 := fX23_take_b111 N k4 n) (K111 := FX23_take_b111 N K4 n) @ih R rfl rl2 rfl rl3 rfl rl5 rfl rl6 (c_add (c_mul (c_lit 4 4 rfl) (c_add rfl (c_lit 1 1 rfl))) rfl) (rr_I _) rfl ra6 rfl ra12 hF
def FX23_take_b105 (N : Nat) (K4 : Int → Int → fS → Option (Unit × fS)) (l2 : Int) (l3 : Int) (l5 : Int) (s1 : Int) (s2 : Int) (s3 : Int) (s : fS) : Option (Unit × fS) :=
  (uQJ s 112 s1 (ladd s2 s3)).bind fun σ1 =>
  FX23_take_b111 N K4 N l2 l3 l5 0 σ1
theorem SX23_take_b105 {m b : Nat} {φ0 : Nat → Nat} {σo : fS} {N : Nat} {k4 : Nat → Nat → Int32 → Int32 → eH → Option (Unit × eH)} {K4 : Int → Int → fS → Option (Unit × fS)} {q : Unit × fS} (hk4 : ∀ {φ : Nat → Nat} {h : eH} {s : fS} {l2' : Int32} {l2 : Int} {l3' : Int32} {l3 : Int}, fC m b φ0 σo φ h s → l2' = iI l2 → r32 l2 → l3' = iI l3 → r32 l3 → K4 l2 l3 s = some q → gG m b φ0 σo lU q (k4 110 104 l2' l3' h)) {φ : Nat → Nat} {h : eH} {s : fS} {l2' : Int32} {l2 : Int} {l3' : Int32} {l3 : Int} {l5' : Int32} {l5 : Int} {s1' : Int32} {s1 : Int} {s2' : Int64} {s2 : Int} {s3' : Int32} {s3 : Int} (R : fC m b φ0 σo φ h s) (el2 : l2' = iI l2) (rl2 : r32 l2) (el3 : l3' = iI l3) (rl3 : r32 l3) (el5 : l5' = iI l5) (rl5 : r32 l5) (es1 : s1' = iI s1) (rs1 : r32 s1) (es2 : s2' = iJ s2) (rs2 : r64 s2) (es3 : s3' = iI s3) (rs3 : r32 s3) (hF : FX23_take_b105 N K4 l2 l3 l5 s1 s2 s3 s = some q) : gG m b φ0 σo lU q (fX23_take_b105 N k4 110 104 l2' l3' l5' 112 s1' s2' s3' h) := by
  subst el2; subst el3; subst el5; subst es1; subst es2; subst es3
  unfold FX23_take_b105 at hF
  unfold fX23_take_b105
  refine s_qJ R (u_112 R.S).1 (u_112 R.S).2 (a_112 R) rfl rs1 (d_add rfl (c_2l rfl rs3)) (rr_J _) hF (fun h1 σ1 R1 T1 hF => ?_)
  exact SX23_take_b111 (N := N) (k4 := k4) (K4 := K4) @hk4 R1 rfl rl2 rfl rl3 rfl rl5 (c_lit 0 0 rfl) ⟨by decide, by decide⟩ hF
def FX23_take_b74 (N : Nat) (K4 : Int → Int → fS → Option (Unit × fS)) (l2 : Int) (l3 : Int) (l5 : Int) (s1 : Int) (s2 : Int) (s3 : Int) (s : fS) : Option (Unit × fS) :=
  (uQJ s 111 s1 (ladd s2 s3)).bind fun σ1 =>
  (uRJ σ1 112 l3).bind fun x7 =>
  if l5 = 0 then
    FX23_take_b105 N K4 l2 l3 l5 (iadd l3 1) x7 0 σ1
  else
    (uRI σ1 109 l3).bind fun x12 =>
    FX23_take_b105 N K4 l2 l3 l5 (iadd l3 1) x7 x12 σ1
theorem SX23_take_b74 {m b : Nat} {φ0 : Nat → Nat} {σo : fS} {N : Nat} {k4 : Nat → Nat → Int32 → Int32 → eH → Option (Unit × eH)} {K4 : Int → Int → fS → Option (Unit × fS)} {q : Unit × fS} (hk4 : ∀ {φ : Nat → Nat} {h : eH} {s : fS} {l2' : Int32} {l2 : Int} {l3' : Int32} {l3 : Int}, fC m b φ0 σo φ h s → l2' = iI l2 → r32 l2 → l3' = iI l3 → r32 l3 → K4 l2 l3 s = some q → gG m b φ0 σo lU q (k4 110 104 l2' l3' h)) {φ : Nat → Nat} {h : eH} {s : fS} {l2' : Int32} {l2 : Int} {l3' : Int32} {l3 : Int} {l5' : Int32} {l5 : Int} {s1' : Int32} {s1 : Int} {s2' : Int64} {s2 : Int} {s3' : Int32} {s3 : Int} (R : fC m b φ0 σo φ h s) (el2 : l2' = iI l2) (rl2 : r32 l2) (el3 : l3' = iI l3) (rl3 : r32 l3) (el5 : l5' = iI l5) (rl5 : r32 l5) (es1 : s1' = iI s1) (rs1 : r32 s1) (es2 : s2' = iJ s2) (rs2 : r64 s2) (es3 : s3' = iI s3) (rs3 : r32 s3) (hF : FX23_take_b74 N K4 l2 l3 l5 s1 s2 s3 s = some q) : gG m b φ0 σo lU q (fX23_take_b74 N k4 110 104 l2' l3' l5' 111 s1' s2' s3' h) := by
  subst el2; subst el3; subst el5; subst es1; subst es2; subst es3
  unfold FX23_take_b74 at hF
  unfold fX23_take_b74
  refine s_qJ R (u_111 R.S).1 (u_111 R.S).2 (a_111 R) rfl rs1 (d_add rfl (c_2l rfl rs3)) (rr_J _) hF (fun h1 σ1 R1 T1 hF => ?_)
  refine s_gAs R1 (t_110 R1.S) (Nat.le_of_ble_eq_true rfl) rfl (o_110_1 R1.S) (a_112 R1) ?_
  refine s_gAs R1 (t_110 R1.S) (Nat.le_of_ble_eq_true rfl) rfl (o_110_1 R1.S) (a_112 R1) ?_
  refine s_rJ R1 (u_112 R1.S).1 (u_112 R1.S).2 (a_112 R1) rfl rl3 hF (fun x7 ra4 hF => ?_)
  refine s_if (i_eq rfl (c_lit 0 0 rfl) rl5 ⟨by decide, by decide⟩) hF (fun c5 hF => ?_) (fun c5 hF => ?_)
  ·
    exact SX23_take_b105 (N := N) (k4 := k4) (K4 := K4) @hk4 R1 rfl rl2 rfl rl3 rfl rl5 (c_add rfl (c_lit 1 1 rfl)) (rr_I _) rfl ra4 (c_lit 0 0 rfl) ⟨by decide, by decide⟩ hF
  ·
    refine s_gAs R1 (t_104 R1.S) (Nat.le_of_ble_eq_true rfl) rfl (o_104_4 R1.S) (a_109 R1) ?_
    refine s_rI R1 (u_109 R1.S).1 (u_109 R1.S).2 (by decide) (a_109 R1) rfl rl3 hF (fun x12 ra7 hF => ?_)
    exact SX23_take_b105 (N := N) (k4 := k4) (K4 := K4) @hk4 R1 rfl rl2 rfl rl3 rfl rl5 (c_add rfl (c_lit 1 1 rfl)) (rr_I _) rfl ra4 rfl ra7 hF
def FX23_take_b44 (N : Nat) (K4 : Int → Int → fS → Option (Unit × fS)) (l2 : Int) (l3 : Int) (l4 : Int) (s0 : Int) (s : fS) : Option (Unit × fS) :=
  (uRJ s 111 l3).bind fun x5 =>
  if l4 = 0 then
    FX23_take_b74 N K4 l2 l3 s0 (iadd l3 1) x5 0 s
  else
    (uRI s 106 l3).bind fun x10 =>
    FX23_take_b74 N K4 l2 l3 s0 (iadd l3 1) x5 x10 s
theorem SX23_take_b44 {m b : Nat} {φ0 : Nat → Nat} {σo : fS} {N : Nat} {k4 : Nat → Nat → Int32 → Int32 → eH → Option (Unit × eH)} {K4 : Int → Int → fS → Option (Unit × fS)} {q : Unit × fS} (hk4 : ∀ {φ : Nat → Nat} {h : eH} {s : fS} {l2' : Int32} {l2 : Int} {l3' : Int32} {l3 : Int}, fC m b φ0 σo φ h s → l2' = iI l2 → r32 l2 → l3' = iI l3 → r32 l3 → K4 l2 l3 s = some q → gG m b φ0 σo lU q (k4 110 104 l2' l3' h)) {φ : Nat → Nat} {h : eH} {s : fS} {l2' : Int32} {l2 : Int} {l3' : Int32} {l3 : Int} {l4' : Int32} {l4 : Int} {s0' : Int32} {s0 : Int} (R : fC m b φ0 σo φ h s) (el2 : l2' = iI l2) (rl2 : r32 l2) (el3 : l3' = iI l3) (rl3 : r32 l3) (el4 : l4' = iI l4) (rl4 : r32 l4) (es0 : s0' = iI s0) (rs0 : r32 s0) (hF : FX23_take_b44 N K4 l2 l3 l4 s0 s = some q) : gG m b φ0 σo lU q (fX23_take_b44 N k4 110 104 l2' l3' l4' s0' h) := by
  subst el2; subst el3; subst el4; subst es0
  unfold FX23_take_b44 at hF
  unfold fX23_take_b44
  refine s_gAs R (t_110 R.S) (Nat.le_of_ble_eq_true rfl) rfl (o_110_0 R.S) (a_111 R) ?_
  refine s_gAs R (t_110 R.S) (Nat.le_of_ble_eq_true rfl) rfl (o_110_0 R.S) (a_111 R) ?_
  refine s_rJ R (u_111 R.S).1 (u_111 R.S).2 (a_111 R) rfl rl3 hF (fun x5 ra3 hF => ?_)
  refine s_if (i_eq rfl (c_lit 0 0 rfl) rl4 ⟨by decide, by decide⟩) hF (fun c4 hF => ?_) (fun c4 hF => ?_)
  ·
    exact SX23_take_b74 (N := N) (k4 := k4) (K4 := K4) @hk4 R rfl rl2 rfl rl3 rfl rs0 (c_add rfl (c_lit 1 1 rfl)) (rr_I _) rfl ra3 (c_lit 0 0 rfl) ⟨by decide, by decide⟩ hF
  ·
    refine s_gAs R (t_104 R.S) (Nat.le_of_ble_eq_true rfl) rfl (o_104_1 R.S) (a_106 R) ?_
    refine s_rI R (u_106 R.S).1 (u_106 R.S).2 (by decide) (a_106 R) rfl rl3 hF (fun x10 ra6 hF => ?_)
    exact SX23_take_b74 (N := N) (k4 := k4) (K4 := K4) @hk4 R rfl rl2 rfl rl3 rfl rs0 (c_add rfl (c_lit 1 1 rfl)) (rr_I _) rfl ra3 rfl ra6 hF
def FX23_take_b27 (N : Nat) (K4 : Int → Int → fS → Option (Unit × fS)) (l2 : Int) (l3 : Int) (s0 : Int) (s : fS) : Option (Unit × fS) :=
  (uRI s 105 l3).bind fun x3 =>
  if ¬ (x3 = 1) then
    FX23_take_b44 N K4 l2 l3 s0 0 s
  else
    FX23_take_b44 N K4 l2 l3 s0 1 s
theorem SX23_take_b27 {m b : Nat} {φ0 : Nat → Nat} {σo : fS} {N : Nat} {k4 : Nat → Nat → Int32 → Int32 → eH → Option (Unit × eH)} {K4 : Int → Int → fS → Option (Unit × fS)} {q : Unit × fS} (hk4 : ∀ {φ : Nat → Nat} {h : eH} {s : fS} {l2' : Int32} {l2 : Int} {l3' : Int32} {l3 : Int}, fC m b φ0 σo φ h s → l2' = iI l2 → r32 l2 → l3' = iI l3 → r32 l3 → K4 l2 l3 s = some q → gG m b φ0 σo lU q (k4 110 104 l2' l3' h)) {φ : Nat → Nat} {h : eH} {s : fS} {l2' : Int32} {l2 : Int} {l3' : Int32} {l3 : Int} {s0' : Int32} {s0 : Int} (R : fC m b φ0 σo φ h s) (el2 : l2' = iI l2) (rl2 : r32 l2) (el3 : l3' = iI l3) (rl3 : r32 l3) (es0 : s0' = iI s0) (rs0 : r32 s0) (hF : FX23_take_b27 N K4 l2 l3 s0 s = some q) : gG m b φ0 σo lU q (fX23_take_b27 N k4 110 104 l2' l3' s0' h) := by
  subst el2; subst el3; subst es0
  unfold FX23_take_b27 at hF
  unfold fX23_take_b27
  refine s_gAs R (t_104 R.S) (Nat.le_of_ble_eq_true rfl) rfl (o_104_0 R.S) (a_105 R) ?_
  refine s_rI R (u_105 R.S).1 (u_105 R.S).2 (by decide) (a_105 R) rfl rl3 hF (fun x3 ra2 hF => ?_)
  refine s_if (not_congr (i_eq rfl (c_lit 1 1 rfl) ra2 ⟨by decide, by decide⟩)) hF (fun c3 hF => ?_) (fun c3 hF => ?_)
  ·
    exact SX23_take_b44 (N := N) (k4 := k4) (K4 := K4) @hk4 R rfl rl2 rfl rl3 rfl rs0 (c_lit 0 0 rfl) ⟨by decide, by decide⟩ hF
  ·
    exact SX23_take_b44 (N := N) (k4 := k4) (K4 := K4) @hk4 R rfl rl2 rfl rl3 rfl rs0 (c_lit 1 1 rfl) ⟨by decide, by decide⟩ hF
def FX23_take_b311 (N : Nat) (K225 : Int → fS → Option (Unit × fS)) (l3 : Int) (l5 : Int) (s : fS) : Option (Unit × fS) :=
  (uQI s 115 l3 l5).bind fun σ3 =>
  K225 (iadd l3 1) σ3
theorem SX23_take_b311 {m b : Nat} {φ0 : Nat → Nat} {σo : fS} {N : Nat} {k225 : Nat → Nat → Int32 → eH → Option (Unit × eH)} {K225 : Int → fS → Option (Unit × fS)} {q : Unit × fS} (hk225 : ∀ {φ : Nat → Nat} {h : eH} {s : fS} {l3' : Int32} {l3 : Int}, fC m b φ0 σo φ h s → l3' = iI l3 → r32 l3 → K225 l3 s = some q → gG m b φ0 σo lU q (k225 110 104 l3' h)) {φ : Nat → Nat} {h : eH} {s : fS} {l3' : Int32} {l3 : Int} {l5' : Int32} {l5 : Int} (R : fC m b φ0 σo φ h s) (el3 : l3' = iI l3) (rl3 : r32 l3) (el5 : l5' = iI l5) (rl5 : r32 l5) (hF : FX23_take_b311 N K225 l3 l5 s = some q) : gG m b φ0 σo lU q (fX23_take_b311 N k225 110 104 l3' l5' h) := by
  subst el3; subst el5
  unfold FX23_take_b311 at hF
  unfold fX23_take_b311
  refine s_gAs R (t_110 R.S) (Nat.le_of_ble_eq_true rfl) rfl (o_110_4 R.S) (a_115 R) ?_
  refine s_qI R (u_115 R.S).1 (u_115 R.S).2 (by decide) (a_115 R) rfl rl3 rfl rl5 hF (fun h2 σ3 R2 T2 hF => ?_)
  exact hk225 R2 (c_add rfl (c_lit 1 1 rfl)) (rr_I _) hF
def FX23_take_b287 (N : Nat) (K225 : Int → fS → Option (Unit × fS)) : Nat → Int → Int → fS → Option (Unit × fS)
  | 0, _, _, _ => none
  | n + 1, l3, l5, s =>
    if (s.i 104 5) ≤ l5 then
      FX23_take_b311 N K225 l3 l5 s
    else
      (FX22_isDropped l5 s).bind fun q5 =>
      if q5.1 = 0 then
        FX23_take_b311 N K225 l3 l5 q5.2
      else
        FX23_take_b287 N K225 n l3 (iadd l5 1) q5.2
theorem SX23_take_b287 {m b : Nat} {φ0 : Nat → Nat} {σo : fS} {N : Nat} {k225 : Nat → Nat → Int32 → eH → Option (Unit × eH)} {K225 : Int → fS → Option (Unit × fS)} {q : Unit × fS} (hk225 : ∀ {φ : Nat → Nat} {h : eH} {s : fS} {l3' : Int32} {l3 : Int}, fC m b φ0 σo φ h s → l3' = iI l3 → r32 l3 → K225 l3 s = some q → gG m b φ0 σo lU q (k225 110 104 l3' h)) : ∀ {n : Nat} {φ : Nat → Nat} {h : eH} {s : fS} {l3' : Int32} {l3 : Int} {l5' : Int32} {l5 : Int}, fC m b φ0 σo φ h s → l3' = iI l3 → r32 l3 → l5' = iI l5 → r32 l5 → FX23_take_b287 N K225 n l3 l5 s = some q → gG m b φ0 σo lU q (fX23_take_b287 N k225 n 110 104 l3' l5' h) := by
  intro n
  induction n with
 | zero => intro φ h s l3' l3 l5' l5 R el3 rl3 el5 rl5 hF; simp [FX23_take_b287] at hF
  | succ n ih =>
    intro φ h s l3' l3 l5' l5 R el3 rl3 el5 rl5 hF
    subst el3; subst el5
    rw [FX23_take_b287] at hF
    rw [fX23_take_b287]
    refine s_gI R (t_104 R.S) (Nat.le_of_ble_eq_true rfl) rfl ?_
    refine s_if (i_le rfl rfl (R.ri (t_104 R.S) (Nat.le_of_ble_eq_true rfl) rfl) rl5) hF (fun c2 hF => ?_) (fun c2 hF => ?_)
    ·
      exact SX23_take_b311 (N := N) (k225 := k225) (K225 := K225) @hk225 R rfl rl3 rfl rl5 hF
    ·
      refine s_kok R (t_104 R.S) (Nat.le_of_ble_eq_true rfl) ?_
      refine s_call R (Nat.zero_le _) (fun _ hq => SX22_isDropped (b := 0) (R.rf) rfl rl5 hq) hF (fun f4 rv4 h4 q5 R4 e4 E4 hF => ?_)
      refine s_if (i_eq e4.1 (c_lit 0 0 rfl) e4.2 ⟨by decide, by decide⟩) hF (fun c5 hF => ?_) (fun c5 hF => ?_)
      ·
        exact SX23_take_b311 (N := N) (k225 := k225) (K225 := K225) @hk225 R4 rfl rl3 rfl rl5 hF
      ·
        exact ih R4 rfl rl3 (c_add rfl (c_lit 1 1 rfl)) (rr_I _) hF
def FX23_take_b269 (N : Nat) (K225 : Int → fS → Option (Unit × fS)) (l3 : Int) (l4 : Int) (s0 : Int) (s : fS) : Option (Unit × fS) :=
  if l4 = 0 then
    FX23_take_b287 N K225 N l3 s0 s
  else
    (uRI s 107 l3).bind fun x4 =>
    if ¬ (x4 = (-2147483648)) then
      FX23_take_b311 N K225 l3 s0 s
    else
      FX23_take_b287 N K225 N l3 s0 s
theorem SX23_take_b269 {m b : Nat} {φ0 : Nat → Nat} {σo : fS} {N : Nat} {k225 : Nat → Nat → Int32 → eH → Option (Unit × eH)} {K225 : Int → fS → Option (Unit × fS)} {q : Unit × fS} (hk225 : ∀ {φ : Nat → Nat} {h : eH} {s : fS} {l3' : Int32} {l3 : Int}, fC m b φ0 σo φ h s → l3' = iI l3 → r32 l3 → K225 l3 s = some q → gG m b φ0 σo lU q (k225 110 104 l3' h)) {φ : Nat → Nat} {h : eH} {s : fS} {l3' : Int32} {l3 : Int} {l4' : Int32} {l4 : Int} {s0' : Int32} {s0 : Int} (R : fC m b φ0 σo φ h s) (el3 : l3' = iI l3) (rl3 : r32 l3) (el4 : l4' = iI l4) (rl4 : r32 l4) (es0 : s0' = iI s0) (rs0 : r32 s0) (hF : FX23_take_b269 N K225 l3 l4 s0 s = some q) : gG m b φ0 σo lU q (fX23_take_b269 N k225 110 104 l3' l4' s0' h) := by
  subst el3; subst el4; subst es0
  unfold FX23_take_b269 at hF
  unfold fX23_take_b269
  refine s_if (i_eq rfl (c_lit 0 0 rfl) rl4 ⟨by decide, by decide⟩) hF (fun c1 hF => ?_) (fun c1 hF => ?_)
  ·
    exact SX23_take_b287 (N := N) (k225 := k225) (K225 := K225) @hk225 R rfl rl3 rfl rs0 hF
  ·
    refine s_gAs R (t_104 R.S) (Nat.le_of_ble_eq_true rfl) rfl (o_104_2 R.S) (a_107 R) ?_
    refine s_rI R (u_107 R.S).1 (u_107 R.S).2 (by decide) (a_107 R) rfl rl3 hF (fun x4 ra3 hF => ?_)
    refine s_if (not_congr (i_eq rfl (c_lit (-2147483648) (-2147483648) rfl) ra3 ⟨by decide, by decide⟩)) hF (fun c4 hF => ?_) (fun c4 hF => ?_)
    ·
      exact SX23_take_b311 (N := N) (k225 := k225) (K225 := K225) @hk225 R rfl rl3 rfl rs0 hF
    ·
      exact SX23_take_b287 (N := N) (k225 := k225) (K225 := K225) @hk225 R rfl rl3 rfl rs0 hF
def FX23_take_b248 (N : Nat) (K225 : Int → fS → Option (Unit × fS)) (l3 : Int) (s0 : Int) (s : fS) : Option (Unit × fS) :=
  if s0 = 0 then
    FX23_take_b269 N K225 l3 s0 l3 s
  else
    (uRI s 108 l3).bind fun x4 =>
    FX23_take_b269 N K225 l3 s0 (iadd (iadd l3 1) x4) s
theorem SX23_take_b248 {m b : Nat} {φ0 : Nat → Nat} {σo : fS} {N : Nat} {k225 : Nat → Nat → Int32 → eH → Option (Unit × eH)} {K225 : Int → fS → Option (Unit × fS)} {q : Unit × fS} (hk225 : ∀ {φ : Nat → Nat} {h : eH} {s : fS} {l3' : Int32} {l3 : Int}, fC m b φ0 σo φ h s → l3' = iI l3 → r32 l3 → K225 l3 s = some q → gG m b φ0 σo lU q (k225 110 104 l3' h)) {φ : Nat → Nat} {h : eH} {s : fS} {l3' : Int32} {l3 : Int} {s0' : Int32} {s0 : Int} (R : fC m b φ0 σo φ h s) (el3 : l3' = iI l3) (rl3 : r32 l3) (es0 : s0' = iI s0) (rs0 : r32 s0) (hF : FX23_take_b248 N K225 l3 s0 s = some q) : gG m b φ0 σo lU q (fX23_take_b248 N k225 110 104 l3' s0' h) := by
  subst el3; subst es0
  unfold FX23_take_b248 at hF
  unfold fX23_take_b248
  refine s_if (i_eq rfl (c_lit 0 0 rfl) rs0 ⟨by decide, by decide⟩) hF (fun c1 hF => ?_) (fun c1 hF => ?_)
  ·
    exact SX23_take_b269 (N := N) (k225 := k225) (K225 := K225) @hk225 R rfl rl3 rfl rs0 rfl rl3 hF
  ·
    refine s_gAs R (t_104 R.S) (Nat.le_of_ble_eq_true rfl) rfl (o_104_3 R.S) (a_108 R) ?_
    refine s_rI R (u_108 R.S).1 (u_108 R.S).2 (by decide) (a_108 R) rfl rl3 hF (fun x4 ra3 hF => ?_)
    exact SX23_take_b269 (N := N) (k225 := k225) (K225 := K225) @hk225 R rfl rl3 rfl rs0 (c_add (c_add rfl (c_lit 1 1 rfl)) rfl) (rr_I _) hF
def FX23_take_b225 (N : Nat) : Nat → Int → fS → Option (Unit × fS)
  | 0, _, _ => none
  | n + 1, l3, s =>
    if (s.i 104 5) ≤ l3 then
      some ((), s)
    else
      (uRI s 105 l3).bind fun x6 =>
      if ¬ (x6 = 5) then
        FX23_take_b248 N (FX23_take_b225 N n) l3 0 s
      else
        FX23_take_b248 N (FX23_take_b225 N n) l3 1 s
theorem SX23_take_b225 {m b : Nat} {φ0 : Nat → Nat} {σo : fS} {N : Nat} {q : Unit × fS} : ∀ {n : Nat} {φ : Nat → Nat} {h : eH} {s : fS} {l3' : Int32} {l3 : Int}, fC m b φ0 σo φ h s → l3' = iI l3 → r32 l3 → FX23_take_b225 N n l3 s = some q → gG m b φ0 σo lU q (fX23_take_b225 N n 110 104 l3' h) := by
  intro n
  induction n with
 | zero => intro φ h s l3' l3 R el3 rl3 hF; simp [FX23_take_b225] at hF
  | succ n ih =>
    intro φ h s l3' l3 R el3 rl3 hF
    subst el3
    rw [FX23_take_b225] at hF
    rw [fX23_take_b225]
    refine s_gI R (t_104 R.S) (Nat.le_of_ble_eq_true rfl) rfl ?_
    refine s_if (i_le rfl rfl (R.ri (t_104 R.S) (Nat.le_of_ble_eq_true rfl) rfl) rl3) hF (fun c2 hF => ?_) (fun c2 hF => ?_)
    ·
      exact g_ret R hF trivial
    ·
      refine s_gAs R (t_104 R.S) (Nat.le_of_ble_eq_true rfl) rfl (o_104_0 R.S) (a_105 R) ?_
      refine s_rI R (u_105 R.S).1 (u_105 R.S).2 (by decide) (a_105 R) rfl rl3 hF (fun x6 ra4 hF => ?_)
      refine s_if (not_congr (i_eq rfl (c_lit 5 5 rfl) ra4 ⟨by decide, by decide⟩)) hF (fun c5 hF => ?_) (fun c5 hF => ?_)
      ·
        exact SX23_take_b248 (N := N) (k225 := fX23_take_b225 N n) (K225 := FX23_take_b225 N n) @ih R rfl rl3 (c_lit 0 0 rfl) ⟨by decide, by decide⟩ hF
      ·
        exact SX23_take_b248 (N := N) (k225 := fX23_take_b225 N n) (K225 := FX23_take_b225 N n) @ih R rfl rl3 (c_lit 1 1 rfl) ⟨by decide, by decide⟩ hF
def FX23_take_b4 (N : Nat) : Nat → Int → Int → fS → Option (Unit × fS)
  | 0, _, _, _ => none
  | n + 1, l2, l3, s =>
    if (s.i 104 5) ≤ l3 then
      FX23_take_b225 N N 0 s
    else
      (uRI s 105 l3).bind fun x6 =>
      if 4 ≤ x6 then
        FX23_take_b27 N (FX23_take_b4 N n) l2 l3 0 s
      else
        FX23_take_b27 N (FX23_take_b4 N n) l2 l3 1 s
theorem SX23_take_b4 {m b : Nat} {φ0 : Nat → Nat} {σo : fS} {N : Nat} {q : Unit × fS} : ∀ {n : Nat} {φ : Nat → Nat} {h : eH} {s : fS} {l2' : Int32} {l2 : Int} {l3' : Int32} {l3 : Int}, fC m b φ0 σo φ h s → l2' = iI l2 → r32 l2 → l3' = iI l3 → r32 l3 → FX23_take_b4 N n l2 l3 s = some q → gG m b φ0 σo lU q (fX23_take_b4 N n 110 104 l2' l3' h) := by
  intro n
  induction n with
 | zero => intro φ h s l2' l2 l3' l3 R el2 rl2 el3 rl3 hF; simp [FX23_take_b4] at hF
  | succ n ih =>
    intro φ h s l2' l2 l3' l3 R el2 rl2 el3 rl3 hF
    subst el2; subst el3
    rw [FX23_take_b4] at hF
    rw [fX23_take_b4]
    refine s_gI R (t_104 R.S) (Nat.le_of_ble_eq_true rfl) rfl ?_
    refine s_if (i_le rfl rfl (R.ri (t_104 R.S) (Nat.le_of_ble_eq_true rfl) rfl) rl3) hF (fun c2 hF => ?_) (fun c2 hF => ?_)
    ·
      exact SX23_take_b225 (N := N) R (c_lit 0 0 rfl) ⟨by decide, by decide⟩ hF
    ·
      refine s_gAs R (t_104 R.S) (Nat.le_of_ble_eq_true rfl) rfl (o_104_0 R.S) (a_105 R) ?_
      refine s_rI R (u_105 R.S).1 (u_105 R.S).2 (by decide) (a_105 R) rfl rl3 hF (fun x6 ra4 hF => ?_)
      refine s_if (i_le (c_lit 4 4 rfl) rfl ⟨by decide, by decide⟩ ra4) hF (fun c5 hF => ?_) (fun c5 hF => ?_)
      ·
        exact SX23_take_b27 (N := N) (k4 := fX23_take_b4 N n) (K4 := FX23_take_b4 N n) @ih R rfl rl2 rfl rl3 (c_lit 0 0 rfl) ⟨by decide, by decide⟩ hF
      ·
        exact SX23_take_b27 (N := N) (k4 := fX23_take_b4 N n) (K4 := FX23_take_b4 N n) @ih R rfl rl2 rfl rl3 (c_lit 1 1 rfl) ⟨by decide, by decide⟩ hF
def FX23_take (N : Nat) (s : fS) : Option (Unit × fS) :=
  FX23_take_b4 N N 0 0 s
theorem SX23_take {m b : Nat} {φ0 : Nat → Nat} {σo : fS} {N : Nat} {q : Unit × fS} {φ : Nat → Nat} {h : eH} {s : fS} (R : fC m b φ0 σo φ h s) (hF : FX23_take N s = some q) : gG m b φ0 σo lU q (fX23_take N 110 104 h) := by
  unfold FX23_take at hF
  unfold fX23_take
  exact SX23_take_b4 (N := N) R (c_lit 0 0 rfl) ⟨by decide, by decide⟩ (c_lit 0 0 rfl) ⟨by decide, by decide⟩ hF
def FX21_takeAround (N : Nat) (s : fS) : Option (Unit × fS) :=
  (uRI s 119 0).bind fun x5 =>
  (uRI s 119 4).bind fun x9 =>
  (uPJ s 110 6 (ladd x5 x9)).bind fun σ11 =>
  (uRI σ11 119 3).bind fun x17 =>
  (uRI σ11 119 7).bind fun x21 =>
  (uPJ σ11 110 7 (ladd x17 x21)).bind fun σ23 =>
  (FJ0_fill_4 N 0 σ23).bind fun q29 =>
  (uRI q29.2 119 2).bind fun x36 =>
  (uRJ q29.2 116 x36).bind fun x38 =>
  (uRI q29.2 119 1).bind fun x42 =>
  (uQJ q29.2 116 x36 (ladd x38 x42)).bind fun σ44 =>
  (uRI σ44 119 6).bind fun x52 =>
  (uRJ σ44 116 x52).bind fun x54 =>
  (uRI σ44 119 5).bind fun x58 =>
  (uQJ σ44 116 x52 (ladd x54 x58)).bind fun σ60 =>
  some ((), σ60)
theorem SX21_takeAround {m b : Nat} {φ0 : Nat → Nat} {σo : fS} {N : Nat} {q : Unit × fS} {φ : Nat → Nat} {h : eH} {s : fS} (R : fC m b φ0 σo φ h s) (hF : FX21_takeAround N s = some q) : gG m b φ0 σo lU q (fX21_takeAround N 103 h) := by
  unfold FX21_takeAround at hF
  unfold fX21_takeAround
  refine s_gO R (t_103 R.S) (Nat.le_of_ble_eq_true rfl) rfl (o_103_1 R.S) ?_
  refine s_gAs R (t_103 R.S) (Nat.le_of_ble_eq_true rfl) rfl (o_103_4 R.S) (a_119 R) ?_
  refine s_rI R (u_119 R.S).1 (u_119 R.S).2 (by decide) (a_119 R) (c_lit 0 0 rfl) ⟨by decide, by decide⟩ hF (fun x5 ra3 hF => ?_)
  refine s_gAs R (t_103 R.S) (Nat.le_of_ble_eq_true rfl) rfl (o_103_4 R.S) (a_119 R) ?_
  refine s_rI R (u_119 R.S).1 (u_119 R.S).2 (by decide) (a_119 R) (c_lit 4 4 rfl) ⟨by decide, by decide⟩ hF (fun x9 ra5 hF => ?_)
  refine s_pJ R (t_110 R.S) (Nat.le_of_ble_eq_true rfl) rfl (d_add (c_2l rfl ra3) (c_2l rfl ra5)) (rr_J _) hF (fun h6 σ11 R6 T6 hF => ?_)
  refine s_gO R6 (t_103 R6.S) (Nat.le_of_ble_eq_true rfl) rfl (o_103_1 R6.S) ?_
  refine s_gAs R6 (t_103 R6.S) (Nat.le_of_ble_eq_true rfl) rfl (o_103_4 R6.S) (a_119 R6) ?_
  refine s_rI R6 (u_119 R6.S).1 (u_119 R6.S).2 (by decide) (a_119 R6) (c_lit 3 3 rfl) ⟨by decide, by decide⟩ hF (fun x17 ra9 hF => ?_)
  refine s_gAs R6 (t_103 R6.S) (Nat.le_of_ble_eq_true rfl) rfl (o_103_4 R6.S) (a_119 R6) ?_
  refine s_rI R6 (u_119 R6.S).1 (u_119 R6.S).2 (by decide) (a_119 R6) (c_lit 7 7 rfl) ⟨by decide, by decide⟩ hF (fun x21 ra11 hF => ?_)
  refine s_pJ R6 (t_110 R6.S) (Nat.le_of_ble_eq_true rfl) rfl (d_add (c_2l rfl ra9) (c_2l rfl ra11)) (rr_J _) hF (fun h12 σ23 R12 T12 hF => ?_)
  refine s_gO R12 (t_103 R12.S) (Nat.le_of_ble_eq_true rfl) rfl (o_103_1 R12.S) ?_
  refine s_gAs R12 (t_110 R12.S) (Nat.le_of_ble_eq_true rfl) rfl (o_110_5 R12.S) (a_116 R12) ?_
  refine s_call R12 (Nat.zero_le _) (fun _ hq => SJ0_fill_4 (b := 0) (N := N) (R12.rf) (d_lit 0 0 rfl) ⟨by decide, by decide⟩ hq) hF (fun f15 rv15 h15 q29 R15 e15 E15 hF => ?_)
  refine s_gO R15 (t_103 R15.S) (Nat.le_of_ble_eq_true rfl) rfl (o_103_1 R15.S) ?_
  refine s_gAs R15 (t_110 R15.S) (Nat.le_of_ble_eq_true rfl) rfl (o_110_5 R15.S) (a_116 R15) ?_
  refine s_gAs R15 (t_103 R15.S) (Nat.le_of_ble_eq_true rfl) rfl (o_103_4 R15.S) (a_119 R15) ?_
  refine s_rI R15 (u_119 R15.S).1 (u_119 R15.S).2 (by decide) (a_119 R15) (c_lit 2 2 rfl) ⟨by decide, by decide⟩ hF (fun x36 ra19 hF => ?_)
  refine s_rJ R15 (u_116 R15.S).1 (u_116 R15.S).2 (a_116 R15) rfl ra19 hF (fun x38 ra20 hF => ?_)
  refine s_gAs R15 (t_103 R15.S) (Nat.le_of_ble_eq_true rfl) rfl (o_103_4 R15.S) (a_119 R15) ?_
  refine s_rI R15 (u_119 R15.S).1 (u_119 R15.S).2 (by decide) (a_119 R15) (c_lit 1 1 rfl) ⟨by decide, by decide⟩ hF (fun x42 ra22 hF => ?_)
  refine s_qJ R15 (u_116 R15.S).1 (u_116 R15.S).2 (a_116 R15) rfl ra19 (d_add rfl (c_2l rfl ra22)) (rr_J _) hF (fun h23 σ44 R23 T23 hF => ?_)
  refine s_gO R23 (t_103 R23.S) (Nat.le_of_ble_eq_true rfl) rfl (o_103_1 R23.S) ?_
  refine s_gAs R23 (t_110 R23.S) (Nat.le_of_ble_eq_true rfl) rfl (o_110_5 R23.S) (a_116 R23) ?_
  refine s_gAs R23 (t_103 R23.S) (Nat.le_of_ble_eq_true rfl) rfl (o_103_4 R23.S) (a_119 R23) ?_
  refine s_rI R23 (u_119 R23.S).1 (u_119 R23.S).2 (by decide) (a_119 R23) (c_lit 6 6 rfl) ⟨by decide, by decide⟩ hF (fun x52 ra27 hF => ?_)
  refine s_rJ R23 (u_116 R23.S).1 (u_116 R23.S).2 (a_116 R23) rfl ra27 hF (fun x54 ra28 hF => ?_)
  refine s_gAs R23 (t_103 R23.S) (Nat.le_of_ble_eq_true rfl) rfl (o_103_4 R23.S) (a_119 R23) ?_
  refine s_rI R23 (u_119 R23.S).1 (u_119 R23.S).2 (by decide) (a_119 R23) (c_lit 5 5 rfl) ⟨by decide, by decide⟩ hF (fun x58 ra30 hF => ?_)
  refine s_qJ R23 (u_116 R23.S).1 (u_116 R23.S).2 (a_116 R23) rfl ra27 (d_add rfl (c_2l rfl ra30)) (rr_J _) hF (fun h31 σ60 R31 T31 hF => ?_)
  exact g_ret R31 hF trivial
def FX25_add (p0 : Int) (p1 : Int) (p2 : Int) (p3 : Int) (p4 : Int) (s : fS) : Option (Int × fS) :=
  (uQI s 122 (s.i 121 6) p0).bind fun σ5 =>
  (uQI σ5 123 (σ5.i 121 6) p1).bind fun σ11 =>
  (uQI σ11 124 (σ11.i 121 6) (i2b (i2b p2))).bind fun σ17 =>
  (uQJ σ17 125 (σ17.i 121 6) p3).bind fun σ23 =>
  (uQI σ23 126 (σ23.i 121 6) p4).bind fun σ29 =>
  (uQI σ29 127 (σ29.i 121 6) (σ29.i 121 7)).bind fun σ37 =>
  (uPI σ37 121 7 (σ37.i 121 6)).bind fun σ41 =>
  (uPI σ41 121 6 (iadd (σ41.i 121 6) 1)).bind fun σ45 =>
  some ((σ41.i 121 6), σ45)
theorem SX25_add {m b : Nat} {φ0 : Nat → Nat} {σo : fS} {q : Int × fS} {φ : Nat → Nat} {h : eH} {s : fS} {p0' : Int32} {p0 : Int} {p1' : Int32} {p1 : Int} {p2' : Int32} {p2 : Int} {p3' : Int64} {p3 : Int} {p4' : Int32} {p4 : Int} (R : fC m b φ0 σo φ h s) (ep0 : p0' = iI p0) (rp0 : r32 p0) (ep1 : p1' = iI p1) (rp1 : r32 p1) (ep2 : p2' = iI p2) (rp2 : r32 p2) (ep3 : p3' = iJ p3) (rp3 : r64 p3) (ep4 : p4' = iI p4) (rp4 : r32 p4) (hF : FX25_add p0 p1 p2 p3 p4 s = some q) : gG m b φ0 σo lI q (fX25_add 121 p0' p1' p2' p3' p4' h) := by
  subst ep0; subst ep1; subst ep2; subst ep3; subst ep4
  unfold FX25_add at hF
  unfold fX25_add
  refine s_gAs R (t_121 R.S) (Nat.le_of_ble_eq_true rfl) rfl (o_121_0 R.S) (a_122 R) ?_
  refine s_gI R (t_121 R.S) (Nat.le_of_ble_eq_true rfl) rfl ?_
  refine s_qI R (u_122 R.S).1 (u_122 R.S).2 (by decide) (a_122 R) rfl (R.ri (t_121 R.S) (Nat.le_of_ble_eq_true rfl) rfl) rfl rp0 hF (fun h3 σ5 R3 T3 hF => ?_)
  refine s_gAs R3 (t_121 R3.S) (Nat.le_of_ble_eq_true rfl) rfl (o_121_1 R3.S) (a_123 R3) ?_
  refine s_gI R3 (t_121 R3.S) (Nat.le_of_ble_eq_true rfl) rfl ?_
  refine s_qI R3 (u_123 R3.S).1 (u_123 R3.S).2 (by decide) (a_123 R3) rfl (R3.ri (t_121 R3.S) (Nat.le_of_ble_eq_true rfl) rfl) rfl rp1 hF (fun h6 σ11 R6 T6 hF => ?_)
  refine s_gAs R6 (t_121 R6.S) (Nat.le_of_ble_eq_true rfl) rfl (o_121_2 R6.S) (a_124 R6) ?_
  refine s_gI R6 (t_121 R6.S) (Nat.le_of_ble_eq_true rfl) rfl ?_
  refine s_qI R6 (u_124 R6.S).1 (u_124 R6.S).2 (by decide) (a_124 R6) rfl (R6.ri (t_121 R6.S) (Nat.le_of_ble_eq_true rfl) rfl) (c_2b (c_2b rfl)) (rr_I _) hF (fun h9 σ17 R9 T9 hF => ?_)
  refine s_gAs R9 (t_121 R9.S) (Nat.le_of_ble_eq_true rfl) rfl (o_121_3 R9.S) (a_125 R9) ?_
  refine s_gI R9 (t_121 R9.S) (Nat.le_of_ble_eq_true rfl) rfl ?_
  refine s_qJ R9 (u_125 R9.S).1 (u_125 R9.S).2 (a_125 R9) rfl (R9.ri (t_121 R9.S) (Nat.le_of_ble_eq_true rfl) rfl) rfl rp3 hF (fun h12 σ23 R12 T12 hF => ?_)
  refine s_gAs R12 (t_121 R12.S) (Nat.le_of_ble_eq_true rfl) rfl (o_121_4 R12.S) (a_126 R12) ?_
  refine s_gI R12 (t_121 R12.S) (Nat.le_of_ble_eq_true rfl) rfl ?_
  refine s_qI R12 (u_126 R12.S).1 (u_126 R12.S).2 (by decide) (a_126 R12) rfl (R12.ri (t_121 R12.S) (Nat.le_of_ble_eq_true rfl) rfl) rfl rp4 hF (fun h15 σ29 R15 T15 hF => ?_)
  refine s_gAs R15 (t_121 R15.S) (Nat.le_of_ble_eq_true rfl) rfl (o_121_5 R15.S) (a_127 R15) ?_
  refine s_gI R15 (t_121 R15.S) (Nat.le_of_ble_eq_true rfl) rfl ?_
  refine s_gI R15 (t_121 R15.S) (Nat.le_of_ble_eq_true rfl) rfl ?_
  refine s_qI R15 (u_127 R15.S).1 (u_127 R15.S).2 (by decide) (a_127 R15) rfl (R15.ri (t_121 R15.S) (Nat.le_of_ble_eq_true rfl) rfl) rfl (R15.ri (t_121 R15.S) (Nat.le_of_ble_eq_true rfl) rfl) hF (fun h19 σ37 R19 T19 hF => ?_)
  refine s_gI R19 (t_121 R19.S) (Nat.le_of_ble_eq_true rfl) rfl ?_
  refine s_pI R19 (t_121 R19.S) (Nat.le_of_ble_eq_true rfl) rfl rfl (R19.ri (t_121 R19.S) (Nat.le_of_ble_eq_true rfl) rfl) hF (fun h21 σ41 R21 T21 hF => ?_)
  refine s_gI R21 (t_121 R21.S) (Nat.le_of_ble_eq_true rfl) rfl ?_
  refine s_pI R21 (t_121 R21.S) (Nat.le_of_ble_eq_true rfl) rfl (c_add rfl (c_lit 1 1 rfl)) (rr_I _) hF (fun h23 σ45 R23 T23 hF => ?_)
  exact g_ret R23 hF ⟨rfl, (R21.ri (t_121 R21.S) (Nat.le_of_ble_eq_true rfl) rfl)⟩
def FX25_begin (s : fS) : Option (Unit × fS) :=
  (uPI s 121 6 0).bind fun σ1 =>
  (uPI σ1 121 7 (-1)).bind fun σ3 =>
  (FX25_add (-1) 0 2 0 (-1) σ3).bind fun q6 =>
  some ((), q6.2)
theorem SX25_begin {m b : Nat} {φ0 : Nat → Nat} {σo : fS} {q : Unit × fS} {φ : Nat → Nat} {h : eH} {s : fS} (R : fC m b φ0 σo φ h s) (hF : FX25_begin s = some q) : gG m b φ0 σo lU q (fX25_begin 121 h) := by
  unfold FX25_begin at hF
  unfold fX25_begin
  refine s_pI R (t_121 R.S) (Nat.le_of_ble_eq_true rfl) rfl (c_lit 0 0 rfl) ⟨by decide, by decide⟩ hF (fun h1 σ1 R1 T1 hF => ?_)
  refine s_pI R1 (t_121 R1.S) (Nat.le_of_ble_eq_true rfl) rfl (c_lit (-1) (-1) rfl) ⟨by decide, by decide⟩ hF (fun h2 σ3 R2 T2 hF => ?_)
  refine s_kok R2 (t_121 R2.S) (Nat.le_of_ble_eq_true rfl) ?_
  refine s_call R2 (Nat.zero_le _) (fun _ hq => SX25_add (b := 0) (R2.rf) (c_lit (-1) (-1) rfl) ⟨by decide, by decide⟩ (c_lit 0 0 rfl) ⟨by decide, by decide⟩ (c_lit 2 2 rfl) ⟨by decide, by decide⟩ (d_lit 0 0 rfl) ⟨by decide, by decide⟩ (c_lit (-1) (-1) rfl) ⟨by decide, by decide⟩ hq) hF (fun f4 rv4 h4 q6 R4 e4 E4 hF => ?_)
  exact g_ret R4 hF trivial
def FX24_clear_b2 (N : Nat) : Nat → Int → fS → Option (Unit × fS)
  | 0, _, _ => none
  | n + 1, l1, s =>
    if (s.n 129 : Int) ≤ l1 then
      some ((), s)
    else
      (uQI s 129 l1 (-1)).bind fun σ8 =>
      FX24_clear_b2 N n (iadd l1 1) σ8
theorem SX24_clear_b2 {m b : Nat} {φ0 : Nat → Nat} {σo : fS} {N : Nat} {q : Unit × fS} : ∀ {n : Nat} {φ : Nat → Nat} {h : eH} {s : fS} {l1' : Int32} {l1 : Int}, fC m b φ0 σo φ h s → l1' = iI l1 → r32 l1 → FX24_clear_b2 N n l1 s = some q → gG m b φ0 σo lU q (fX24_clear_b2 N n 120 l1' h) := by
  intro n
  induction n with
 | zero => intro φ h s l1' l1 R el1 rl1 hF; simp [FX24_clear_b2] at hF
  | succ n ih =>
    intro φ h s l1' l1 R el1 rl1 hF
    subst el1
    rw [FX24_clear_b2] at hF
    rw [fX24_clear_b2]
    refine s_gAs R (t_120 R.S) (Nat.le_of_ble_eq_true rfl) rfl (o_120_6 R.S) (a_129 R) ?_
    refine s_len R (by rw [(t_129 R.S)]; decide) (by rw [(t_129 R.S)]; decide) (a_129 R) ?_
    refine s_if (i_le rfl rfl (R.rn (by rw [(t_129 R.S)]; decide) (by rw [(t_129 R.S)]; decide)) rl1) hF (fun c3 hF => ?_) (fun c3 hF => ?_)
    ·
      exact g_ret R hF trivial
    ·
      refine s_gAs R (t_120 R.S) (Nat.le_of_ble_eq_true rfl) rfl (o_120_6 R.S) (a_129 R) ?_
      refine s_qI R (u_129 R.S).1 (u_129 R.S).2 (by decide) (a_129 R) rfl rl1 (c_lit (-1) (-1) rfl) ⟨by decide, by decide⟩ hF (fun h5 σ8 R5 T5 hF => ?_)
      exact ih R5 (c_add rfl (c_lit 1 1 rfl)) (rr_I _) hF
def FX24_clear (N : Nat) (s : fS) : Option (Unit × fS) :=
  FX24_clear_b2 N N 0 s
theorem SX24_clear {m b : Nat} {φ0 : Nat → Nat} {σo : fS} {N : Nat} {q : Unit × fS} {φ : Nat → Nat} {h : eH} {s : fS} (R : fC m b φ0 σo φ h s) (hF : FX24_clear N s = some q) : gG m b φ0 σo lU q (fX24_clear N 120 h) := by
  unfold FX24_clear at hF
  unfold fX24_clear
  exact SX24_clear_b2 (N := N) R (c_lit 0 0 rfl) ⟨by decide, by decide⟩ hF
def FX24_penaltyOf_b60 (s0 : Int) (s : fS) : Option (Int × fS) :=
  some (s0, s)
theorem SX24_penaltyOf_b60 {m b : Nat} {φ0 : Nat → Nat} {σo : fS} {q : Int × fS} {φ : Nat → Nat} {h : eH} {s : fS} {s0' : Int32} {s0 : Int} (R : fC m b φ0 σo φ h s) (es0 : s0' = iI s0) (rs0 : r32 s0) (hF : FX24_penaltyOf_b60 s0 s = some q) : gG m b φ0 σo lI q (fX24_penaltyOf_b60 s0' h) := by
  subst es0
  unfold FX24_penaltyOf_b60 at hF
  unfold fX24_penaltyOf_b60
  exact g_ret R hF ⟨rfl, rs0⟩
def FX24_penaltyOf_b55 (s1 : Int) (s : fS) : Option (Int × fS) :=
  (uRI s 117 s1).bind fun x1 =>
  FX24_penaltyOf_b60 x1 s
theorem SX24_penaltyOf_b55 {m b : Nat} {φ0 : Nat → Nat} {σo : fS} {q : Int × fS} {φ : Nat → Nat} {h : eH} {s : fS} {s1' : Int32} {s1 : Int} (R : fC m b φ0 σo φ h s) (es1 : s1' = iI s1) (rs1 : r32 s1) (hF : FX24_penaltyOf_b55 s1 s = some q) : gG m b φ0 σo lI q (fX24_penaltyOf_b55 117 s1' h) := by
  subst es1
  unfold FX24_penaltyOf_b55 at hF
  unfold fX24_penaltyOf_b55
  refine s_rI R (u_117 R.S).1 (u_117 R.S).2 (by decide) (a_117 R) rfl rs1 hF (fun x1 ra1 hF => ?_)
  exact SX24_penaltyOf_b60 R rfl ra1 hF
def FX24_penaltyOf (p0 : Int) (s : fS) : Option (Int × fS) :=
  (uRI s 105 p0).bind fun x5 =>
  if ¬ (x5 = 4) then
    if ¬ (x5 = 5) then
      FX24_penaltyOf_b60 0 s
    else
      (uRI s 106 p0).bind fun x15 =>
      if ¬ (x15 = (-2147483648)) then
        FX24_penaltyOf_b55 3 s
      else
        FX24_penaltyOf_b55 4 s
  else
    (uRI s 106 p0).bind fun x22 =>
    FX24_penaltyOf_b60 x22 s
theorem SX24_penaltyOf {m b : Nat} {φ0 : Nat → Nat} {σo : fS} {q : Int × fS} {φ : Nat → Nat} {h : eH} {s : fS} {p0' : Int32} {p0 : Int} (R : fC m b φ0 σo φ h s) (ep0 : p0' = iI p0) (rp0 : r32 p0) (hF : FX24_penaltyOf p0 s = some q) : gG m b φ0 σo lI q (fX24_penaltyOf 120 p0' h) := by
  subst ep0
  unfold FX24_penaltyOf at hF
  unfold fX24_penaltyOf
  refine s_gO R (t_120 R.S) (Nat.le_of_ble_eq_true rfl) rfl (o_120_0 R.S) ?_
  refine s_gAs R (t_104 R.S) (Nat.le_of_ble_eq_true rfl) rfl (o_104_0 R.S) (a_105 R) ?_
  refine s_rI R (u_105 R.S).1 (u_105 R.S).2 (by decide) (a_105 R) rfl rp0 hF (fun x5 ra3 hF => ?_)
  refine s_if (not_congr (i_eq rfl (c_lit 4 4 rfl) ra3 ⟨by decide, by decide⟩)) hF (fun c4 hF => ?_) (fun c4 hF => ?_)
  ·
    refine s_if (not_congr (i_eq rfl (c_lit 5 5 rfl) ra3 ⟨by decide, by decide⟩)) hF (fun c5 hF => ?_) (fun c5 hF => ?_)
    ·
      exact SX24_penaltyOf_b60 R (c_lit 0 0 rfl) ⟨by decide, by decide⟩ hF
    ·
      refine s_gAs R (t_120 R.S) (Nat.le_of_ble_eq_true rfl) rfl (o_120_2 R.S) (a_117 R) ?_
      refine s_gO R (t_120 R.S) (Nat.le_of_ble_eq_true rfl) rfl (o_120_0 R.S) ?_
      refine s_gAs R (t_104 R.S) (Nat.le_of_ble_eq_true rfl) rfl (o_104_1 R.S) (a_106 R) ?_
      refine s_rI R (u_106 R.S).1 (u_106 R.S).2 (by decide) (a_106 R) rfl rp0 hF (fun x15 ra9 hF => ?_)
      refine s_if (not_congr (i_eq rfl (c_lit (-2147483648) (-2147483648) rfl) ra9 ⟨by decide, by decide⟩)) hF (fun c10 hF => ?_) (fun c10 hF => ?_)
      ·
        exact SX24_penaltyOf_b55 R (c_lit 3 3 rfl) ⟨by decide, by decide⟩ hF
      ·
        exact SX24_penaltyOf_b55 R (c_lit 4 4 rfl) ⟨by decide, by decide⟩ hF
  ·
    refine s_gO R (t_120 R.S) (Nat.le_of_ble_eq_true rfl) rfl (o_120_0 R.S) ?_
    refine s_gAs R (t_104 R.S) (Nat.le_of_ble_eq_true rfl) rfl (o_104_1 R.S) (a_106 R) ?_
    refine s_rI R (u_106 R.S).1 (u_106 R.S).2 (by decide) (a_106 R) rfl rp0 hF (fun x22 ra13 hF => ?_)
    exact SX24_penaltyOf_b60 R rfl ra13 hF
def FX24_before_b26 (N : Nat) (l2 : Int) (s : fS) : Option (Int × fS) :=
  some (l2, s)
theorem SX24_before_b26 {m b : Nat} {φ0 : Nat → Nat} {σo : fS} {N : Nat} {q : Int × fS} {φ : Nat → Nat} {h : eH} {s : fS} {l2' : Int32} {l2 : Int} (R : fC m b φ0 σo φ h s) (el2 : l2' = iI l2) (rl2 : r32 l2) (hF : FX24_before_b26 N l2 s = some q) : gG m b φ0 σo lI q (fX24_before_b26 N l2' h) := by
  subst el2
  unfold FX24_before_b26 at hF
  unfold fX24_before_b26
  exact g_ret R hF ⟨rfl, rl2⟩
def FX24_before_b4 (N : Nat) : Nat → Int → fS → Option (Int × fS)
  | 0, _, _ => none
  | n + 1, l2, s =>
    if l2 < 0 then
      FX24_before_b26 N l2 s
    else
      (uRI s 114 l2).bind fun x6 =>
      if x6 = 0 then
        FX24_before_b26 N l2 s
      else
        FX24_before_b4 N n (iadd l2 (-1)) s
theorem SX24_before_b4 {m b : Nat} {φ0 : Nat → Nat} {σo : fS} {N : Nat} {q : Int × fS} : ∀ {n : Nat} {φ : Nat → Nat} {h : eH} {s : fS} {l2' : Int32} {l2 : Int}, fC m b φ0 σo φ h s → l2' = iI l2 → r32 l2 → FX24_before_b4 N n l2 s = some q → gG m b φ0 σo lI q (fX24_before_b4 N n 120 l2' h) := by
  intro n
  induction n with
 | zero => intro φ h s l2' l2 R el2 rl2 hF; simp [FX24_before_b4] at hF
  | succ n ih =>
    intro φ h s l2' l2 R el2 rl2 hF
    subst el2
    rw [FX24_before_b4] at hF
    rw [fX24_before_b4]
    refine s_if (i_lt rfl (c_lit 0 0 rfl) rl2 ⟨by decide, by decide⟩) hF (fun c1 hF => ?_) (fun c1 hF => ?_)
    ·
      exact SX24_before_b26 (N := N) R rfl rl2 hF
    ·
      refine s_gO R (t_120 R.S) (Nat.le_of_ble_eq_true rfl) rfl (o_120_1 R.S) ?_
      refine s_gAs R (t_110 R.S) (Nat.le_of_ble_eq_true rfl) rfl (o_110_3 R.S) (a_114 R) ?_
      refine s_rI R (u_114 R.S).1 (u_114 R.S).2 (by decide) (a_114 R) rfl rl2 hF (fun x6 ra4 hF => ?_)
      refine s_if (i_eq rfl (c_lit 0 0 rfl) ra4 ⟨by decide, by decide⟩) hF (fun c5 hF => ?_) (fun c5 hF => ?_)
      ·
        exact SX24_before_b26 (N := N) R rfl rl2 hF
      ·
        exact ih R (c_add rfl (c_lit (-1) (-1) rfl)) (rr_I _) hF
def FX24_before (N : Nat) (p0 : Int) (s : fS) : Option (Int × fS) :=
  FX24_before_b4 N N (isub p0 1) s
theorem SX24_before {m b : Nat} {φ0 : Nat → Nat} {σo : fS} {N : Nat} {q : Int × fS} {φ : Nat → Nat} {h : eH} {s : fS} {p0' : Int32} {p0 : Int} (R : fC m b φ0 σo φ h s) (ep0 : p0' = iI p0) (rp0 : r32 p0) (hF : FX24_before N p0 s = some q) : gG m b φ0 σo lI q (fX24_before N 120 p0' h) := by
  subst ep0
  unfold FX24_before at hF
  unfold fX24_before
  exact SX24_before_b4 (N := N) R (c_sub rfl (c_lit 1 1 rfl)) (rr_I _) hF
def FX24_isPlace_b23 (N : Nat) (s : fS) : Option (Int × fS) :=
  some (0, s)
theorem SX24_isPlace_b23 {m b : Nat} {φ0 : Nat → Nat} {σo : fS} {N : Nat} {q : Int × fS} {φ : Nat → Nat} {h : eH} {s : fS} (R : fC m b φ0 σo φ h s) (hF : FX24_isPlace_b23 N s = some q) : gG m b φ0 σo lI q (fX24_isPlace_b23 N h) := by
  unfold FX24_isPlace_b23 at hF
  unfold fX24_isPlace_b23
  exact g_ret R hF ⟨(c_lit 0 0 rfl), ⟨by decide, by decide⟩⟩
def FX24_isPlace_b121 (N : Nat) (s0 : Int) (s : fS) : Option (Int × fS) :=
  uZ s0 (s0, s)
theorem SX24_isPlace_b121 {m b : Nat} {φ0 : Nat → Nat} {σo : fS} {N : Nat} {q : Int × fS} {φ : Nat → Nat} {h : eH} {s : fS} {s0' : Int32} {s0 : Int} (R : fC m b φ0 σo φ h s) (es0 : s0' = iI s0) (rs0 : r32 s0) (hF : FX24_isPlace_b121 N s0 s = some q) : gG m b φ0 σo lI q (fX24_isPlace_b121 N s0' h) := by
  subst es0
  unfold FX24_isPlace_b121 at hF
  unfold fX24_isPlace_b121
  exact g_z R rfl hF ⟨rfl, rs0⟩
def FX24_isPlace_b116 (N : Nat) (s : fS) : Option (Int × fS) :=
  FX24_isPlace_b121 N 1 s
theorem SX24_isPlace_b116 {m b : Nat} {φ0 : Nat → Nat} {σo : fS} {N : Nat} {q : Int × fS} {φ : Nat → Nat} {h : eH} {s : fS} (R : fC m b φ0 σo φ h s) (hF : FX24_isPlace_b116 N s = some q) : gG m b φ0 σo lI q (fX24_isPlace_b116 N h) := by
  unfold FX24_isPlace_b116 at hF
  unfold fX24_isPlace_b116
  exact SX24_isPlace_b121 (N := N) R (c_lit 1 1 rfl) ⟨by decide, by decide⟩ hF
def FX24_isPlace_b120 (N : Nat) (s : fS) : Option (Int × fS) :=
  FX24_isPlace_b121 N 0 s
theorem SX24_isPlace_b120 {m b : Nat} {φ0 : Nat → Nat} {σo : fS} {N : Nat} {q : Int × fS} {φ : Nat → Nat} {h : eH} {s : fS} (R : fC m b φ0 σo φ h s) (hF : FX24_isPlace_b120 N s = some q) : gG m b φ0 σo lI q (fX24_isPlace_b120 N h) := by
  unfold FX24_isPlace_b120 at hF
  unfold fX24_isPlace_b120
  exact SX24_isPlace_b121 (N := N) R (c_lit 0 0 rfl) ⟨by decide, by decide⟩ hF
def FX24_isPlace_b155 (N : Nat) (s0 : Int) (s : fS) : Option (Int × fS) :=
  uZ s0 (s0, s)
theorem SX24_isPlace_b155 {m b : Nat} {φ0 : Nat → Nat} {σo : fS} {N : Nat} {q : Int × fS} {φ : Nat → Nat} {h : eH} {s : fS} {s0' : Int32} {s0 : Int} (R : fC m b φ0 σo φ h s) (es0 : s0' = iI s0) (rs0 : r32 s0) (hF : FX24_isPlace_b155 N s0 s = some q) : gG m b φ0 σo lI q (fX24_isPlace_b155 N s0' h) := by
  subst es0
  unfold FX24_isPlace_b155 at hF
  unfold fX24_isPlace_b155
  exact g_z R rfl hF ⟨rfl, rs0⟩
def FX24_isPlace_b154 (N : Nat) (s : fS) : Option (Int × fS) :=
  FX24_isPlace_b155 N 0 s
theorem SX24_isPlace_b154 {m b : Nat} {φ0 : Nat → Nat} {σo : fS} {N : Nat} {q : Int × fS} {φ : Nat → Nat} {h : eH} {s : fS} (R : fC m b φ0 σo φ h s) (hF : FX24_isPlace_b154 N s = some q) : gG m b φ0 σo lI q (fX24_isPlace_b154 N h) := by
  unfold FX24_isPlace_b154 at hF
  unfold fX24_isPlace_b154
  exact SX24_isPlace_b155 (N := N) R (c_lit 0 0 rfl) ⟨by decide, by decide⟩ hF
def FX24_isPlace (N : Nat) (p0 : Int) (s : fS) : Option (Int × fS) :=
  (uRI s 114 p0).bind fun x5 =>
  if ¬ (x5 = 0) then
    FX24_isPlace_b23 N s
  else
    (FX24_penaltyOf p0 s).bind fun q9 =>
    if ¬ (q9.1 = 10000) then
      (uRI q9.2 105 p0).bind fun x15 =>
      if x15 = 1 then
        (FX24_before N p0 q9.2).bind fun q19 =>
        if q19.1 < 0 then
          FX24_isPlace_b120 N q19.2
        else
          (uRI q19.2 105 q19.1).bind fun x25 =>
          if x25 = 0 then
            FX24_isPlace_b116 N q19.2
          else
            (uRI q19.2 105 q19.1).bind fun x32 =>
            if x32 = 5 then
              FX24_isPlace_b116 N q19.2
            else
              (uRI q19.2 105 q19.1).bind fun x39 =>
              if ¬ (x39 = 2) then
                FX24_isPlace_b120 N q19.2
              else
                FX24_isPlace_b116 N q19.2
      else
        if x15 = 2 then
          some (0, q9.2)
        else
          if x15 = 3 then
            if (q9.2.i 104 5) ≤ (iadd p0 1) then
              FX24_isPlace_b154 N q9.2
            else
              (uRI q9.2 105 (iadd p0 1)).bind fun x53 =>
              if ¬ (x53 = 1) then
                FX24_isPlace_b154 N q9.2
              else
                FX24_isPlace_b155 N 1 q9.2
          else
            if x15 = 4 then
              some (1, q9.2)
            else
              if x15 = 5 then
                uZ (q9.2.i 120 8) ((q9.2.i 120 8), q9.2)
              else
                some (0, q9.2)
    else
      FX24_isPlace_b23 N q9.2
theorem SX24_isPlace {m b : Nat} {φ0 : Nat → Nat} {σo : fS} {N : Nat} {q : Int × fS} {φ : Nat → Nat} {h : eH} {s : fS} {p0' : Int32} {p0 : Int} (R : fC m b φ0 σo φ h s) (ep0 : p0' = iI p0) (rp0 : r32 p0) (hF : FX24_isPlace N p0 s = some q) : gG m b φ0 σo lI q (fX24_isPlace N 120 p0' h) := by
  subst ep0
  unfold FX24_isPlace at hF
  unfold fX24_isPlace
  refine s_gO R (t_120 R.S) (Nat.le_of_ble_eq_true rfl) rfl (o_120_1 R.S) ?_
  refine s_gAs R (t_110 R.S) (Nat.le_of_ble_eq_true rfl) rfl (o_110_3 R.S) (a_114 R) ?_
  refine s_rI R (u_114 R.S).1 (u_114 R.S).2 (by decide) (a_114 R) rfl rp0 hF (fun x5 ra3 hF => ?_)
  refine s_if (not_congr (i_eq rfl (c_lit 0 0 rfl) ra3 ⟨by decide, by decide⟩)) hF (fun c4 hF => ?_) (fun c4 hF => ?_)
  ·
    exact SX24_isPlace_b23 (N := N) R hF
  ·
    refine s_kok R (t_120 R.S) (Nat.le_of_ble_eq_true rfl) ?_
    refine s_call R (Nat.zero_le _) (fun _ hq => SX24_penaltyOf (b := 0) (R.rf) rfl rp0 hq) hF (fun f6 rv6 h6 q9 R6 e6 E6 hF => ?_)
    refine s_if (not_congr (i_eq e6.1 (c_lit 10000 10000 rfl) e6.2 ⟨by decide, by decide⟩)) hF (fun c7 hF => ?_) (fun c7 hF => ?_)
    ·
      refine s_gO R6 (t_120 R6.S) (Nat.le_of_ble_eq_true rfl) rfl (o_120_0 R6.S) ?_
      refine s_gAs R6 (t_104 R6.S) (Nat.le_of_ble_eq_true rfl) rfl (o_104_0 R6.S) (a_105 R6) ?_
      refine s_rI R6 (u_105 R6.S).1 (u_105 R6.S).2 (by decide) (a_105 R6) rfl rp0 hF (fun x15 ra10 hF => ?_)
      refine s_if (i_eq rfl (c_lit 1 1 rfl) ra10 ⟨by decide, by decide⟩) hF (fun c11 hF => ?_) (fun c11 hF => ?_)
      ·
        refine s_kok R6 (t_120 R6.S) (Nat.le_of_ble_eq_true rfl) ?_
        refine s_call R6 (Nat.zero_le _) (fun _ hq => SX24_before (b := 0) (N := N) (R6.rf) rfl rp0 hq) hF (fun f13 rv13 h13 q19 R13 e13 E13 hF => ?_)
        refine s_if (i_lt e13.1 (c_lit 0 0 rfl) e13.2 ⟨by decide, by decide⟩) hF (fun c14 hF => ?_) (fun c14 hF => ?_)
        ·
          exact SX24_isPlace_b120 (N := N) R13 hF
        ·
          refine s_gO R13 (t_120 R13.S) (Nat.le_of_ble_eq_true rfl) rfl (o_120_0 R13.S) ?_
          refine s_gAs R13 (t_104 R13.S) (Nat.le_of_ble_eq_true rfl) rfl (o_104_0 R13.S) (a_105 R13) ?_
          refine s_rI R13 (u_105 R13.S).1 (u_105 R13.S).2 (by decide) (a_105 R13) e13.1 e13.2 hF (fun x25 ra17 hF => ?_)
          refine s_if (i_eq rfl (c_lit 0 0 rfl) ra17 ⟨by decide, by decide⟩) hF (fun c18 hF => ?_) (fun c18 hF => ?_)
          ·
            exact SX24_isPlace_b116 (N := N) R13 hF
          ·
            refine s_gO R13 (t_120 R13.S) (Nat.le_of_ble_eq_true rfl) rfl (o_120_0 R13.S) ?_
            refine s_gAs R13 (t_104 R13.S) (Nat.le_of_ble_eq_true rfl) rfl (o_104_0 R13.S) (a_105 R13) ?_
            refine s_rI R13 (u_105 R13.S).1 (u_105 R13.S).2 (by decide) (a_105 R13) e13.1 e13.2 hF (fun x32 ra21 hF => ?_)
            refine s_if (i_eq rfl (c_lit 5 5 rfl) ra21 ⟨by decide, by decide⟩) hF (fun c22 hF => ?_) (fun c22 hF => ?_)
            ·
              exact SX24_isPlace_b116 (N := N) R13 hF
            ·
              refine s_gO R13 (t_120 R13.S) (Nat.le_of_ble_eq_true rfl) rfl (o_120_0 R13.S) ?_
              refine s_gAs R13 (t_104 R13.S) (Nat.le_of_ble_eq_true rfl) rfl (o_104_0 R13.S) (a_105 R13) ?_
              refine s_rI R13 (u_105 R13.S).1 (u_105 R13.S).2 (by decide) (a_105 R13) e13.1 e13.2 hF (fun x39 ra25 hF => ?_)
              refine s_if (not_congr (i_eq rfl (c_lit 2 2 rfl) ra25 ⟨by decide, by decide⟩)) hF (fun c26 hF => ?_) (fun c26 hF => ?_)
              ·
                exact SX24_isPlace_b120 (N := N) R13 hF
              ·
                exact SX24_isPlace_b116 (N := N) R13 hF
      ·
        refine s_if (i_eq rfl (c_lit 2 2 rfl) ra10 ⟨by decide, by decide⟩) hF (fun c27 hF => ?_) (fun c27 hF => ?_)
        ·
          exact g_ret R6 hF ⟨(c_lit 0 0 rfl), ⟨by decide, by decide⟩⟩
        ·
          refine s_if (i_eq rfl (c_lit 3 3 rfl) ra10 ⟨by decide, by decide⟩) hF (fun c28 hF => ?_) (fun c28 hF => ?_)
          ·
            refine s_gO R6 (t_120 R6.S) (Nat.le_of_ble_eq_true rfl) rfl (o_120_0 R6.S) ?_
            refine s_gI R6 (t_104 R6.S) (Nat.le_of_ble_eq_true rfl) rfl ?_
            refine s_if (i_le rfl (c_add rfl (c_lit 1 1 rfl)) (R6.ri (t_104 R6.S) (Nat.le_of_ble_eq_true rfl) rfl) (rr_I _)) hF (fun c31 hF => ?_) (fun c31 hF => ?_)
            ·
              exact SX24_isPlace_b154 (N := N) R6 hF
            ·
              refine s_gO R6 (t_120 R6.S) (Nat.le_of_ble_eq_true rfl) rfl (o_120_0 R6.S) ?_
              refine s_gAs R6 (t_104 R6.S) (Nat.le_of_ble_eq_true rfl) rfl (o_104_0 R6.S) (a_105 R6) ?_
              refine s_rI R6 (u_105 R6.S).1 (u_105 R6.S).2 (by decide) (a_105 R6) (c_add rfl (c_lit 1 1 rfl)) (rr_I _) hF (fun x53 ra34 hF => ?_)
              refine s_if (not_congr (i_eq rfl (c_lit 1 1 rfl) ra34 ⟨by decide, by decide⟩)) hF (fun c35 hF => ?_) (fun c35 hF => ?_)
              ·
                exact SX24_isPlace_b154 (N := N) R6 hF
              ·
                exact SX24_isPlace_b155 (N := N) R6 (c_lit 1 1 rfl) ⟨by decide, by decide⟩ hF
          ·
            refine s_if (i_eq rfl (c_lit 4 4 rfl) ra10 ⟨by decide, by decide⟩) hF (fun c36 hF => ?_) (fun c36 hF => ?_)
            ·
              exact g_ret R6 hF ⟨(c_lit 1 1 rfl), ⟨by decide, by decide⟩⟩
            ·
              refine s_if (i_eq rfl (c_lit 5 5 rfl) ra10 ⟨by decide, by decide⟩) hF (fun c37 hF => ?_) (fun c37 hF => ?_)
              ·
                refine s_gI R6 (t_120 R6.S) (Nat.le_of_ble_eq_true rfl) rfl ?_
                exact g_z R6 rfl hF ⟨rfl, (R6.ri (t_120 R6.S) (Nat.le_of_ble_eq_true rfl) rfl)⟩
              ·
                exact g_ret R6 hF ⟨(c_lit 0 0 rfl), ⟨by decide, by decide⟩⟩
    ·
      exact SX24_isPlace_b23 (N := N) R6 hF
def FX23_stretched (p0 : Int) (p1 : Int) (p2 : Int) (s : fS) : Option (Int × fS) :=
  (uRJ s 116 p0).bind fun x3 =>
  (uRJ s 113 (iadd (imul 4 p2) p0)).bind fun x7 =>
  (uRJ s 113 (iadd (imul 4 p1) p0)).bind fun x11 =>
  some ((lsub (ladd x3 x7) x11), s)
theorem SX23_stretched {m b : Nat} {φ0 : Nat → Nat} {σo : fS} {q : Int × fS} {φ : Nat → Nat} {h : eH} {s : fS} {p0' : Int32} {p0 : Int} {p1' : Int32} {p1 : Int} {p2' : Int32} {p2 : Int} (R : fC m b φ0 σo φ h s) (ep0 : p0' = iI p0) (rp0 : r32 p0) (ep1 : p1' = iI p1) (rp1 : r32 p1) (ep2 : p2' = iI p2) (rp2 : r32 p2) (hF : FX23_stretched p0 p1 p2 s = some q) : gG m b φ0 σo lJ q (fX23_stretched 110 p0' p1' p2' h) := by
  subst ep0; subst ep1; subst ep2
  unfold FX23_stretched at hF
  unfold fX23_stretched
  refine s_gAs R (t_110 R.S) (Nat.le_of_ble_eq_true rfl) rfl (o_110_5 R.S) (a_116 R) ?_
  refine s_rJ R (u_116 R.S).1 (u_116 R.S).2 (a_116 R) rfl rp0 hF (fun x3 ra2 hF => ?_)
  refine s_gAs R (t_110 R.S) (Nat.le_of_ble_eq_true rfl) rfl (o_110_2 R.S) (a_113 R) ?_
  refine s_rJ R (u_113 R.S).1 (u_113 R.S).2 (a_113 R) (c_add (c_mul (c_lit 4 4 rfl) rfl) rfl) (rr_I _) hF (fun x7 ra4 hF => ?_)
  refine s_gAs R (t_110 R.S) (Nat.le_of_ble_eq_true rfl) rfl (o_110_2 R.S) (a_113 R) ?_
  refine s_rJ R (u_113 R.S).1 (u_113 R.S).2 (a_113 R) (c_add (c_mul (c_lit 4 4 rfl) rfl) rfl) (rr_I _) hF (fun x11 ra6 hF => ?_)
  exact g_ret R hF ⟨(d_sub (d_add rfl rfl) rfl), (rr_J _)⟩
def FX23_measure_b188 (N : Nat) (K157 : Int → Int → Int → fS → Option (Unit × fS)) (l4 : Int) (l5 : Int) (l6 : Int) (s1 : Int) (s2 : Int) (s : fS) : Option (Unit × fS) :=
  (uPZ s 110 11 (ior s1 s2)).bind fun σ1 =>
  K157 l4 l5 (iadd l6 1) σ1
theorem SX23_measure_b188 {m b : Nat} {φ0 : Nat → Nat} {σo : fS} {N : Nat} {k157 : Nat → Int32 → Int32 → Int32 → eH → Option (Unit × eH)} {K157 : Int → Int → Int → fS → Option (Unit × fS)} {q : Unit × fS} (hk157 : ∀ {φ : Nat → Nat} {h : eH} {s : fS} {l4' : Int32} {l4 : Int} {l5' : Int32} {l5 : Int} {l6' : Int32} {l6 : Int}, fC m b φ0 σo φ h s → l4' = iI l4 → r32 l4 → l5' = iI l5 → r32 l5 → l6' = iI l6 → r32 l6 → K157 l4 l5 l6 s = some q → gG m b φ0 σo lU q (k157 110 l4' l5' l6' h)) {φ : Nat → Nat} {h : eH} {s : fS} {l4' : Int32} {l4 : Int} {l5' : Int32} {l5 : Int} {l6' : Int32} {l6 : Int} {s1' : Int32} {s1 : Int} {s2' : Int32} {s2 : Int} (R : fC m b φ0 σo φ h s) (el4 : l4' = iI l4) (rl4 : r32 l4) (el5 : l5' = iI l5) (rl5 : r32 l5) (el6 : l6' = iI l6) (rl6 : r32 l6) (es1 : s1' = iI s1) (rs1 : r32 s1) (es2 : s2' = iI s2) (rs2 : r32 s2) (hF : FX23_measure_b188 N K157 l4 l5 l6 s1 s2 s = some q) : gG m b φ0 σo lU q (fX23_measure_b188 N k157 110 l4' l5' l6' 110 s1' s2' h) := by
  subst el4; subst el5; subst el6; subst es1; subst es2
  unfold FX23_measure_b188 at hF
  unfold fX23_measure_b188
  refine s_pZ R (t_110 R.S) (Nat.le_of_ble_eq_true rfl) rfl (c_or rfl rfl) (rr_I _) hF (fun h1 σ1 R1 T1 hF => ?_)
  exact hk157 R1 rfl rl4 rfl rl5 (c_add rfl (c_lit 1 1 rfl)) (rr_I _) hF
def FX23_measure_b157 (N : Nat) : Nat → Int → Int → Int → fS → Option (Unit × fS)
  | 0, _, _, _, _ => none
  | n + 1, l4, l5, l6, s =>
    if 4 ≤ l6 then
      some ((), s)
    else
      (FX23_stretched l6 l4 l5 s).bind fun q5 =>
      if q5.1 ≤ 0 then
        FX23_measure_b188 N (FX23_measure_b157 N n) l4 l5 l6 (s.i 110 11) 0 q5.2
      else
        FX23_measure_b188 N (FX23_measure_b157 N n) l4 l5 l6 (s.i 110 11) 1 q5.2
theorem SX23_measure_b157 {m b : Nat} {φ0 : Nat → Nat} {σo : fS} {N : Nat} {q : Unit × fS} : ∀ {n : Nat} {φ : Nat → Nat} {h : eH} {s : fS} {l4' : Int32} {l4 : Int} {l5' : Int32} {l5 : Int} {l6' : Int32} {l6 : Int}, fC m b φ0 σo φ h s → l4' = iI l4 → r32 l4 → l5' = iI l5 → r32 l5 → l6' = iI l6 → r32 l6 → FX23_measure_b157 N n l4 l5 l6 s = some q → gG m b φ0 σo lU q (fX23_measure_b157 N n 110 l4' l5' l6' h) := by
  intro n
  induction n with
 | zero => intro φ h s l4' l4 l5' l5 l6' l6 R el4 rl4 el5 rl5 el6 rl6 hF; simp [FX23_measure_b157] at hF
  | succ n ih =>
    intro φ h s l4' l4 l5' l5 l6' l6 R el4 rl4 el5 rl5 el6 rl6 hF
    subst el4; subst el5; subst el6
    rw [FX23_measure_b157] at hF
    rw [fX23_measure_b157]
    refine s_if (i_le (c_lit 4 4 rfl) rfl ⟨by decide, by decide⟩ rl6) hF (fun c1 hF => ?_) (fun c1 hF => ?_)
    ·
      exact g_ret R hF trivial
    ·
      refine s_gI R (t_110 R.S) (Nat.le_of_ble_eq_true rfl) rfl ?_
      refine s_kok R (t_110 R.S) (Nat.le_of_ble_eq_true rfl) ?_
      refine s_call R (Nat.zero_le _) (fun _ hq => SX23_stretched (b := 0) (R.rf) rfl rl6 rfl rl4 rfl rl5 hq) hF (fun f4 rv4 h4 q5 R4 e4 E4 hF => ?_)
      refine s_if (lg_le.trans (j_le e4.1 (d_lit 0 0 rfl) e4.2 ⟨by decide, by decide⟩)) hF (fun c5 hF => ?_) (fun c5 hF => ?_)
      ·
        exact SX23_measure_b188 (N := N) (k157 := fX23_measure_b157 N n) (K157 := FX23_measure_b157 N n) @ih R4 rfl rl4 rfl rl5 rfl rl6 rfl (R.ri (t_110 R.S) (Nat.le_of_ble_eq_true rfl) rfl) (c_lit 0 0 rfl) ⟨by decide, by decide⟩ hF
      ·
        exact SX23_measure_b188 (N := N) (k157 := fX23_measure_b157 N n) (K157 := FX23_measure_b157 N n) @ih R4 rfl rl4 rfl rl5 rfl rl6 rfl (R.ri (t_110 R.S) (Nat.le_of_ble_eq_true rfl) rfl) (c_lit 1 1 rfl) ⟨by decide, by decide⟩ hF
def FX23_measure_b112 (N : Nat) (l4 : Int) (l5 : Int) (s : fS) : Option (Unit × fS) :=
  (uRJ s 112 l5).bind fun x5 =>
  (uRJ s 112 l4).bind fun x9 =>
  (uPJ s 110 9 (lsub (ladd (s.j 110 7) x5) x9)).bind fun σ11 =>
  (FX23_stretched 0 l4 l5 σ11).bind fun q14 =>
  (uPJ q14.2 110 10 q14.1).bind fun σ15 =>
  (uPZ σ15 110 11 0).bind fun σ17 =>
  FX23_measure_b157 N N l4 l5 1 σ17
theorem SX23_measure_b112 {m b : Nat} {φ0 : Nat → Nat} {σo : fS} {N : Nat} {q : Unit × fS} {φ : Nat → Nat} {h : eH} {s : fS} {l4' : Int32} {l4 : Int} {l5' : Int32} {l5 : Int} (R : fC m b φ0 σo φ h s) (el4 : l4' = iI l4) (rl4 : r32 l4) (el5 : l5' = iI l5) (rl5 : r32 l5) (hF : FX23_measure_b112 N l4 l5 s = some q) : gG m b φ0 σo lU q (fX23_measure_b112 N 110 l4' l5' h) := by
  subst el4; subst el5
  unfold FX23_measure_b112 at hF
  unfold fX23_measure_b112
  refine s_gJ R (t_110 R.S) (Nat.le_of_ble_eq_true rfl) rfl ?_
  refine s_gAs R (t_110 R.S) (Nat.le_of_ble_eq_true rfl) rfl (o_110_1 R.S) (a_112 R) ?_
  refine s_rJ R (u_112 R.S).1 (u_112 R.S).2 (a_112 R) rfl rl5 hF (fun x5 ra3 hF => ?_)
  refine s_gAs R (t_110 R.S) (Nat.le_of_ble_eq_true rfl) rfl (o_110_1 R.S) (a_112 R) ?_
  refine s_rJ R (u_112 R.S).1 (u_112 R.S).2 (a_112 R) rfl rl4 hF (fun x9 ra5 hF => ?_)
  refine s_pJ R (t_110 R.S) (Nat.le_of_ble_eq_true rfl) rfl (d_sub (d_add rfl rfl) rfl) (rr_J _) hF (fun h6 σ11 R6 T6 hF => ?_)
  refine s_kok R6 (t_110 R6.S) (Nat.le_of_ble_eq_true rfl) ?_
  refine s_call R6 (Nat.zero_le _) (fun _ hq => SX23_stretched (b := 0) (R6.rf) (c_lit 0 0 rfl) ⟨by decide, by decide⟩ rfl rl4 rfl rl5 hq) hF (fun f8 rv8 h8 q14 R8 e8 E8 hF => ?_)
  refine s_pJ R8 (t_110 R8.S) (Nat.le_of_ble_eq_true rfl) rfl e8.1 e8.2 hF (fun h9 σ15 R9 T9 hF => ?_)
  refine s_pZ R9 (t_110 R9.S) (Nat.le_of_ble_eq_true rfl) rfl (c_lit 0 0 rfl) ⟨by decide, by decide⟩ hF (fun h10 σ17 R10 T10 hF => ?_)
  exact SX23_measure_b157 (N := N) R10 rfl rl4 rfl rl5 (c_lit 1 1 rfl) ⟨by decide, by decide⟩ hF
def FX23_measure_b83 (N : Nat) (l3 : Int) (l4 : Int) (l5 : Int) (s : fS) : Option (Unit × fS) :=
  (uRI s 105 l3).bind fun x3 =>
  if ¬ (x3 = 5) then
    FX23_measure_b112 N l4 l5 s
  else
    (uRI s 106 l3).bind fun x10 =>
    (FX1_solid x10 s).bind fun q12 =>
    (uPJ q12.2 110 8 (ladd (s.j 110 8) q12.1)).bind fun σ13 =>
    FX23_measure_b112 N l4 l5 σ13
theorem SX23_measure_b83 {m b : Nat} {φ0 : Nat → Nat} {σo : fS} {N : Nat} {q : Unit × fS} {φ : Nat → Nat} {h : eH} {s : fS} {l3' : Int32} {l3 : Int} {l4' : Int32} {l4 : Int} {l5' : Int32} {l5 : Int} (R : fC m b φ0 σo φ h s) (el3 : l3' = iI l3) (rl3 : r32 l3) (el4 : l4' = iI l4) (rl4 : r32 l4) (el5 : l5' = iI l5) (rl5 : r32 l5) (hF : FX23_measure_b83 N l3 l4 l5 s = some q) : gG m b φ0 σo lU q (fX23_measure_b83 N 110 104 l3' l4' l5' h) := by
  subst el3; subst el4; subst el5
  unfold FX23_measure_b83 at hF
  unfold fX23_measure_b83
  refine s_gAs R (t_104 R.S) (Nat.le_of_ble_eq_true rfl) rfl (o_104_0 R.S) (a_105 R) ?_
  refine s_rI R (u_105 R.S).1 (u_105 R.S).2 (by decide) (a_105 R) rfl rl3 hF (fun x3 ra2 hF => ?_)
  refine s_if (not_congr (i_eq rfl (c_lit 5 5 rfl) ra2 ⟨by decide, by decide⟩)) hF (fun c3 hF => ?_) (fun c3 hF => ?_)
  ·
    exact SX23_measure_b112 (N := N) R rfl rl4 rfl rl5 hF
  ·
    refine s_gJ R (t_110 R.S) (Nat.le_of_ble_eq_true rfl) rfl ?_
    refine s_gAs R (t_104 R.S) (Nat.le_of_ble_eq_true rfl) rfl (o_104_1 R.S) (a_106 R) ?_
    refine s_rI R (u_106 R.S).1 (u_106 R.S).2 (by decide) (a_106 R) rfl rl3 hF (fun x10 ra6 hF => ?_)
    refine s_call R (Nat.zero_le _) (fun _ hq => SX1_solid (b := 0) (R.rf) rfl ra6 hq) hF (fun f7 rv7 h7 q12 R7 e7 E7 hF => ?_)
    refine s_pJ R7 (t_110 R7.S) (Nat.le_of_ble_eq_true rfl) rfl (d_add rfl (c_2l e7.1 e7.2)) (rr_J _) hF (fun h8 σ13 R8 T8 hF => ?_)
    exact SX23_measure_b112 (N := N) R8 rfl rl4 rfl rl5 hF
def FX23_measure_b15 (N : Nat) (l2 : Int) (l3 : Int) (s0 : Int) (s : fS) : Option (Unit × fS) :=
  (uRJ s 111 (imax s0 l3)).bind fun x5 =>
  (uRJ s 111 s0).bind fun x9 =>
  (uPJ s 110 8 (lsub (ladd (s.j 110 6) x5) x9)).bind fun σ11 =>
  if l2 = (-1) then
    FX23_measure_b83 N l3 s0 (imax s0 l3) σ11
  else
    (uRI σ11 105 l2).bind fun x16 =>
    if ¬ (x16 = 5) then
      FX23_measure_b83 N l3 s0 (imax s0 l3) σ11
    else
      (uRI σ11 107 l2).bind fun x23 =>
      (FX1_solid x23 σ11).bind fun q25 =>
      (uPJ q25.2 110 8 (ladd (σ11.j 110 8) q25.1)).bind fun σ26 =>
      FX23_measure_b83 N l3 s0 (imax s0 l3) σ26
theorem SX23_measure_b15 {m b : Nat} {φ0 : Nat → Nat} {σo : fS} {N : Nat} {q : Unit × fS} {φ : Nat → Nat} {h : eH} {s : fS} {l2' : Int32} {l2 : Int} {l3' : Int32} {l3 : Int} {s0' : Int32} {s0 : Int} (R : fC m b φ0 σo φ h s) (el2 : l2' = iI l2) (rl2 : r32 l2) (el3 : l3' = iI l3) (rl3 : r32 l3) (es0 : s0' = iI s0) (rs0 : r32 s0) (hF : FX23_measure_b15 N l2 l3 s0 s = some q) : gG m b φ0 σo lU q (fX23_measure_b15 N 110 104 l2' l3' s0' h) := by
  subst el2; subst el3; subst es0
  unfold FX23_measure_b15 at hF
  unfold fX23_measure_b15
  refine s_gJ R (t_110 R.S) (Nat.le_of_ble_eq_true rfl) rfl ?_
  refine s_gAs R (t_110 R.S) (Nat.le_of_ble_eq_true rfl) rfl (o_110_0 R.S) (a_111 R) ?_
  refine s_rJ R (u_111 R.S).1 (u_111 R.S).2 (a_111 R) (c_max rfl rfl rs0 rl3) (r_max rs0 rl3) hF (fun x5 ra3 hF => ?_)
  refine s_gAs R (t_110 R.S) (Nat.le_of_ble_eq_true rfl) rfl (o_110_0 R.S) (a_111 R) ?_
  refine s_rJ R (u_111 R.S).1 (u_111 R.S).2 (a_111 R) rfl rs0 hF (fun x9 ra5 hF => ?_)
  refine s_pJ R (t_110 R.S) (Nat.le_of_ble_eq_true rfl) rfl (d_sub (d_add rfl rfl) rfl) (rr_J _) hF (fun h6 σ11 R6 T6 hF => ?_)
  refine s_if (i_eq rfl (c_lit (-1) (-1) rfl) rl2 ⟨by decide, by decide⟩) hF (fun c7 hF => ?_) (fun c7 hF => ?_)
  ·
    exact SX23_measure_b83 (N := N) R6 rfl rl3 rfl rs0 (c_max rfl rfl rs0 rl3) (r_max rs0 rl3) hF
  ·
    refine s_gAs R6 (t_104 R6.S) (Nat.le_of_ble_eq_true rfl) rfl (o_104_0 R6.S) (a_105 R6) ?_
    refine s_rI R6 (u_105 R6.S).1 (u_105 R6.S).2 (by decide) (a_105 R6) rfl rl2 hF (fun x16 ra9 hF => ?_)
    refine s_if (not_congr (i_eq rfl (c_lit 5 5 rfl) ra9 ⟨by decide, by decide⟩)) hF (fun c10 hF => ?_) (fun c10 hF => ?_)
    ·
      exact SX23_measure_b83 (N := N) R6 rfl rl3 rfl rs0 (c_max rfl rfl rs0 rl3) (r_max rs0 rl3) hF
    ·
      refine s_gJ R6 (t_110 R6.S) (Nat.le_of_ble_eq_true rfl) rfl ?_
      refine s_gAs R6 (t_104 R6.S) (Nat.le_of_ble_eq_true rfl) rfl (o_104_2 R6.S) (a_107 R6) ?_
      refine s_rI R6 (u_107 R6.S).1 (u_107 R6.S).2 (by decide) (a_107 R6) rfl rl2 hF (fun x23 ra13 hF => ?_)
      refine s_call R6 (Nat.zero_le _) (fun _ hq => SX1_solid (b := 0) (R6.rf) rfl ra13 hq) hF (fun f14 rv14 h14 q25 R14 e14 E14 hF => ?_)
      refine s_pJ R14 (t_110 R14.S) (Nat.le_of_ble_eq_true rfl) rfl (d_add rfl (c_2l e14.1 e14.2)) (rr_J _) hF (fun h15 σ26 R15 T15 hF => ?_)
      exact SX23_measure_b83 (N := N) R15 rfl rl3 rfl rs0 (c_max rfl rfl rs0 rl3) (r_max rs0 rl3) hF
def FX23_measure (N : Nat) (p1 : Int) (p2 : Int) (s : fS) : Option (Unit × fS) :=
  if ¬ (p1 = (-1)) then
    (uRI s 115 p1).bind fun x4 =>
    FX23_measure_b15 N p1 p2 x4 s
  else
    FX23_measure_b15 N p1 p2 0 s
theorem SX23_measure {m b : Nat} {φ0 : Nat → Nat} {σo : fS} {N : Nat} {q : Unit × fS} {φ : Nat → Nat} {h : eH} {s : fS} {p1' : Int32} {p1 : Int} {p2' : Int32} {p2 : Int} (R : fC m b φ0 σo φ h s) (ep1 : p1' = iI p1) (rp1 : r32 p1) (ep2 : p2' = iI p2) (rp2 : r32 p2) (hF : FX23_measure N p1 p2 s = some q) : gG m b φ0 σo lU q (fX23_measure N 110 104 p1' p2' h) := by
  subst ep1; subst ep2
  unfold FX23_measure at hF
  unfold fX23_measure
  refine s_if (not_congr (i_eq rfl (c_lit (-1) (-1) rfl) rp1 ⟨by decide, by decide⟩)) hF (fun c1 hF => ?_) (fun c1 hF => ?_)
  ·
    refine s_gAs R (t_110 R.S) (Nat.le_of_ble_eq_true rfl) rfl (o_110_4 R.S) (a_115 R) ?_
    refine s_rI R (u_115 R.S).1 (u_115 R.S).2 (by decide) (a_115 R) rfl rp1 hF (fun x4 ra3 hF => ?_)
    exact SX23_measure_b15 (N := N) R rfl rp1 rfl rp2 rfl ra3 hF
  ·
    exact SX23_measure_b15 (N := N) R rfl rp1 rfl rp2 (c_lit 0 0 rfl) ⟨by decide, by decide⟩ hF
def FX26_bad_b89 (s0 : Int) (s : fS) : Option (Int × fS) :=
  some (s0, s)
theorem SX26_bad_b89 {m b : Nat} {φ0 : Nat → Nat} {σo : fS} {q : Int × fS} {φ : Nat → Nat} {h : eH} {s : fS} {s0' : Int32} {s0 : Int} (R : fC m b φ0 σo φ h s) (es0 : s0' = iI s0) (rs0 : r32 s0) (hF : FX26_bad_b89 s0 s = some q) : gG m b φ0 σo lI q (fX26_bad_b89 s0' h) := by
  subst es0
  unfold FX26_bad_b89 at hF
  unfold fX26_bad_b89
  exact g_ret R hF ⟨rfl, rs0⟩
def FX26_bad_b55 (s0 : Int) (s : fS) : Option (Int × fS) :=
  if s0 ≤ 1290 then
    FX26_bad_b89 (l2i (ldiv (ladd (lmul (lmul s0 s0) s0) 131072) 262144)) s
  else
    FX26_bad_b89 10000 s
theorem SX26_bad_b55 {m b : Nat} {φ0 : Nat → Nat} {σo : fS} {q : Int × fS} {φ : Nat → Nat} {h : eH} {s : fS} {s0' : Int64} {s0 : Int} (R : fC m b φ0 σo φ h s) (es0 : s0' = iJ s0) (rs0 : r64 s0) (hF : FX26_bad_b55 s0 s = some q) : gG m b φ0 σo lI q (fX26_bad_b55 s0' h) := by
  subst es0
  unfold FX26_bad_b55 at hF
  unfold fX26_bad_b55
  refine s_if (lg_le.trans (j_le rfl (d_lit 1290 1290 rfl) rs0 ⟨by decide, by decide⟩)) hF (fun c1 hF => ?_) (fun c1 hF => ?_)
  ·
    exact SX26_bad_b89 R (d_2i (d_div (d_add (d_mul (d_mul rfl rfl) rfl) (d_lit 131072 131072 rfl)) (d_lit 262144 262144 rfl))) (rr_I _) hF
  ·
    exact SX26_bad_b89 R (c_lit 10000 10000 rfl) ⟨by decide, by decide⟩ hF
def FX26_bad (p0 : Int) (p1 : Int) (s : fS) : Option (Int × fS) :=
  if ¬ (p0 = 0) then
    if ¬ (p1 = 0) then
      if 7230584 < p0 then
        if p1 < 1663497 then
          FX26_bad_b55 p0 s
        else
          if (ldiv p1 297) = 0 then none else
          FX26_bad_b55 (ldiv p0 (ldiv p1 297)) s
      else
        if p1 = 0 then none else
        FX26_bad_b55 (ldiv (lmul 297 p0) p1) s
    else
      some (10000, s)
  else
    some (0, s)
theorem SX26_bad {m b : Nat} {φ0 : Nat → Nat} {σo : fS} {q : Int × fS} {φ : Nat → Nat} {h : eH} {s : fS} {p0' : Int64} {p0 : Int} {p1' : Int64} {p1 : Int} (R : fC m b φ0 σo φ h s) (ep0 : p0' = iJ p0) (rp0 : r64 p0) (ep1 : p1' = iJ p1) (rp1 : r64 p1) (hF : FX26_bad p0 p1 s = some q) : gG m b φ0 σo lI q (fX26_bad p0' p1' h) := by
  subst ep0; subst ep1
  unfold FX26_bad at hF
  unfold fX26_bad
  refine s_if (not_congr (lg_eq.trans (j_eq rfl (d_lit 0 0 rfl) rp0 ⟨by decide, by decide⟩))) hF (fun c1 hF => ?_) (fun c1 hF => ?_)
  ·
    refine s_if (not_congr (lg_eq.trans (j_eq rfl (d_lit 0 0 rfl) rp1 ⟨by decide, by decide⟩))) hF (fun c2 hF => ?_) (fun c2 hF => ?_)
    ·
      refine s_if ((lg_cmp_gt _ _).trans (j_lt (d_lit 7230584 7230584 rfl) rfl ⟨by decide, by decide⟩ rp0)) hF (fun c3 hF => ?_) (fun c3 hF => ?_)
      ·
        refine s_if (lg_lt.trans (j_lt rfl (d_lit 1663497 1663497 rfl) rp1 ⟨by decide, by decide⟩)) hF (fun c4 hF => ?_) (fun c4 hF => ?_)
        ·
          exact SX26_bad_b55 R rfl rp0 hF
        ·
          refine s_div (j_eq (d_div rfl (d_lit 297 297 rfl)) (d_lit 0 0 rfl) (rr_J _) ⟨by decide, by decide⟩) hF (fun c5 hF => ?_)
          exact SX26_bad_b55 R (d_div rfl (d_div rfl (d_lit 297 297 rfl))) (rr_J _) hF
      ·
        refine s_div (j_eq rfl (d_lit 0 0 rfl) rp1 ⟨by decide, by decide⟩) hF (fun c6 hF => ?_)
        exact SX26_bad_b55 R (d_div (d_mul (d_lit 297 297 rfl) rfl) rfl) (rr_J _) hF
    ·
      exact g_ret R hF ⟨(c_lit 10000 10000 rfl), ⟨by decide, by decide⟩⟩
  ·
    exact g_ret R hF ⟨(c_lit 0 0 rfl), ⟨by decide, by decide⟩⟩
def FX26_weigh_b122 (s : fS) : Option (Unit × fS) :=
  some ((), s)
theorem SX26_weigh_b122 {m b : Nat} {φ0 : Nat → Nat} {σo : fS} {q : Unit × fS} {φ : Nat → Nat} {h : eH} {s : fS} (R : fC m b φ0 σo φ h s) (hF : FX26_weigh_b122 s = some q) : gG m b φ0 σo lU q (fX26_weigh_b122 h) := by
  unfold FX26_weigh_b122 at hF
  unfold fX26_weigh_b122
  exact g_ret R hF trivial
def FX26_weigh_b57 (s1 : Int) (s : fS) : Option (Unit × fS) :=
  (uPI s 128 1 s1).bind fun σ1 =>
  FX26_weigh_b122 σ1
theorem SX26_weigh_b57 {m b : Nat} {φ0 : Nat → Nat} {σo : fS} {q : Unit × fS} {φ : Nat → Nat} {h : eH} {s : fS} {s1' : Int32} {s1 : Int} (R : fC m b φ0 σo φ h s) (es1 : s1' = iI s1) (rs1 : r32 s1) (hF : FX26_weigh_b57 s1 s = some q) : gG m b φ0 σo lU q (fX26_weigh_b57 128 s1' h) := by
  subst es1
  unfold FX26_weigh_b57 at hF
  unfold fX26_weigh_b57
  refine s_pI R (t_128 R.S) (Nat.le_of_ble_eq_true rfl) rfl rfl rs1 hF (fun h1 σ1 R1 T1 hF => ?_)
  exact SX26_weigh_b122 R1 hF
def FX26_weigh_b26 (s1 : Int) (s : fS) : Option (Unit × fS) :=
  (uPI s 128 0 s1).bind fun σ1 =>
  if (σ1.i 128 0) ≤ 99 then
    if (σ1.i 128 0) ≤ 12 then
      FX26_weigh_b57 2 σ1
    else
      FX26_weigh_b57 1 σ1
  else
    FX26_weigh_b57 0 σ1
theorem SX26_weigh_b26 {m b : Nat} {φ0 : Nat → Nat} {σo : fS} {q : Unit × fS} {φ : Nat → Nat} {h : eH} {s : fS} {s1' : Int32} {s1 : Int} (R : fC m b φ0 σo φ h s) (es1 : s1' = iI s1) (rs1 : r32 s1) (hF : FX26_weigh_b26 s1 s = some q) : gG m b φ0 σo lU q (fX26_weigh_b26 128 128 s1' h) := by
  subst es1
  unfold FX26_weigh_b26 at hF
  unfold fX26_weigh_b26
  refine s_pI R (t_128 R.S) (Nat.le_of_ble_eq_true rfl) rfl rfl rs1 hF (fun h1 σ1 R1 T1 hF => ?_)
  refine s_gI R1 (t_128 R1.S) (Nat.le_of_ble_eq_true rfl) rfl ?_
  refine s_if (i_le rfl (c_lit 99 99 rfl) (R1.ri (t_128 R1.S) (Nat.le_of_ble_eq_true rfl) rfl) ⟨by decide, by decide⟩) hF (fun c3 hF => ?_) (fun c3 hF => ?_)
  ·
    refine s_gI R1 (t_128 R1.S) (Nat.le_of_ble_eq_true rfl) rfl ?_
    refine s_if (i_le rfl (c_lit 12 12 rfl) (R1.ri (t_128 R1.S) (Nat.le_of_ble_eq_true rfl) rfl) ⟨by decide, by decide⟩) hF (fun c5 hF => ?_) (fun c5 hF => ?_)
    ·
      exact SX26_weigh_b57 R1 (c_lit 2 2 rfl) ⟨by decide, by decide⟩ hF
    ·
      exact SX26_weigh_b57 R1 (c_lit 1 1 rfl) ⟨by decide, by decide⟩ hF
  ·
    exact SX26_weigh_b57 R1 (c_lit 0 0 rfl) ⟨by decide, by decide⟩ hF
def FX26_weigh_b119 (s1 : Int) (s : fS) : Option (Unit × fS) :=
  (uPI s 128 1 s1).bind fun σ1 =>
  FX26_weigh_b122 σ1
theorem SX26_weigh_b119 {m b : Nat} {φ0 : Nat → Nat} {σo : fS} {q : Unit × fS} {φ : Nat → Nat} {h : eH} {s : fS} {s1' : Int32} {s1 : Int} (R : fC m b φ0 σo φ h s) (es1 : s1' = iI s1) (rs1 : r32 s1) (hF : FX26_weigh_b119 s1 s = some q) : gG m b φ0 σo lU q (fX26_weigh_b119 128 s1' h) := by
  subst es1
  unfold FX26_weigh_b119 at hF
  unfold fX26_weigh_b119
  refine s_pI R (t_128 R.S) (Nat.le_of_ble_eq_true rfl) rfl rfl rs1 hF (fun h1 σ1 R1 T1 hF => ?_)
  exact SX26_weigh_b122 R1 hF
def FX26_weigh_b101 (s1 : Int) (s : fS) : Option (Unit × fS) :=
  (uPI s 128 0 s1).bind fun σ1 =>
  if (σ1.i 128 0) ≤ 12 then
    FX26_weigh_b119 2 σ1
  else
    FX26_weigh_b119 3 σ1
theorem SX26_weigh_b101 {m b : Nat} {φ0 : Nat → Nat} {σo : fS} {q : Unit × fS} {φ : Nat → Nat} {h : eH} {s : fS} {s1' : Int32} {s1 : Int} (R : fC m b φ0 σo φ h s) (es1 : s1' = iI s1) (rs1 : r32 s1) (hF : FX26_weigh_b101 s1 s = some q) : gG m b φ0 σo lU q (fX26_weigh_b101 128 128 s1' h) := by
  subst es1
  unfold FX26_weigh_b101 at hF
  unfold fX26_weigh_b101
  refine s_pI R (t_128 R.S) (Nat.le_of_ble_eq_true rfl) rfl rfl rs1 hF (fun h1 σ1 R1 T1 hF => ?_)
  refine s_gI R1 (t_128 R1.S) (Nat.le_of_ble_eq_true rfl) rfl ?_
  refine s_if (i_le rfl (c_lit 12 12 rfl) (R1.ri (t_128 R1.S) (Nat.le_of_ble_eq_true rfl) rfl) ⟨by decide, by decide⟩) hF (fun c3 hF => ?_) (fun c3 hF => ?_)
  ·
    exact SX26_weigh_b119 R1 (c_lit 2 2 rfl) ⟨by decide, by decide⟩ hF
  ·
    exact SX26_weigh_b119 R1 (c_lit 3 3 rfl) ⟨by decide, by decide⟩ hF
def FX26_weigh_b78 (l1 : Int) (s0 : Int) (s : fS) : Option (Unit × fS) :=
  if s0 = 0 then
    (FX26_bad (lneg l1) (s.j 110 9) s).bind fun q4 =>
    FX26_weigh_b101 q4.1 q4.2
  else
    FX26_weigh_b101 10001 s
theorem SX26_weigh_b78 {m b : Nat} {φ0 : Nat → Nat} {σo : fS} {q : Unit × fS} {φ : Nat → Nat} {h : eH} {s : fS} {l1' : Int64} {l1 : Int} {s0' : Int32} {s0 : Int} (R : fC m b φ0 σo φ h s) (el1 : l1' = iJ l1) (rl1 : r64 l1) (es0 : s0' = iI s0) (rs0 : r32 s0) (hF : FX26_weigh_b78 l1 s0 s = some q) : gG m b φ0 σo lU q (fX26_weigh_b78 128 l1' 110 s0' h) := by
  subst el1; subst es0
  unfold FX26_weigh_b78 at hF
  unfold fX26_weigh_b78
  refine s_if (i_eq rfl (c_lit 0 0 rfl) rs0 ⟨by decide, by decide⟩) hF (fun c1 hF => ?_) (fun c1 hF => ?_)
  ·
    refine s_gJ R (t_110 R.S) (Nat.le_of_ble_eq_true rfl) rfl ?_
    refine s_call R (Nat.zero_le _) (fun _ hq => SX26_bad (b := 0) (R.rf) (d_neg rfl) (rr_J _) rfl (R.rj (t_110 R.S) (Nat.le_of_ble_eq_true rfl) rfl) hq) hF (fun f3 rv3 h3 q4 R3 e3 E3 hF => ?_)
    exact SX26_weigh_b101 R3 e3.1 e3.2 hF
  ·
    exact SX26_weigh_b101 R (c_lit 10001 10001 rfl) ⟨by decide, by decide⟩ hF
def FX26_weigh (p0 : Int) (s : fS) : Option (Unit × fS) :=
  if p0 ≤ 0 then
    if (lneg p0) ≤ (s.j 110 9) then
      FX26_weigh_b78 p0 0 s
    else
      FX26_weigh_b78 p0 1 s
  else
    if (s.i 110 11) = 0 then
      (FX26_bad p0 (s.j 110 10) s).bind fun q10 =>
      FX26_weigh_b26 q10.1 q10.2
    else
      FX26_weigh_b26 0 s
theorem SX26_weigh {m b : Nat} {φ0 : Nat → Nat} {σo : fS} {q : Unit × fS} {φ : Nat → Nat} {h : eH} {s : fS} {p0' : Int64} {p0 : Int} (R : fC m b φ0 σo φ h s) (ep0 : p0' = iJ p0) (rp0 : r64 p0) (hF : FX26_weigh p0 s = some q) : gG m b φ0 σo lU q (fX26_weigh 128 p0' 110 h) := by
  subst ep0
  unfold FX26_weigh at hF
  unfold fX26_weigh
  refine s_if (lg_le.trans (j_le rfl (d_lit 0 0 rfl) rp0 ⟨by decide, by decide⟩)) hF (fun c1 hF => ?_) (fun c1 hF => ?_)
  ·
    refine s_gJ R (t_110 R.S) (Nat.le_of_ble_eq_true rfl) rfl ?_
    refine s_if (lg_le.trans (j_le (d_neg rfl) rfl (rr_J _) (R.rj (t_110 R.S) (Nat.le_of_ble_eq_true rfl) rfl))) hF (fun c3 hF => ?_) (fun c3 hF => ?_)
    ·
      exact SX26_weigh_b78 R rfl rp0 (c_lit 0 0 rfl) ⟨by decide, by decide⟩ hF
    ·
      exact SX26_weigh_b78 R rfl rp0 (c_lit 1 1 rfl) ⟨by decide, by decide⟩ hF
  ·
    refine s_gI R (t_110 R.S) (Nat.le_of_ble_eq_true rfl) rfl ?_
    refine s_if (i_eq rfl (c_lit 0 0 rfl) (R.ri (t_110 R.S) (Nat.le_of_ble_eq_true rfl) rfl) ⟨by decide, by decide⟩) hF (fun c5 hF => ?_) (fun c5 hF => ?_)
    ·
      refine s_gJ R (t_110 R.S) (Nat.le_of_ble_eq_true rfl) rfl ?_
      refine s_call R (Nat.zero_le _) (fun _ hq => SX26_bad (b := 0) (R.rf) rfl rp0 rfl (R.rj (t_110 R.S) (Nat.le_of_ble_eq_true rfl) rfl) hq) hF (fun f7 rv7 h7 q10 R7 e7 E7 hF => ?_)
      exact SX26_weigh_b26 R7 e7.1 e7.2 hF
    ·
      exact SX26_weigh_b26 R (c_lit 0 0 rfl) ⟨by decide, by decide⟩ hF
def FX24_demerits_b209 (s0 : Int) (s : fS) : Option (Int × fS) :=
  some (s0, s)
theorem SX24_demerits_b209 {m b : Nat} {φ0 : Nat → Nat} {σo : fS} {q : Int × fS} {φ : Nat → Nat} {h : eH} {s : fS} {s0' : Int64} {s0 : Int} (R : fC m b φ0 σo φ h s) (es0 : s0' = iJ s0) (rs0 : r64 s0) (hF : FX24_demerits_b209 s0 s = some q) : gG m b φ0 σo lJ q (fX24_demerits_b209 s0' h) := by
  subst es0
  unfold FX24_demerits_b209 at hF
  unfold fX24_demerits_b209
  exact g_ret R hF ⟨rfl, rs0⟩
def FX24_demerits_b169 (l1 : Int) (l4 : Int) (s : fS) : Option (Int × fS) :=
  (uRI s 124 l1).bind fun x5 =>
  if (iabs (isub x5 (s.i 128 1))) ≤ 1 then
    FX24_demerits_b209 l4 s
  else
    (uRI s 117 7).bind fun x14 =>
    FX24_demerits_b209 (ladd l4 x14) s
theorem SX24_demerits_b169 {m b : Nat} {φ0 : Nat → Nat} {σo : fS} {q : Int × fS} {φ : Nat → Nat} {h : eH} {s : fS} {l1' : Int32} {l1 : Int} {l4' : Int64} {l4 : Int} (R : fC m b φ0 σo φ h s) (el1 : l1' = iI l1) (rl1 : r32 l1) (el4 : l4' = iJ l4) (rl4 : r64 l4) (hF : FX24_demerits_b169 l1 l4 s = some q) : gG m b φ0 σo lJ q (fX24_demerits_b169 120 l1' l4' h) := by
  subst el1; subst el4
  unfold FX24_demerits_b169 at hF
  unfold fX24_demerits_b169
  refine s_gO R (t_120 R.S) (Nat.le_of_ble_eq_true rfl) rfl (o_120_4 R.S) ?_
  refine s_gAs R (t_121 R.S) (Nat.le_of_ble_eq_true rfl) rfl (o_121_2 R.S) (a_124 R) ?_
  refine s_rI R (u_124 R.S).1 (u_124 R.S).2 (by decide) (a_124 R) rfl rl1 hF (fun x5 ra3 hF => ?_)
  refine s_gO R (t_120 R.S) (Nat.le_of_ble_eq_true rfl) rfl (o_120_5 R.S) ?_
  refine s_gI R (t_128 R.S) (Nat.le_of_ble_eq_true rfl) rfl ?_
  refine s_if (i_le (c_abs (c_sub rfl rfl) (rr_I _)) (c_lit 1 1 rfl) (r_abs (rr_I _)) ⟨by decide, by decide⟩) hF (fun c6 hF => ?_) (fun c6 hF => ?_)
  ·
    exact SX24_demerits_b209 R rfl rl4 hF
  ·
    refine s_gAs R (t_120 R.S) (Nat.le_of_ble_eq_true rfl) rfl (o_120_2 R.S) (a_117 R) ?_
    refine s_rI R (u_117 R.S).1 (u_117 R.S).2 (by decide) (a_117 R) (c_lit 7 7 rfl) ⟨by decide, by decide⟩ hF (fun x14 ra8 hF => ?_)
    exact SX24_demerits_b209 R (d_add rfl (c_2l rfl ra8)) (rr_J _) hF
def FX24_demerits_b166 (l1 : Int) (s0 : Int) (s1 : Int) (s : fS) : Option (Int × fS) :=
  FX24_demerits_b169 l1 (ladd s0 s1) s
theorem SX24_demerits_b166 {m b : Nat} {φ0 : Nat → Nat} {σo : fS} {q : Int × fS} {φ : Nat → Nat} {h : eH} {s : fS} {l1' : Int32} {l1 : Int} {s0' : Int64} {s0 : Int} {s1' : Int64} {s1 : Int} (R : fC m b φ0 σo φ h s) (el1 : l1' = iI l1) (rl1 : r32 l1) (es0 : s0' = iJ s0) (rs0 : r64 s0) (es1 : s1' = iJ s1) (rs1 : r64 s1) (hF : FX24_demerits_b166 l1 s0 s1 s = some q) : gG m b φ0 σo lJ q (fX24_demerits_b166 120 l1' s0' s1' h) := by
  subst el1; subst es0; subst es1
  unfold FX24_demerits_b166 at hF
  unfold fX24_demerits_b166
  exact SX24_demerits_b169 R rfl rl1 (d_add rfl rfl) (rr_J _) hF
def FX24_demerits_b85 (l1 : Int) (l2 : Int) (l4 : Int) (s : fS) : Option (Int × fS) :=
  (uRI s 122 l1).bind fun x5 =>
  if x5 = (-1) then
    FX24_demerits_b169 l1 l4 s
  else
    (uRI s 105 x5).bind fun x12 =>
    if ¬ (x12 = 5) then
      FX24_demerits_b169 l1 l4 s
    else
      (uRI s 105 l2).bind fun x19 =>
      if ¬ (x19 = 5) then
        if ¬ (l2 = (isub (s.i 104 5) 1)) then
          FX24_demerits_b166 l1 l4 0 s
        else
          (uRI s 117 6).bind fun x29 =>
          FX24_demerits_b166 l1 l4 x29 s
      else
        (uRI s 117 5).bind fun x33 =>
        FX24_demerits_b166 l1 l4 x33 s
theorem SX24_demerits_b85 {m b : Nat} {φ0 : Nat → Nat} {σo : fS} {q : Int × fS} {φ : Nat → Nat} {h : eH} {s : fS} {l1' : Int32} {l1 : Int} {l2' : Int32} {l2 : Int} {l4' : Int64} {l4 : Int} (R : fC m b φ0 σo φ h s) (el1 : l1' = iI l1) (rl1 : r32 l1) (el2 : l2' = iI l2) (rl2 : r32 l2) (el4 : l4' = iJ l4) (rl4 : r64 l4) (hF : FX24_demerits_b85 l1 l2 l4 s = some q) : gG m b φ0 σo lJ q (fX24_demerits_b85 120 l1' l2' l4' h) := by
  subst el1; subst el2; subst el4
  unfold FX24_demerits_b85 at hF
  unfold fX24_demerits_b85
  refine s_gO R (t_120 R.S) (Nat.le_of_ble_eq_true rfl) rfl (o_120_4 R.S) ?_
  refine s_gAs R (t_121 R.S) (Nat.le_of_ble_eq_true rfl) rfl (o_121_0 R.S) (a_122 R) ?_
  refine s_rI R (u_122 R.S).1 (u_122 R.S).2 (by decide) (a_122 R) rfl rl1 hF (fun x5 ra3 hF => ?_)
  refine s_if (i_eq rfl (c_lit (-1) (-1) rfl) ra3 ⟨by decide, by decide⟩) hF (fun c4 hF => ?_) (fun c4 hF => ?_)
  ·
    exact SX24_demerits_b169 R rfl rl1 rfl rl4 hF
  ·
    refine s_gO R (t_120 R.S) (Nat.le_of_ble_eq_true rfl) rfl (o_120_0 R.S) ?_
    refine s_gAs R (t_104 R.S) (Nat.le_of_ble_eq_true rfl) rfl (o_104_0 R.S) (a_105 R) ?_
    refine s_rI R (u_105 R.S).1 (u_105 R.S).2 (by decide) (a_105 R) rfl ra3 hF (fun x12 ra7 hF => ?_)
    refine s_if (not_congr (i_eq rfl (c_lit 5 5 rfl) ra7 ⟨by decide, by decide⟩)) hF (fun c8 hF => ?_) (fun c8 hF => ?_)
    ·
      exact SX24_demerits_b169 R rfl rl1 rfl rl4 hF
    ·
      refine s_gO R (t_120 R.S) (Nat.le_of_ble_eq_true rfl) rfl (o_120_0 R.S) ?_
      refine s_gAs R (t_104 R.S) (Nat.le_of_ble_eq_true rfl) rfl (o_104_0 R.S) (a_105 R) ?_
      refine s_rI R (u_105 R.S).1 (u_105 R.S).2 (by decide) (a_105 R) rfl rl2 hF (fun x19 ra11 hF => ?_)
      refine s_if (not_congr (i_eq rfl (c_lit 5 5 rfl) ra11 ⟨by decide, by decide⟩)) hF (fun c12 hF => ?_) (fun c12 hF => ?_)
      ·
        refine s_gO R (t_120 R.S) (Nat.le_of_ble_eq_true rfl) rfl (o_120_0 R.S) ?_
        refine s_gI R (t_104 R.S) (Nat.le_of_ble_eq_true rfl) rfl ?_
        refine s_if (not_congr (i_eq rfl (c_sub rfl (c_lit 1 1 rfl)) rl2 (rr_I _))) hF (fun c15 hF => ?_) (fun c15 hF => ?_)
        ·
          exact SX24_demerits_b166 R rfl rl1 rfl rl4 (d_lit 0 0 rfl) ⟨by decide, by decide⟩ hF
        ·
          refine s_gAs R (t_120 R.S) (Nat.le_of_ble_eq_true rfl) rfl (o_120_2 R.S) (a_117 R) ?_
          refine s_rI R (u_117 R.S).1 (u_117 R.S).2 (by decide) (a_117 R) (c_lit 6 6 rfl) ⟨by decide, by decide⟩ hF (fun x29 ra17 hF => ?_)
          exact SX24_demerits_b166 R rfl rl1 rfl rl4 (c_2l rfl ra17) (r32.w ra17) hF
      ·
        refine s_gAs R (t_120 R.S) (Nat.le_of_ble_eq_true rfl) rfl (o_120_2 R.S) (a_117 R) ?_
        refine s_rI R (u_117 R.S).1 (u_117 R.S).2 (by decide) (a_117 R) (c_lit 5 5 rfl) ⟨by decide, by decide⟩ hF (fun x33 ra19 hF => ?_)
        exact SX24_demerits_b166 R rfl rl1 rfl rl4 (c_2l rfl ra19) (r32.w ra19) hF
def FX24_demerits_b36 (l1 : Int) (l2 : Int) (s0 : Int) (s : fS) : Option (Int × fS) :=
  (FX24_penaltyOf l2 s).bind fun q2 =>
  if q2.1 ≤ 0 then
    if q2.1 ≤ (-10000) then
      FX24_demerits_b85 l1 l2 s0 q2.2
    else
      FX24_demerits_b85 l1 l2 (lsub s0 (lmul q2.1 q2.1)) q2.2
  else
    FX24_demerits_b85 l1 l2 (ladd s0 (lmul q2.1 q2.1)) q2.2
theorem SX24_demerits_b36 {m b : Nat} {φ0 : Nat → Nat} {σo : fS} {q : Int × fS} {φ : Nat → Nat} {h : eH} {s : fS} {l1' : Int32} {l1 : Int} {l2' : Int32} {l2 : Int} {s0' : Int64} {s0 : Int} (R : fC m b φ0 σo φ h s) (el1 : l1' = iI l1) (rl1 : r32 l1) (el2 : l2' = iI l2) (rl2 : r32 l2) (es0 : s0' = iJ s0) (rs0 : r64 s0) (hF : FX24_demerits_b36 l1 l2 s0 s = some q) : gG m b φ0 σo lJ q (fX24_demerits_b36 120 l1' l2' s0' h) := by
  subst el1; subst el2; subst es0
  unfold FX24_demerits_b36 at hF
  unfold fX24_demerits_b36
  refine s_kok R (t_120 R.S) (Nat.le_of_ble_eq_true rfl) ?_
  refine s_call R (Nat.zero_le _) (fun _ hq => SX24_penaltyOf (b := 0) (R.rf) rfl rl2 hq) hF (fun f2 rv2 h2 q2 R2 e2 E2 hF => ?_)
  refine s_if (lg_le.trans (j_le (c_2l e2.1 e2.2) (d_lit 0 0 rfl) (r32.w e2.2) ⟨by decide, by decide⟩)) hF (fun c3 hF => ?_) (fun c3 hF => ?_)
  ·
    refine s_if (lg_le.trans (j_le (c_2l e2.1 e2.2) (d_lit (-10000) (-10000) rfl) (r32.w e2.2) ⟨by decide, by decide⟩)) hF (fun c4 hF => ?_) (fun c4 hF => ?_)
    ·
      exact SX24_demerits_b85 R2 rfl rl1 rfl rl2 rfl rs0 hF
    ·
      exact SX24_demerits_b85 R2 rfl rl1 rfl rl2 (d_sub rfl (d_mul (c_2l e2.1 e2.2) (c_2l e2.1 e2.2))) (rr_J _) hF
  ·
    exact SX24_demerits_b85 R2 rfl rl1 rfl rl2 (d_add rfl (d_mul (c_2l e2.1 e2.2) (c_2l e2.1 e2.2))) (rr_J _) hF
def FX24_demerits (p0 : Int) (p1 : Int) (s : fS) : Option (Int × fS) :=
  (uRI s 117 2).bind fun x3 =>
  if (iabs (iadd x3 (s.i 128 0))) < 10000 then
    FX24_demerits_b36 p0 p1 (lmul (iadd x3 (s.i 128 0)) (iadd x3 (s.i 128 0))) s
  else
    FX24_demerits_b36 p0 p1 100000000 s
theorem SX24_demerits {m b : Nat} {φ0 : Nat → Nat} {σo : fS} {q : Int × fS} {φ : Nat → Nat} {h : eH} {s : fS} {p0' : Int32} {p0 : Int} {p1' : Int32} {p1 : Int} (R : fC m b φ0 σo φ h s) (ep0 : p0' = iI p0) (rp0 : r32 p0) (ep1 : p1' = iI p1) (rp1 : r32 p1) (hF : FX24_demerits p0 p1 s = some q) : gG m b φ0 σo lJ q (fX24_demerits 120 p0' p1' h) := by
  subst ep0; subst ep1
  unfold FX24_demerits at hF
  unfold fX24_demerits
  refine s_gAs R (t_120 R.S) (Nat.le_of_ble_eq_true rfl) rfl (o_120_2 R.S) (a_117 R) ?_
  refine s_rI R (u_117 R.S).1 (u_117 R.S).2 (by decide) (a_117 R) (c_lit 2 2 rfl) ⟨by decide, by decide⟩ hF (fun x3 ra2 hF => ?_)
  refine s_gO R (t_120 R.S) (Nat.le_of_ble_eq_true rfl) rfl (o_120_5 R.S) ?_
  refine s_gI R (t_128 R.S) (Nat.le_of_ble_eq_true rfl) rfl ?_
  refine s_if (i_lt (c_abs (c_add rfl rfl) (rr_I _)) (c_lit 10000 10000 rfl) (r_abs (rr_I _)) ⟨by decide, by decide⟩) hF (fun c5 hF => ?_) (fun c5 hF => ?_)
  ·
    exact SX24_demerits_b36 R rfl rp0 rfl rp1 (d_mul (c_2l (c_add rfl rfl) (rr_I _)) (c_2l (c_add rfl rfl) (rr_I _))) (rr_J _) hF
  ·
    exact SX24_demerits_b36 R rfl rp0 rfl rp1 (d_lit 100000000 100000000 rfl) ⟨by decide, by decide⟩ hF
def FX25_isBetter_b58 (s0 : Int) (s : fS) : Option (Int × fS) :=
  uZ s0 (s0, s)
theorem SX25_isBetter_b58 {m b : Nat} {φ0 : Nat → Nat} {σo : fS} {q : Int × fS} {φ : Nat → Nat} {h : eH} {s : fS} {s0' : Int32} {s0 : Int} (R : fC m b φ0 σo φ h s) (es0 : s0' = iI s0) (rs0 : r32 s0) (hF : FX25_isBetter_b58 s0 s = some q) : gG m b φ0 σo lI q (fX25_isBetter_b58 s0' h) := by
  subst es0
  unfold FX25_isBetter_b58 at hF
  unfold fX25_isBetter_b58
  exact g_z R rfl hF ⟨rfl, rs0⟩
def FX25_isBetter (p0 : Int) (p1 : Int) (s : fS) : Option (Int × fS) :=
  (uRI s 122 p0).bind fun x3 =>
  (uRI s 122 p1).bind fun x7 =>
  if x3 = x7 then
    (uRI s 124 p0).bind fun x12 =>
    (uRI s 124 p1).bind fun x16 =>
    if x12 ≤ x16 then
      FX25_isBetter_b58 0 s
    else
      FX25_isBetter_b58 1 s
  else
    (uRI s 122 p0).bind fun x21 =>
    (uRI s 122 p1).bind fun x25 =>
    if x25 ≤ x21 then
      FX25_isBetter_b58 0 s
    else
      FX25_isBetter_b58 1 s
theorem SX25_isBetter {m b : Nat} {φ0 : Nat → Nat} {σo : fS} {q : Int × fS} {φ : Nat → Nat} {h : eH} {s : fS} {p0' : Int32} {p0 : Int} {p1' : Int32} {p1 : Int} (R : fC m b φ0 σo φ h s) (ep0 : p0' = iI p0) (rp0 : r32 p0) (ep1 : p1' = iI p1) (rp1 : r32 p1) (hF : FX25_isBetter p0 p1 s = some q) : gG m b φ0 σo lI q (fX25_isBetter 121 p0' p1' h) := by
  subst ep0; subst ep1
  unfold FX25_isBetter at hF
  unfold fX25_isBetter
  refine s_gAs R (t_121 R.S) (Nat.le_of_ble_eq_true rfl) rfl (o_121_0 R.S) (a_122 R) ?_
  refine s_rI R (u_122 R.S).1 (u_122 R.S).2 (by decide) (a_122 R) rfl rp0 hF (fun x3 ra2 hF => ?_)
  refine s_gAs R (t_121 R.S) (Nat.le_of_ble_eq_true rfl) rfl (o_121_0 R.S) (a_122 R) ?_
  refine s_rI R (u_122 R.S).1 (u_122 R.S).2 (by decide) (a_122 R) rfl rp1 hF (fun x7 ra4 hF => ?_)
  refine s_if (i_eq rfl rfl ra2 ra4) hF (fun c5 hF => ?_) (fun c5 hF => ?_)
  ·
    refine s_gAs R (t_121 R.S) (Nat.le_of_ble_eq_true rfl) rfl (o_121_2 R.S) (a_124 R) ?_
    refine s_rI R (u_124 R.S).1 (u_124 R.S).2 (by decide) (a_124 R) rfl rp0 hF (fun x12 ra7 hF => ?_)
    refine s_gAs R (t_121 R.S) (Nat.le_of_ble_eq_true rfl) rfl (o_121_2 R.S) (a_124 R) ?_
    refine s_rI R (u_124 R.S).1 (u_124 R.S).2 (by decide) (a_124 R) rfl rp1 hF (fun x16 ra9 hF => ?_)
    refine s_if (i_le rfl rfl ra7 ra9) hF (fun c10 hF => ?_) (fun c10 hF => ?_)
    ·
      exact SX25_isBetter_b58 R (c_lit 0 0 rfl) ⟨by decide, by decide⟩ hF
    ·
      exact SX25_isBetter_b58 R (c_lit 1 1 rfl) ⟨by decide, by decide⟩ hF
  ·
    refine s_gAs R (t_121 R.S) (Nat.le_of_ble_eq_true rfl) rfl (o_121_0 R.S) (a_122 R) ?_
    refine s_rI R (u_122 R.S).1 (u_122 R.S).2 (by decide) (a_122 R) rfl rp0 hF (fun x21 ra12 hF => ?_)
    refine s_gAs R (t_121 R.S) (Nat.le_of_ble_eq_true rfl) rfl (o_121_0 R.S) (a_122 R) ?_
    refine s_rI R (u_122 R.S).1 (u_122 R.S).2 (by decide) (a_122 R) rfl rp1 hF (fun x25 ra14 hF => ?_)
    refine s_if (i_le rfl rfl ra14 ra12) hF (fun c15 hF => ?_) (fun c15 hF => ?_)
    ·
      exact SX25_isBetter_b58 R (c_lit 0 0 rfl) ⟨by decide, by decide⟩ hF
    ·
      exact SX25_isBetter_b58 R (c_lit 1 1 rfl) ⟨by decide, by decide⟩ hF
def FX24_offer_b118 (l1 : Int) (s : fS) : Option (Unit × fS) :=
  (uPZ s 120 13 1).bind fun σ1 =>
  (uRI σ1 123 l1).bind fun x9 =>
  (uPI σ1 120 11 (imax (σ1.i 120 11) (iadd x9 1))).bind fun σ11 =>
  (uRI σ11 123 l1).bind fun x19 =>
  (uPI σ11 120 12 (imin (σ11.i 120 12) (iadd x19 1))).bind fun σ21 =>
  some ((), σ21)
theorem SX24_offer_b118 {m b : Nat} {φ0 : Nat → Nat} {σo : fS} {q : Unit × fS} {φ : Nat → Nat} {h : eH} {s : fS} {l1' : Int32} {l1 : Int} (R : fC m b φ0 σo φ h s) (el1 : l1' = iI l1) (rl1 : r32 l1) (hF : FX24_offer_b118 l1 s = some q) : gG m b φ0 σo lU q (fX24_offer_b118 120 l1' h) := by
  subst el1
  unfold FX24_offer_b118 at hF
  unfold fX24_offer_b118
  refine s_pZ R (t_120 R.S) (Nat.le_of_ble_eq_true rfl) rfl (c_lit 1 1 rfl) ⟨by decide, by decide⟩ hF (fun h1 σ1 R1 T1 hF => ?_)
  refine s_gI R1 (t_120 R1.S) (Nat.le_of_ble_eq_true rfl) rfl ?_
  refine s_gO R1 (t_120 R1.S) (Nat.le_of_ble_eq_true rfl) rfl (o_120_4 R1.S) ?_
  refine s_gAs R1 (t_121 R1.S) (Nat.le_of_ble_eq_true rfl) rfl (o_121_1 R1.S) (a_123 R1) ?_
  refine s_rI R1 (u_123 R1.S).1 (u_123 R1.S).2 (by decide) (a_123 R1) rfl rl1 hF (fun x9 ra5 hF => ?_)
  refine s_pI R1 (t_120 R1.S) (Nat.le_of_ble_eq_true rfl) rfl (c_max rfl (c_add rfl (c_lit 1 1 rfl)) (R1.ri (t_120 R1.S) (Nat.le_of_ble_eq_true rfl) rfl) (rr_I _)) (r_max (R1.ri (t_120 R1.S) (Nat.le_of_ble_eq_true rfl) rfl) (rr_I _)) hF (fun h6 σ11 R6 T6 hF => ?_)
  refine s_gI R6 (t_120 R6.S) (Nat.le_of_ble_eq_true rfl) rfl ?_
  refine s_gO R6 (t_120 R6.S) (Nat.le_of_ble_eq_true rfl) rfl (o_120_4 R6.S) ?_
  refine s_gAs R6 (t_121 R6.S) (Nat.le_of_ble_eq_true rfl) rfl (o_121_1 R6.S) (a_123 R6) ?_
  refine s_rI R6 (u_123 R6.S).1 (u_123 R6.S).2 (by decide) (a_123 R6) rfl rl1 hF (fun x19 ra10 hF => ?_)
  refine s_pI R6 (t_120 R6.S) (Nat.le_of_ble_eq_true rfl) rfl (c_min rfl (c_add rfl (c_lit 1 1 rfl)) (R6.ri (t_120 R6.S) (Nat.le_of_ble_eq_true rfl) rfl) (rr_I _)) (r_min (R6.ri (t_120 R6.S) (Nat.le_of_ble_eq_true rfl) rfl) (rr_I _)) hF (fun h11 σ21 R11 T11 hF => ?_)
  exact g_ret R11 hF trivial
def FX24_offer_b96 (l1 : Int) (l3 : Int) (l4 : Int) (s0 : Int) (s : fS) : Option (Unit × fS) :=
  if s0 = 0 then
    FX24_offer_b118 l1 s
  else
    (uQI s 129 l3 l1).bind fun σ4 =>
    (uQJ σ4 130 l3 l4).bind fun σ8 =>
    FX24_offer_b118 l1 σ8
theorem SX24_offer_b96 {m b : Nat} {φ0 : Nat → Nat} {σo : fS} {q : Unit × fS} {φ : Nat → Nat} {h : eH} {s : fS} {l1' : Int32} {l1 : Int} {l3' : Int32} {l3 : Int} {l4' : Int64} {l4 : Int} {s0' : Int32} {s0 : Int} (R : fC m b φ0 σo φ h s) (el1 : l1' = iI l1) (rl1 : r32 l1) (el3 : l3' = iI l3) (rl3 : r32 l3) (el4 : l4' = iJ l4) (rl4 : r64 l4) (es0 : s0' = iI s0) (rs0 : r32 s0) (hF : FX24_offer_b96 l1 l3 l4 s0 s = some q) : gG m b φ0 σo lU q (fX24_offer_b96 120 l1' l3' l4' s0' h) := by
  subst el1; subst el3; subst el4; subst es0
  unfold FX24_offer_b96 at hF
  unfold fX24_offer_b96
  refine s_if (i_eq rfl (c_lit 0 0 rfl) rs0 ⟨by decide, by decide⟩) hF (fun c1 hF => ?_) (fun c1 hF => ?_)
  ·
    exact SX24_offer_b118 R rfl rl1 hF
  ·
    refine s_gAs R (t_120 R.S) (Nat.le_of_ble_eq_true rfl) rfl (o_120_6 R.S) (a_129 R) ?_
    refine s_qI R (u_129 R.S).1 (u_129 R.S).2 (by decide) (a_129 R) rfl rl3 rfl rl1 hF (fun h3 σ4 R3 T3 hF => ?_)
    refine s_gAs R3 (t_120 R3.S) (Nat.le_of_ble_eq_true rfl) rfl (o_120_7 R3.S) (a_130 R3) ?_
    refine s_qJ R3 (u_130 R3.S).1 (u_130 R3.S).2 (a_130 R3) rfl rl3 rfl rl4 hF (fun h5 σ8 R5 T5 hF => ?_)
    exact SX24_offer_b118 R5 rfl rl1 hF
def FX24_offer_b91 (l1 : Int) (l3 : Int) (l4 : Int) (s : fS) : Option (Unit × fS) :=
  FX24_offer_b96 l1 l3 l4 1 s
theorem SX24_offer_b91 {m b : Nat} {φ0 : Nat → Nat} {σo : fS} {q : Unit × fS} {φ : Nat → Nat} {h : eH} {s : fS} {l1' : Int32} {l1 : Int} {l3' : Int32} {l3 : Int} {l4' : Int64} {l4 : Int} (R : fC m b φ0 σo φ h s) (el1 : l1' = iI l1) (rl1 : r32 l1) (el3 : l3' = iI l3) (rl3 : r32 l3) (el4 : l4' = iJ l4) (rl4 : r64 l4) (hF : FX24_offer_b91 l1 l3 l4 s = some q) : gG m b φ0 σo lU q (fX24_offer_b91 120 l1' l3' l4' h) := by
  subst el1; subst el3; subst el4
  unfold FX24_offer_b91 at hF
  unfold fX24_offer_b91
  exact SX24_offer_b96 R rfl rl1 rfl rl3 rfl rl4 (c_lit 1 1 rfl) ⟨by decide, by decide⟩ hF
def FX24_offer_b95 (l1 : Int) (l3 : Int) (l4 : Int) (s : fS) : Option (Unit × fS) :=
  FX24_offer_b96 l1 l3 l4 0 s
theorem SX24_offer_b95 {m b : Nat} {φ0 : Nat → Nat} {σo : fS} {q : Unit × fS} {φ : Nat → Nat} {h : eH} {s : fS} {l1' : Int32} {l1 : Int} {l3' : Int32} {l3 : Int} {l4' : Int64} {l4 : Int} (R : fC m b φ0 σo φ h s) (el1 : l1' = iI l1) (rl1 : r32 l1) (el3 : l3' = iI l3) (rl3 : r32 l3) (el4 : l4' = iJ l4) (rl4 : r64 l4) (hF : FX24_offer_b95 l1 l3 l4 s = some q) : gG m b φ0 σo lU q (fX24_offer_b95 120 l1' l3' l4' h) := by
  subst el1; subst el3; subst el4
  unfold FX24_offer_b95 at hF
  unfold fX24_offer_b95
  exact SX24_offer_b96 R rfl rl1 rfl rl3 rfl rl4 (c_lit 0 0 rfl) ⟨by decide, by decide⟩ hF
def FX24_offer (p0 : Int) (p1 : Int) (s : fS) : Option (Unit × fS) :=
  (uRI s 123 p0).bind fun x5 =>
  (uRJ s 125 p0).bind fun x15 =>
  (FX24_demerits p0 p1 s).bind fun q18 =>
  (uRI q18.2 129 (iadd (imul 4 (iadd x5 1)) (s.i 128 1))).bind fun x21 =>
  if x21 = (-1) then
    FX24_offer_b91 p0 (iadd (imul 4 (iadd x5 1)) (s.i 128 1)) (ladd x15 q18.1) q18.2
  else
    (uRJ q18.2 130 (iadd (imul 4 (iadd x5 1)) (s.i 128 1))).bind fun x26 =>
    if (ladd x15 q18.1) < x26 then
      FX24_offer_b91 p0 (iadd (imul 4 (iadd x5 1)) (s.i 128 1)) (ladd x15 q18.1) q18.2
    else
      (uRJ q18.2 130 (iadd (imul 4 (iadd x5 1)) (s.i 128 1))).bind fun x31 =>
      if ¬ ((ladd x15 q18.1) = x31) then
        FX24_offer_b95 p0 (iadd (imul 4 (iadd x5 1)) (s.i 128 1)) (ladd x15 q18.1) q18.2
      else
        (uRI q18.2 129 (iadd (imul 4 (iadd x5 1)) (s.i 128 1))).bind fun x38 =>
        (FX25_isBetter p0 x38 q18.2).bind fun q41 =>
        if q41.1 = 0 then
          FX24_offer_b95 p0 (iadd (imul 4 (iadd x5 1)) (s.i 128 1)) (ladd x15 q18.1) q41.2
        else
          FX24_offer_b91 p0 (iadd (imul 4 (iadd x5 1)) (s.i 128 1)) (ladd x15 q18.1) q41.2
theorem SX24_offer {m b : Nat} {φ0 : Nat → Nat} {σo : fS} {q : Unit × fS} {φ : Nat → Nat} {h : eH} {s : fS} {p0' : Int32} {p0 : Int} {p1' : Int32} {p1 : Int} (R : fC m b φ0 σo φ h s) (ep0 : p0' = iI p0) (rp0 : r32 p0) (ep1 : p1' = iI p1) (rp1 : r32 p1) (hF : FX24_offer p0 p1 s = some q) : gG m b φ0 σo lU q (fX24_offer 120 p0' p1' h) := by
  subst ep0; subst ep1
  unfold FX24_offer at hF
  unfold fX24_offer
  refine s_gO R (t_120 R.S) (Nat.le_of_ble_eq_true rfl) rfl (o_120_4 R.S) ?_
  refine s_gAs R (t_121 R.S) (Nat.le_of_ble_eq_true rfl) rfl (o_121_1 R.S) (a_123 R) ?_
  refine s_rI R (u_123 R.S).1 (u_123 R.S).2 (by decide) (a_123 R) rfl rp0 hF (fun x5 ra3 hF => ?_)
  refine s_gO R (t_120 R.S) (Nat.le_of_ble_eq_true rfl) rfl (o_120_5 R.S) ?_
  refine s_gI R (t_128 R.S) (Nat.le_of_ble_eq_true rfl) rfl ?_
  refine s_gO R (t_120 R.S) (Nat.le_of_ble_eq_true rfl) rfl (o_120_4 R.S) ?_
  refine s_gAs R (t_121 R.S) (Nat.le_of_ble_eq_true rfl) rfl (o_121_3 R.S) (a_125 R) ?_
  refine s_rJ R (u_125 R.S).1 (u_125 R.S).2 (a_125 R) rfl rp0 hF (fun x15 ra8 hF => ?_)
  refine s_kok R (t_120 R.S) (Nat.le_of_ble_eq_true rfl) ?_
  refine s_call R (Nat.zero_le _) (fun _ hq => SX24_demerits (b := 0) (R.rf) rfl rp0 rfl rp1 hq) hF (fun f10 rv10 h10 q18 R10 e10 E10 hF => ?_)
  refine s_gAs R10 (t_120 R10.S) (Nat.le_of_ble_eq_true rfl) rfl (o_120_6 R10.S) (a_129 R10) ?_
  refine s_rI R10 (u_129 R10.S).1 (u_129 R10.S).2 (by decide) (a_129 R10) (c_add (c_mul (c_lit 4 4 rfl) (c_add rfl (c_lit 1 1 rfl))) rfl) (rr_I _) hF (fun x21 ra12 hF => ?_)
  refine s_if (i_eq rfl (c_lit (-1) (-1) rfl) ra12 ⟨by decide, by decide⟩) hF (fun c13 hF => ?_) (fun c13 hF => ?_)
  ·
    exact SX24_offer_b91 R10 rfl rp0 (c_add (c_mul (c_lit 4 4 rfl) (c_add rfl (c_lit 1 1 rfl))) rfl) (rr_I _) (d_add rfl e10.1) (rr_J _) hF
  ·
    refine s_gAs R10 (t_120 R10.S) (Nat.le_of_ble_eq_true rfl) rfl (o_120_7 R10.S) (a_130 R10) ?_
    refine s_rJ R10 (u_130 R10.S).1 (u_130 R10.S).2 (a_130 R10) (c_add (c_mul (c_lit 4 4 rfl) (c_add rfl (c_lit 1 1 rfl))) rfl) (rr_I _) hF (fun x26 ra15 hF => ?_)
    refine s_if (lg_lt.trans (j_lt (d_add rfl e10.1) rfl (rr_J _) ra15)) hF (fun c16 hF => ?_) (fun c16 hF => ?_)
    ·
      exact SX24_offer_b91 R10 rfl rp0 (c_add (c_mul (c_lit 4 4 rfl) (c_add rfl (c_lit 1 1 rfl))) rfl) (rr_I _) (d_add rfl e10.1) (rr_J _) hF
    ·
      refine s_gAs R10 (t_120 R10.S) (Nat.le_of_ble_eq_true rfl) rfl (o_120_7 R10.S) (a_130 R10) ?_
      refine s_rJ R10 (u_130 R10.S).1 (u_130 R10.S).2 (a_130 R10) (c_add (c_mul (c_lit 4 4 rfl) (c_add rfl (c_lit 1 1 rfl))) rfl) (rr_I _) hF (fun x31 ra18 hF => ?_)
      refine s_if (not_congr (lg_eq.trans (j_eq (d_add rfl e10.1) rfl (rr_J _) ra18))) hF (fun c19 hF => ?_) (fun c19 hF => ?_)
      ·
        exact SX24_offer_b95 R10 rfl rp0 (c_add (c_mul (c_lit 4 4 rfl) (c_add rfl (c_lit 1 1 rfl))) rfl) (rr_I _) (d_add rfl e10.1) (rr_J _) hF
      ·
        refine s_gO R10 (t_120 R10.S) (Nat.le_of_ble_eq_true rfl) rfl (o_120_4 R10.S) ?_
        refine s_gAs R10 (t_120 R10.S) (Nat.le_of_ble_eq_true rfl) rfl (o_120_6 R10.S) (a_129 R10) ?_
        refine s_rI R10 (u_129 R10.S).1 (u_129 R10.S).2 (by decide) (a_129 R10) (c_add (c_mul (c_lit 4 4 rfl) (c_add rfl (c_lit 1 1 rfl))) rfl) (rr_I _) hF (fun x38 ra22 hF => ?_)
        refine s_kok R10 (t_121 R10.S) (Nat.le_of_ble_eq_true rfl) ?_
        refine s_call R10 (Nat.zero_le _) (fun _ hq => SX25_isBetter (b := 0) (R10.rf) rfl rp0 rfl ra22 hq) hF (fun f24 rv24 h24 q41 R24 e24 E24 hF => ?_)
        refine s_if (i_eq e24.1 (c_lit 0 0 rfl) e24.2 ⟨by decide, by decide⟩) hF (fun c25 hF => ?_) (fun c25 hF => ?_)
        ·
          exact SX24_offer_b95 R24 rfl rp0 (c_add (c_mul (c_lit 4 4 rfl) (c_add rfl (c_lit 1 1 rfl))) rfl) (rr_I _) (d_add rfl e10.1) (rr_J _) hF
        ·
          exact SX24_offer_b91 R24 rfl rp0 (c_add (c_mul (c_lit 4 4 rfl) (c_add rfl (c_lit 1 1 rfl))) rfl) (rr_I _) (d_add rfl e10.1) (rr_J _) hF
def FX24_isLater_b59 (s0 : Int) (s : fS) : Option (Int × fS) :=
  uZ s0 (s0, s)
theorem SX24_isLater_b59 {m b : Nat} {φ0 : Nat → Nat} {σo : fS} {q : Int × fS} {φ : Nat → Nat} {h : eH} {s : fS} {s0' : Int32} {s0 : Int} (R : fC m b φ0 σo φ h s) (es0 : s0' = iI s0) (rs0 : r32 s0) (hF : FX24_isLater_b59 s0 s = some q) : gG m b φ0 σo lI q (fX24_isLater_b59 s0' h) := by
  subst es0
  unfold FX24_isLater_b59 at hF
  unfold fX24_isLater_b59
  exact g_z R rfl hF ⟨rfl, rs0⟩
def FX24_isLater (p0 : Int) (p1 : Int) (s : fS) : Option (Int × fS) :=
  (uRI s 123 p0).bind fun x5 =>
  (uRI s 123 p1).bind fun x11 =>
  if x5 = x11 then
    (FX25_isBetter p0 p1 s).bind fun q17 =>
    FX24_isLater_b59 q17.1 q17.2
  else
    (uRI s 123 p0).bind fun x22 =>
    (uRI s 123 p1).bind fun x28 =>
    if x22 ≤ x28 then
      FX24_isLater_b59 0 s
    else
      FX24_isLater_b59 1 s
theorem SX24_isLater {m b : Nat} {φ0 : Nat → Nat} {σo : fS} {q : Int × fS} {φ : Nat → Nat} {h : eH} {s : fS} {p0' : Int32} {p0 : Int} {p1' : Int32} {p1 : Int} (R : fC m b φ0 σo φ h s) (ep0 : p0' = iI p0) (rp0 : r32 p0) (ep1 : p1' = iI p1) (rp1 : r32 p1) (hF : FX24_isLater p0 p1 s = some q) : gG m b φ0 σo lI q (fX24_isLater 120 p0' p1' h) := by
  subst ep0; subst ep1
  unfold FX24_isLater at hF
  unfold fX24_isLater
  refine s_gO R (t_120 R.S) (Nat.le_of_ble_eq_true rfl) rfl (o_120_4 R.S) ?_
  refine s_gAs R (t_121 R.S) (Nat.le_of_ble_eq_true rfl) rfl (o_121_1 R.S) (a_123 R) ?_
  refine s_rI R (u_123 R.S).1 (u_123 R.S).2 (by decide) (a_123 R) rfl rp0 hF (fun x5 ra3 hF => ?_)
  refine s_gO R (t_120 R.S) (Nat.le_of_ble_eq_true rfl) rfl (o_120_4 R.S) ?_
  refine s_gAs R (t_121 R.S) (Nat.le_of_ble_eq_true rfl) rfl (o_121_1 R.S) (a_123 R) ?_
  refine s_rI R (u_123 R.S).1 (u_123 R.S).2 (by decide) (a_123 R) rfl rp1 hF (fun x11 ra6 hF => ?_)
  refine s_if (i_eq rfl rfl ra3 ra6) hF (fun c7 hF => ?_) (fun c7 hF => ?_)
  ·
    refine s_gO R (t_120 R.S) (Nat.le_of_ble_eq_true rfl) rfl (o_120_4 R.S) ?_
    refine s_kok R (t_121 R.S) (Nat.le_of_ble_eq_true rfl) ?_
    refine s_call R (Nat.zero_le _) (fun _ hq => SX25_isBetter (b := 0) (R.rf) rfl rp0 rfl rp1 hq) hF (fun f10 rv10 h10 q17 R10 e10 E10 hF => ?_)
    exact SX24_isLater_b59 R10 e10.1 e10.2 hF
  ·
    refine s_gO R (t_120 R.S) (Nat.le_of_ble_eq_true rfl) rfl (o_120_4 R.S) ?_
    refine s_gAs R (t_121 R.S) (Nat.le_of_ble_eq_true rfl) rfl (o_121_1 R.S) (a_123 R) ?_
    refine s_rI R (u_123 R.S).1 (u_123 R.S).2 (by decide) (a_123 R) rfl rp0 hF (fun x22 ra13 hF => ?_)
    refine s_gO R (t_120 R.S) (Nat.le_of_ble_eq_true rfl) rfl (o_120_4 R.S) ?_
    refine s_gAs R (t_121 R.S) (Nat.le_of_ble_eq_true rfl) rfl (o_121_1 R.S) (a_123 R) ?_
    refine s_rI R (u_123 R.S).1 (u_123 R.S).2 (by decide) (a_123 R) rfl rp1 hF (fun x28 ra16 hF => ?_)
    refine s_if (i_le rfl rfl ra13 ra16) hF (fun c17 hF => ?_) (fun c17 hF => ?_)
    ·
      exact SX24_isLater_b59 R (c_lit 0 0 rfl) ⟨by decide, by decide⟩ hF
    ·
      exact SX24_isLater_b59 R (c_lit 1 1 rfl) ⟨by decide, by decide⟩ hF
def FX24_goThrough_b245 (N : Nat) (K51 : Int → Int → Int → Int → Int → Int → fS → Option (Int × fS)) (l1 : Int) (l2 : Int) (l3 : Int) (l4 : Int) (l5 : Int) (l6 : Int) (s : fS) : Option (Int × fS) :=
  (uRI s 127 l6).bind fun x5 =>
  K51 l1 l2 l3 l4 l5 x5 s
theorem SX24_goThrough_b245 {m b : Nat} {φ0 : Nat → Nat} {σo : fS} {N : Nat} {k51 : Nat → Int32 → Int32 → Int32 → Int32 → Int32 → Int32 → eH → Option (Int32 × eH)} {K51 : Int → Int → Int → Int → Int → Int → fS → Option (Int × fS)} {q : Int × fS} (hk51 : ∀ {φ : Nat → Nat} {h : eH} {s : fS} {l1' : Int32} {l1 : Int} {l2' : Int32} {l2 : Int} {l3' : Int32} {l3 : Int} {l4' : Int32} {l4 : Int} {l5' : Int32} {l5 : Int} {l6' : Int32} {l6 : Int}, fC m b φ0 σo φ h s → l1' = iI l1 → r32 l1 → l2' = iI l2 → r32 l2 → l3' = iI l3 → r32 l3 → l4' = iI l4 → r32 l4 → l5' = iI l5 → r32 l5 → l6' = iI l6 → r32 l6 → K51 l1 l2 l3 l4 l5 l6 s = some q → gG m b φ0 σo lI q (k51 120 l1' l2' l3' l4' l5' l6' h)) {φ : Nat → Nat} {h : eH} {s : fS} {l1' : Int32} {l1 : Int} {l2' : Int32} {l2 : Int} {l3' : Int32} {l3 : Int} {l4' : Int32} {l4 : Int} {l5' : Int32} {l5 : Int} {l6' : Int32} {l6 : Int} (R : fC m b φ0 σo φ h s) (el1 : l1' = iI l1) (rl1 : r32 l1) (el2 : l2' = iI l2) (rl2 : r32 l2) (el3 : l3' = iI l3) (rl3 : r32 l3) (el4 : l4' = iI l4) (rl4 : r32 l4) (el5 : l5' = iI l5) (rl5 : r32 l5) (el6 : l6' = iI l6) (rl6 : r32 l6) (hF : FX24_goThrough_b245 N K51 l1 l2 l3 l4 l5 l6 s = some q) : gG m b φ0 σo lI q (fX24_goThrough_b245 N k51 120 l1' l2' l3' l4' l5' l6' h) := by
  subst el1; subst el2; subst el3; subst el4; subst el5; subst el6
  unfold FX24_goThrough_b245 at hF
  unfold fX24_goThrough_b245
  refine s_gO R (t_120 R.S) (Nat.le_of_ble_eq_true rfl) rfl (o_120_4 R.S) ?_
  refine s_gAs R (t_121 R.S) (Nat.le_of_ble_eq_true rfl) rfl (o_121_5 R.S) (a_127 R) ?_
  refine s_rI R (u_127 R.S).1 (u_127 R.S).2 (by decide) (a_127 R) rfl rl6 hF (fun x5 ra3 hF => ?_)
  exact hk51 R rfl rl1 rfl rl2 rfl rl3 rfl rl4 rfl rl5 rfl ra3 hF
def FX24_goThrough_b188 (N : Nat) (K51 : Int → Int → Int → Int → Int → Int → fS → Option (Int × fS)) (l1 : Int) (l2 : Int) (l4 : Int) (l5 : Int) (l6 : Int) (s0 : Int) (s : fS) : Option (Int × fS) :=
  if ¬ (l4 = (-1)) then
    (uRI s 127 l6).bind fun x10 =>
    (uQI s 127 l4 x10).bind fun σ12 =>
    FX24_goThrough_b245 N K51 l1 l2 s0 l4 l5 l6 σ12
  else
    (uRI s 127 l6).bind fun x20 =>
    (uPI s 121 7 x20).bind fun σ22 =>
    FX24_goThrough_b245 N K51 l1 l2 s0 l4 l5 l6 σ22
theorem SX24_goThrough_b188 {m b : Nat} {φ0 : Nat → Nat} {σo : fS} {N : Nat} {k51 : Nat → Int32 → Int32 → Int32 → Int32 → Int32 → Int32 → eH → Option (Int32 × eH)} {K51 : Int → Int → Int → Int → Int → Int → fS → Option (Int × fS)} {q : Int × fS} (hk51 : ∀ {φ : Nat → Nat} {h : eH} {s : fS} {l1' : Int32} {l1 : Int} {l2' : Int32} {l2 : Int} {l3' : Int32} {l3 : Int} {l4' : Int32} {l4 : Int} {l5' : Int32} {l5 : Int} {l6' : Int32} {l6 : Int}, fC m b φ0 σo φ h s → l1' = iI l1 → r32 l1 → l2' = iI l2 → r32 l2 → l3' = iI l3 → r32 l3 → l4' = iI l4 → r32 l4 → l5' = iI l5 → r32 l5 → l6' = iI l6 → r32 l6 → K51 l1 l2 l3 l4 l5 l6 s = some q → gG m b φ0 σo lI q (k51 120 l1' l2' l3' l4' l5' l6' h)) {φ : Nat → Nat} {h : eH} {s : fS} {l1' : Int32} {l1 : Int} {l2' : Int32} {l2 : Int} {l4' : Int32} {l4 : Int} {l5' : Int32} {l5 : Int} {l6' : Int32} {l6 : Int} {s0' : Int32} {s0 : Int} (R : fC m b φ0 σo φ h s) (el1 : l1' = iI l1) (rl1 : r32 l1) (el2 : l2' = iI l2) (rl2 : r32 l2) (el4 : l4' = iI l4) (rl4 : r32 l4) (el5 : l5' = iI l5) (rl5 : r32 l5) (el6 : l6' = iI l6) (rl6 : r32 l6) (es0 : s0' = iI s0) (rs0 : r32 s0) (hF : FX24_goThrough_b188 N K51 l1 l2 l4 l5 l6 s0 s = some q) : gG m b φ0 σo lI q (fX24_goThrough_b188 N k51 120 l1' l2' l4' l5' l6' s0' h) := by
  subst el1; subst el2; subst el4; subst el5; subst el6; subst es0
  unfold FX24_goThrough_b188 at hF
  unfold fX24_goThrough_b188
  refine s_if (not_congr (i_eq rfl (c_lit (-1) (-1) rfl) rl4 ⟨by decide, by decide⟩)) hF (fun c1 hF => ?_) (fun c1 hF => ?_)
  ·
    refine s_gO R (t_120 R.S) (Nat.le_of_ble_eq_true rfl) rfl (o_120_4 R.S) ?_
    refine s_gAs R (t_121 R.S) (Nat.le_of_ble_eq_true rfl) rfl (o_121_5 R.S) (a_127 R) ?_
    refine s_gO R (t_120 R.S) (Nat.le_of_ble_eq_true rfl) rfl (o_120_4 R.S) ?_
    refine s_gAs R (t_121 R.S) (Nat.le_of_ble_eq_true rfl) rfl (o_121_5 R.S) (a_127 R) ?_
    refine s_rI R (u_127 R.S).1 (u_127 R.S).2 (by decide) (a_127 R) rfl rl6 hF (fun x10 ra6 hF => ?_)
    refine s_qI R (u_127 R.S).1 (u_127 R.S).2 (by decide) (a_127 R) rfl rl4 rfl ra6 hF (fun h7 σ12 R7 T7 hF => ?_)
    exact SX24_goThrough_b245 (N := N) (k51 := k51) (K51 := K51) @hk51 R7 rfl rl1 rfl rl2 rfl rs0 rfl rl4 rfl rl5 rfl rl6 hF
  ·
    refine s_gO R (t_120 R.S) (Nat.le_of_ble_eq_true rfl) rfl (o_120_4 R.S) ?_
    refine s_gO R (t_120 R.S) (Nat.le_of_ble_eq_true rfl) rfl (o_120_4 R.S) ?_
    refine s_gAs R (t_121 R.S) (Nat.le_of_ble_eq_true rfl) rfl (o_121_5 R.S) (a_127 R) ?_
    refine s_rI R (u_127 R.S).1 (u_127 R.S).2 (by decide) (a_127 R) rfl rl6 hF (fun x20 ra11 hF => ?_)
    refine s_pI R (t_121 R.S) (Nat.le_of_ble_eq_true rfl) rfl rfl ra11 hF (fun h12 σ22 R12 T12 hF => ?_)
    exact SX24_goThrough_b245 (N := N) (k51 := k51) (K51 := K51) @hk51 R12 rfl rl1 rfl rl2 rfl rs0 rfl rl4 rfl rl5 rfl rl6 hF
def FX24_goThrough_b182 (N : Nat) (K51 : Int → Int → Int → Int → Int → Int → fS → Option (Int × fS)) (l1 : Int) (l2 : Int) (l4 : Int) (l5 : Int) (l6 : Int) (s : fS) : Option (Int × fS) :=
  FX24_goThrough_b188 N K51 l1 l2 l4 l5 l6 l6 s
theorem SX24_goThrough_b182 {m b : Nat} {φ0 : Nat → Nat} {σo : fS} {N : Nat} {k51 : Nat → Int32 → Int32 → Int32 → Int32 → Int32 → Int32 → eH → Option (Int32 × eH)} {K51 : Int → Int → Int → Int → Int → Int → fS → Option (Int × fS)} {q : Int × fS} (hk51 : ∀ {φ : Nat → Nat} {h : eH} {s : fS} {l1' : Int32} {l1 : Int} {l2' : Int32} {l2 : Int} {l3' : Int32} {l3 : Int} {l4' : Int32} {l4 : Int} {l5' : Int32} {l5 : Int} {l6' : Int32} {l6 : Int}, fC m b φ0 σo φ h s → l1' = iI l1 → r32 l1 → l2' = iI l2 → r32 l2 → l3' = iI l3 → r32 l3 → l4' = iI l4 → r32 l4 → l5' = iI l5 → r32 l5 → l6' = iI l6 → r32 l6 → K51 l1 l2 l3 l4 l5 l6 s = some q → gG m b φ0 σo lI q (k51 120 l1' l2' l3' l4' l5' l6' h)) {φ : Nat → Nat} {h : eH} {s : fS} {l1' : Int32} {l1 : Int} {l2' : Int32} {l2 : Int} {l4' : Int32} {l4 : Int} {l5' : Int32} {l5 : Int} {l6' : Int32} {l6 : Int} (R : fC m b φ0 σo φ h s) (el1 : l1' = iI l1) (rl1 : r32 l1) (el2 : l2' = iI l2) (rl2 : r32 l2) (el4 : l4' = iI l4) (rl4 : r32 l4) (el5 : l5' = iI l5) (rl5 : r32 l5) (el6 : l6' = iI l6) (rl6 : r32 l6) (hF : FX24_goThrough_b182 N K51 l1 l2 l4 l5 l6 s = some q) : gG m b φ0 σo lI q (fX24_goThrough_b182 N k51 120 l1' l2' l4' l5' l6' h) := by
  subst el1; subst el2; subst el4; subst el5; subst el6
  unfold FX24_goThrough_b182 at hF
  unfold fX24_goThrough_b182
  exact SX24_goThrough_b188 (N := N) (k51 := k51) (K51 := K51) @hk51 R rfl rl1 rfl rl2 rfl rl4 rfl rl5 rfl rl6 rfl rl6 hF
def FX24_goThrough_b167 (N : Nat) (K51 : Int → Int → Int → Int → Int → Int → fS → Option (Int × fS)) (l1 : Int) (l2 : Int) (l3 : Int) (l4 : Int) (l5 : Int) (l6 : Int) (s : fS) : Option (Int × fS) :=
  if l3 = (-1) then
    FX24_goThrough_b182 N K51 l1 l2 l4 l5 l6 s
  else
    (FX24_isLater l6 l3 s).bind fun q3 =>
    if q3.1 = 0 then
      FX24_goThrough_b188 N K51 l1 l2 l4 l5 l6 l3 q3.2
    else
      FX24_goThrough_b182 N K51 l1 l2 l4 l5 l6 q3.2
theorem SX24_goThrough_b167 {m b : Nat} {φ0 : Nat → Nat} {σo : fS} {N : Nat} {k51 : Nat → Int32 → Int32 → Int32 → Int32 → Int32 → Int32 → eH → Option (Int32 × eH)} {K51 : Int → Int → Int → Int → Int → Int → fS → Option (Int × fS)} {q : Int × fS} (hk51 : ∀ {φ : Nat → Nat} {h : eH} {s : fS} {l1' : Int32} {l1 : Int} {l2' : Int32} {l2 : Int} {l3' : Int32} {l3 : Int} {l4' : Int32} {l4 : Int} {l5' : Int32} {l5 : Int} {l6' : Int32} {l6 : Int}, fC m b φ0 σo φ h s → l1' = iI l1 → r32 l1 → l2' = iI l2 → r32 l2 → l3' = iI l3 → r32 l3 → l4' = iI l4 → r32 l4 → l5' = iI l5 → r32 l5 → l6' = iI l6 → r32 l6 → K51 l1 l2 l3 l4 l5 l6 s = some q → gG m b φ0 σo lI q (k51 120 l1' l2' l3' l4' l5' l6' h)) {φ : Nat → Nat} {h : eH} {s : fS} {l1' : Int32} {l1 : Int} {l2' : Int32} {l2 : Int} {l3' : Int32} {l3 : Int} {l4' : Int32} {l4 : Int} {l5' : Int32} {l5 : Int} {l6' : Int32} {l6 : Int} (R : fC m b φ0 σo φ h s) (el1 : l1' = iI l1) (rl1 : r32 l1) (el2 : l2' = iI l2) (rl2 : r32 l2) (el3 : l3' = iI l3) (rl3 : r32 l3) (el4 : l4' = iI l4) (rl4 : r32 l4) (el5 : l5' = iI l5) (rl5 : r32 l5) (el6 : l6' = iI l6) (rl6 : r32 l6) (hF : FX24_goThrough_b167 N K51 l1 l2 l3 l4 l5 l6 s = some q) : gG m b φ0 σo lI q (fX24_goThrough_b167 N k51 120 l1' l2' l3' l4' l5' l6' h) := by
  subst el1; subst el2; subst el3; subst el4; subst el5; subst el6
  unfold FX24_goThrough_b167 at hF
  unfold fX24_goThrough_b167
  refine s_if (i_eq rfl (c_lit (-1) (-1) rfl) rl3 ⟨by decide, by decide⟩) hF (fun c1 hF => ?_) (fun c1 hF => ?_)
  ·
    exact SX24_goThrough_b182 (N := N) (k51 := k51) (K51 := K51) @hk51 R rfl rl1 rfl rl2 rfl rl4 rfl rl5 rfl rl6 hF
  ·
    refine s_kok R (t_120 R.S) (Nat.le_of_ble_eq_true rfl) ?_
    refine s_call R (Nat.zero_le _) (fun _ hq => SX24_isLater (b := 0) (R.rf) rfl rl6 rfl rl3 hq) hF (fun f3 rv3 h3 q3 R3 e3 E3 hF => ?_)
    refine s_if (i_eq e3.1 (c_lit 0 0 rfl) e3.2 ⟨by decide, by decide⟩) hF (fun c4 hF => ?_) (fun c4 hF => ?_)
    ·
      exact SX24_goThrough_b188 (N := N) (k51 := k51) (K51 := K51) @hk51 R3 rfl rl1 rfl rl2 rfl rl4 rfl rl5 rfl rl6 rfl rl3 hF
    ·
      exact SX24_goThrough_b182 (N := N) (k51 := k51) (K51 := K51) @hk51 R3 rfl rl1 rfl rl2 rfl rl4 rfl rl5 rfl rl6 hF
def FX24_goThrough_b150 (N : Nat) (K51 : Int → Int → Int → Int → Int → Int → fS → Option (Int × fS)) (l1 : Int) (l2 : Int) (l3 : Int) (l4 : Int) (l5 : Int) (l6 : Int) (s : fS) : Option (Int × fS) :=
  if ¬ (l2 = 0) then
    FX24_goThrough_b167 N K51 l1 l2 l3 l4 l5 l6 s
  else
    if ¬ ((s.i 128 0) = 10001) then
      FX24_goThrough_b245 N K51 l1 l2 l3 l6 1 l6 s
    else
      FX24_goThrough_b167 N K51 l1 l2 l3 l4 l5 l6 s
theorem SX24_goThrough_b150 {m b : Nat} {φ0 : Nat → Nat} {σo : fS} {N : Nat} {k51 : Nat → Int32 → Int32 → Int32 → Int32 → Int32 → Int32 → eH → Option (Int32 × eH)} {K51 : Int → Int → Int → Int → Int → Int → fS → Option (Int × fS)} {q : Int × fS} (hk51 : ∀ {φ : Nat → Nat} {h : eH} {s : fS} {l1' : Int32} {l1 : Int} {l2' : Int32} {l2 : Int} {l3' : Int32} {l3 : Int} {l4' : Int32} {l4 : Int} {l5' : Int32} {l5 : Int} {l6' : Int32} {l6 : Int}, fC m b φ0 σo φ h s → l1' = iI l1 → r32 l1 → l2' = iI l2 → r32 l2 → l3' = iI l3 → r32 l3 → l4' = iI l4 → r32 l4 → l5' = iI l5 → r32 l5 → l6' = iI l6 → r32 l6 → K51 l1 l2 l3 l4 l5 l6 s = some q → gG m b φ0 σo lI q (k51 120 l1' l2' l3' l4' l5' l6' h)) {φ : Nat → Nat} {h : eH} {s : fS} {l1' : Int32} {l1 : Int} {l2' : Int32} {l2 : Int} {l3' : Int32} {l3 : Int} {l4' : Int32} {l4 : Int} {l5' : Int32} {l5 : Int} {l6' : Int32} {l6 : Int} (R : fC m b φ0 σo φ h s) (el1 : l1' = iI l1) (rl1 : r32 l1) (el2 : l2' = iI l2) (rl2 : r32 l2) (el3 : l3' = iI l3) (rl3 : r32 l3) (el4 : l4' = iI l4) (rl4 : r32 l4) (el5 : l5' = iI l5) (rl5 : r32 l5) (el6 : l6' = iI l6) (rl6 : r32 l6) (hF : FX24_goThrough_b150 N K51 l1 l2 l3 l4 l5 l6 s = some q) : gG m b φ0 σo lI q (fX24_goThrough_b150 N k51 120 l1' l2' l3' l4' l5' l6' h) := by
  subst el1; subst el2; subst el3; subst el4; subst el5; subst el6
  unfold FX24_goThrough_b150 at hF
  unfold fX24_goThrough_b150
  refine s_if (not_congr (i_eq rfl (c_lit 0 0 rfl) rl2 ⟨by decide, by decide⟩)) hF (fun c1 hF => ?_) (fun c1 hF => ?_)
  ·
    exact SX24_goThrough_b167 (N := N) (k51 := k51) (K51 := K51) @hk51 R rfl rl1 rfl rl2 rfl rl3 rfl rl4 rfl rl5 rfl rl6 hF
  ·
    refine s_gO R (t_120 R.S) (Nat.le_of_ble_eq_true rfl) rfl (o_120_5 R.S) ?_
    refine s_gI R (t_128 R.S) (Nat.le_of_ble_eq_true rfl) rfl ?_
    refine s_if (not_congr (i_eq rfl (c_lit 10001 10001 rfl) (R.ri (t_128 R.S) (Nat.le_of_ble_eq_true rfl) rfl) ⟨by decide, by decide⟩)) hF (fun c4 hF => ?_) (fun c4 hF => ?_)
    ·
      exact SX24_goThrough_b245 (N := N) (k51 := k51) (K51 := K51) @hk51 R rfl rl1 rfl rl2 rfl rl3 rfl rl6 (c_lit 1 1 rfl) ⟨by decide, by decide⟩ rfl rl6 hF
    ·
      exact SX24_goThrough_b167 (N := N) (k51 := k51) (K51 := K51) @hk51 R rfl rl1 rfl rl2 rfl rl3 rfl rl4 rfl rl5 rfl rl6 hF
def FX24_goThrough_b270 (N : Nat) (s0 : Int) (s : fS) : Option (Int × fS) :=
  some (s0, s)
theorem SX24_goThrough_b270 {m b : Nat} {φ0 : Nat → Nat} {σo : fS} {N : Nat} {q : Int × fS} {φ : Nat → Nat} {h : eH} {s : fS} {s0' : Int32} {s0 : Int} (R : fC m b φ0 σo φ h s) (es0 : s0' = iI s0) (rs0 : r32 s0) (hF : FX24_goThrough_b270 N s0 s = some q) : gG m b φ0 σo lI q (fX24_goThrough_b270 N s0' h) := by
  subst es0
  unfold FX24_goThrough_b270 at hF
  unfold fX24_goThrough_b270
  exact g_ret R hF ⟨rfl, rs0⟩
def FX24_goThrough_b51 (N : Nat) : Nat → Int → Int → Int → Int → Int → Int → fS → Option (Int × fS)
  | 0, _, _, _, _, _, _, _ => none
  | n + 1, l1, l2, l3, l4, l5, l6, s =>
    if l6 = (-1) then
      if l5 = 0 then
        FX24_goThrough_b270 N l3 s
      else
        FX24_goThrough_b270 N (-1) s
    else
      (uPI s 120 14 (iadd (s.i 120 14) 1)).bind fun σ5 =>
      (uRI σ5 122 l6).bind fun x15 =>
      (FX23_measure N x15 l1 σ5).bind fun q18 =>
      (uRI q18.2 123 l6).bind fun x27 =>
      (uRI q18.2 118 (imin x27 19)).bind fun x29 =>
      (FX26_weigh (lsub x29 (q18.2.j 110 8)) q18.2).bind fun q38 =>
      if (q38.2.i 120 10) < (q38.2.i 128 0) then
        FX24_goThrough_b150 N (FX24_goThrough_b51 N n) l1 l2 l3 l4 l5 l6 q38.2
      else
        (FX24_offer l6 l1 q38.2).bind fun q47 =>
        FX24_goThrough_b150 N (FX24_goThrough_b51 N n) l1 l2 l3 l4 l5 l6 q47.2
theorem SX24_goThrough_b51 {m b : Nat} {φ0 : Nat → Nat} {σo : fS} {N : Nat} {q : Int × fS} : ∀ {n : Nat} {φ : Nat → Nat} {h : eH} {s : fS} {l1' : Int32} {l1 : Int} {l2' : Int32} {l2 : Int} {l3' : Int32} {l3 : Int} {l4' : Int32} {l4 : Int} {l5' : Int32} {l5 : Int} {l6' : Int32} {l6 : Int}, fC m b φ0 σo φ h s → l1' = iI l1 → r32 l1 → l2' = iI l2 → r32 l2 → l3' = iI l3 → r32 l3 → l4' = iI l4 → r32 l4 → l5' = iI l5 → r32 l5 → l6' = iI l6 → r32 l6 → FX24_goThrough_b51 N n l1 l2 l3 l4 l5 l6 s = some q → gG m b φ0 σo lI q (fX24_goThrough_b51 N n 120 l1' l2' l3' l4' l5' l6' h) := by
  intro n
  induction n with
 | zero => intro φ h s l1' l1 l2' l2 l3' l3 l4' l4 l5' l5 l6' l6 R el1 rl1 el2 rl2 el3 rl3 el4 rl4 el5 rl5 el6 rl6 hF; simp [FX24_goThrough_b51] at hF
  | succ n ih =>
    intro φ h s l1' l1 l2' l2 l3' l3 l4' l4 l5' l5 l6' l6 R el1 rl1 el2 rl2 el3 rl3 el4 rl4 el5 rl5 el6 rl6 hF
    subst el1; subst el2; subst el3; subst el4; subst el5; subst el6
    rw [FX24_goThrough_b51] at hF
    rw [fX24_goThrough_b51]
    refine s_if (i_eq rfl (c_lit (-1) (-1) rfl) rl6 ⟨by decide, by decide⟩) hF (fun c1 hF => ?_) (fun c1 hF => ?_)
    ·
      refine s_if (i_eq rfl (c_lit 0 0 rfl) rl5 ⟨by decide, by decide⟩) hF (fun c2 hF => ?_) (fun c2 hF => ?_)
      ·
        exact SX24_goThrough_b270 (N := N) R rfl rl3 hF
      ·
        exact SX24_goThrough_b270 (N := N) R (c_lit (-1) (-1) rfl) ⟨by decide, by decide⟩ hF
    ·
      refine s_gI R (t_120 R.S) (Nat.le_of_ble_eq_true rfl) rfl ?_
      refine s_pI R (t_120 R.S) (Nat.le_of_ble_eq_true rfl) rfl (c_add rfl (c_lit 1 1 rfl)) (rr_I _) hF (fun h4 σ5 R4 T4 hF => ?_)
      refine s_gO R4 (t_120 R4.S) (Nat.le_of_ble_eq_true rfl) rfl (o_120_1 R4.S) ?_
      refine s_gO R4 (t_120 R4.S) (Nat.le_of_ble_eq_true rfl) rfl (o_120_0 R4.S) ?_
      refine s_gO R4 (t_120 R4.S) (Nat.le_of_ble_eq_true rfl) rfl (o_120_4 R4.S) ?_
      refine s_gAs R4 (t_121 R4.S) (Nat.le_of_ble_eq_true rfl) rfl (o_121_0 R4.S) (a_122 R4) ?_
      refine s_rI R4 (u_122 R4.S).1 (u_122 R4.S).2 (by decide) (a_122 R4) rfl rl6 hF (fun x15 ra9 hF => ?_)
      refine s_kok R4 (t_110 R4.S) (Nat.le_of_ble_eq_true rfl) ?_
      refine s_call R4 (Nat.zero_le _) (fun _ hq => SX23_measure (b := 0) (N := N) (R4.rf) rfl ra9 rfl rl1 hq) hF (fun f11 rv11 h11 q18 R11 e11 E11 hF => ?_)
      refine s_gO R11 (t_120 R11.S) (Nat.le_of_ble_eq_true rfl) rfl (o_120_5 R11.S) ?_
      refine s_gAs R11 (t_120 R11.S) (Nat.le_of_ble_eq_true rfl) rfl (o_120_3 R11.S) (a_118 R11) ?_
      refine s_gO R11 (t_120 R11.S) (Nat.le_of_ble_eq_true rfl) rfl (o_120_4 R11.S) ?_
      refine s_gAs R11 (t_121 R11.S) (Nat.le_of_ble_eq_true rfl) rfl (o_121_1 R11.S) (a_123 R11) ?_
      refine s_rI R11 (u_123 R11.S).1 (u_123 R11.S).2 (by decide) (a_123 R11) rfl rl6 hF (fun x27 ra16 hF => ?_)
      refine s_rI R11 (u_118 R11.S).1 (u_118 R11.S).2 (by decide) (a_118 R11) (c_min rfl (c_lit 19 19 rfl) ra16 ⟨by decide, by decide⟩) (r_min ra16 ⟨by decide, by decide⟩) hF (fun x29 ra17 hF => ?_)
      refine s_gO R11 (t_120 R11.S) (Nat.le_of_ble_eq_true rfl) rfl (o_120_1 R11.S) ?_
      refine s_gJ R11 (t_110 R11.S) (Nat.le_of_ble_eq_true rfl) rfl ?_
      refine s_gO R11 (t_120 R11.S) (Nat.le_of_ble_eq_true rfl) rfl (o_120_1 R11.S) ?_
      refine s_kok R11 (t_128 R11.S) (Nat.le_of_ble_eq_true rfl) ?_
      refine s_call R11 (Nat.zero_le _) (fun _ hq => SX26_weigh (b := 0) (R11.rf) (d_sub (c_2l rfl ra17) rfl) (rr_J _) hq) hF (fun f22 rv22 h22 q38 R22 e22 E22 hF => ?_)
      refine s_gO R22 (t_120 R22.S) (Nat.le_of_ble_eq_true rfl) rfl (o_120_5 R22.S) ?_
      refine s_gI R22 (t_128 R22.S) (Nat.le_of_ble_eq_true rfl) rfl ?_
      refine s_gI R22 (t_120 R22.S) (Nat.le_of_ble_eq_true rfl) rfl ?_
      refine s_if (i_lt rfl rfl (R22.ri (t_120 R22.S) (Nat.le_of_ble_eq_true rfl) rfl) (R22.ri (t_128 R22.S) (Nat.le_of_ble_eq_true rfl) rfl)) hF (fun c26 hF => ?_) (fun c26 hF => ?_)
      ·
        exact SX24_goThrough_b150 (N := N) (k51 := fX24_goThrough_b51 N n) (K51 := FX24_goThrough_b51 N n) @ih R22 rfl rl1 rfl rl2 rfl rl3 rfl rl4 rfl rl5 rfl rl6 hF
      ·
        refine s_kok R22 (t_120 R22.S) (Nat.le_of_ble_eq_true rfl) ?_
        refine s_call R22 (Nat.zero_le _) (fun _ hq => SX24_offer (b := 0) (R22.rf) rfl rl6 rfl rl1 hq) hF (fun f28 rv28 h28 q47 R28 e28 E28 hF => ?_)
        exact SX24_goThrough_b150 (N := N) (k51 := fX24_goThrough_b51 N n) (K51 := FX24_goThrough_b51 N n) @ih R28 rfl rl1 rfl rl2 rfl rl3 rfl rl4 rfl rl5 rfl rl6 hF
def FX24_goThrough_b16 (N : Nat) (l1 : Int) (s0 : Int) (s : fS) : Option (Int × fS) :=
  (uPZ s 120 13 0).bind fun σ1 =>
  (uPI σ1 120 11 0).bind fun σ3 =>
  (uPI σ3 120 12 2003).bind fun σ5 =>
  FX24_goThrough_b51 N N l1 s0 (-1) (-1) 0 (σ5.i 121 7) σ5
theorem SX24_goThrough_b16 {m b : Nat} {φ0 : Nat → Nat} {σo : fS} {N : Nat} {q : Int × fS} {φ : Nat → Nat} {h : eH} {s : fS} {l1' : Int32} {l1 : Int} {s0' : Int32} {s0 : Int} (R : fC m b φ0 σo φ h s) (el1 : l1' = iI l1) (rl1 : r32 l1) (es0 : s0' = iI s0) (rs0 : r32 s0) (hF : FX24_goThrough_b16 N l1 s0 s = some q) : gG m b φ0 σo lI q (fX24_goThrough_b16 N 120 l1' s0' h) := by
  subst el1; subst es0
  unfold FX24_goThrough_b16 at hF
  unfold fX24_goThrough_b16
  refine s_pZ R (t_120 R.S) (Nat.le_of_ble_eq_true rfl) rfl (c_lit 0 0 rfl) ⟨by decide, by decide⟩ hF (fun h1 σ1 R1 T1 hF => ?_)
  refine s_pI R1 (t_120 R1.S) (Nat.le_of_ble_eq_true rfl) rfl (c_lit 0 0 rfl) ⟨by decide, by decide⟩ hF (fun h2 σ3 R2 T2 hF => ?_)
  refine s_pI R2 (t_120 R2.S) (Nat.le_of_ble_eq_true rfl) rfl (c_lit 2003 2003 rfl) ⟨by decide, by decide⟩ hF (fun h3 σ5 R3 T3 hF => ?_)
  refine s_gO R3 (t_120 R3.S) (Nat.le_of_ble_eq_true rfl) rfl (o_120_4 R3.S) ?_
  refine s_gI R3 (t_121 R3.S) (Nat.le_of_ble_eq_true rfl) rfl ?_
  exact SX24_goThrough_b51 (N := N) R3 rfl rl1 rfl rs0 (c_lit (-1) (-1) rfl) ⟨by decide, by decide⟩ (c_lit (-1) (-1) rfl) ⟨by decide, by decide⟩ (c_lit 0 0 rfl) ⟨by decide, by decide⟩ rfl (R3.ri (t_121 R3.S) (Nat.le_of_ble_eq_true rfl) rfl) hF
def FX24_goThrough (N : Nat) (p0 : Int) (s : fS) : Option (Int × fS) :=
  (FX24_penaltyOf p0 s).bind fun q2 =>
  if ¬ (q2.1 = (-10000)) then
    FX24_goThrough_b16 N p0 0 q2.2
  else
    FX24_goThrough_b16 N p0 1 q2.2
theorem SX24_goThrough {m b : Nat} {φ0 : Nat → Nat} {σo : fS} {N : Nat} {q : Int × fS} {φ : Nat → Nat} {h : eH} {s : fS} {p0' : Int32} {p0 : Int} (R : fC m b φ0 σo φ h s) (ep0 : p0' = iI p0) (rp0 : r32 p0) (hF : FX24_goThrough N p0 s = some q) : gG m b φ0 σo lI q (fX24_goThrough N 120 p0' h) := by
  subst ep0
  unfold FX24_goThrough at hF
  unfold fX24_goThrough
  refine s_kok R (t_120 R.S) (Nat.le_of_ble_eq_true rfl) ?_
  refine s_call R (Nat.zero_le _) (fun _ hq => SX24_penaltyOf (b := 0) (R.rf) rfl rp0 hq) hF (fun f2 rv2 h2 q2 R2 e2 E2 hF => ?_)
  refine s_if (not_congr (i_eq e2.1 (c_lit (-10000) (-10000) rfl) e2.2 ⟨by decide, by decide⟩)) hF (fun c3 hF => ?_) (fun c3 hF => ?_)
  ·
    exact SX24_goThrough_b16 (N := N) R2 rfl rp0 (c_lit 0 0 rfl) ⟨by decide, by decide⟩ hF
  ·
    exact SX24_goThrough_b16 (N := N) R2 rfl rp0 (c_lit 1 1 rfl) ⟨by decide, by decide⟩ hF
def FX24_makeNodes_b90 (N : Nat) (K15 : Int → Int → Int → fS → Option (Int × fS)) (l1 : Int) (l2 : Int) (l3 : Int) (s : fS) : Option (Int × fS) :=
  K15 l1 l2 (iadd l3 1) s
theorem SX24_makeNodes_b90 {m b : Nat} {φ0 : Nat → Nat} {σo : fS} {N : Nat} {k15 : Nat → Int32 → Int32 → Int32 → eH → Option (Int32 × eH)} {K15 : Int → Int → Int → fS → Option (Int × fS)} {q : Int × fS} (hk15 : ∀ {φ : Nat → Nat} {h : eH} {s : fS} {l1' : Int32} {l1 : Int} {l2' : Int32} {l2 : Int} {l3' : Int32} {l3 : Int}, fC m b φ0 σo φ h s → l1' = iI l1 → r32 l1 → l2' = iI l2 → r32 l2 → l3' = iI l3 → r32 l3 → K15 l1 l2 l3 s = some q → gG m b φ0 σo lI q (k15 120 l1' l2' l3' h)) {φ : Nat → Nat} {h : eH} {s : fS} {l1' : Int32} {l1 : Int} {l2' : Int32} {l2 : Int} {l3' : Int32} {l3 : Int} (R : fC m b φ0 σo φ h s) (el1 : l1' = iI l1) (rl1 : r32 l1) (el2 : l2' = iI l2) (rl2 : r32 l2) (el3 : l3' = iI l3) (rl3 : r32 l3) (hF : FX24_makeNodes_b90 N K15 l1 l2 l3 s = some q) : gG m b φ0 σo lI q (fX24_makeNodes_b90 N k15 120 l1' l2' l3' h) := by
  subst el1; subst el2; subst el3
  unfold FX24_makeNodes_b90 at hF
  unfold fX24_makeNodes_b90
  exact hk15 R rfl rl1 rfl rl2 (c_add rfl (c_lit 1 1 rfl)) (rr_I _) hF
def FX24_makeNodes_b15 (N : Nat) (K5 : Int → Int → fS → Option (Int × fS)) : Nat → Int → Int → Int → fS → Option (Int × fS)
  | 0, _, _, _, _ => none
  | n + 1, l1, l2, l3, s =>
    if 4 ≤ l3 then
      K5 l1 (iadd l2 1) s
    else
      (uRI s 129 (iadd (imul 4 l2) l3)).bind fun x4 =>
      if ¬ (x4 = (-1)) then
        if (s.i 121 6) ≤ 8000 then
          (uRJ s 130 (iadd (imul 4 l2) l3)).bind fun x16 =>
          (uRI s 129 (iadd (imul 4 l2) l3)).bind fun x20 =>
          (FX25_add l1 l2 l3 x16 x20 s).bind fun q23 =>
          (uQI q23.2 129 (iadd (imul 4 l2) l3) (-1)).bind fun σ26 =>
          FX24_makeNodes_b90 N (FX24_makeNodes_b15 N K5 n) l1 l2 l3 σ26
        else
          some (0, s)
      else
        FX24_makeNodes_b90 N (FX24_makeNodes_b15 N K5 n) l1 l2 l3 s
theorem SX24_makeNodes_b15 {m b : Nat} {φ0 : Nat → Nat} {σo : fS} {N : Nat} {k5 : Nat → Int32 → Int32 → eH → Option (Int32 × eH)} {K5 : Int → Int → fS → Option (Int × fS)} {q : Int × fS} (hk5 : ∀ {φ : Nat → Nat} {h : eH} {s : fS} {l1' : Int32} {l1 : Int} {l2' : Int32} {l2 : Int}, fC m b φ0 σo φ h s → l1' = iI l1 → r32 l1 → l2' = iI l2 → r32 l2 → K5 l1 l2 s = some q → gG m b φ0 σo lI q (k5 120 l1' l2' h)) : ∀ {n : Nat} {φ : Nat → Nat} {h : eH} {s : fS} {l1' : Int32} {l1 : Int} {l2' : Int32} {l2 : Int} {l3' : Int32} {l3 : Int}, fC m b φ0 σo φ h s → l1' = iI l1 → r32 l1 → l2' = iI l2 → r32 l2 → l3' = iI l3 → r32 l3 → FX24_makeNodes_b15 N K5 n l1 l2 l3 s = some q → gG m b φ0 σo lI q (fX24_makeNodes_b15 N k5 n 120 l1' l2' l3' h) := by
  intro n
  induction n with
 | zero => intro φ h s l1' l1 l2' l2 l3' l3 R el1 rl1 el2 rl2 el3 rl3 hF; simp [FX24_makeNodes_b15] at hF
  | succ n ih =>
    intro φ h s l1' l1 l2' l2 l3' l3 R el1 rl1 el2 rl2 el3 rl3 hF
    subst el1; subst el2; subst el3
    rw [FX24_makeNodes_b15] at hF
    rw [fX24_makeNodes_b15]
    refine s_if (i_le (c_lit 4 4 rfl) rfl ⟨by decide, by decide⟩ rl3) hF (fun c1 hF => ?_) (fun c1 hF => ?_)
    ·
      exact hk5 R rfl rl1 (c_add rfl (c_lit 1 1 rfl)) (rr_I _) hF
    ·
      refine s_gAs R (t_120 R.S) (Nat.le_of_ble_eq_true rfl) rfl (o_120_6 R.S) (a_129 R) ?_
      refine s_rI R (u_129 R.S).1 (u_129 R.S).2 (by decide) (a_129 R) (c_add (c_mul (c_lit 4 4 rfl) rfl) rfl) (rr_I _) hF (fun x4 ra3 hF => ?_)
      refine s_if (not_congr (i_eq rfl (c_lit (-1) (-1) rfl) ra3 ⟨by decide, by decide⟩)) hF (fun c4 hF => ?_) (fun c4 hF => ?_)
      ·
        refine s_gO R (t_120 R.S) (Nat.le_of_ble_eq_true rfl) rfl (o_120_4 R.S) ?_
        refine s_gI R (t_121 R.S) (Nat.le_of_ble_eq_true rfl) rfl ?_
        refine s_if (i_le rfl (c_lit 8000 8000 rfl) (R.ri (t_121 R.S) (Nat.le_of_ble_eq_true rfl) rfl) ⟨by decide, by decide⟩) hF (fun c7 hF => ?_) (fun c7 hF => ?_)
        ·
          refine s_gO R (t_120 R.S) (Nat.le_of_ble_eq_true rfl) rfl (o_120_4 R.S) ?_
          refine s_gAs R (t_120 R.S) (Nat.le_of_ble_eq_true rfl) rfl (o_120_7 R.S) (a_130 R) ?_
          refine s_rJ R (u_130 R.S).1 (u_130 R.S).2 (a_130 R) (c_add (c_mul (c_lit 4 4 rfl) rfl) rfl) (rr_I _) hF (fun x16 ra10 hF => ?_)
          refine s_gAs R (t_120 R.S) (Nat.le_of_ble_eq_true rfl) rfl (o_120_6 R.S) (a_129 R) ?_
          refine s_rI R (u_129 R.S).1 (u_129 R.S).2 (by decide) (a_129 R) (c_add (c_mul (c_lit 4 4 rfl) rfl) rfl) (rr_I _) hF (fun x20 ra12 hF => ?_)
          refine s_kok R (t_121 R.S) (Nat.le_of_ble_eq_true rfl) ?_
          refine s_call R (Nat.zero_le _) (fun _ hq => SX25_add (b := 0) (R.rf) rfl rl1 rfl rl2 rfl rl3 rfl ra10 rfl ra12 hq) hF (fun f14 rv14 h14 q23 R14 e14 E14 hF => ?_)
          refine s_gAs R14 (t_120 R14.S) (Nat.le_of_ble_eq_true rfl) rfl (o_120_6 R14.S) (a_129 R14) ?_
          refine s_qI R14 (u_129 R14.S).1 (u_129 R14.S).2 (by decide) (a_129 R14) (c_add (c_mul (c_lit 4 4 rfl) rfl) rfl) (rr_I _) (c_lit (-1) (-1) rfl) ⟨by decide, by decide⟩ hF (fun h16 σ26 R16 T16 hF => ?_)
          exact SX24_makeNodes_b90 (N := N) (k15 := fX24_makeNodes_b15 N k5 n) (K15 := FX24_makeNodes_b15 N K5 n) @ih R16 rfl rl1 rfl rl2 rfl rl3 hF
        ·
          exact g_ret R hF ⟨(c_lit 0 0 rfl), ⟨by decide, by decide⟩⟩
      ·
        exact SX24_makeNodes_b90 (N := N) (k15 := fX24_makeNodes_b15 N k5 n) (K15 := FX24_makeNodes_b15 N K5 n) @ih R rfl rl1 rfl rl2 rfl rl3 hF
def FX24_makeNodes_b5 (N : Nat) : Nat → Int → Int → fS → Option (Int × fS)
  | 0, _, _, _ => none
  | n + 1, l1, l2, s =>
    if (s.i 120 11) < l2 then
      some (1, s)
    else
      FX24_makeNodes_b15 N (FX24_makeNodes_b5 N n) N l1 l2 0 s
theorem SX24_makeNodes_b5 {m b : Nat} {φ0 : Nat → Nat} {σo : fS} {N : Nat} {q : Int × fS} : ∀ {n : Nat} {φ : Nat → Nat} {h : eH} {s : fS} {l1' : Int32} {l1 : Int} {l2' : Int32} {l2 : Int}, fC m b φ0 σo φ h s → l1' = iI l1 → r32 l1 → l2' = iI l2 → r32 l2 → FX24_makeNodes_b5 N n l1 l2 s = some q → gG m b φ0 σo lI q (fX24_makeNodes_b5 N n 120 l1' l2' h) := by
  intro n
  induction n with
 | zero => intro φ h s l1' l1 l2' l2 R el1 rl1 el2 rl2 hF; simp [FX24_makeNodes_b5] at hF
  | succ n ih =>
    intro φ h s l1' l1 l2' l2 R el1 rl1 el2 rl2 hF
    subst el1; subst el2
    rw [FX24_makeNodes_b5] at hF
    rw [fX24_makeNodes_b5]
    refine s_gI R (t_120 R.S) (Nat.le_of_ble_eq_true rfl) rfl ?_
    refine s_if (i_lt rfl rfl (R.ri (t_120 R.S) (Nat.le_of_ble_eq_true rfl) rfl) rl2) hF (fun c2 hF => ?_) (fun c2 hF => ?_)
    ·
      exact g_ret R hF ⟨(c_lit 1 1 rfl), ⟨by decide, by decide⟩⟩
    ·
      exact SX24_makeNodes_b15 (N := N) (k5 := fX24_makeNodes_b5 N n) (K5 := FX24_makeNodes_b5 N n) @ih R rfl rl1 rfl rl2 (c_lit 0 0 rfl) ⟨by decide, by decide⟩ hF
def FX24_makeNodes (N : Nat) (p0 : Int) (s : fS) : Option (Int × fS) :=
  FX24_makeNodes_b5 N N p0 (s.i 120 12) s
theorem SX24_makeNodes {m b : Nat} {φ0 : Nat → Nat} {σo : fS} {N : Nat} {q : Int × fS} {φ : Nat → Nat} {h : eH} {s : fS} {p0' : Int32} {p0 : Int} (R : fC m b φ0 σo φ h s) (ep0 : p0' = iI p0) (rp0 : r32 p0) (hF : FX24_makeNodes N p0 s = some q) : gG m b φ0 σo lI q (fX24_makeNodes N 120 p0' h) := by
  subst ep0
  unfold FX24_makeNodes at hF
  unfold fX24_makeNodes
  refine s_gI R (t_120 R.S) (Nat.le_of_ble_eq_true rfl) rfl ?_
  exact SX24_makeNodes_b5 (N := N) R rfl rp0 rfl (R.ri (t_120 R.S) (Nat.le_of_ble_eq_true rfl) rfl) hF
