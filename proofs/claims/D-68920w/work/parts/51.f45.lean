set_option maxRecDepth 100000
set_option maxHeartbeats 4000000
def FX35_primary_b129 (N : Nat) (SE : Int → fS → Option (Unit × fS)) (SN : fS → Option (Int × fS)) (s0 : Int) (s : fS) : Option (Int × fS) :=
  some (s0, s)
theorem SX35_primary_b129 {m b : Nat} {φ0 : Nat → Nat} {σo : fS} (hm : 1 ≤ m) {N : Nat} {sE : Nat → Int32 → eH → Option (Unit × eH)} {SE : Int → fS → Option (Unit × fS)} {sN : Nat → eH → Option (Int32 × eH)} {SN : fS → Option (Int × fS)} {q : Int × fS} (hsE : ∀ {φ : Nat → Nat} {h : eH} {s : fS} {x1' : Int32} {x1 : Int} {q}, fC m 1 φ s φ h s → x1' = iI x1 → r32 x1 → SE x1 s = some q → gG m 1 φ s lU q (sE 192 x1' h)) (hsN : ∀ {φ : Nat → Nat} {h : eH} {s : fS} {q}, fC m 1 φ s φ h s → SN s = some q → gG m 1 φ s lI q (sN 192 h)) {φ : Nat → Nat} {h : eH} {s : fS} {s0' : Int32} {s0 : Int} (R : fC m b φ0 σo φ h s) (es0 : s0' = iI s0) (rs0 : r32 s0) (hF : FX35_primary_b129 N SE SN s0 s = some q) : gG m b φ0 σo lI q (fX35_primary_b129 N sE sN s0' h) := by
  subst es0
  unfold FX35_primary_b129 at hF
  unfold fX35_primary_b129
  exact g_ret R hF ⟨rfl, rs0⟩
def FX35_primary_b108 (N : Nat) (SE : Int → fS → Option (Unit × fS)) (SN : fS → Option (Int × fS)) (l2 : Int) (l3 : Int) (s : fS) : Option (Int × fS) :=
  if (s.i 192 46) ≤ 0 then
    if l2 = 0 then
      FX35_primary_b129 N SE SN l3 s
    else
      FX35_primary_b129 N SE SN (ineg l3) s
  else
    FX35_primary_b129 N SE SN 0 s
theorem SX35_primary_b108 {m b : Nat} {φ0 : Nat → Nat} {σo : fS} (hm : 1 ≤ m) {N : Nat} {sE : Nat → Int32 → eH → Option (Unit × eH)} {SE : Int → fS → Option (Unit × fS)} {sN : Nat → eH → Option (Int32 × eH)} {SN : fS → Option (Int × fS)} {q : Int × fS} (hsE : ∀ {φ : Nat → Nat} {h : eH} {s : fS} {x1' : Int32} {x1 : Int} {q}, fC m 1 φ s φ h s → x1' = iI x1 → r32 x1 → SE x1 s = some q → gG m 1 φ s lU q (sE 192 x1' h)) (hsN : ∀ {φ : Nat → Nat} {h : eH} {s : fS} {q}, fC m 1 φ s φ h s → SN s = some q → gG m 1 φ s lI q (sN 192 h)) {φ : Nat → Nat} {h : eH} {s : fS} {l2' : Int32} {l2 : Int} {l3' : Int32} {l3 : Int} (R : fC m b φ0 σo φ h s) (el2 : l2' = iI l2) (rl2 : r32 l2) (el3 : l3' = iI l3) (rl3 : r32 l3) (hF : FX35_primary_b108 N SE SN l2 l3 s = some q) : gG m b φ0 σo lI q (fX35_primary_b108 N sE sN 192 l2' l3' h) := by
  subst el2; subst el3
  unfold FX35_primary_b108 at hF
  unfold fX35_primary_b108
  refine s_gI R (t_192 hm R.S) (Nat.le_of_ble_eq_true rfl) rfl ?_
  refine s_if (i_le rfl (c_lit 0 0 rfl) (R.ri (t_192 hm R.S) (Nat.le_of_ble_eq_true rfl) rfl) ⟨by decide, by decide⟩) hF (fun c2 hF => ?_) (fun c2 hF => ?_)
  ·
    refine s_if (i_eq rfl (c_lit 0 0 rfl) rl2 ⟨by decide, by decide⟩) hF (fun c3 hF => ?_) (fun c3 hF => ?_)
    ·
      exact SX35_primary_b129 (N := N) (sE := sE) (SE := SE) (sN := sN) (SN := SN) hm @hsE @hsN R rfl rl3 hF
    ·
      exact SX35_primary_b129 (N := N) (sE := sE) (SE := SE) (sN := sN) (SN := SN) hm @hsE @hsN R (c_neg rfl) (rr_I _) hF
  ·
    exact SX35_primary_b129 (N := N) (sE := sE) (SE := SE) (sN := sN) (SN := SN) hm @hsE @hsN R (c_lit 0 0 rfl) ⟨by decide, by decide⟩ hF
def FX35_primary_b93 (N : Nat) (SE : Int → fS → Option (Unit × fS)) (SN : fS → Option (Int × fS)) (l1 : Int) (l2 : Int) (s : fS) : Option (Int × fS) :=
  (FX35_lengthOf SN l1 s).bind fun q2 =>
  FX35_primary_b108 N SE SN l2 q2.1 q2.2
theorem SX35_primary_b93 {m b : Nat} {φ0 : Nat → Nat} {σo : fS} (hm : 1 ≤ m) (hb : 1 ≤ b) {N : Nat} {sE : Nat → Int32 → eH → Option (Unit × eH)} {SE : Int → fS → Option (Unit × fS)} {sN : Nat → eH → Option (Int32 × eH)} {SN : fS → Option (Int × fS)} {q : Int × fS} (hsE : ∀ {φ : Nat → Nat} {h : eH} {s : fS} {x1' : Int32} {x1 : Int} {q}, fC m 1 φ s φ h s → x1' = iI x1 → r32 x1 → SE x1 s = some q → gG m 1 φ s lU q (sE 192 x1' h)) (hsN : ∀ {φ : Nat → Nat} {h : eH} {s : fS} {q}, fC m 1 φ s φ h s → SN s = some q → gG m 1 φ s lI q (sN 192 h)) {φ : Nat → Nat} {h : eH} {s : fS} {l1' : Int32} {l1 : Int} {l2' : Int32} {l2 : Int} (R : fC m b φ0 σo φ h s) (el1 : l1' = iI l1) (rl1 : r32 l1) (el2 : l2' = iI l2) (rl2 : r32 l2) (hF : FX35_primary_b93 N SE SN l1 l2 s = some q) : gG m b φ0 σo lI q (fX35_primary_b93 N sE sN 192 l1' l2' h) := by
  subst el1; subst el2
  unfold FX35_primary_b93 at hF
  unfold fX35_primary_b93
  refine s_kok R (t_192 hm R.S) (Nat.le_of_ble_eq_true rfl) ?_
  refine s_call R hb (fun _ hq => SX35_lengthOf (b := 1) (sN := sN) (SN := SN) hm (Nat.le_of_ble_eq_true rfl) @hsN (R.rf) rfl rl1 hq) hF (fun f2 rv2 h2 q2 R2 e2 E2 hF => ?_)
  exact SX35_primary_b108 (N := N) (sE := sE) (SE := SE) (sN := sN) (SN := SN) hm @hsE @hsN R2 rfl rl2 e2.1 e2.2 hF
def FX35_primary (N : Nat) (SE : Int → fS → Option (Unit × fS)) (SN : fS → Option (Int × fS)) (s : fS) : Option (Int × fS) :=
  (FX35_signs N SE s).bind fun q2 =>
  if (q2.2.i 192 46) ≤ 0 then
    (FX35_isDigit (q2.2.i 192 121) q2.2).bind fun q10 =>
    if q10.1 = 0 then
      (FX35_is (q2.2.i 192 121) 12 96 q10.2).bind fun q12 =>
      if q12.1 = 0 then
        (FX35_hasValue (q2.2.i 192 121) q12.2).bind fun q15 =>
        if q15.1 = 0 then
          (FX35_hasLength (q2.2.i 192 121) q15.2).bind fun q18 =>
          if ¬ (q18.1 = 0) then
            FX35_primary_b93 N SE SN (q2.2.i 192 121) (q2.2.i 192 122) q18.2
          else
            (FX35_hasGlue (q2.2.i 192 121) q18.2).bind fun q21 =>
            if q21.1 = 0 then
              (FX35_fail 6 q21.2).bind fun q24 =>
              FX35_primary_b108 N SE SN (q2.2.i 192 122) 0 q24.2
            else
              FX35_primary_b93 N SE SN (q2.2.i 192 121) (q2.2.i 192 122) q21.2
        else
          (FX35_value SN (q2.2.i 192 121) q15.2).bind fun q26 =>
          FX35_primary_b108 N SE SN (q2.2.i 192 122) q26.1 q26.2
      else
        (FX35_quoted N SE q12.2).bind fun q28 =>
        FX35_primary_b108 N SE SN (q2.2.i 192 122) q28.1 q28.2
    else
      (FX35_digits N SE (q2.2.i 192 121) q10.2).bind fun q30 =>
      FX35_primary_b108 N SE SN (q2.2.i 192 122) q30.1 q30.2
  else
    some (0, q2.2)
theorem SX35_primary {m b : Nat} {φ0 : Nat → Nat} {σo : fS} (hm : 1 ≤ m) (hb : 1 ≤ b) {N : Nat} {sE : Nat → Int32 → eH → Option (Unit × eH)} {SE : Int → fS → Option (Unit × fS)} {sN : Nat → eH → Option (Int32 × eH)} {SN : fS → Option (Int × fS)} {q : Int × fS} (hsE : ∀ {φ : Nat → Nat} {h : eH} {s : fS} {x1' : Int32} {x1 : Int} {q}, fC m 1 φ s φ h s → x1' = iI x1 → r32 x1 → SE x1 s = some q → gG m 1 φ s lU q (sE 192 x1' h)) (hsN : ∀ {φ : Nat → Nat} {h : eH} {s : fS} {q}, fC m 1 φ s φ h s → SN s = some q → gG m 1 φ s lI q (sN 192 h)) {φ : Nat → Nat} {h : eH} {s : fS} (R : fC m b φ0 σo φ h s) (hF : FX35_primary N SE SN s = some q) : gG m b φ0 σo lI q (fX35_primary N sE sN 192 h) := by
  unfold FX35_primary at hF
  unfold fX35_primary
  refine s_kok R (t_192 hm R.S) (Nat.le_of_ble_eq_true rfl) ?_
  refine s_call R hb (fun _ hq => SX35_signs (b := 1) (N := N) (sE := sE) (SE := SE) hm (Nat.le_of_ble_eq_true rfl) @hsE (R.rf) hq) hF (fun f2 rv2 h2 q2 R2 e2 E2 hF => ?_)
  refine s_gI R2 (t_192 hm R2.S) (Nat.le_of_ble_eq_true rfl) rfl ?_
  refine s_gI R2 (t_192 hm R2.S) (Nat.le_of_ble_eq_true rfl) rfl ?_
  refine s_gI R2 (t_192 hm R2.S) (Nat.le_of_ble_eq_true rfl) rfl ?_
  refine s_if (i_le rfl (c_lit 0 0 rfl) (R2.ri (t_192 hm R2.S) (Nat.le_of_ble_eq_true rfl) rfl) ⟨by decide, by decide⟩) hF (fun c6 hF => ?_) (fun c6 hF => ?_)
  ·
    refine s_call R2 (Nat.zero_le _) (fun _ hq => SX35_isDigit (b := 0) hm (R2.rf) rfl (R2.ri (t_192 hm R2.S) (Nat.le_of_ble_eq_true rfl) rfl) hq) hF (fun f7 rv7 h7 q10 R7 e7 E7 hF => ?_)
    refine s_if (i_eq e7.1 (c_lit 0 0 rfl) e7.2 ⟨by decide, by decide⟩) hF (fun c8 hF => ?_) (fun c8 hF => ?_)
    ·
      refine s_call R7 (Nat.zero_le _) (fun _ hq => SX35_is (b := 0) hm (R7.rf) rfl (R2.ri (t_192 hm R2.S) (Nat.le_of_ble_eq_true rfl) rfl) (c_lit 12 12 rfl) ⟨by decide, by decide⟩ (c_lit 96 96 rfl) ⟨by decide, by decide⟩ hq) hF (fun f9 rv9 h9 q12 R9 e9 E9 hF => ?_)
      refine s_if (i_eq e9.1 (c_lit 0 0 rfl) e9.2 ⟨by decide, by decide⟩) hF (fun c10 hF => ?_) (fun c10 hF => ?_)
      ·
        refine s_kok R9 (t_192 hm R9.S) (Nat.le_of_ble_eq_true rfl) ?_
        refine s_call R9 (Nat.zero_le _) (fun _ hq => SX35_hasValue (b := 0) hm (R9.rf) rfl (R2.ri (t_192 hm R2.S) (Nat.le_of_ble_eq_true rfl) rfl) hq) hF (fun f12 rv12 h12 q15 R12 e12 E12 hF => ?_)
        refine s_if (i_eq e12.1 (c_lit 0 0 rfl) e12.2 ⟨by decide, by decide⟩) hF (fun c13 hF => ?_) (fun c13 hF => ?_)
        ·
          refine s_kok R12 (t_192 hm R12.S) (Nat.le_of_ble_eq_true rfl) ?_
          refine s_call R12 (Nat.zero_le _) (fun _ hq => SX35_hasLength (b := 0) hm (R12.rf) rfl (R2.ri (t_192 hm R2.S) (Nat.le_of_ble_eq_true rfl) rfl) hq) hF (fun f15 rv15 h15 q18 R15 e15 E15 hF => ?_)
          refine s_if (not_congr (i_eq e15.1 (c_lit 0 0 rfl) e15.2 ⟨by decide, by decide⟩)) hF (fun c16 hF => ?_) (fun c16 hF => ?_)
          ·
            exact SX35_primary_b93 (N := N) (sE := sE) (SE := SE) (sN := sN) (SN := SN) hm hb @hsE @hsN R15 rfl (R2.ri (t_192 hm R2.S) (Nat.le_of_ble_eq_true rfl) rfl) rfl (R2.ri (t_192 hm R2.S) (Nat.le_of_ble_eq_true rfl) rfl) hF
          ·
            refine s_kok R15 (t_192 hm R15.S) (Nat.le_of_ble_eq_true rfl) ?_
            refine s_call R15 (Nat.zero_le _) (fun _ hq => SX35_hasGlue (b := 0) hm (R15.rf) rfl (R2.ri (t_192 hm R2.S) (Nat.le_of_ble_eq_true rfl) rfl) hq) hF (fun f18 rv18 h18 q21 R18 e18 E18 hF => ?_)
            refine s_if (i_eq e18.1 (c_lit 0 0 rfl) e18.2 ⟨by decide, by decide⟩) hF (fun c19 hF => ?_) (fun c19 hF => ?_)
            ·
              refine s_kok R18 (t_192 hm R18.S) (Nat.le_of_ble_eq_true rfl) ?_
              refine s_call R18 (Nat.zero_le _) (fun _ hq => SX35_fail (b := 0) hm (R18.rf) (c_lit 6 6 rfl) ⟨by decide, by decide⟩ hq) hF (fun f21 rv21 h21 q24 R21 e21 E21 hF => ?_)
              exact SX35_primary_b108 (N := N) (sE := sE) (SE := SE) (sN := sN) (SN := SN) hm @hsE @hsN R21 rfl (R2.ri (t_192 hm R2.S) (Nat.le_of_ble_eq_true rfl) rfl) (c_lit 0 0 rfl) ⟨by decide, by decide⟩ hF
            ·
              exact SX35_primary_b93 (N := N) (sE := sE) (SE := SE) (sN := sN) (SN := SN) hm hb @hsE @hsN R18 rfl (R2.ri (t_192 hm R2.S) (Nat.le_of_ble_eq_true rfl) rfl) rfl (R2.ri (t_192 hm R2.S) (Nat.le_of_ble_eq_true rfl) rfl) hF
        ·
          refine s_kok R12 (t_192 hm R12.S) (Nat.le_of_ble_eq_true rfl) ?_
          refine s_call R12 hb (fun _ hq => SX35_value (b := 1) (sN := sN) (SN := SN) hm (Nat.le_of_ble_eq_true rfl) @hsN (R12.rf) rfl (R2.ri (t_192 hm R2.S) (Nat.le_of_ble_eq_true rfl) rfl) hq) hF (fun f23 rv23 h23 q26 R23 e23 E23 hF => ?_)
          exact SX35_primary_b108 (N := N) (sE := sE) (SE := SE) (sN := sN) (SN := SN) hm @hsE @hsN R23 rfl (R2.ri (t_192 hm R2.S) (Nat.le_of_ble_eq_true rfl) rfl) e23.1 e23.2 hF
      ·
        refine s_kok R9 (t_192 hm R9.S) (Nat.le_of_ble_eq_true rfl) ?_
        refine s_call R9 hb (fun _ hq => SX35_quoted (b := 1) (N := N) (sE := sE) (SE := SE) hm (Nat.le_of_ble_eq_true rfl) @hsE (R9.rf) hq) hF (fun f25 rv25 h25 q28 R25 e25 E25 hF => ?_)
        exact SX35_primary_b108 (N := N) (sE := sE) (SE := SE) (sN := sN) (SN := SN) hm @hsE @hsN R25 rfl (R2.ri (t_192 hm R2.S) (Nat.le_of_ble_eq_true rfl) rfl) e25.1 e25.2 hF
    ·
      refine s_kok R7 (t_192 hm R7.S) (Nat.le_of_ble_eq_true rfl) ?_
      refine s_call R7 hb (fun _ hq => SX35_digits (b := 1) (N := N) (sE := sE) (SE := SE) hm (Nat.le_of_ble_eq_true rfl) @hsE (R7.rf) rfl (R2.ri (t_192 hm R2.S) (Nat.le_of_ble_eq_true rfl) rfl) hq) hF (fun f27 rv27 h27 q30 R27 e27 E27 hF => ?_)
      exact SX35_primary_b108 (N := N) (sE := sE) (SE := SE) (sN := sN) (SN := SN) hm @hsE @hsN R27 rfl (R2.ri (t_192 hm R2.S) (Nat.le_of_ble_eq_true rfl) rfl) e27.1 e27.2 hF
  ·
    exact g_ret R2 hF ⟨(c_lit 0 0 rfl), ⟨by decide, by decide⟩⟩
def FX35_number_b14 (N : Nat) (SE : Int → fS → Option (Unit × fS)) (SN : fS → Option (Int × fS)) (s : fS) : Option (Int × fS) :=
  if (s.i 192 46) ≤ 0 then
    (uPI s 192 45 (iadd (s.i 192 45) 1)).bind fun σ6 =>
    (FX35_primary N SE SN σ6).bind fun q9 =>
    (uPI q9.2 192 45 (isub (q9.2.i 192 45) 1)).bind fun σ12 =>
    some (q9.1, σ12)
  else
    some (0, s)
theorem SX35_number_b14 {m b : Nat} {φ0 : Nat → Nat} {σo : fS} (hm : 1 ≤ m) (hb : 1 ≤ b) {N : Nat} {sE : Nat → Int32 → eH → Option (Unit × eH)} {SE : Int → fS → Option (Unit × fS)} {sN : Nat → eH → Option (Int32 × eH)} {SN : fS → Option (Int × fS)} {q : Int × fS} (hsE : ∀ {φ : Nat → Nat} {h : eH} {s : fS} {x1' : Int32} {x1 : Int} {q}, fC m 1 φ s φ h s → x1' = iI x1 → r32 x1 → SE x1 s = some q → gG m 1 φ s lU q (sE 192 x1' h)) (hsN : ∀ {φ : Nat → Nat} {h : eH} {s : fS} {q}, fC m 1 φ s φ h s → SN s = some q → gG m 1 φ s lI q (sN 192 h)) {φ : Nat → Nat} {h : eH} {s : fS} (R : fC m b φ0 σo φ h s) (hF : FX35_number_b14 N SE SN s = some q) : gG m b φ0 σo lI q (fX35_number_b14 N sE sN 192 h) := by
  unfold FX35_number_b14 at hF
  unfold fX35_number_b14
  refine s_gI R (t_192 hm R.S) (Nat.le_of_ble_eq_true rfl) rfl ?_
  refine s_if (i_le rfl (c_lit 0 0 rfl) (R.ri (t_192 hm R.S) (Nat.le_of_ble_eq_true rfl) rfl) ⟨by decide, by decide⟩) hF (fun c2 hF => ?_) (fun c2 hF => ?_)
  ·
    refine s_gI R (t_192 hm R.S) (Nat.le_of_ble_eq_true rfl) rfl ?_
    refine s_pI R (t_192 hm R.S) (Nat.le_of_ble_eq_true rfl) rfl (c_add rfl (c_lit 1 1 rfl)) (rr_I _) hF (fun h4 σ6 R4 T4 hF => ?_)
    refine s_kok R4 (t_192 hm R4.S) (Nat.le_of_ble_eq_true rfl) ?_
    refine s_call R4 hb (fun _ hq => SX35_primary (b := 1) (N := N) (sE := sE) (SE := SE) (sN := sN) (SN := SN) hm (Nat.le_of_ble_eq_true rfl) @hsE @hsN (R4.rf) hq) hF (fun f6 rv6 h6 q9 R6 e6 E6 hF => ?_)
    refine s_gI R6 (t_192 hm R6.S) (Nat.le_of_ble_eq_true rfl) rfl ?_
    refine s_pI R6 (t_192 hm R6.S) (Nat.le_of_ble_eq_true rfl) rfl (c_sub rfl (c_lit 1 1 rfl)) (rr_I _) hF (fun h8 σ12 R8 T8 hF => ?_)
    exact g_ret R8 hF ⟨e6.1, e6.2⟩
  ·
    exact g_ret R hF ⟨(c_lit 0 0 rfl), ⟨by decide, by decide⟩⟩
def FX35_number (N : Nat) (SE : Int → fS → Option (Unit × fS)) (SN : fS → Option (Int × fS)) (s : fS) : Option (Int × fS) :=
  if ¬ ((s.i 192 45) = 40) then
    FX35_number_b14 N SE SN s
  else
    (FX35_fail 3 s).bind fun q5 =>
    FX35_number_b14 N SE SN q5.2
theorem SX35_number {m b : Nat} {φ0 : Nat → Nat} {σo : fS} (hm : 1 ≤ m) (hb : 1 ≤ b) {N : Nat} {sE : Nat → Int32 → eH → Option (Unit × eH)} {SE : Int → fS → Option (Unit × fS)} {sN : Nat → eH → Option (Int32 × eH)} {SN : fS → Option (Int × fS)} {q : Int × fS} (hsE : ∀ {φ : Nat → Nat} {h : eH} {s : fS} {x1' : Int32} {x1 : Int} {q}, fC m 1 φ s φ h s → x1' = iI x1 → r32 x1 → SE x1 s = some q → gG m 1 φ s lU q (sE 192 x1' h)) (hsN : ∀ {φ : Nat → Nat} {h : eH} {s : fS} {q}, fC m 1 φ s φ h s → SN s = some q → gG m 1 φ s lI q (sN 192 h)) {φ : Nat → Nat} {h : eH} {s : fS} (R : fC m b φ0 σo φ h s) (hF : FX35_number N SE SN s = some q) : gG m b φ0 σo lI q (fX35_number N sE sN 192 h) := by
  unfold FX35_number at hF
  unfold fX35_number
  refine s_gI R (t_192 hm R.S) (Nat.le_of_ble_eq_true rfl) rfl ?_
  refine s_if (not_congr (i_eq rfl (c_lit 40 40 rfl) (R.ri (t_192 hm R.S) (Nat.le_of_ble_eq_true rfl) rfl) ⟨by decide, by decide⟩)) hF (fun c2 hF => ?_) (fun c2 hF => ?_)
  ·
    exact SX35_number_b14 (N := N) (sE := sE) (SE := SE) (sN := sN) (SN := SN) hm hb @hsE @hsN R hF
  ·
    refine s_kok R (t_192 hm R.S) (Nat.le_of_ble_eq_true rfl) ?_
    refine s_call R (Nat.zero_le _) (fun _ hq => SX35_fail (b := 0) hm (R.rf) (c_lit 3 3 rfl) ⟨by decide, by decide⟩ hq) hF (fun f4 rv4 h4 q5 R4 e4 E4 hF => ?_)
    exact SX35_number_b14 (N := N) (sE := sE) (SE := SE) (sN := sN) (SN := SN) hm hb @hsE @hsN R4 hF
def FX35_out_b48 (s0 : Int) (s : fS) : Option (Int × fS) :=
  some (s0, s)
theorem SX35_out_b48 {m b : Nat} {φ0 : Nat → Nat} {σo : fS} (hm : 1 ≤ m) {q : Int × fS} {φ : Nat → Nat} {h : eH} {s : fS} {s0' : Int32} {s0 : Int} (R : fC m b φ0 σo φ h s) (es0 : s0' = iI s0) (rs0 : r32 s0) (hF : FX35_out_b48 s0 s = some q) : gG m b φ0 σo lI q (fX35_out_b48 s0' h) := by
  subst es0
  unfold FX35_out_b48 at hF
  unfold fX35_out_b48
  exact g_ret R hF ⟨rfl, rs0⟩
def FX35_out_b21 (l1 : Int) (s1 : Int) (s : fS) : Option (Int × fS) :=
  (uPI s 192 0 s1).bind fun σ1 =>
  if (σ1.i 192 0) ≤ 0 then
    (uRI σ1 249 l1).bind fun x10 =>
    FX35_out_b48 (iand x10 255) σ1
  else
    FX35_out_b48 0 σ1
theorem SX35_out_b21 {m b : Nat} {φ0 : Nat → Nat} {σo : fS} (hm : 1 ≤ m) {q : Int × fS} {φ : Nat → Nat} {h : eH} {s : fS} {l1' : Int32} {l1 : Int} {s1' : Int32} {s1 : Int} (R : fC m b φ0 σo φ h s) (el1 : l1' = iI l1) (rl1 : r32 l1) (es1 : s1' = iI s1) (rs1 : r32 s1) (hF : FX35_out_b21 l1 s1 s = some q) : gG m b φ0 σo lI q (fX35_out_b21 192 l1' 192 s1' h) := by
  subst el1; subst es1
  unfold FX35_out_b21 at hF
  unfold fX35_out_b21
  refine s_pI R (t_192 hm R.S) (Nat.le_of_ble_eq_true rfl) rfl rfl rs1 hF (fun h1 σ1 R1 T1 hF => ?_)
  refine s_gI R1 (t_192 hm R1.S) (Nat.le_of_ble_eq_true rfl) rfl ?_
  refine s_if (i_le rfl (c_lit 0 0 rfl) (R1.ri (t_192 hm R1.S) (Nat.le_of_ble_eq_true rfl) rfl) ⟨by decide, by decide⟩) hF (fun c3 hF => ?_) (fun c3 hF => ?_)
  ·
    refine s_gO R1 (t_192 hm R1.S) (Nat.le_of_ble_eq_true rfl) rfl (o_192_7 hm R1.S) ?_
    refine s_gAs R1 (t_243 hm R1.S) (Nat.le_of_ble_eq_true rfl) rfl (o_243_6 hm R1.S) (a_249 hm R1) ?_
    refine s_rI R1 (u_249 hm R1.S).1 (u_249 hm R1.S).2 (by decide) (a_249 hm R1) rfl rl1 hF (fun x10 ra6 hF => ?_)
    exact SX35_out_b48 hm R1 (c_and rfl (c_lit 255 255 rfl)) (rr_I _) hF
  ·
    exact SX35_out_b48 hm R1 (c_lit 0 0 rfl) ⟨by decide, by decide⟩ hF
def FX35_out_b16 (l1 : Int) (s : fS) : Option (Int × fS) :=
  FX35_out_b21 l1 1 s
theorem SX35_out_b16 {m b : Nat} {φ0 : Nat → Nat} {σo : fS} (hm : 1 ≤ m) {q : Int × fS} {φ : Nat → Nat} {h : eH} {s : fS} {l1' : Int32} {l1 : Int} (R : fC m b φ0 σo φ h s) (el1 : l1' = iI l1) (rl1 : r32 l1) (hF : FX35_out_b16 l1 s = some q) : gG m b φ0 σo lI q (fX35_out_b16 192 l1' 192 h) := by
  subst el1
  unfold FX35_out_b16 at hF
  unfold fX35_out_b16
  exact SX35_out_b21 hm R rfl rl1 (c_lit 1 1 rfl) ⟨by decide, by decide⟩ hF
def FX35_out (p0 : Int) (s : fS) : Option (Int × fS) :=
  if p0 < 0 then
    FX35_out_b16 p0 s
  else
    if p0 < (s.i 243 5) then
      FX35_out_b21 p0 0 s
    else
      FX35_out_b16 p0 s
theorem SX35_out {m b : Nat} {φ0 : Nat → Nat} {σo : fS} (hm : 1 ≤ m) {q : Int × fS} {φ : Nat → Nat} {h : eH} {s : fS} {p0' : Int32} {p0 : Int} (R : fC m b φ0 σo φ h s) (ep0 : p0' = iI p0) (rp0 : r32 p0) (hF : FX35_out p0 s = some q) : gG m b φ0 σo lI q (fX35_out 192 p0' h) := by
  subst ep0
  unfold FX35_out at hF
  unfold fX35_out
  refine s_if (i_lt rfl (c_lit 0 0 rfl) rp0 ⟨by decide, by decide⟩) hF (fun c1 hF => ?_) (fun c1 hF => ?_)
  ·
    exact SX35_out_b16 hm R rfl rp0 hF
  ·
    refine s_gO R (t_192 hm R.S) (Nat.le_of_ble_eq_true rfl) rfl (o_192_7 hm R.S) ?_
    refine s_gI R (t_243 hm R.S) (Nat.le_of_ble_eq_true rfl) rfl ?_
    refine s_if (i_lt rfl rfl rp0 (R.ri (t_243 hm R.S) (Nat.le_of_ble_eq_true rfl) rfl)) hF (fun c4 hF => ?_) (fun c4 hF => ?_)
    ·
      exact SX35_out_b21 hm R rfl rp0 (c_lit 0 0 rfl) ⟨by decide, by decide⟩ hF
    ·
      exact SX35_out_b16 hm R rfl rp0 hF
def FX35_size (s : fS) : Option (Int × fS) :=
  (uPI s 192 0 0).bind fun σ1 =>
  some ((σ1.i 243 5), σ1)
theorem SX35_size {m b : Nat} {φ0 : Nat → Nat} {σo : fS} (hm : 1 ≤ m) {q : Int × fS} {φ : Nat → Nat} {h : eH} {s : fS} (R : fC m b φ0 σo φ h s) (hF : FX35_size s = some q) : gG m b φ0 σo lI q (fX35_size 192 h) := by
  unfold FX35_size at hF
  unfold fX35_size
  refine s_pI R (t_192 hm R.S) (Nat.le_of_ble_eq_true rfl) rfl (c_lit 0 0 rfl) ⟨by decide, by decide⟩ hF (fun h1 σ1 R1 T1 hF => ?_)
  refine s_gO R1 (t_192 hm R1.S) (Nat.le_of_ble_eq_true rfl) rfl (o_192_7 hm R1.S) ?_
  refine s_gI R1 (t_243 hm R1.S) (Nat.le_of_ble_eq_true rfl) rfl ?_
  exact g_ret R1 hF ⟨rfl, (R1.ri (t_243 hm R1.S) (Nat.le_of_ble_eq_true rfl) rfl)⟩
def FX35_thrown (s : fS) : Option (Int × fS) :=
  some ((s.i 192 0), s)
theorem SX35_thrown {m b : Nat} {φ0 : Nat → Nat} {σo : fS} (hm : 1 ≤ m) {q : Int × fS} {φ : Nat → Nat} {h : eH} {s : fS} (R : fC m b φ0 σo φ h s) (hF : FX35_thrown s = some q) : gG m b φ0 σo lI q (fX35_thrown 192 h) := by
  unfold FX35_thrown at hF
  unfold fX35_thrown
  refine s_gI R (t_192 hm R.S) (Nat.le_of_ble_eq_true rfl) rfl ?_
  exact g_ret R hF ⟨rfl, (R.ri (t_192 hm R.S) (Nat.le_of_ble_eq_true rfl) rfl)⟩
