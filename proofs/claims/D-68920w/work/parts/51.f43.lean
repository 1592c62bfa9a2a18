set_option maxRecDepth 100000
set_option maxHeartbeats 4000000
def FX35_reckon_b162 (N : Nat) (SE : Int → fS → Option (Unit × fS)) (SN : fS → Option (Int × fS)) (s : fS) : Option (Unit × fS) :=
  some ((), s)
theorem SX35_reckon_b162 {m b : Nat} {φ0 : Nat → Nat} {σo : fS} (hm : 1 ≤ m) {N : Nat} {sE : Nat → Int32 → eH → Option (Unit × eH)} {SE : Int → fS → Option (Unit × fS)} {sN : Nat → eH → Option (Int32 × eH)} {SN : fS → Option (Int × fS)} {q : Unit × fS} (hsE : ∀ {φ : Nat → Nat} {h : eH} {s : fS} {x1' : Int32} {x1 : Int} {q}, fC m 1 φ s φ h s → x1' = iI x1 → r32 x1 → SE x1 s = some q → gG m 1 φ s lU q (sE 192 x1' h)) (hsN : ∀ {φ : Nat → Nat} {h : eH} {s : fS} {q}, fC m 1 φ s φ h s → SN s = some q → gG m 1 φ s lI q (sN 192 h)) {φ : Nat → Nat} {h : eH} {s : fS} (R : fC m b φ0 σo φ h s) (hF : FX35_reckon_b162 N SE SN s = some q) : gG m b φ0 σo lU q (fX35_reckon_b162 N sE sN h) := by
  unfold FX35_reckon_b162 at hF
  unfold fX35_reckon_b162
  exact g_ret R hF trivial
def FX35_reckon_b155 (N : Nat) (SE : Int → fS → Option (Unit × fS)) (SN : fS → Option (Int × fS)) (l2 : Int) (s1 : Int) (s3 : Int) (s4 : Int) (s5 : Int) (s6 : Int) (s : fS) : Option (Unit × fS) :=
  (FX35_reckoned s3 s4 s5 s6 s).bind fun q2 =>
  (FX35_setAt N s1 q2.1 l2 q2.2).bind fun q4 =>
  FX35_reckon_b162 N SE SN q4.2
theorem SX35_reckon_b155 {m b : Nat} {φ0 : Nat → Nat} {σo : fS} (hm : 1 ≤ m) {N : Nat} {sE : Nat → Int32 → eH → Option (Unit × eH)} {SE : Int → fS → Option (Unit × fS)} {sN : Nat → eH → Option (Int32 × eH)} {SN : fS → Option (Int × fS)} {q : Unit × fS} (hsE : ∀ {φ : Nat → Nat} {h : eH} {s : fS} {x1' : Int32} {x1 : Int} {q}, fC m 1 φ s φ h s → x1' = iI x1 → r32 x1 → SE x1 s = some q → gG m 1 φ s lU q (sE 192 x1' h)) (hsN : ∀ {φ : Nat → Nat} {h : eH} {s : fS} {q}, fC m 1 φ s φ h s → SN s = some q → gG m 1 φ s lI q (sN 192 h)) {φ : Nat → Nat} {h : eH} {s : fS} {l2' : Int32} {l2 : Int} {s1' : Int32} {s1 : Int} {s3' : Int64} {s3 : Int} {s4' : Int64} {s4 : Int} {s5' : Int32} {s5 : Int} {s6' : Int64} {s6 : Int} (R : fC m b φ0 σo φ h s) (el2 : l2' = iI l2) (rl2 : r32 l2) (es1 : s1' = iI s1) (rs1 : r32 s1) (es3 : s3' = iJ s3) (rs3 : r64 s3) (es4 : s4' = iJ s4) (rs4 : r64 s4) (es5 : s5' = iI s5) (rs5 : r32 s5) (es6 : s6' = iJ s6) (rs6 : r64 s6) (hF : FX35_reckon_b155 N SE SN l2 s1 s3 s4 s5 s6 s = some q) : gG m b φ0 σo lU q (fX35_reckon_b155 N sE sN l2' 192 s1' 192 s3' s4' s5' s6' h) := by
  subst el2; subst es1; subst es3; subst es4; subst es5; subst es6
  unfold FX35_reckon_b155 at hF
  unfold fX35_reckon_b155
  refine s_kok R (t_192 hm R.S) (Nat.le_of_ble_eq_true rfl) ?_
  refine s_call R (Nat.zero_le _) (fun _ hq => SX35_reckoned (b := 0) hm (R.rf) rfl rs3 rfl rs4 rfl rs5 rfl rs6 hq) hF (fun f2 rv2 h2 q2 R2 e2 E2 hF => ?_)
  refine s_kok R2 (t_192 hm R2.S) (Nat.le_of_ble_eq_true rfl) ?_
  refine s_call R2 (Nat.zero_le _) (fun _ hq => SX35_setAt (b := 0) (N := N) hm (R2.rf) rfl rs1 e2.1 e2.2 rfl rl2 hq) hF (fun f4 rv4 h4 q4 R4 e4 E4 hF => ?_)
  exact SX35_reckon_b162 (N := N) (sE := sE) (SE := SE) (sN := sN) (SN := SN) hm @hsE @hsN R4 hF
def FX35_reckon_b116 (N : Nat) (SE : Int → fS → Option (Unit × fS)) (SN : fS → Option (Int × fS)) (l1 : Int) (l2 : Int) (l3 : Int) (l4 : Int) (s0 : Int) (s : fS) : Option (Unit × fS) :=
  if ¬ ((s.i 192 46) = 0) then
    FX35_reckon_b162 N SE SN s
  else
    (FX35_now l4 s).bind fun q5 =>
    (FX35_isCounter l3 q5.2).bind fun q6 =>
    if q6.1 = 0 then
      FX35_reckon_b155 N SE SN l2 l4 q5.1 s0 l1 1073741823 q6.2
    else
      FX35_reckon_b155 N SE SN l2 l4 q5.1 s0 l1 2147483647 q6.2
theorem SX35_reckon_b116 {m b : Nat} {φ0 : Nat → Nat} {σo : fS} (hm : 1 ≤ m) {N : Nat} {sE : Nat → Int32 → eH → Option (Unit × eH)} {SE : Int → fS → Option (Unit × fS)} {sN : Nat → eH → Option (Int32 × eH)} {SN : fS → Option (Int × fS)} {q : Unit × fS} (hsE : ∀ {φ : Nat → Nat} {h : eH} {s : fS} {x1' : Int32} {x1 : Int} {q}, fC m 1 φ s φ h s → x1' = iI x1 → r32 x1 → SE x1 s = some q → gG m 1 φ s lU q (sE 192 x1' h)) (hsN : ∀ {φ : Nat → Nat} {h : eH} {s : fS} {q}, fC m 1 φ s φ h s → SN s = some q → gG m 1 φ s lI q (sN 192 h)) {φ : Nat → Nat} {h : eH} {s : fS} {l1' : Int32} {l1 : Int} {l2' : Int32} {l2 : Int} {l3' : Int32} {l3 : Int} {l4' : Int32} {l4 : Int} {s0' : Int64} {s0 : Int} (R : fC m b φ0 σo φ h s) (el1 : l1' = iI l1) (rl1 : r32 l1) (el2 : l2' = iI l2) (rl2 : r32 l2) (el3 : l3' = iI l3) (rl3 : r32 l3) (el4 : l4' = iI l4) (rl4 : r32 l4) (es0 : s0' = iJ s0) (rs0 : r64 s0) (hF : FX35_reckon_b116 N SE SN l1 l2 l3 l4 s0 s = some q) : gG m b φ0 σo lU q (fX35_reckon_b116 N sE sN 192 l1' l2' l3' l4' s0' h) := by
  subst el1; subst el2; subst el3; subst el4; subst es0
  unfold FX35_reckon_b116 at hF
  unfold fX35_reckon_b116
  refine s_gI R (t_192 hm R.S) (Nat.le_of_ble_eq_true rfl) rfl ?_
  refine s_if (not_congr (i_eq rfl (c_lit 0 0 rfl) (R.ri (t_192 hm R.S) (Nat.le_of_ble_eq_true rfl) rfl) ⟨by decide, by decide⟩)) hF (fun c2 hF => ?_) (fun c2 hF => ?_)
  ·
    exact SX35_reckon_b162 (N := N) (sE := sE) (SE := SE) (sN := sN) (SN := SN) hm @hsE @hsN R hF
  ·
    refine s_kok R (t_192 hm R.S) (Nat.le_of_ble_eq_true rfl) ?_
    refine s_call R (Nat.zero_le _) (fun _ hq => SX35_now (b := 0) hm (R.rf) rfl rl4 hq) hF (fun f4 rv4 h4 q5 R4 e4 E4 hF => ?_)
    refine s_call R4 (Nat.zero_le _) (fun _ hq => SX35_isCounter (b := 0) hm (R4.rf) rfl rl3 hq) hF (fun f5 rv5 h5 q6 R5 e5 E5 hF => ?_)
    refine s_if (i_eq e5.1 (c_lit 0 0 rfl) e5.2 ⟨by decide, by decide⟩) hF (fun c6 hF => ?_) (fun c6 hF => ?_)
    ·
      exact SX35_reckon_b155 (N := N) (sE := sE) (SE := SE) (sN := sN) (SN := SN) hm @hsE @hsN R5 rfl rl2 rfl rl4 (c_2l e4.1 e4.2) (r32.w e4.2) rfl rs0 rfl rl1 (d_lit 1073741823 1073741823 rfl) ⟨by decide, by decide⟩ hF
    ·
      exact SX35_reckon_b155 (N := N) (sE := sE) (SE := SE) (sN := sN) (SN := SN) hm @hsE @hsN R5 rfl rl2 rfl rl4 (c_2l e4.1 e4.2) (r32.w e4.2) rfl rs0 rfl rl1 (d_lit 2147483647 2147483647 rfl) ⟨by decide, by decide⟩ hF
def FX35_reckon_b111 (N : Nat) (SE : Int → fS → Option (Unit × fS)) (SN : fS → Option (Int × fS)) (l1 : Int) (l2 : Int) (l3 : Int) (l4 : Int) (s : fS) : Option (Unit × fS) :=
  (SN s).bind fun q2 =>
  FX35_reckon_b116 N SE SN l1 l2 l3 l4 q2.1 q2.2
theorem SX35_reckon_b111 {m b : Nat} {φ0 : Nat → Nat} {σo : fS} (hm : 1 ≤ m) (hb : 1 ≤ b) {N : Nat} {sE : Nat → Int32 → eH → Option (Unit × eH)} {SE : Int → fS → Option (Unit × fS)} {sN : Nat → eH → Option (Int32 × eH)} {SN : fS → Option (Int × fS)} {q : Unit × fS} (hsE : ∀ {φ : Nat → Nat} {h : eH} {s : fS} {x1' : Int32} {x1 : Int} {q}, fC m 1 φ s φ h s → x1' = iI x1 → r32 x1 → SE x1 s = some q → gG m 1 φ s lU q (sE 192 x1' h)) (hsN : ∀ {φ : Nat → Nat} {h : eH} {s : fS} {q}, fC m 1 φ s φ h s → SN s = some q → gG m 1 φ s lI q (sN 192 h)) {φ : Nat → Nat} {h : eH} {s : fS} {l1' : Int32} {l1 : Int} {l2' : Int32} {l2 : Int} {l3' : Int32} {l3 : Int} {l4' : Int32} {l4 : Int} (R : fC m b φ0 σo φ h s) (el1 : l1' = iI l1) (rl1 : r32 l1) (el2 : l2' = iI l2) (rl2 : r32 l2) (el3 : l3' = iI l3) (rl3 : r32 l3) (el4 : l4' = iI l4) (rl4 : r32 l4) (hF : FX35_reckon_b111 N SE SN l1 l2 l3 l4 s = some q) : gG m b φ0 σo lU q (fX35_reckon_b111 N sE sN 192 l1' l2' l3' l4' h) := by
  subst el1; subst el2; subst el3; subst el4
  unfold FX35_reckon_b111 at hF
  unfold fX35_reckon_b111
  refine s_kok R (t_192 hm R.S) (Nat.le_of_ble_eq_true rfl) ?_
  refine s_call R hb (fun _ hq => hsN (R.rf)  hq) hF (fun f2 rv2 h2 q2 R2 e2 E2 hF => ?_)
  exact SX35_reckon_b116 (N := N) (sE := sE) (SE := SE) (sN := sN) (SN := SN) hm @hsE @hsN R2 rfl rl1 rfl rl2 rfl rl3 rfl rl4 (c_2l e2.1 e2.2) (r32.w e2.2) hF
def FX35_reckon_b43 (N : Nat) (SE : Int → fS → Option (Unit × fS)) (SN : fS → Option (Int × fS)) (l1 : Int) (l2 : Int) (l3 : Int) (s : fS) : Option (Unit × fS) :=
  if (s.i 192 46) ≤ 0 then
    (FX35_at SN l3 s).bind fun q5 =>
    if (q5.2.i 192 46) ≤ 0 then
      (FX35_keyword N SE 1000000136 q5.2).bind fun q10 =>
      (FX35_isGlue l3 q10.2).bind fun q11 =>
      if q11.1 = 0 then
        if ¬ (l1 = 36) then
          FX35_reckon_b111 N SE SN l1 l2 l3 q5.1 q11.2
        else
          (FX35_isLength l3 q11.2).bind fun q14 =>
          if q14.1 = 0 then
            FX35_reckon_b111 N SE SN l1 l2 l3 q5.1 q14.2
          else
            (FX35_dimension N SE SN q14.2).bind fun q17 =>
            FX35_reckon_b116 N SE SN l1 l2 l3 q5.1 q17.1 q17.2
      else
        (FX35_reckonGlue N SE SN q5.1 l1 l2 q11.2).bind fun q19 =>
        some ((), q19.2)
    else
      some ((), q5.2)
  else
    some ((), s)
theorem SX35_reckon_b43 {m b : Nat} {φ0 : Nat → Nat} {σo : fS} (hm : 1 ≤ m) (hb : 1 ≤ b) {N : Nat} {sE : Nat → Int32 → eH → Option (Unit × eH)} {SE : Int → fS → Option (Unit × fS)} {sN : Nat → eH → Option (Int32 × eH)} {SN : fS → Option (Int × fS)} {q : Unit × fS} (hsE : ∀ {φ : Nat → Nat} {h : eH} {s : fS} {x1' : Int32} {x1 : Int} {q}, fC m 1 φ s φ h s → x1' = iI x1 → r32 x1 → SE x1 s = some q → gG m 1 φ s lU q (sE 192 x1' h)) (hsN : ∀ {φ : Nat → Nat} {h : eH} {s : fS} {q}, fC m 1 φ s φ h s → SN s = some q → gG m 1 φ s lI q (sN 192 h)) {φ : Nat → Nat} {h : eH} {s : fS} {l1' : Int32} {l1 : Int} {l2' : Int32} {l2 : Int} {l3' : Int32} {l3 : Int} (R : fC m b φ0 σo φ h s) (el1 : l1' = iI l1) (rl1 : r32 l1) (el2 : l2' = iI l2) (rl2 : r32 l2) (el3 : l3' = iI l3) (rl3 : r32 l3) (hF : FX35_reckon_b43 N SE SN l1 l2 l3 s = some q) : gG m b φ0 σo lU q (fX35_reckon_b43 N sE sN 192 l1' l2' l3' h) := by
  subst el1; subst el2; subst el3
  unfold FX35_reckon_b43 at hF
  unfold fX35_reckon_b43
  refine s_gI R (t_192 hm R.S) (Nat.le_of_ble_eq_true rfl) rfl ?_
  refine s_if (i_le rfl (c_lit 0 0 rfl) (R.ri (t_192 hm R.S) (Nat.le_of_ble_eq_true rfl) rfl) ⟨by decide, by decide⟩) hF (fun c2 hF => ?_) (fun c2 hF => ?_)
  ·
    refine s_kok R (t_192 hm R.S) (Nat.le_of_ble_eq_true rfl) ?_
    refine s_call R hb (fun _ hq => SX35_at (b := 1) (sN := sN) (SN := SN) hm (Nat.le_of_ble_eq_true rfl) @hsN (R.rf) rfl rl3 hq) hF (fun f4 rv4 h4 q5 R4 e4 E4 hF => ?_)
    refine s_gI R4 (t_192 hm R4.S) (Nat.le_of_ble_eq_true rfl) rfl ?_
    refine s_if (i_le rfl (c_lit 0 0 rfl) (R4.ri (t_192 hm R4.S) (Nat.le_of_ble_eq_true rfl) rfl) ⟨by decide, by decide⟩) hF (fun c6 hF => ?_) (fun c6 hF => ?_)
    ·
      refine s_kok R4 (t_192 hm R4.S) (Nat.le_of_ble_eq_true rfl) ?_
      refine s_call R4 hb (fun _ hq => SX35_keyword (b := 1) (N := N) (sE := sE) (SE := SE) hm (Nat.le_of_ble_eq_true rfl) @hsE (R4.rf) hq) hF (fun f8 rv8 h8 q10 R8 e8 E8 hF => ?_)
      refine s_call R8 (Nat.zero_le _) (fun _ hq => SX35_isGlue (b := 0) hm (R8.rf) rfl rl3 hq) hF (fun f9 rv9 h9 q11 R9 e9 E9 hF => ?_)
      refine s_if (i_eq e9.1 (c_lit 0 0 rfl) e9.2 ⟨by decide, by decide⟩) hF (fun c10 hF => ?_) (fun c10 hF => ?_)
      ·
        refine s_if (not_congr (i_eq rfl (c_lit 36 36 rfl) rl1 ⟨by decide, by decide⟩)) hF (fun c11 hF => ?_) (fun c11 hF => ?_)
        ·
          exact SX35_reckon_b111 (N := N) (sE := sE) (SE := SE) (sN := sN) (SN := SN) hm hb @hsE @hsN R9 rfl rl1 rfl rl2 rfl rl3 e4.1 e4.2 hF
        ·
          refine s_call R9 (Nat.zero_le _) (fun _ hq => SX35_isLength (b := 0) hm (R9.rf) rfl rl3 hq) hF (fun f12 rv12 h12 q14 R12 e12 E12 hF => ?_)
          refine s_if (i_eq e12.1 (c_lit 0 0 rfl) e12.2 ⟨by decide, by decide⟩) hF (fun c13 hF => ?_) (fun c13 hF => ?_)
          ·
            exact SX35_reckon_b111 (N := N) (sE := sE) (SE := SE) (sN := sN) (SN := SN) hm hb @hsE @hsN R12 rfl rl1 rfl rl2 rfl rl3 e4.1 e4.2 hF
          ·
            refine s_kok R12 (t_192 hm R12.S) (Nat.le_of_ble_eq_true rfl) ?_
            refine s_call R12 hb (fun _ hq => SX35_dimension (b := 1) (N := N) (sE := sE) (SE := SE) (sN := sN) (SN := SN) hm (Nat.le_of_ble_eq_true rfl) @hsE @hsN (R12.rf) hq) hF (fun f15 rv15 h15 q17 R15 e15 E15 hF => ?_)
            exact SX35_reckon_b116 (N := N) (sE := sE) (SE := SE) (sN := sN) (SN := SN) hm @hsE @hsN R15 rfl rl1 rfl rl2 rfl rl3 e4.1 e4.2 (c_2l e15.1 e15.2) (r32.w e15.2) hF
      ·
        refine s_kok R9 (t_192 hm R9.S) (Nat.le_of_ble_eq_true rfl) ?_
        refine s_call R9 hb (fun _ hq => SX35_reckonGlue (b := 1) (N := N) (sE := sE) (SE := SE) (sN := sN) (SN := SN) hm (Nat.le_of_ble_eq_true rfl) @hsE @hsN (R9.rf) e4.1 e4.2 rfl rl1 rfl rl2 hq) hF (fun f17 rv17 h17 q19 R17 e17 E17 hF => ?_)
        exact g_ret R17 hF trivial
    ·
      exact g_ret R4 hF trivial
  ·
    exact g_ret R hF trivial
def FX35_reckon (N : Nat) (SE : Int → fS → Option (Unit × fS)) (SN : fS → Option (Int × fS)) (p0 : Int) (p1 : Int) (s : fS) : Option (Unit × fS) :=
  (FX35_needExpandedNoSpace N SE s).bind fun q2 =>
  (FX35_primitiveOf q2.1 q2.2).bind fun q4 =>
  if ¬ ((q4.2.i 192 46) = 0) then
    FX35_reckon_b43 N SE SN p0 p1 q4.1 q4.2
  else
    (FX35_isCounter q4.1 q4.2).bind fun q8 =>
    if ¬ (q8.1 = 0) then
      FX35_reckon_b43 N SE SN p0 p1 q4.1 q8.2
    else
      (FX35_isLength q4.1 q8.2).bind fun q10 =>
      if ¬ (q10.1 = 0) then
        FX35_reckon_b43 N SE SN p0 p1 q4.1 q10.2
      else
        (FX35_isGlue q4.1 q10.2).bind fun q12 =>
        if ¬ (q12.1 = 0) then
          FX35_reckon_b43 N SE SN p0 p1 q4.1 q12.2
        else
          (FX35_fail 6 q12.2).bind fun q15 =>
          FX35_reckon_b43 N SE SN p0 p1 q4.1 q15.2
theorem SX35_reckon {m b : Nat} {φ0 : Nat → Nat} {σo : fS} (hm : 1 ≤ m) (hb : 1 ≤ b) {N : Nat} {sE : Nat → Int32 → eH → Option (Unit × eH)} {SE : Int → fS → Option (Unit × fS)} {sN : Nat → eH → Option (Int32 × eH)} {SN : fS → Option (Int × fS)} {q : Unit × fS} (hsE : ∀ {φ : Nat → Nat} {h : eH} {s : fS} {x1' : Int32} {x1 : Int} {q}, fC m 1 φ s φ h s → x1' = iI x1 → r32 x1 → SE x1 s = some q → gG m 1 φ s lU q (sE 192 x1' h)) (hsN : ∀ {φ : Nat → Nat} {h : eH} {s : fS} {q}, fC m 1 φ s φ h s → SN s = some q → gG m 1 φ s lI q (sN 192 h)) {φ : Nat → Nat} {h : eH} {s : fS} {p0' : Int32} {p0 : Int} {p1' : Int32} {p1 : Int} (R : fC m b φ0 σo φ h s) (ep0 : p0' = iI p0) (rp0 : r32 p0) (ep1 : p1' = iI p1) (rp1 : r32 p1) (hF : FX35_reckon N SE SN p0 p1 s = some q) : gG m b φ0 σo lU q (fX35_reckon N sE sN 192 p0' p1' h) := by
  subst ep0; subst ep1
  unfold FX35_reckon at hF
  unfold fX35_reckon
  refine s_kok R (t_192 hm R.S) (Nat.le_of_ble_eq_true rfl) ?_
  refine s_call R hb (fun _ hq => SX35_needExpandedNoSpace (b := 1) (N := N) (sE := sE) (SE := SE) hm (Nat.le_of_ble_eq_true rfl) @hsE (R.rf) hq) hF (fun f2 rv2 h2 q2 R2 e2 E2 hF => ?_)
  refine s_kok R2 (t_192 hm R2.S) (Nat.le_of_ble_eq_true rfl) ?_
  refine s_call R2 (Nat.zero_le _) (fun _ hq => SX35_primitiveOf (b := 0) hm (R2.rf) e2.1 e2.2 hq) hF (fun f4 rv4 h4 q4 R4 e4 E4 hF => ?_)
  refine s_gI R4 (t_192 hm R4.S) (Nat.le_of_ble_eq_true rfl) rfl ?_
  refine s_if (not_congr (i_eq rfl (c_lit 0 0 rfl) (R4.ri (t_192 hm R4.S) (Nat.le_of_ble_eq_true rfl) rfl) ⟨by decide, by decide⟩)) hF (fun c6 hF => ?_) (fun c6 hF => ?_)
  ·
    exact SX35_reckon_b43 (N := N) (sE := sE) (SE := SE) (sN := sN) (SN := SN) hm hb @hsE @hsN R4 rfl rp0 rfl rp1 e4.1 e4.2 hF
  ·
    refine s_call R4 (Nat.zero_le _) (fun _ hq => SX35_isCounter (b := 0) hm (R4.rf) e4.1 e4.2 hq) hF (fun f7 rv7 h7 q8 R7 e7 E7 hF => ?_)
    refine s_if (not_congr (i_eq e7.1 (c_lit 0 0 rfl) e7.2 ⟨by decide, by decide⟩)) hF (fun c8 hF => ?_) (fun c8 hF => ?_)
    ·
      exact SX35_reckon_b43 (N := N) (sE := sE) (SE := SE) (sN := sN) (SN := SN) hm hb @hsE @hsN R7 rfl rp0 rfl rp1 e4.1 e4.2 hF
    ·
      refine s_call R7 (Nat.zero_le _) (fun _ hq => SX35_isLength (b := 0) hm (R7.rf) e4.1 e4.2 hq) hF (fun f9 rv9 h9 q10 R9 e9 E9 hF => ?_)
      refine s_if (not_congr (i_eq e9.1 (c_lit 0 0 rfl) e9.2 ⟨by decide, by decide⟩)) hF (fun c10 hF => ?_) (fun c10 hF => ?_)
      ·
        exact SX35_reckon_b43 (N := N) (sE := sE) (SE := SE) (sN := sN) (SN := SN) hm hb @hsE @hsN R9 rfl rp0 rfl rp1 e4.1 e4.2 hF
      ·
        refine s_call R9 (Nat.zero_le _) (fun _ hq => SX35_isGlue (b := 0) hm (R9.rf) e4.1 e4.2 hq) hF (fun f11 rv11 h11 q12 R11 e11 E11 hF => ?_)
        refine s_if (not_congr (i_eq e11.1 (c_lit 0 0 rfl) e11.2 ⟨by decide, by decide⟩)) hF (fun c12 hF => ?_) (fun c12 hF => ?_)
        ·
          exact SX35_reckon_b43 (N := N) (sE := sE) (SE := SE) (sN := sN) (SN := SN) hm hb @hsE @hsN R11 rfl rp0 rfl rp1 e4.1 e4.2 hF
        ·
          refine s_kok R11 (t_192 hm R11.S) (Nat.le_of_ble_eq_true rfl) ?_
          refine s_call R11 (Nat.zero_le _) (fun _ hq => SX35_fail (b := 0) hm (R11.rf) (c_lit 6 6 rfl) ⟨by decide, by decide⟩ hq) hF (fun f14 rv14 h14 q15 R14 e14 E14 hF => ?_)
          exact SX35_reckon_b43 (N := N) (sE := sE) (SE := SE) (sN := sN) (SN := SN) hm hb @hsE @hsN R14 rfl rp0 rfl rp1 e4.1 e4.2 hF
def FX35_quantity_b54 (N : Nat) (SE : Int → fS → Option (Unit × fS)) (SN : fS → Option (Int × fS)) (s : fS) : Option (Unit × fS) :=
  some ((), s)
theorem SX35_quantity_b54 {m b : Nat} {φ0 : Nat → Nat} {σo : fS} (hm : 1 ≤ m) {N : Nat} {sE : Nat → Int32 → eH → Option (Unit × eH)} {SE : Int → fS → Option (Unit × fS)} {sN : Nat → eH → Option (Int32 × eH)} {SN : fS → Option (Int × fS)} {q : Unit × fS} (hsE : ∀ {φ : Nat → Nat} {h : eH} {s : fS} {x1' : Int32} {x1 : Int} {q}, fC m 1 φ s φ h s → x1' = iI x1 → r32 x1 → SE x1 s = some q → gG m 1 φ s lU q (sE 192 x1' h)) (hsN : ∀ {φ : Nat → Nat} {h : eH} {s : fS} {q}, fC m 1 φ s φ h s → SN s = some q → gG m 1 φ s lI q (sN 192 h)) {φ : Nat → Nat} {h : eH} {s : fS} (R : fC m b φ0 σo φ h s) (hF : FX35_quantity_b54 N SE SN s = some q) : gG m b φ0 σo lU q (fX35_quantity_b54 N sE sN h) := by
  unfold FX35_quantity_b54 at hF
  unfold fX35_quantity_b54
  exact g_ret R hF trivial
def FX35_quantity_b50 (N : Nat) (SE : Int → fS → Option (Unit × fS)) (SN : fS → Option (Int × fS)) (l2 : Int) (s1 : Int) (s2 : Int) (s : fS) : Option (Unit × fS) :=
  (FX35_setAt N s1 s2 l2 s).bind fun q2 =>
  FX35_quantity_b54 N SE SN q2.2
theorem SX35_quantity_b50 {m b : Nat} {φ0 : Nat → Nat} {σo : fS} (hm : 1 ≤ m) {N : Nat} {sE : Nat → Int32 → eH → Option (Unit × eH)} {SE : Int → fS → Option (Unit × fS)} {sN : Nat → eH → Option (Int32 × eH)} {SN : fS → Option (Int × fS)} {q : Unit × fS} (hsE : ∀ {φ : Nat → Nat} {h : eH} {s : fS} {x1' : Int32} {x1 : Int} {q}, fC m 1 φ s φ h s → x1' = iI x1 → r32 x1 → SE x1 s = some q → gG m 1 φ s lU q (sE 192 x1' h)) (hsN : ∀ {φ : Nat → Nat} {h : eH} {s : fS} {q}, fC m 1 φ s φ h s → SN s = some q → gG m 1 φ s lI q (sN 192 h)) {φ : Nat → Nat} {h : eH} {s : fS} {l2' : Int32} {l2 : Int} {s1' : Int32} {s1 : Int} {s2' : Int32} {s2 : Int} (R : fC m b φ0 σo φ h s) (el2 : l2' = iI l2) (rl2 : r32 l2) (es1 : s1' = iI s1) (rs1 : r32 s1) (es2 : s2' = iI s2) (rs2 : r32 s2) (hF : FX35_quantity_b50 N SE SN l2 s1 s2 s = some q) : gG m b φ0 σo lU q (fX35_quantity_b50 N sE sN l2' 192 s1' s2' h) := by
  subst el2; subst es1; subst es2
  unfold FX35_quantity_b50 at hF
  unfold fX35_quantity_b50
  refine s_kok R (t_192 hm R.S) (Nat.le_of_ble_eq_true rfl) ?_
  refine s_call R (Nat.zero_le _) (fun _ hq => SX35_setAt (b := 0) (N := N) hm (R.rf) rfl rs1 rfl rs2 rfl rl2 hq) hF (fun f2 rv2 h2 q2 R2 e2 E2 hF => ?_)
  exact SX35_quantity_b54 (N := N) (sE := sE) (SE := SE) (sN := sN) (SN := SN) hm @hsE @hsN R2 hF
def FX35_quantity (N : Nat) (SE : Int → fS → Option (Unit × fS)) (SN : fS → Option (Int × fS)) (p0 : Int) (p1 : Int) (s : fS) : Option (Unit × fS) :=
  (FX35_at SN p0 s).bind fun q2 =>
  (FX35_equals N SE q2.2).bind fun q4 =>
  (FX35_isGlue p0 q4.2).bind fun q5 =>
  if q5.1 = 0 then
    (FX35_isCounter p0 q5.2).bind fun q7 =>
    if q7.1 = 0 then
      (FX35_dimension N SE SN q7.2).bind fun q10 =>
      FX35_quantity_b50 N SE SN p1 q2.1 q10.1 q10.2
    else
      (SN q7.2).bind fun q12 =>
      FX35_quantity_b50 N SE SN p1 q2.1 q12.1 q12.2
  else
    (FX35_readGlue N SE SN q5.2).bind fun q14 =>
    (FX35_setGlue_2 N q2.1 p1 q14.2).bind fun q16 =>
    FX35_quantity_b54 N SE SN q16.2
theorem SX35_quantity {m b : Nat} {φ0 : Nat → Nat} {σo : fS} (hm : 1 ≤ m) (hb : 1 ≤ b) {N : Nat} {sE : Nat → Int32 → eH → Option (Unit × eH)} {SE : Int → fS → Option (Unit × fS)} {sN : Nat → eH → Option (Int32 × eH)} {SN : fS → Option (Int × fS)} {q : Unit × fS} (hsE : ∀ {φ : Nat → Nat} {h : eH} {s : fS} {x1' : Int32} {x1 : Int} {q}, fC m 1 φ s φ h s → x1' = iI x1 → r32 x1 → SE x1 s = some q → gG m 1 φ s lU q (sE 192 x1' h)) (hsN : ∀ {φ : Nat → Nat} {h : eH} {s : fS} {q}, fC m 1 φ s φ h s → SN s = some q → gG m 1 φ s lI q (sN 192 h)) {φ : Nat → Nat} {h : eH} {s : fS} {p0' : Int32} {p0 : Int} {p1' : Int32} {p1 : Int} (R : fC m b φ0 σo φ h s) (ep0 : p0' = iI p0) (rp0 : r32 p0) (ep1 : p1' = iI p1) (rp1 : r32 p1) (hF : FX35_quantity N SE SN p0 p1 s = some q) : gG m b φ0 σo lU q (fX35_quantity N sE sN 192 p0' p1' h) := by
  subst ep0; subst ep1
  unfold FX35_quantity at hF
  unfold fX35_quantity
  refine s_kok R (t_192 hm R.S) (Nat.le_of_ble_eq_true rfl) ?_
  refine s_call R hb (fun _ hq => SX35_at (b := 1) (sN := sN) (SN := SN) hm (Nat.le_of_ble_eq_true rfl) @hsN (R.rf) rfl rp0 hq) hF (fun f2 rv2 h2 q2 R2 e2 E2 hF => ?_)
  refine s_kok R2 (t_192 hm R2.S) (Nat.le_of_ble_eq_true rfl) ?_
  refine s_call R2 hb (fun _ hq => SX35_equals (b := 1) (N := N) (sE := sE) (SE := SE) hm (Nat.le_of_ble_eq_true rfl) @hsE (R2.rf) hq) hF (fun f4 rv4 h4 q4 R4 e4 E4 hF => ?_)
  refine s_call R4 (Nat.zero_le _) (fun _ hq => SX35_isGlue (b := 0) hm (R4.rf) rfl rp0 hq) hF (fun f5 rv5 h5 q5 R5 e5 E5 hF => ?_)
  refine s_if (i_eq e5.1 (c_lit 0 0 rfl) e5.2 ⟨by decide, by decide⟩) hF (fun c6 hF => ?_) (fun c6 hF => ?_)
  ·
    refine s_call R5 (Nat.zero_le _) (fun _ hq => SX35_isCounter (b := 0) hm (R5.rf) rfl rp0 hq) hF (fun f7 rv7 h7 q7 R7 e7 E7 hF => ?_)
    refine s_if (i_eq e7.1 (c_lit 0 0 rfl) e7.2 ⟨by decide, by decide⟩) hF (fun c8 hF => ?_) (fun c8 hF => ?_)
    ·
      refine s_kok R7 (t_192 hm R7.S) (Nat.le_of_ble_eq_true rfl) ?_
      refine s_call R7 hb (fun _ hq => SX35_dimension (b := 1) (N := N) (sE := sE) (SE := SE) (sN := sN) (SN := SN) hm (Nat.le_of_ble_eq_true rfl) @hsE @hsN (R7.rf) hq) hF (fun f10 rv10 h10 q10 R10 e10 E10 hF => ?_)
      exact SX35_quantity_b50 (N := N) (sE := sE) (SE := SE) (sN := sN) (SN := SN) hm @hsE @hsN R10 rfl rp1 e2.1 e2.2 e10.1 e10.2 hF
    ·
      refine s_kok R7 (t_192 hm R7.S) (Nat.le_of_ble_eq_true rfl) ?_
      refine s_call R7 hb (fun _ hq => hsN (R7.rf)  hq) hF (fun f12 rv12 h12 q12 R12 e12 E12 hF => ?_)
      exact SX35_quantity_b50 (N := N) (sE := sE) (SE := SE) (sN := sN) (SN := SN) hm @hsE @hsN R12 rfl rp1 e2.1 e2.2 e12.1 e12.2 hF
  ·
    refine s_kok R5 (t_192 hm R5.S) (Nat.le_of_ble_eq_true rfl) ?_
    refine s_call R5 hb (fun _ hq => SX35_readGlue (b := 1) (N := N) (sE := sE) (SE := SE) (sN := sN) (SN := SN) hm (Nat.le_of_ble_eq_true rfl) @hsE @hsN (R5.rf) hq) hF (fun f14 rv14 h14 q14 R14 e14 E14 hF => ?_)
    refine s_kok R14 (t_192 hm R14.S) (Nat.le_of_ble_eq_true rfl) ?_
    refine s_call R14 (Nat.zero_le _) (fun _ hq => SX35_setGlue_2 (b := 0) (N := N) hm (R14.rf) e2.1 e2.2 rfl rp1 hq) hF (fun f16 rv16 h16 q16 R16 e16 E16 hF => ?_)
    exact SX35_quantity_b54 (N := N) (sE := sE) (SE := SE) (sN := sN) (SN := SN) hm @hsE @hsN R16 hF
def FX35_set_b241 (N : Nat) (SE : Int → fS → Option (Unit × fS)) (SL : Int → Int → Int → fS → Option (Int × fS)) (SN : fS → Option (Int × fS)) (s : fS) : Option (Unit × fS) :=
  some ((), s)
theorem SX35_set_b241 {m b : Nat} {φ0 : Nat → Nat} {σo : fS} (hm : 1 ≤ m) {N : Nat} {sE : Nat → Int32 → eH → Option (Unit × eH)} {SE : Int → fS → Option (Unit × fS)} {sL : Nat → Int32 → Int64 → Int64 → eH → Option (Int32 × eH)} {SL : Int → Int → Int → fS → Option (Int × fS)} {sN : Nat → eH → Option (Int32 × eH)} {SN : fS → Option (Int × fS)} {q : Unit × fS} (hsE : ∀ {φ : Nat → Nat} {h : eH} {s : fS} {x1' : Int32} {x1 : Int} {q}, fC m 1 φ s φ h s → x1' = iI x1 → r32 x1 → SE x1 s = some q → gG m 1 φ s lU q (sE 192 x1' h)) (hsL : ∀ {φ : Nat → Nat} {h : eH} {s : fS} {x1' : Int32} {x1 : Int} {x2' : Int64} {x2 : Int} {x3' : Int64} {x3 : Int} {q}, fC m 1 φ s φ h s → x1' = iI x1 → r32 x1 → x2' = iJ x2 → r64 x2 → x3' = iJ x3 → r64 x3 → SL x1 x2 x3 s = some q → gG m 1 φ s lI q (sL 192 x1' x2' x3' h)) (hsN : ∀ {φ : Nat → Nat} {h : eH} {s : fS} {q}, fC m 1 φ s φ h s → SN s = some q → gG m 1 φ s lI q (sN 192 h)) {φ : Nat → Nat} {h : eH} {s : fS} (R : fC m b φ0 σo φ h s) (hF : FX35_set_b241 N SE SL SN s = some q) : gG m b φ0 σo lU q (fX35_set_b241 N sE sL sN h) := by
  unfold FX35_set_b241 at hF
  unfold fX35_set_b241
  exact g_ret R hF trivial
def FX35_set_b107 (N : Nat) (SE : Int → fS → Option (Unit × fS)) (SL : Int → Int → Int → fS → Option (Int × fS)) (SN : fS → Option (Int × fS)) (s1 : Int) (s2 : Int) (s : fS) : Option (Unit × fS) :=
  (FX35_define N SE s1 s2 s).bind fun q2 =>
  FX35_set_b241 N SE SL SN q2.2
theorem SX35_set_b107 {m b : Nat} {φ0 : Nat → Nat} {σo : fS} (hm : 1 ≤ m) (hb : 1 ≤ b) {N : Nat} {sE : Nat → Int32 → eH → Option (Unit × eH)} {SE : Int → fS → Option (Unit × fS)} {sL : Nat → Int32 → Int64 → Int64 → eH → Option (Int32 × eH)} {SL : Int → Int → Int → fS → Option (Int × fS)} {sN : Nat → eH → Option (Int32 × eH)} {SN : fS → Option (Int × fS)} {q : Unit × fS} (hsE : ∀ {φ : Nat → Nat} {h : eH} {s : fS} {x1' : Int32} {x1 : Int} {q}, fC m 1 φ s φ h s → x1' = iI x1 → r32 x1 → SE x1 s = some q → gG m 1 φ s lU q (sE 192 x1' h)) (hsL : ∀ {φ : Nat → Nat} {h : eH} {s : fS} {x1' : Int32} {x1 : Int} {x2' : Int64} {x2 : Int} {x3' : Int64} {x3 : Int} {q}, fC m 1 φ s φ h s → x1' = iI x1 → r32 x1 → x2' = iJ x2 → r64 x2 → x3' = iJ x3 → r64 x3 → SL x1 x2 x3 s = some q → gG m 1 φ s lI q (sL 192 x1' x2' x3' h)) (hsN : ∀ {φ : Nat → Nat} {h : eH} {s : fS} {q}, fC m 1 φ s φ h s → SN s = some q → gG m 1 φ s lI q (sN 192 h)) {φ : Nat → Nat} {h : eH} {s : fS} {s1' : Int32} {s1 : Int} {s2' : Int32} {s2 : Int} (R : fC m b φ0 σo φ h s) (es1 : s1' = iI s1) (rs1 : r32 s1) (es2 : s2' = iI s2) (rs2 : r32 s2) (hF : FX35_set_b107 N SE SL SN s1 s2 s = some q) : gG m b φ0 σo lU q (fX35_set_b107 N sE sL sN 192 s1' s2' h) := by
  subst es1; subst es2
  unfold FX35_set_b107 at hF
  unfold fX35_set_b107
  refine s_kok R (t_192 hm R.S) (Nat.le_of_ble_eq_true rfl) ?_
  refine s_call R hb (fun _ hq => SX35_define (b := 1) (N := N) (sE := sE) (SE := SE) hm (Nat.le_of_ble_eq_true rfl) @hsE (R.rf) rfl rs1 rfl rs2 hq) hF (fun f2 rv2 h2 q2 R2 e2 E2 hF => ?_)
  exact SX35_set_b241 (N := N) (sE := sE) (SE := SE) (sL := sL) (SL := SL) (sN := sN) (SN := SN) hm @hsE @hsL @hsN R2 hF
def FX35_set_b102 (N : Nat) (SE : Int → fS → Option (Unit × fS)) (SL : Int → Int → Int → fS → Option (Int × fS)) (SN : fS → Option (Int × fS)) (s1 : Int) (s : fS) : Option (Unit × fS) :=
  FX35_set_b107 N SE SL SN s1 1 s
theorem SX35_set_b102 {m b : Nat} {φ0 : Nat → Nat} {σo : fS} (hm : 1 ≤ m) (hb : 1 ≤ b) {N : Nat} {sE : Nat → Int32 → eH → Option (Unit × eH)} {SE : Int → fS → Option (Unit × fS)} {sL : Nat → Int32 → Int64 → Int64 → eH → Option (Int32 × eH)} {SL : Int → Int → Int → fS → Option (Int × fS)} {sN : Nat → eH → Option (Int32 × eH)} {SN : fS → Option (Int × fS)} {q : Unit × fS} (hsE : ∀ {φ : Nat → Nat} {h : eH} {s : fS} {x1' : Int32} {x1 : Int} {q}, fC m 1 φ s φ h s → x1' = iI x1 → r32 x1 → SE x1 s = some q → gG m 1 φ s lU q (sE 192 x1' h)) (hsL : ∀ {φ : Nat → Nat} {h : eH} {s : fS} {x1' : Int32} {x1 : Int} {x2' : Int64} {x2 : Int} {x3' : Int64} {x3 : Int} {q}, fC m 1 φ s φ h s → x1' = iI x1 → r32 x1 → x2' = iJ x2 → r64 x2 → x3' = iJ x3 → r64 x3 → SL x1 x2 x3 s = some q → gG m 1 φ s lI q (sL 192 x1' x2' x3' h)) (hsN : ∀ {φ : Nat → Nat} {h : eH} {s : fS} {q}, fC m 1 φ s φ h s → SN s = some q → gG m 1 φ s lI q (sN 192 h)) {φ : Nat → Nat} {h : eH} {s : fS} {s1' : Int32} {s1 : Int} (R : fC m b φ0 σo φ h s) (es1 : s1' = iI s1) (rs1 : r32 s1) (hF : FX35_set_b102 N SE SL SN s1 s = some q) : gG m b φ0 σo lU q (fX35_set_b102 N sE sL sN 192 s1' h) := by
  subst es1
  unfold FX35_set_b102 at hF
  unfold fX35_set_b102
  exact SX35_set_b107 (N := N) (sE := sE) (SE := SE) (sL := sL) (SL := SL) (sN := sN) (SN := SN) hm hb @hsE @hsL @hsN R rfl rs1 (c_lit 1 1 rfl) ⟨by decide, by decide⟩ hF
def FX35_set_b86 (N : Nat) (SE : Int → fS → Option (Unit × fS)) (SL : Int → Int → Int → fS → Option (Int × fS)) (SN : fS → Option (Int × fS)) (l1 : Int) (l2 : Int) (s1 : Int) (s : fS) : Option (Unit × fS) :=
  if ¬ (l2 = 0) then
    FX35_set_b102 N SE SL SN s1 s
  else
    if l1 = 30 then
      FX35_set_b102 N SE SL SN s1 s
    else
      if ¬ (l1 = 31) then
        FX35_set_b107 N SE SL SN s1 0 s
      else
        FX35_set_b102 N SE SL SN s1 s
theorem SX35_set_b86 {m b : Nat} {φ0 : Nat → Nat} {σo : fS} (hm : 1 ≤ m) (hb : 1 ≤ b) {N : Nat} {sE : Nat → Int32 → eH → Option (Unit × eH)} {SE : Int → fS → Option (Unit × fS)} {sL : Nat → Int32 → Int64 → Int64 → eH → Option (Int32 × eH)} {SL : Int → Int → Int → fS → Option (Int × fS)} {sN : Nat → eH → Option (Int32 × eH)} {SN : fS → Option (Int × fS)} {q : Unit × fS} (hsE : ∀ {φ : Nat → Nat} {h : eH} {s : fS} {x1' : Int32} {x1 : Int} {q}, fC m 1 φ s φ h s → x1' = iI x1 → r32 x1 → SE x1 s = some q → gG m 1 φ s lU q (sE 192 x1' h)) (hsL : ∀ {φ : Nat → Nat} {h : eH} {s : fS} {x1' : Int32} {x1 : Int} {x2' : Int64} {x2 : Int} {x3' : Int64} {x3 : Int} {q}, fC m 1 φ s φ h s → x1' = iI x1 → r32 x1 → x2' = iJ x2 → r64 x2 → x3' = iJ x3 → r64 x3 → SL x1 x2 x3 s = some q → gG m 1 φ s lI q (sL 192 x1' x2' x3' h)) (hsN : ∀ {φ : Nat → Nat} {h : eH} {s : fS} {q}, fC m 1 φ s φ h s → SN s = some q → gG m 1 φ s lI q (sN 192 h)) {φ : Nat → Nat} {h : eH} {s : fS} {l1' : Int32} {l1 : Int} {l2' : Int32} {l2 : Int} {s1' : Int32} {s1 : Int} (R : fC m b φ0 σo φ h s) (el1 : l1' = iI l1) (rl1 : r32 l1) (el2 : l2' = iI l2) (rl2 : r32 l2) (es1 : s1' = iI s1) (rs1 : r32 s1) (hF : FX35_set_b86 N SE SL SN l1 l2 s1 s = some q) : gG m b φ0 σo lU q (fX35_set_b86 N sE sL sN l1' l2' 192 s1' h) := by
  subst el1; subst el2; subst es1
  unfold FX35_set_b86 at hF
  unfold fX35_set_b86
  refine s_if (not_congr (i_eq rfl (c_lit 0 0 rfl) rl2 ⟨by decide, by decide⟩)) hF (fun c1 hF => ?_) (fun c1 hF => ?_)
  ·
    exact SX35_set_b102 (N := N) (sE := sE) (SE := SE) (sL := sL) (SL := SL) (sN := sN) (SN := SN) hm hb @hsE @hsL @hsN R rfl rs1 hF
  ·
    refine s_if (i_eq rfl (c_lit 30 30 rfl) rl1 ⟨by decide, by decide⟩) hF (fun c2 hF => ?_) (fun c2 hF => ?_)
    ·
      exact SX35_set_b102 (N := N) (sE := sE) (SE := SE) (sL := sL) (SL := SL) (sN := sN) (SN := SN) hm hb @hsE @hsL @hsN R rfl rs1 hF
    ·
      refine s_if (not_congr (i_eq rfl (c_lit 31 31 rfl) rl1 ⟨by decide, by decide⟩)) hF (fun c3 hF => ?_) (fun c3 hF => ?_)
      ·
        exact SX35_set_b107 (N := N) (sE := sE) (SE := SE) (sL := sL) (SL := SL) (sN := sN) (SN := SN) hm hb @hsE @hsL @hsN R rfl rs1 (c_lit 0 0 rfl) ⟨by decide, by decide⟩ hF
      ·
        exact SX35_set_b102 (N := N) (sE := sE) (SE := SE) (sL := sL) (SL := SL) (sN := sN) (SN := SN) hm hb @hsE @hsL @hsN R rfl rs1 hF
def FX35_set_b81 (N : Nat) (SE : Int → fS → Option (Unit × fS)) (SL : Int → Int → Int → fS → Option (Int × fS)) (SN : fS → Option (Int × fS)) (l1 : Int) (l2 : Int) (s : fS) : Option (Unit × fS) :=
  FX35_set_b86 N SE SL SN l1 l2 1 s
theorem SX35_set_b81 {m b : Nat} {φ0 : Nat → Nat} {σo : fS} (hm : 1 ≤ m) (hb : 1 ≤ b) {N : Nat} {sE : Nat → Int32 → eH → Option (Unit × eH)} {SE : Int → fS → Option (Unit × fS)} {sL : Nat → Int32 → Int64 → Int64 → eH → Option (Int32 × eH)} {SL : Int → Int → Int → fS → Option (Int × fS)} {sN : Nat → eH → Option (Int32 × eH)} {SN : fS → Option (Int × fS)} {q : Unit × fS} (hsE : ∀ {φ : Nat → Nat} {h : eH} {s : fS} {x1' : Int32} {x1 : Int} {q}, fC m 1 φ s φ h s → x1' = iI x1 → r32 x1 → SE x1 s = some q → gG m 1 φ s lU q (sE 192 x1' h)) (hsL : ∀ {φ : Nat → Nat} {h : eH} {s : fS} {x1' : Int32} {x1 : Int} {x2' : Int64} {x2 : Int} {x3' : Int64} {x3 : Int} {q}, fC m 1 φ s φ h s → x1' = iI x1 → r32 x1 → x2' = iJ x2 → r64 x2 → x3' = iJ x3 → r64 x3 → SL x1 x2 x3 s = some q → gG m 1 φ s lI q (sL 192 x1' x2' x3' h)) (hsN : ∀ {φ : Nat → Nat} {h : eH} {s : fS} {q}, fC m 1 φ s φ h s → SN s = some q → gG m 1 φ s lI q (sN 192 h)) {φ : Nat → Nat} {h : eH} {s : fS} {l1' : Int32} {l1 : Int} {l2' : Int32} {l2 : Int} (R : fC m b φ0 σo φ h s) (el1 : l1' = iI l1) (rl1 : r32 l1) (el2 : l2' = iI l2) (rl2 : r32 l2) (hF : FX35_set_b81 N SE SL SN l1 l2 s = some q) : gG m b φ0 σo lU q (fX35_set_b81 N sE sL sN l1' l2' 192 h) := by
  subst el1; subst el2
  unfold FX35_set_b81 at hF
  unfold fX35_set_b81
  exact SX35_set_b86 (N := N) (sE := sE) (SE := SE) (sL := sL) (SL := SL) (sN := sN) (SN := SN) hm hb @hsE @hsL @hsN R rfl rl1 rfl rl2 (c_lit 1 1 rfl) ⟨by decide, by decide⟩ hF
def FX35_set (N : Nat) (SE : Int → fS → Option (Unit × fS)) (SL : Int → Int → Int → fS → Option (Int × fS)) (SN : fS → Option (Int × fS)) (p0 : Int) (p1 : Int) (s : fS) : Option (Unit × fS) :=
  if p0 = 28 then
    if p0 = 29 then
      FX35_set_b81 N SE SL SN p0 p1 s
    else
      if ¬ (p0 = 31) then
        FX35_set_b86 N SE SL SN p0 p1 0 s
      else
        FX35_set_b81 N SE SL SN p0 p1 s
  else
    if p0 = 29 then
      if p0 = 29 then
        FX35_set_b81 N SE SL SN p0 p1 s
      else
        if ¬ (p0 = 31) then
          FX35_set_b86 N SE SL SN p0 p1 0 s
        else
          FX35_set_b81 N SE SL SN p0 p1 s
    else
      if p0 = 30 then
        if p0 = 29 then
          FX35_set_b81 N SE SL SN p0 p1 s
        else
          if ¬ (p0 = 31) then
            FX35_set_b86 N SE SL SN p0 p1 0 s
          else
            FX35_set_b81 N SE SL SN p0 p1 s
      else
        if p0 = 31 then
          if p0 = 29 then
            FX35_set_b81 N SE SL SN p0 p1 s
          else
            if ¬ (p0 = 31) then
              FX35_set_b86 N SE SL SN p0 p1 0 s
            else
              FX35_set_b81 N SE SL SN p0 p1 s
        else
          if p0 = 32 then
            (FX35_let N p1 s).bind fun q15 =>
            FX35_set_b241 N SE SL SN q15.2
          else
            if p0 = 33 then
              (FX35_target N s).bind fun q18 =>
              (FX35_equals N SE q18.2).bind fun q20 =>
              (FX35_small SN 255 q20.2).bind fun q22 =>
              if ¬ ((q22.2.i 192 46) = 0) then
                FX35_set_b241 N SE SL SN q22.2
              else
                (FX35_mean N q18.1 (iadd 3000000 q22.1) p1 q22.2).bind fun q27 =>
                FX35_set_b241 N SE SL SN q27.2
            else
              if p0 = 34 then
                (FX35_font N SE SN p1 s).bind fun q30 =>
                FX35_set_b241 N SE SL SN q30.2
              else
                if p0 = 35 then
                  (FX35_small SN 255 s).bind fun q33 =>
                  (FX35_equals N SE q33.2).bind fun q35 =>
                  (FX35_small SN 15 q35.2).bind fun q37 =>
                  (FX35_setAt N (iadd 1460 q33.1) q37.1 p1 q37.2).bind fun q39 =>
                  FX35_set_b241 N SE SL SN q39.2
                else
                  if p0 = 36 then
                    (FX35_reckon N SE SN p0 p1 s).bind fun q42 =>
                    FX35_set_b241 N SE SL SN q42.2
                  else
                    if p0 = 37 then
                      (FX35_reckon N SE SN p0 p1 s).bind fun q45 =>
                      FX35_set_b241 N SE SL SN q45.2
                    else
                      if p0 = 38 then
                        (FX35_reckon N SE SN p0 p1 s).bind fun q48 =>
                        FX35_set_b241 N SE SL SN q48.2
                      else
                        if p0 = 39 then
                          (FX35_quantity N SE SN p0 p1 s).bind fun q51 =>
                          FX35_set_b241 N SE SL SN q51.2
                        else
                          if p0 = 40 then
                            (FX35_small SN 255 s).bind fun q54 =>
                            (FX35_equals N SE q54.2).bind fun q56 =>
                            (FX35_readBox N SE SL SN q54.1 0 p1 q56.2).bind fun q58 =>
                            FX35_set_b241 N SE SL SN q58.2
                          else
                            (FX35_quantity N SE SN p0 p1 s).bind fun q60 =>
                            FX35_set_b241 N SE SL SN q60.2
theorem SX35_set {m b : Nat} {φ0 : Nat → Nat} {σo : fS} (hm : 1 ≤ m) (hb : 1 ≤ b) {N : Nat} {sE : Nat → Int32 → eH → Option (Unit × eH)} {SE : Int → fS → Option (Unit × fS)} {sL : Nat → Int32 → Int64 → Int64 → eH → Option (Int32 × eH)} {SL : Int → Int → Int → fS → Option (Int × fS)} {sN : Nat → eH → Option (Int32 × eH)} {SN : fS → Option (Int × fS)} {q : Unit × fS} (hsE : ∀ {φ : Nat → Nat} {h : eH} {s : fS} {x1' : Int32} {x1 : Int} {q}, fC m 1 φ s φ h s → x1' = iI x1 → r32 x1 → SE x1 s = some q → gG m 1 φ s lU q (sE 192 x1' h)) (hsL : ∀ {φ : Nat → Nat} {h : eH} {s : fS} {x1' : Int32} {x1 : Int} {x2' : Int64} {x2 : Int} {x3' : Int64} {x3 : Int} {q}, fC m 1 φ s φ h s → x1' = iI x1 → r32 x1 → x2' = iJ x2 → r64 x2 → x3' = iJ x3 → r64 x3 → SL x1 x2 x3 s = some q → gG m 1 φ s lI q (sL 192 x1' x2' x3' h)) (hsN : ∀ {φ : Nat → Nat} {h : eH} {s : fS} {q}, fC m 1 φ s φ h s → SN s = some q → gG m 1 φ s lI q (sN 192 h)) {φ : Nat → Nat} {h : eH} {s : fS} {p0' : Int32} {p0 : Int} {p1' : Int32} {p1 : Int} (R : fC m b φ0 σo φ h s) (ep0 : p0' = iI p0) (rp0 : r32 p0) (ep1 : p1' = iI p1) (rp1 : r32 p1) (hF : FX35_set N SE SL SN p0 p1 s = some q) : gG m b φ0 σo lU q (fX35_set N sE sL sN 192 p0' p1' h) := by
  subst ep0; subst ep1
  unfold FX35_set at hF
  unfold fX35_set
  refine s_if (i_eq rfl (c_lit 28 28 rfl) rp0 ⟨by decide, by decide⟩) hF (fun c1 hF => ?_) (fun c1 hF => ?_)
  ·
    refine s_if (i_eq rfl (c_lit 29 29 rfl) rp0 ⟨by decide, by decide⟩) hF (fun c2 hF => ?_) (fun c2 hF => ?_)
    ·
      exact SX35_set_b81 (N := N) (sE := sE) (SE := SE) (sL := sL) (SL := SL) (sN := sN) (SN := SN) hm hb @hsE @hsL @hsN R rfl rp0 rfl rp1 hF
    ·
      refine s_if (not_congr (i_eq rfl (c_lit 31 31 rfl) rp0 ⟨by decide, by decide⟩)) hF (fun c3 hF => ?_) (fun c3 hF => ?_)
      ·
        exact SX35_set_b86 (N := N) (sE := sE) (SE := SE) (sL := sL) (SL := SL) (sN := sN) (SN := SN) hm hb @hsE @hsL @hsN R rfl rp0 rfl rp1 (c_lit 0 0 rfl) ⟨by decide, by decide⟩ hF
      ·
        exact SX35_set_b81 (N := N) (sE := sE) (SE := SE) (sL := sL) (SL := SL) (sN := sN) (SN := SN) hm hb @hsE @hsL @hsN R rfl rp0 rfl rp1 hF
  ·
    refine s_if (i_eq rfl (c_lit 29 29 rfl) rp0 ⟨by decide, by decide⟩) hF (fun c4 hF => ?_) (fun c4 hF => ?_)
    ·
      refine s_if (i_eq rfl (c_lit 29 29 rfl) rp0 ⟨by decide, by decide⟩) hF (fun c5 hF => ?_) (fun c5 hF => ?_)
      ·
        exact SX35_set_b81 (N := N) (sE := sE) (SE := SE) (sL := sL) (SL := SL) (sN := sN) (SN := SN) hm hb @hsE @hsL @hsN R rfl rp0 rfl rp1 hF
      ·
        refine s_if (not_congr (i_eq rfl (c_lit 31 31 rfl) rp0 ⟨by decide, by decide⟩)) hF (fun c6 hF => ?_) (fun c6 hF => ?_)
        ·
          exact SX35_set_b86 (N := N) (sE := sE) (SE := SE) (sL := sL) (SL := SL) (sN := sN) (SN := SN) hm hb @hsE @hsL @hsN R rfl rp0 rfl rp1 (c_lit 0 0 rfl) ⟨by decide, by decide⟩ hF
        ·
          exact SX35_set_b81 (N := N) (sE := sE) (SE := SE) (sL := sL) (SL := SL) (sN := sN) (SN := SN) hm hb @hsE @hsL @hsN R rfl rp0 rfl rp1 hF
    ·
      refine s_if (i_eq rfl (c_lit 30 30 rfl) rp0 ⟨by decide, by decide⟩) hF (fun c7 hF => ?_) (fun c7 hF => ?_)
      ·
        refine s_if (i_eq rfl (c_lit 29 29 rfl) rp0 ⟨by decide, by decide⟩) hF (fun c8 hF => ?_) (fun c8 hF => ?_)
        ·
          exact SX35_set_b81 (N := N) (sE := sE) (SE := SE) (sL := sL) (SL := SL) (sN := sN) (SN := SN) hm hb @hsE @hsL @hsN R rfl rp0 rfl rp1 hF
        ·
          refine s_if (not_congr (i_eq rfl (c_lit 31 31 rfl) rp0 ⟨by decide, by decide⟩)) hF (fun c9 hF => ?_) (fun c9 hF => ?_)
          ·
            exact SX35_set_b86 (N := N) (sE := sE) (SE := SE) (sL := sL) (SL := SL) (sN := sN) (SN := SN) hm hb @hsE @hsL @hsN R rfl rp0 rfl rp1 (c_lit 0 0 rfl) ⟨by decide, by decide⟩ hF
          ·
            exact SX35_set_b81 (N := N) (sE := sE) (SE := SE) (sL := sL) (SL := SL) (sN := sN) (SN := SN) hm hb @hsE @hsL @hsN R rfl rp0 rfl rp1 hF
      ·
        refine s_if (i_eq rfl (c_lit 31 31 rfl) rp0 ⟨by decide, by decide⟩) hF (fun c10 hF => ?_) (fun c10 hF => ?_)
        ·
          refine s_if (i_eq rfl (c_lit 29 29 rfl) rp0 ⟨by decide, by decide⟩) hF (fun c11 hF => ?_) (fun c11 hF => ?_)
          ·
            exact SX35_set_b81 (N := N) (sE := sE) (SE := SE) (sL := sL) (SL := SL) (sN := sN) (SN := SN) hm hb @hsE @hsL @hsN R rfl rp0 rfl rp1 hF
          ·
            refine s_if (not_congr (i_eq rfl (c_lit 31 31 rfl) rp0 ⟨by decide, by decide⟩)) hF (fun c12 hF => ?_) (fun c12 hF => ?_)
            ·
              exact SX35_set_b86 (N := N) (sE := sE) (SE := SE) (sL := sL) (SL := SL) (sN := sN) (SN := SN) hm hb @hsE @hsL @hsN R rfl rp0 rfl rp1 (c_lit 0 0 rfl) ⟨by decide, by decide⟩ hF
            ·
              exact SX35_set_b81 (N := N) (sE := sE) (SE := SE) (sL := sL) (SL := SL) (sN := sN) (SN := SN) hm hb @hsE @hsL @hsN R rfl rp0 rfl rp1 hF
        ·
          refine s_if (i_eq rfl (c_lit 32 32 rfl) rp0 ⟨by decide, by decide⟩) hF (fun c13 hF => ?_) (fun c13 hF => ?_)
          ·
            refine s_kok R (t_192 hm R.S) (Nat.le_of_ble_eq_true rfl) ?_
            refine s_call R (Nat.zero_le _) (fun _ hq => SX35_let (b := 0) (N := N) hm (R.rf) rfl rp1 hq) hF (fun f15 rv15 h15 q15 R15 e15 E15 hF => ?_)
            exact SX35_set_b241 (N := N) (sE := sE) (SE := SE) (sL := sL) (SL := SL) (sN := sN) (SN := SN) hm @hsE @hsL @hsN R15 hF
          ·
            refine s_if (i_eq rfl (c_lit 33 33 rfl) rp0 ⟨by decide, by decide⟩) hF (fun c16 hF => ?_) (fun c16 hF => ?_)
            ·
              refine s_kok R (t_192 hm R.S) (Nat.le_of_ble_eq_true rfl) ?_
              refine s_call R (Nat.zero_le _) (fun _ hq => SX35_target (b := 0) (N := N) hm (R.rf) hq) hF (fun f18 rv18 h18 q18 R18 e18 E18 hF => ?_)
              refine s_kok R18 (t_192 hm R18.S) (Nat.le_of_ble_eq_true rfl) ?_
              refine s_call R18 hb (fun _ hq => SX35_equals (b := 1) (N := N) (sE := sE) (SE := SE) hm (Nat.le_of_ble_eq_true rfl) @hsE (R18.rf) hq) hF (fun f20 rv20 h20 q20 R20 e20 E20 hF => ?_)
              refine s_kok R20 (t_192 hm R20.S) (Nat.le_of_ble_eq_true rfl) ?_
              refine s_call R20 hb (fun _ hq => SX35_small (b := 1) (sN := sN) (SN := SN) hm (Nat.le_of_ble_eq_true rfl) @hsN (R20.rf) (c_lit 255 255 rfl) ⟨by decide, by decide⟩ hq) hF (fun f22 rv22 h22 q22 R22 e22 E22 hF => ?_)
              refine s_gI R22 (t_192 hm R22.S) (Nat.le_of_ble_eq_true rfl) rfl ?_
              refine s_if (not_congr (i_eq rfl (c_lit 0 0 rfl) (R22.ri (t_192 hm R22.S) (Nat.le_of_ble_eq_true rfl) rfl) ⟨by decide, by decide⟩)) hF (fun c24 hF => ?_) (fun c24 hF => ?_)
              ·
                exact SX35_set_b241 (N := N) (sE := sE) (SE := SE) (sL := sL) (SL := SL) (sN := sN) (SN := SN) hm @hsE @hsL @hsN R22 hF
              ·
                refine s_kok R22 (t_192 hm R22.S) (Nat.le_of_ble_eq_true rfl) ?_
                refine s_call R22 (Nat.zero_le _) (fun _ hq => SX35_mean (b := 0) (N := N) hm (R22.rf) e18.1 e18.2 (c_add (c_lit 3000000 3000000 rfl) e22.1) (rr_I _) rfl rp1 hq) hF (fun f26 rv26 h26 q27 R26 e26 E26 hF => ?_)
                exact SX35_set_b241 (N := N) (sE := sE) (SE := SE) (sL := sL) (SL := SL) (sN := sN) (SN := SN) hm @hsE @hsL @hsN R26 hF
            ·
              refine s_if (i_eq rfl (c_lit 34 34 rfl) rp0 ⟨by decide, by decide⟩) hF (fun c27 hF => ?_) (fun c27 hF => ?_)
              ·
                refine s_kok R (t_192 hm R.S) (Nat.le_of_ble_eq_true rfl) ?_
                refine s_call R hb (fun _ hq => SX35_font (b := 1) (N := N) (sE := sE) (SE := SE) (sN := sN) (SN := SN) hm (Nat.le_of_ble_eq_true rfl) @hsE @hsN (R.rf) rfl rp1 hq) hF (fun f29 rv29 h29 q30 R29 e29 E29 hF => ?_)
                exact SX35_set_b241 (N := N) (sE := sE) (SE := SE) (sL := sL) (SL := SL) (sN := sN) (SN := SN) hm @hsE @hsL @hsN R29 hF
              ·
                refine s_if (i_eq rfl (c_lit 35 35 rfl) rp0 ⟨by decide, by decide⟩) hF (fun c30 hF => ?_) (fun c30 hF => ?_)
                ·
                  refine s_kok R (t_192 hm R.S) (Nat.le_of_ble_eq_true rfl) ?_
                  refine s_call R hb (fun _ hq => SX35_small (b := 1) (sN := sN) (SN := SN) hm (Nat.le_of_ble_eq_true rfl) @hsN (R.rf) (c_lit 255 255 rfl) ⟨by decide, by decide⟩ hq) hF (fun f32 rv32 h32 q33 R32 e32 E32 hF => ?_)
                  refine s_kok R32 (t_192 hm R32.S) (Nat.le_of_ble_eq_true rfl) ?_
                  refine s_call R32 hb (fun _ hq => SX35_equals (b := 1) (N := N) (sE := sE) (SE := SE) hm (Nat.le_of_ble_eq_true rfl) @hsE (R32.rf) hq) hF (fun f34 rv34 h34 q35 R34 e34 E34 hF => ?_)
                  refine s_kok R34 (t_192 hm R34.S) (Nat.le_of_ble_eq_true rfl) ?_
                  refine s_call R34 hb (fun _ hq => SX35_small (b := 1) (sN := sN) (SN := SN) hm (Nat.le_of_ble_eq_true rfl) @hsN (R34.rf) (c_lit 15 15 rfl) ⟨by decide, by decide⟩ hq) hF (fun f36 rv36 h36 q37 R36 e36 E36 hF => ?_)
                  refine s_kok R36 (t_192 hm R36.S) (Nat.le_of_ble_eq_true rfl) ?_
                  refine s_call R36 (Nat.zero_le _) (fun _ hq => SX35_setAt (b := 0) (N := N) hm (R36.rf) (c_add (c_lit 1460 1460 rfl) e32.1) (rr_I _) e36.1 e36.2 rfl rp1 hq) hF (fun f38 rv38 h38 q39 R38 e38 E38 hF => ?_)
                  exact SX35_set_b241 (N := N) (sE := sE) (SE := SE) (sL := sL) (SL := SL) (sN := sN) (SN := SN) hm @hsE @hsL @hsN R38 hF
                ·
                  refine s_if (i_eq rfl (c_lit 36 36 rfl) rp0 ⟨by decide, by decide⟩) hF (fun c39 hF => ?_) (fun c39 hF => ?_)
                  ·
                    refine s_kok R (t_192 hm R.S) (Nat.le_of_ble_eq_true rfl) ?_
                    refine s_call R hb (fun _ hq => SX35_reckon (b := 1) (N := N) (sE := sE) (SE := SE) (sN := sN) (SN := SN) hm (Nat.le_of_ble_eq_true rfl) @hsE @hsN (R.rf) rfl rp0 rfl rp1 hq) hF (fun f41 rv41 h41 q42 R41 e41 E41 hF => ?_)
                    exact SX35_set_b241 (N := N) (sE := sE) (SE := SE) (sL := sL) (SL := SL) (sN := sN) (SN := SN) hm @hsE @hsL @hsN R41 hF
                  ·
                    refine s_if (i_eq rfl (c_lit 37 37 rfl) rp0 ⟨by decide, by decide⟩) hF (fun c42 hF => ?_) (fun c42 hF => ?_)
                    ·
                      refine s_kok R (t_192 hm R.S) (Nat.le_of_ble_eq_true rfl) ?_
                      refine s_call R hb (fun _ hq => SX35_reckon (b := 1) (N := N) (sE := sE) (SE := SE) (sN := sN) (SN := SN) hm (Nat.le_of_ble_eq_true rfl) @hsE @hsN (R.rf) rfl rp0 rfl rp1 hq) hF (fun f44 rv44 h44 q45 R44 e44 E44 hF => ?_)
                      exact SX35_set_b241 (N := N) (sE := sE) (SE := SE) (sL := sL) (SL := SL) (sN := sN) (SN := SN) hm @hsE @hsL @hsN R44 hF
                    ·
                      refine s_if (i_eq rfl (c_lit 38 38 rfl) rp0 ⟨by decide, by decide⟩) hF (fun c45 hF => ?_) (fun c45 hF => ?_)
                      ·
                        refine s_kok R (t_192 hm R.S) (Nat.le_of_ble_eq_true rfl) ?_
                        refine s_call R hb (fun _ hq => SX35_reckon (b := 1) (N := N) (sE := sE) (SE := SE) (sN := sN) (SN := SN) hm (Nat.le_of_ble_eq_true rfl) @hsE @hsN (R.rf) rfl rp0 rfl rp1 hq) hF (fun f47 rv47 h47 q48 R47 e47 E47 hF => ?_)
                        exact SX35_set_b241 (N := N) (sE := sE) (SE := SE) (sL := sL) (SL := SL) (sN := sN) (SN := SN) hm @hsE @hsL @hsN R47 hF
                      ·
                        refine s_if (i_eq rfl (c_lit 39 39 rfl) rp0 ⟨by decide, by decide⟩) hF (fun c48 hF => ?_) (fun c48 hF => ?_)
                        ·
                          refine s_kok R (t_192 hm R.S) (Nat.le_of_ble_eq_true rfl) ?_
                          refine s_call R hb (fun _ hq => SX35_quantity (b := 1) (N := N) (sE := sE) (SE := SE) (sN := sN) (SN := SN) hm (Nat.le_of_ble_eq_true rfl) @hsE @hsN (R.rf) rfl rp0 rfl rp1 hq) hF (fun f50 rv50 h50 q51 R50 e50 E50 hF => ?_)
                          exact SX35_set_b241 (N := N) (sE := sE) (SE := SE) (sL := sL) (SL := SL) (sN := sN) (SN := SN) hm @hsE @hsL @hsN R50 hF
                        ·
                          refine s_if (i_eq rfl (c_lit 40 40 rfl) rp0 ⟨by decide, by decide⟩) hF (fun c51 hF => ?_) (fun c51 hF => ?_)
                          ·
                            refine s_kok R (t_192 hm R.S) (Nat.le_of_ble_eq_true rfl) ?_
                            refine s_call R hb (fun _ hq => SX35_small (b := 1) (sN := sN) (SN := SN) hm (Nat.le_of_ble_eq_true rfl) @hsN (R.rf) (c_lit 255 255 rfl) ⟨by decide, by decide⟩ hq) hF (fun f53 rv53 h53 q54 R53 e53 E53 hF => ?_)
                            refine s_kok R53 (t_192 hm R53.S) (Nat.le_of_ble_eq_true rfl) ?_
                            refine s_call R53 hb (fun _ hq => SX35_equals (b := 1) (N := N) (sE := sE) (SE := SE) hm (Nat.le_of_ble_eq_true rfl) @hsE (R53.rf) hq) hF (fun f55 rv55 h55 q56 R55 e55 E55 hF => ?_)
                            refine s_kok R55 (t_192 hm R55.S) (Nat.le_of_ble_eq_true rfl) ?_
                            refine s_call R55 hb (fun _ hq => SX35_readBox (b := 1) (N := N) (sE := sE) (SE := SE) (sL := sL) (SL := SL) (sN := sN) (SN := SN) hm (Nat.le_of_ble_eq_true rfl) @hsE @hsL @hsN (R55.rf) e53.1 e53.2 (c_lit 0 0 rfl) ⟨by decide, by decide⟩ rfl rp1 hq) hF (fun f57 rv57 h57 q58 R57 e57 E57 hF => ?_)
                            exact SX35_set_b241 (N := N) (sE := sE) (SE := SE) (sL := sL) (SL := SL) (sN := sN) (SN := SN) hm @hsE @hsL @hsN R57 hF
                          ·
                            refine s_kok R (t_192 hm R.S) (Nat.le_of_ble_eq_true rfl) ?_
                            refine s_call R hb (fun _ hq => SX35_quantity (b := 1) (N := N) (sE := sE) (SE := SE) (sN := sN) (SN := SN) hm (Nat.le_of_ble_eq_true rfl) @hsE @hsN (R.rf) rfl rp0 rfl rp1 hq) hF (fun f59 rv59 h59 q60 R59 e59 E59 hF => ?_)
                            exact SX35_set_b241 (N := N) (sE := sE) (SE := SE) (sL := sL) (SL := SL) (sN := sN) (SN := SN) hm @hsE @hsL @hsN R59 hF
def FX35_prefixed_b58 (N : Nat) (SE : Int → fS → Option (Unit × fS)) (SL : Int → Int → Int → fS → Option (Int × fS)) (SN : fS → Option (Int × fS)) (s : fS) : Option (Unit × fS) :=
  some ((), s)
theorem SX35_prefixed_b58 {m b : Nat} {φ0 : Nat → Nat} {σo : fS} (hm : 1 ≤ m) {N : Nat} {sE : Nat → Int32 → eH → Option (Unit × eH)} {SE : Int → fS → Option (Unit × fS)} {sL : Nat → Int32 → Int64 → Int64 → eH → Option (Int32 × eH)} {SL : Int → Int → Int → fS → Option (Int × fS)} {sN : Nat → eH → Option (Int32 × eH)} {SN : fS → Option (Int × fS)} {q : Unit × fS} (hsE : ∀ {φ : Nat → Nat} {h : eH} {s : fS} {x1' : Int32} {x1 : Int} {q}, fC m 1 φ s φ h s → x1' = iI x1 → r32 x1 → SE x1 s = some q → gG m 1 φ s lU q (sE 192 x1' h)) (hsL : ∀ {φ : Nat → Nat} {h : eH} {s : fS} {x1' : Int32} {x1 : Int} {x2' : Int64} {x2 : Int} {x3' : Int64} {x3 : Int} {q}, fC m 1 φ s φ h s → x1' = iI x1 → r32 x1 → x2' = iJ x2 → r64 x2 → x3' = iJ x3 → r64 x3 → SL x1 x2 x3 s = some q → gG m 1 φ s lI q (sL 192 x1' x2' x3' h)) (hsN : ∀ {φ : Nat → Nat} {h : eH} {s : fS} {q}, fC m 1 φ s φ h s → SN s = some q → gG m 1 φ s lI q (sN 192 h)) {φ : Nat → Nat} {h : eH} {s : fS} (R : fC m b φ0 σo φ h s) (hF : FX35_prefixed_b58 N SE SL SN s = some q) : gG m b φ0 σo lU q (fX35_prefixed_b58 N sE sL sN h) := by
  unfold FX35_prefixed_b58 at hF
  unfold fX35_prefixed_b58
  exact g_ret R hF trivial
def FX35_prefixed_b28 (N : Nat) (SE : Int → fS → Option (Unit × fS)) (SL : Int → Int → Int → fS → Option (Int × fS)) (SN : fS → Option (Int × fS)) (l1 : Int) (s : fS) : Option (Unit × fS) :=
  if (s.i 192 46) ≤ 0 then
    (FX35_isSettable l1 s).bind fun q4 =>
    if q4.1 = 0 then
      (FX35_fail 6 q4.2).bind fun q7 =>
      FX35_prefixed_b58 N SE SL SN q7.2
    else
      (FX35_set N SE SL SN l1 1 q4.2).bind fun q9 =>
      FX35_prefixed_b58 N SE SL SN q9.2
  else
    some ((), s)
theorem SX35_prefixed_b28 {m b : Nat} {φ0 : Nat → Nat} {σo : fS} (hm : 1 ≤ m) (hb : 1 ≤ b) {N : Nat} {sE : Nat → Int32 → eH → Option (Unit × eH)} {SE : Int → fS → Option (Unit × fS)} {sL : Nat → Int32 → Int64 → Int64 → eH → Option (Int32 × eH)} {SL : Int → Int → Int → fS → Option (Int × fS)} {sN : Nat → eH → Option (Int32 × eH)} {SN : fS → Option (Int × fS)} {q : Unit × fS} (hsE : ∀ {φ : Nat → Nat} {h : eH} {s : fS} {x1' : Int32} {x1 : Int} {q}, fC m 1 φ s φ h s → x1' = iI x1 → r32 x1 → SE x1 s = some q → gG m 1 φ s lU q (sE 192 x1' h)) (hsL : ∀ {φ : Nat → Nat} {h : eH} {s : fS} {x1' : Int32} {x1 : Int} {x2' : Int64} {x2 : Int} {x3' : Int64} {x3 : Int} {q}, fC m 1 φ s φ h s → x1' = iI x1 → r32 x1 → x2' = iJ x2 → r64 x2 → x3' = iJ x3 → r64 x3 → SL x1 x2 x3 s = some q → gG m 1 φ s lI q (sL 192 x1' x2' x3' h)) (hsN : ∀ {φ : Nat → Nat} {h : eH} {s : fS} {q}, fC m 1 φ s φ h s → SN s = some q → gG m 1 φ s lI q (sN 192 h)) {φ : Nat → Nat} {h : eH} {s : fS} {l1' : Int32} {l1 : Int} (R : fC m b φ0 σo φ h s) (el1 : l1' = iI l1) (rl1 : r32 l1) (hF : FX35_prefixed_b28 N SE SL SN l1 s = some q) : gG m b φ0 σo lU q (fX35_prefixed_b28 N sE sL sN 192 l1' h) := by
  subst el1
  unfold FX35_prefixed_b28 at hF
  unfold fX35_prefixed_b28
  refine s_gI R (t_192 hm R.S) (Nat.le_of_ble_eq_true rfl) rfl ?_
  refine s_if (i_le rfl (c_lit 0 0 rfl) (R.ri (t_192 hm R.S) (Nat.le_of_ble_eq_true rfl) rfl) ⟨by decide, by decide⟩) hF (fun c2 hF => ?_) (fun c2 hF => ?_)
  ·
    refine s_call R (Nat.zero_le _) (fun _ hq => SX35_isSettable (b := 0) hm (R.rf) rfl rl1 hq) hF (fun f3 rv3 h3 q4 R3 e3 E3 hF => ?_)
    refine s_if (i_eq e3.1 (c_lit 0 0 rfl) e3.2 ⟨by decide, by decide⟩) hF (fun c4 hF => ?_) (fun c4 hF => ?_)
    ·
      refine s_kok R3 (t_192 hm R3.S) (Nat.le_of_ble_eq_true rfl) ?_
      refine s_call R3 (Nat.zero_le _) (fun _ hq => SX35_fail (b := 0) hm (R3.rf) (c_lit 6 6 rfl) ⟨by decide, by decide⟩ hq) hF (fun f6 rv6 h6 q7 R6 e6 E6 hF => ?_)
      exact SX35_prefixed_b58 (N := N) (sE := sE) (SE := SE) (sL := sL) (SL := SL) (sN := sN) (SN := SN) hm @hsE @hsL @hsN R6 hF
    ·
      refine s_kok R3 (t_192 hm R3.S) (Nat.le_of_ble_eq_true rfl) ?_
      refine s_call R3 hb (fun _ hq => SX35_set (b := 1) (N := N) (sE := sE) (SE := SE) (sL := sL) (SL := SL) (sN := sN) (SN := SN) hm (Nat.le_of_ble_eq_true rfl) @hsE @hsL @hsN (R3.rf) rfl rl1 (c_lit 1 1 rfl) ⟨by decide, by decide⟩ hq) hF (fun f8 rv8 h8 q9 R8 e8 E8 hF => ?_)
      exact SX35_prefixed_b58 (N := N) (sE := sE) (SE := SE) (sL := sL) (SL := SL) (sN := sN) (SN := SN) hm @hsE @hsL @hsN R8 hF
  ·
    exact g_ret R hF trivial
def FX35_prefixed_b3 (N : Nat) (SE : Int → fS → Option (Unit × fS)) (SL : Int → Int → Int → fS → Option (Int × fS)) (SN : fS → Option (Int × fS)) : Nat → Int → fS → Option (Unit × fS)
  | 0, _, _ => none
  | n + 1, l1, s =>
    if ¬ (l1 = 39) then
      FX35_prefixed_b28 N SE SL SN l1 s
    else
      if ¬ ((s.i 192 46) = 0) then
        FX35_prefixed_b28 N SE SL SN l1 s
      else
        (FX35_needSolid N SE s).bind fun q6 =>
        (FX35_primitiveOf q6.1 q6.2).bind fun q8 =>
        FX35_prefixed_b3 N SE SL SN n q8.1 q8.2
theorem SX35_prefixed_b3 {m b : Nat} {φ0 : Nat → Nat} {σo : fS} (hm : 1 ≤ m) (hb : 1 ≤ b) {N : Nat} {sE : Nat → Int32 → eH → Option (Unit × eH)} {SE : Int → fS → Option (Unit × fS)} {sL : Nat → Int32 → Int64 → Int64 → eH → Option (Int32 × eH)} {SL : Int → Int → Int → fS → Option (Int × fS)} {sN : Nat → eH → Option (Int32 × eH)} {SN : fS → Option (Int × fS)} {q : Unit × fS} (hsE : ∀ {φ : Nat → Nat} {h : eH} {s : fS} {x1' : Int32} {x1 : Int} {q}, fC m 1 φ s φ h s → x1' = iI x1 → r32 x1 → SE x1 s = some q → gG m 1 φ s lU q (sE 192 x1' h)) (hsL : ∀ {φ : Nat → Nat} {h : eH} {s : fS} {x1' : Int32} {x1 : Int} {x2' : Int64} {x2 : Int} {x3' : Int64} {x3 : Int} {q}, fC m 1 φ s φ h s → x1' = iI x1 → r32 x1 → x2' = iJ x2 → r64 x2 → x3' = iJ x3 → r64 x3 → SL x1 x2 x3 s = some q → gG m 1 φ s lI q (sL 192 x1' x2' x3' h)) (hsN : ∀ {φ : Nat → Nat} {h : eH} {s : fS} {q}, fC m 1 φ s φ h s → SN s = some q → gG m 1 φ s lI q (sN 192 h)) : ∀ {n : Nat} {φ : Nat → Nat} {h : eH} {s : fS} {l1' : Int32} {l1 : Int}, fC m b φ0 σo φ h s → l1' = iI l1 → r32 l1 → FX35_prefixed_b3 N SE SL SN n l1 s = some q → gG m b φ0 σo lU q (fX35_prefixed_b3 N sE sL sN n 192 l1' h) := by
  intro n
  induction n with
 | zero => intro φ h s l1' l1 R el1 rl1 hF; simp [FX35_prefixed_b3] at hF
  | succ n ih =>
    intro φ h s l1' l1 R el1 rl1 hF
    subst el1
    rw [FX35_prefixed_b3] at hF
    rw [fX35_prefixed_b3]
    refine s_if (not_congr (i_eq rfl (c_lit 39 39 rfl) rl1 ⟨by decide, by decide⟩)) hF (fun c1 hF => ?_) (fun c1 hF => ?_)
    ·
      exact SX35_prefixed_b28 (N := N) (sE := sE) (SE := SE) (sL := sL) (SL := SL) (sN := sN) (SN := SN) hm hb @hsE @hsL @hsN R rfl rl1 hF
    ·
      refine s_gI R (t_192 hm R.S) (Nat.le_of_ble_eq_true rfl) rfl ?_
      refine s_if (not_congr (i_eq rfl (c_lit 0 0 rfl) (R.ri (t_192 hm R.S) (Nat.le_of_ble_eq_true rfl) rfl) ⟨by decide, by decide⟩)) hF (fun c3 hF => ?_) (fun c3 hF => ?_)
      ·
        exact SX35_prefixed_b28 (N := N) (sE := sE) (SE := SE) (sL := sL) (SL := SL) (sN := sN) (SN := SN) hm hb @hsE @hsL @hsN R rfl rl1 hF
      ·
        refine s_kok R (t_192 hm R.S) (Nat.le_of_ble_eq_true rfl) ?_
        refine s_call R hb (fun _ hq => SX35_needSolid (b := 1) (N := N) (sE := sE) (SE := SE) hm (Nat.le_of_ble_eq_true rfl) @hsE (R.rf) hq) hF (fun f5 rv5 h5 q6 R5 e5 E5 hF => ?_)
        refine s_kok R5 (t_192 hm R5.S) (Nat.le_of_ble_eq_true rfl) ?_
        refine s_call R5 (Nat.zero_le _) (fun _ hq => SX35_primitiveOf (b := 0) hm (R5.rf) e5.1 e5.2 hq) hF (fun f7 rv7 h7 q8 R7 e7 E7 hF => ?_)
        exact ih R7 e7.1 e7.2 hF
def FX35_prefixed (N : Nat) (SE : Int → fS → Option (Unit × fS)) (SL : Int → Int → Int → fS → Option (Int × fS)) (SN : fS → Option (Int × fS)) (s : fS) : Option (Unit × fS) :=
  FX35_prefixed_b3 N SE SL SN N 39 s
theorem SX35_prefixed {m b : Nat} {φ0 : Nat → Nat} {σo : fS} (hm : 1 ≤ m) (hb : 1 ≤ b) {N : Nat} {sE : Nat → Int32 → eH → Option (Unit × eH)} {SE : Int → fS → Option (Unit × fS)} {sL : Nat → Int32 → Int64 → Int64 → eH → Option (Int32 × eH)} {SL : Int → Int → Int → fS → Option (Int × fS)} {sN : Nat → eH → Option (Int32 × eH)} {SN : fS → Option (Int × fS)} {q : Unit × fS} (hsE : ∀ {φ : Nat → Nat} {h : eH} {s : fS} {x1' : Int32} {x1 : Int} {q}, fC m 1 φ s φ h s → x1' = iI x1 → r32 x1 → SE x1 s = some q → gG m 1 φ s lU q (sE 192 x1' h)) (hsL : ∀ {φ : Nat → Nat} {h : eH} {s : fS} {x1' : Int32} {x1 : Int} {x2' : Int64} {x2 : Int} {x3' : Int64} {x3 : Int} {q}, fC m 1 φ s φ h s → x1' = iI x1 → r32 x1 → x2' = iJ x2 → r64 x2 → x3' = iJ x3 → r64 x3 → SL x1 x2 x3 s = some q → gG m 1 φ s lI q (sL 192 x1' x2' x3' h)) (hsN : ∀ {φ : Nat → Nat} {h : eH} {s : fS} {q}, fC m 1 φ s φ h s → SN s = some q → gG m 1 φ s lI q (sN 192 h)) {φ : Nat → Nat} {h : eH} {s : fS} (R : fC m b φ0 σo φ h s) (hF : FX35_prefixed N SE SL SN s = some q) : gG m b φ0 σo lU q (fX35_prefixed N sE sL sN 192 h) := by
  unfold FX35_prefixed at hF
  unfold fX35_prefixed
  exact SX35_prefixed_b3 (N := N) (sE := sE) (SE := SE) (sL := sL) (SL := SL) (sN := sN) (SN := SN) hm hb @hsE @hsL @hsN R (c_lit 39 39 rfl) ⟨by decide, by decide⟩ hF
def FX35_doPrimitive_b234 (N : Nat) (SE : Int → fS → Option (Unit × fS)) (SL : Int → Int → Int → fS → Option (Int × fS)) (SN : fS → Option (Int × fS)) (s : fS) : Option (Unit × fS) :=
  some ((), s)
theorem SX35_doPrimitive_b234 {m b : Nat} {φ0 : Nat → Nat} {σo : fS} (hm : 1 ≤ m) {N : Nat} {sE : Nat → Int32 → eH → Option (Unit × eH)} {SE : Int → fS → Option (Unit × fS)} {sL : Nat → Int32 → Int64 → Int64 → eH → Option (Int32 × eH)} {SL : Int → Int → Int → fS → Option (Int × fS)} {sN : Nat → eH → Option (Int32 × eH)} {SN : fS → Option (Int × fS)} {q : Unit × fS} (hsE : ∀ {φ : Nat → Nat} {h : eH} {s : fS} {x1' : Int32} {x1 : Int} {q}, fC m 1 φ s φ h s → x1' = iI x1 → r32 x1 → SE x1 s = some q → gG m 1 φ s lU q (sE 192 x1' h)) (hsL : ∀ {φ : Nat → Nat} {h : eH} {s : fS} {x1' : Int32} {x1 : Int} {x2' : Int64} {x2 : Int} {x3' : Int64} {x3 : Int} {q}, fC m 1 φ s φ h s → x1' = iI x1 → r32 x1 → x2' = iJ x2 → r64 x2 → x3' = iJ x3 → r64 x3 → SL x1 x2 x3 s = some q → gG m 1 φ s lI q (sL 192 x1' x2' x3' h)) (hsN : ∀ {φ : Nat → Nat} {h : eH} {s : fS} {q}, fC m 1 φ s φ h s → SN s = some q → gG m 1 φ s lI q (sN 192 h)) {φ : Nat → Nat} {h : eH} {s : fS} (R : fC m b φ0 σo φ h s) (hF : FX35_doPrimitive_b234 N SE SL SN s = some q) : gG m b φ0 σo lU q (fX35_doPrimitive_b234 N sE sL sN h) := by
  unfold FX35_doPrimitive_b234 at hF
  unfold fX35_doPrimitive_b234
  exact g_ret R hF trivial
def FX35_doPrimitive_b162 (N : Nat) (SE : Int → fS → Option (Unit × fS)) (SL : Int → Int → Int → fS → Option (Int × fS)) (SN : fS → Option (Int × fS)) (s : fS) : Option (Unit × fS) :=
  (FX35_fail 13 s).bind fun q2 =>
  FX35_doPrimitive_b234 N SE SL SN q2.2
theorem SX35_doPrimitive_b162 {m b : Nat} {φ0 : Nat → Nat} {σo : fS} (hm : 1 ≤ m) {N : Nat} {sE : Nat → Int32 → eH → Option (Unit × eH)} {SE : Int → fS → Option (Unit × fS)} {sL : Nat → Int32 → Int64 → Int64 → eH → Option (Int32 × eH)} {SL : Int → Int → Int → fS → Option (Int × fS)} {sN : Nat → eH → Option (Int32 × eH)} {SN : fS → Option (Int × fS)} {q : Unit × fS} (hsE : ∀ {φ : Nat → Nat} {h : eH} {s : fS} {x1' : Int32} {x1 : Int} {q}, fC m 1 φ s φ h s → x1' = iI x1 → r32 x1 → SE x1 s = some q → gG m 1 φ s lU q (sE 192 x1' h)) (hsL : ∀ {φ : Nat → Nat} {h : eH} {s : fS} {x1' : Int32} {x1 : Int} {x2' : Int64} {x2 : Int} {x3' : Int64} {x3 : Int} {q}, fC m 1 φ s φ h s → x1' = iI x1 → r32 x1 → x2' = iJ x2 → r64 x2 → x3' = iJ x3 → r64 x3 → SL x1 x2 x3 s = some q → gG m 1 φ s lI q (sL 192 x1' x2' x3' h)) (hsN : ∀ {φ : Nat → Nat} {h : eH} {s : fS} {q}, fC m 1 φ s φ h s → SN s = some q → gG m 1 φ s lI q (sN 192 h)) {φ : Nat → Nat} {h : eH} {s : fS} (R : fC m b φ0 σo φ h s) (hF : FX35_doPrimitive_b162 N SE SL SN s = some q) : gG m b φ0 σo lU q (fX35_doPrimitive_b162 N sE sL sN 192 h) := by
  unfold FX35_doPrimitive_b162 at hF
  unfold fX35_doPrimitive_b162
  refine s_kok R (t_192 hm R.S) (Nat.le_of_ble_eq_true rfl) ?_
  refine s_call R (Nat.zero_le _) (fun _ hq => SX35_fail (b := 0) hm (R.rf) (c_lit 13 13 rfl) ⟨by decide, by decide⟩ hq) hF (fun f2 rv2 h2 q2 R2 e2 E2 hF => ?_)
  exact SX35_doPrimitive_b234 (N := N) (sE := sE) (SE := SE) (sL := sL) (SL := SL) (sN := sN) (SN := SN) hm @hsE @hsL @hsN R2 hF
def FX35_doPrimitive_b228 (N : Nat) (SE : Int → fS → Option (Unit × fS)) (SL : Int → Int → Int → fS → Option (Int × fS)) (SN : fS → Option (Int × fS)) (l1 : Int) (s : fS) : Option (Unit × fS) :=
  (FX35_set N SE SL SN l1 0 s).bind fun q2 =>
  FX35_doPrimitive_b234 N SE SL SN q2.2
theorem SX35_doPrimitive_b228 {m b : Nat} {φ0 : Nat → Nat} {σo : fS} (hm : 1 ≤ m) (hb : 1 ≤ b) {N : Nat} {sE : Nat → Int32 → eH → Option (Unit × eH)} {SE : Int → fS → Option (Unit × fS)} {sL : Nat → Int32 → Int64 → Int64 → eH → Option (Int32 × eH)} {SL : Int → Int → Int → fS → Option (Int × fS)} {sN : Nat → eH → Option (Int32 × eH)} {SN : fS → Option (Int × fS)} {q : Unit × fS} (hsE : ∀ {φ : Nat → Nat} {h : eH} {s : fS} {x1' : Int32} {x1 : Int} {q}, fC m 1 φ s φ h s → x1' = iI x1 → r32 x1 → SE x1 s = some q → gG m 1 φ s lU q (sE 192 x1' h)) (hsL : ∀ {φ : Nat → Nat} {h : eH} {s : fS} {x1' : Int32} {x1 : Int} {x2' : Int64} {x2 : Int} {x3' : Int64} {x3 : Int} {q}, fC m 1 φ s φ h s → x1' = iI x1 → r32 x1 → x2' = iJ x2 → r64 x2 → x3' = iJ x3 → r64 x3 → SL x1 x2 x3 s = some q → gG m 1 φ s lI q (sL 192 x1' x2' x3' h)) (hsN : ∀ {φ : Nat → Nat} {h : eH} {s : fS} {q}, fC m 1 φ s φ h s → SN s = some q → gG m 1 φ s lI q (sN 192 h)) {φ : Nat → Nat} {h : eH} {s : fS} {l1' : Int32} {l1 : Int} (R : fC m b φ0 σo φ h s) (el1 : l1' = iI l1) (rl1 : r32 l1) (hF : FX35_doPrimitive_b228 N SE SL SN l1 s = some q) : gG m b φ0 σo lU q (fX35_doPrimitive_b228 N sE sL sN 192 l1' h) := by
  subst el1
  unfold FX35_doPrimitive_b228 at hF
  unfold fX35_doPrimitive_b228
  refine s_kok R (t_192 hm R.S) (Nat.le_of_ble_eq_true rfl) ?_
  refine s_call R hb (fun _ hq => SX35_set (b := 1) (N := N) (sE := sE) (SE := SE) (sL := sL) (SL := SL) (sN := sN) (SN := SN) hm (Nat.le_of_ble_eq_true rfl) @hsE @hsL @hsN (R.rf) rfl rl1 (c_lit 0 0 rfl) ⟨by decide, by decide⟩ hq) hF (fun f2 rv2 h2 q2 R2 e2 E2 hF => ?_)
  exact SX35_doPrimitive_b234 (N := N) (sE := sE) (SE := SE) (sL := sL) (SL := SL) (sN := sN) (SN := SN) hm @hsE @hsL @hsN R2 hF
def FX35_doPrimitive (N : Nat) (SE : Int → fS → Option (Unit × fS)) (SL : Int → Int → Int → fS → Option (Int × fS)) (SN : fS → Option (Int × fS)) (p0 : Int) (s : fS) : Option (Unit × fS) :=
  if p0 = 22 then
    FX35_doPrimitive_b234 N SE SL SN s
  else
    if p0 = 23 then
      (FX35_mode s).bind fun q4 =>
      if ¬ (q4.1 = 2) then
        FX35_doPrimitive_b234 N SE SL SN q4.2
      else
        (FX35_endParagraph N SL q4.2).bind fun q7 =>
        FX35_doPrimitive_b234 N SE SL SN q7.2
    else
      if p0 = 24 then
        (FX35_openGroup N 2 s).bind fun q10 =>
        FX35_doPrimitive_b234 N SE SL SN q10.2
      else
        if p0 = 25 then
          if (s.i 192 21) = 0 then
            FX35_doPrimitive_b162 N SE SL SN s
          else
            (uRI s 266 (s.i 192 21)).bind fun x19 =>
            if x19 = 2 then
              (uPI s 192 21 (isub (s.i 192 21) 1)).bind fun σ24 =>
              FX35_doPrimitive_b234 N SE SL SN σ24
            else
              FX35_doPrimitive_b162 N SE SL SN s
        else
          if p0 = 26 then
            (uPZ s 192 47 1).bind fun σ27 =>
            FX35_doPrimitive_b234 N SE SL SN σ27
          else
            if p0 = 27 then
              (FX35_fail 6 s).bind fun q31 =>
              FX35_doPrimitive_b234 N SE SL SN q31.2
            else
              if p0 = 28 then
                if p0 < 47 then
                  FX35_doPrimitive_b228 N SE SL SN p0 s
                else
                  if 69 < p0 then
                    FX35_doPrimitive_b228 N SE SL SN p0 s
                  else
                    (FX35_doList N SE SL SN p0 s).bind fun q36 =>
                    FX35_doPrimitive_b234 N SE SL SN q36.2
              else
                if p0 = 29 then
                  if p0 < 47 then
                    FX35_doPrimitive_b228 N SE SL SN p0 s
                  else
                    if 69 < p0 then
                      FX35_doPrimitive_b228 N SE SL SN p0 s
                    else
                      (FX35_doList N SE SL SN p0 s).bind fun q41 =>
                      FX35_doPrimitive_b234 N SE SL SN q41.2
                else
                  if p0 = 30 then
                    if p0 < 47 then
                      FX35_doPrimitive_b228 N SE SL SN p0 s
                    else
                      if 69 < p0 then
                        FX35_doPrimitive_b228 N SE SL SN p0 s
                      else
                        (FX35_doList N SE SL SN p0 s).bind fun q46 =>
                        FX35_doPrimitive_b234 N SE SL SN q46.2
                  else
                    if p0 = 31 then
                      if p0 < 47 then
                        FX35_doPrimitive_b228 N SE SL SN p0 s
                      else
                        if 69 < p0 then
                          FX35_doPrimitive_b228 N SE SL SN p0 s
                        else
                          (FX35_doList N SE SL SN p0 s).bind fun q51 =>
                          FX35_doPrimitive_b234 N SE SL SN q51.2
                    else
                      if p0 = 32 then
                        if p0 < 47 then
                          FX35_doPrimitive_b228 N SE SL SN p0 s
                        else
                          if 69 < p0 then
                            FX35_doPrimitive_b228 N SE SL SN p0 s
                          else
                            (FX35_doList N SE SL SN p0 s).bind fun q56 =>
                            FX35_doPrimitive_b234 N SE SL SN q56.2
                      else
                        if p0 = 33 then
                          if p0 < 47 then
                            FX35_doPrimitive_b228 N SE SL SN p0 s
                          else
                            if 69 < p0 then
                              FX35_doPrimitive_b228 N SE SL SN p0 s
                            else
                              (FX35_doList N SE SL SN p0 s).bind fun q61 =>
                              FX35_doPrimitive_b234 N SE SL SN q61.2
                        else
                          if p0 = 34 then
                            if p0 < 47 then
                              FX35_doPrimitive_b228 N SE SL SN p0 s
                            else
                              if 69 < p0 then
                                FX35_doPrimitive_b228 N SE SL SN p0 s
                              else
                                (FX35_doList N SE SL SN p0 s).bind fun q66 =>
                                FX35_doPrimitive_b234 N SE SL SN q66.2
                          else
                            if p0 = 35 then
                              if p0 < 47 then
                                FX35_doPrimitive_b228 N SE SL SN p0 s
                              else
                                if 69 < p0 then
                                  FX35_doPrimitive_b228 N SE SL SN p0 s
                                else
                                  (FX35_doList N SE SL SN p0 s).bind fun q71 =>
                                  FX35_doPrimitive_b234 N SE SL SN q71.2
                            else
                              if p0 = 36 then
                                if p0 < 47 then
                                  FX35_doPrimitive_b228 N SE SL SN p0 s
                                else
                                  if 69 < p0 then
                                    FX35_doPrimitive_b228 N SE SL SN p0 s
                                  else
                                    (FX35_doList N SE SL SN p0 s).bind fun q76 =>
                                    FX35_doPrimitive_b234 N SE SL SN q76.2
                              else
                                if p0 = 37 then
                                  if p0 < 47 then
                                    FX35_doPrimitive_b228 N SE SL SN p0 s
                                  else
                                    if 69 < p0 then
                                      FX35_doPrimitive_b228 N SE SL SN p0 s
                                    else
                                      (FX35_doList N SE SL SN p0 s).bind fun q81 =>
                                      FX35_doPrimitive_b234 N SE SL SN q81.2
                                else
                                  if p0 = 38 then
                                    if p0 < 47 then
                                      FX35_doPrimitive_b228 N SE SL SN p0 s
                                    else
                                      if 69 < p0 then
                                        FX35_doPrimitive_b228 N SE SL SN p0 s
                                      else
                                        (FX35_doList N SE SL SN p0 s).bind fun q86 =>
                                        FX35_doPrimitive_b234 N SE SL SN q86.2
                                  else
                                    if p0 = 39 then
                                      (FX35_prefixed N SE SL SN s).bind fun q89 =>
                                      FX35_doPrimitive_b234 N SE SL SN q89.2
                                    else
                                      if p0 = 40 then
                                        if p0 < 47 then
                                          FX35_doPrimitive_b228 N SE SL SN p0 s
                                        else
                                          if 69 < p0 then
                                            FX35_doPrimitive_b228 N SE SL SN p0 s
                                          else
                                            (FX35_doList N SE SL SN p0 s).bind fun q94 =>
                                            FX35_doPrimitive_b234 N SE SL SN q94.2
                                      else
                                        if p0 = 41 then
                                          if p0 < 47 then
                                            FX35_doPrimitive_b228 N SE SL SN p0 s
                                          else
                                            if 69 < p0 then
                                              FX35_doPrimitive_b228 N SE SL SN p0 s
                                            else
                                              (FX35_doList N SE SL SN p0 s).bind fun q99 =>
                                              FX35_doPrimitive_b234 N SE SL SN q99.2
                                        else
                                          if p0 = 42 then
                                            if p0 < 47 then
                                              FX35_doPrimitive_b228 N SE SL SN p0 s
                                            else
                                              if 69 < p0 then
                                                FX35_doPrimitive_b228 N SE SL SN p0 s
                                              else
                                                (FX35_doList N SE SL SN p0 s).bind fun q104 =>
                                                FX35_doPrimitive_b234 N SE SL SN q104.2
                                          else
                                            if p0 = 43 then
                                              if p0 < 47 then
                                                FX35_doPrimitive_b228 N SE SL SN p0 s
                                              else
                                                if 69 < p0 then
                                                  FX35_doPrimitive_b228 N SE SL SN p0 s
                                                else
                                                  (FX35_doList N SE SL SN p0 s).bind fun q109 =>
                                                  FX35_doPrimitive_b234 N SE SL SN q109.2
                                            else
                                              if p0 = 44 then
                                                (FX35_fail 6 s).bind fun q112 =>
                                                FX35_doPrimitive_b234 N SE SL SN q112.2
                                              else
                                                if p0 = 45 then
                                                  (FX35_fail 6 s).bind fun q115 =>
                                                  FX35_doPrimitive_b234 N SE SL SN q115.2
                                                else
                                                  if p0 = 46 then
                                                    (FX35_fail 6 s).bind fun q118 =>
                                                    FX35_doPrimitive_b234 N SE SL SN q118.2
                                                  else
                                                    if p0 < 47 then
                                                      FX35_doPrimitive_b228 N SE SL SN p0 s
                                                    else
                                                      if 69 < p0 then
                                                        FX35_doPrimitive_b228 N SE SL SN p0 s
                                                      else
                                                        (FX35_doList N SE SL SN p0 s).bind fun q122 =>
                                                        FX35_doPrimitive_b234 N SE SL SN q122.2
theorem SX35_doPrimitive {m b : Nat} {φ0 : Nat → Nat} {σo : fS} (hm : 1 ≤ m) (hb : 1 ≤ b) {N : Nat} {sE : Nat → Int32 → eH → Option (Unit × eH)} {SE : Int → fS → Option (Unit × fS)} {sL : Nat → Int32 → Int64 → Int64 → eH → Option (Int32 × eH)} {SL : Int → Int → Int → fS → Option (Int × fS)} {sN : Nat → eH → Option (Int32 × eH)} {SN : fS → Option (Int × fS)} {q : Unit × fS} (hsE : ∀ {φ : Nat → Nat} {h : eH} {s : fS} {x1' : Int32} {x1 : Int} {q}, fC m 1 φ s φ h s → x1' = iI x1 → r32 x1 → SE x1 s = some q → gG m 1 φ s lU q (sE 192 x1' h)) (hsL : ∀ {φ : Nat → Nat} {h : eH} {s : fS} {x1' : Int32} {x1 : Int} {x2' : Int64} {x2 : Int} {x3' : Int64} {x3 : Int} {q}, fC m 1 φ s φ h s → x1' = iI x1 → r32 x1 → x2' = iJ x2 → r64 x2 → x3' = iJ x3 → r64 x3 → SL x1 x2 x3 s = some q → gG m 1 φ s lI q (sL 192 x1' x2' x3' h)) (hsN : ∀ {φ : Nat → Nat} {h : eH} {s : fS} {q}, fC m 1 φ s φ h s → SN s = some q → gG m 1 φ s lI q (sN 192 h)) {φ : Nat → Nat} {h : eH} {s : fS} {p0' : Int32} {p0 : Int} (R : fC m b φ0 σo φ h s) (ep0 : p0' = iI p0) (rp0 : r32 p0) (hF : FX35_doPrimitive N SE SL SN p0 s = some q) : gG m b φ0 σo lU q (fX35_doPrimitive N sE sL sN 192 p0' h) := by
  subst ep0
  unfold FX35_doPrimitive at hF
  unfold fX35_doPrimitive
  refine s_if (i_eq rfl (c_lit 22 22 rfl) rp0 ⟨by decide, by decide⟩) hF (fun c1 hF => ?_) (fun c1 hF => ?_)
  ·
    exact SX35_doPrimitive_b234 (N := N) (sE := sE) (SE := SE) (sL := sL) (SL := SL) (sN := sN) (SN := SN) hm @hsE @hsL @hsN R hF
  ·
    refine s_if (i_eq rfl (c_lit 23 23 rfl) rp0 ⟨by decide, by decide⟩) hF (fun c2 hF => ?_) (fun c2 hF => ?_)
    ·
      refine s_kok R (t_192 hm R.S) (Nat.le_of_ble_eq_true rfl) ?_
      refine s_call R (Nat.zero_le _) (fun _ hq => SX35_mode (b := 0) hm (R.rf) hq) hF (fun f4 rv4 h4 q4 R4 e4 E4 hF => ?_)
      refine s_if (not_congr (i_eq e4.1 (c_lit 2 2 rfl) e4.2 ⟨by decide, by decide⟩)) hF (fun c5 hF => ?_) (fun c5 hF => ?_)
      ·
        exact SX35_doPrimitive_b234 (N := N) (sE := sE) (SE := SE) (sL := sL) (SL := SL) (sN := sN) (SN := SN) hm @hsE @hsL @hsN R4 hF
      ·
        refine s_kok R4 (t_192 hm R4.S) (Nat.le_of_ble_eq_true rfl) ?_
        refine s_call R4 hb (fun _ hq => SX35_endParagraph (b := 1) (N := N) (sL := sL) (SL := SL) hm (Nat.le_of_ble_eq_true rfl) @hsL (R4.rf) hq) hF (fun f7 rv7 h7 q7 R7 e7 E7 hF => ?_)
        exact SX35_doPrimitive_b234 (N := N) (sE := sE) (SE := SE) (sL := sL) (SL := SL) (sN := sN) (SN := SN) hm @hsE @hsL @hsN R7 hF
    ·
      refine s_if (i_eq rfl (c_lit 24 24 rfl) rp0 ⟨by decide, by decide⟩) hF (fun c8 hF => ?_) (fun c8 hF => ?_)
      ·
        refine s_kok R (t_192 hm R.S) (Nat.le_of_ble_eq_true rfl) ?_
        refine s_call R (Nat.zero_le _) (fun _ hq => SX35_openGroup (b := 0) (N := N) hm (R.rf) (c_lit 2 2 rfl) ⟨by decide, by decide⟩ hq) hF (fun f10 rv10 h10 q10 R10 e10 E10 hF => ?_)
        exact SX35_doPrimitive_b234 (N := N) (sE := sE) (SE := SE) (sL := sL) (SL := SL) (sN := sN) (SN := SN) hm @hsE @hsL @hsN R10 hF
      ·
        refine s_if (i_eq rfl (c_lit 25 25 rfl) rp0 ⟨by decide, by decide⟩) hF (fun c11 hF => ?_) (fun c11 hF => ?_)
        ·
          refine s_gI R (t_192 hm R.S) (Nat.le_of_ble_eq_true rfl) rfl ?_
          refine s_if (i_eq rfl (c_lit 0 0 rfl) (R.ri (t_192 hm R.S) (Nat.le_of_ble_eq_true rfl) rfl) ⟨by decide, by decide⟩) hF (fun c13 hF => ?_) (fun c13 hF => ?_)
          ·
            exact SX35_doPrimitive_b162 (N := N) (sE := sE) (SE := SE) (sL := sL) (SL := SL) (sN := sN) (SN := SN) hm @hsE @hsL @hsN R hF
          ·
            refine s_gAs R (t_192 hm R.S) (Nat.le_of_ble_eq_true rfl) rfl (o_192_23 hm R.S) (a_266 hm R) ?_
            refine s_gI R (t_192 hm R.S) (Nat.le_of_ble_eq_true rfl) rfl ?_
            refine s_rI R (u_266 hm R.S).1 (u_266 hm R.S).2 (by decide) (a_266 hm R) rfl (R.ri (t_192 hm R.S) (Nat.le_of_ble_eq_true rfl) rfl) hF (fun x19 ra16 hF => ?_)
            refine s_if (i_eq rfl (c_lit 2 2 rfl) ra16 ⟨by decide, by decide⟩) hF (fun c17 hF => ?_) (fun c17 hF => ?_)
            ·
              refine s_gI R (t_192 hm R.S) (Nat.le_of_ble_eq_true rfl) rfl ?_
              refine s_pI R (t_192 hm R.S) (Nat.le_of_ble_eq_true rfl) rfl (c_sub rfl (c_lit 1 1 rfl)) (rr_I _) hF (fun h19 σ24 R19 T19 hF => ?_)
              exact SX35_doPrimitive_b234 (N := N) (sE := sE) (SE := SE) (sL := sL) (SL := SL) (sN := sN) (SN := SN) hm @hsE @hsL @hsN R19 hF
            ·
              exact SX35_doPrimitive_b162 (N := N) (sE := sE) (SE := SE) (sL := sL) (SL := SL) (sN := sN) (SN := SN) hm @hsE @hsL @hsN R hF
        ·
          refine s_if (i_eq rfl (c_lit 26 26 rfl) rp0 ⟨by decide, by decide⟩) hF (fun c20 hF => ?_) (fun c20 hF => ?_)
          ·
            refine s_pZ R (t_192 hm R.S) (Nat.le_of_ble_eq_true rfl) rfl (c_lit 1 1 rfl) ⟨by decide, by decide⟩ hF (fun h21 σ27 R21 T21 hF => ?_)
            exact SX35_doPrimitive_b234 (N := N) (sE := sE) (SE := SE) (sL := sL) (SL := SL) (sN := sN) (SN := SN) hm @hsE @hsL @hsN R21 hF
          ·
            refine s_if (i_eq rfl (c_lit 27 27 rfl) rp0 ⟨by decide, by decide⟩) hF (fun c22 hF => ?_) (fun c22 hF => ?_)
            ·
              refine s_kok R (t_192 hm R.S) (Nat.le_of_ble_eq_true rfl) ?_
              refine s_call R (Nat.zero_le _) (fun _ hq => SX35_fail (b := 0) hm (R.rf) (c_lit 6 6 rfl) ⟨by decide, by decide⟩ hq) hF (fun f24 rv24 h24 q31 R24 e24 E24 hF => ?_)
              exact SX35_doPrimitive_b234 (N := N) (sE := sE) (SE := SE) (sL := sL) (SL := SL) (sN := sN) (SN := SN) hm @hsE @hsL @hsN R24 hF
            ·
              refine s_if (i_eq rfl (c_lit 28 28 rfl) rp0 ⟨by decide, by decide⟩) hF (fun c25 hF => ?_) (fun c25 hF => ?_)
              ·
                refine s_if (i_lt rfl (c_lit 47 47 rfl) rp0 ⟨by decide, by decide⟩) hF (fun c26 hF => ?_) (fun c26 hF => ?_)
                ·
                  exact SX35_doPrimitive_b228 (N := N) (sE := sE) (SE := SE) (sL := sL) (SL := SL) (sN := sN) (SN := SN) hm hb @hsE @hsL @hsN R rfl rp0 hF
                ·
                  refine s_if (i_lt (c_lit 69 69 rfl) rfl ⟨by decide, by decide⟩ rp0) hF (fun c27 hF => ?_) (fun c27 hF => ?_)
                  ·
                    exact SX35_doPrimitive_b228 (N := N) (sE := sE) (SE := SE) (sL := sL) (SL := SL) (sN := sN) (SN := SN) hm hb @hsE @hsL @hsN R rfl rp0 hF
                  ·
                    refine s_kok R (t_192 hm R.S) (Nat.le_of_ble_eq_true rfl) ?_
                    refine s_call R hb (fun _ hq => SX35_doList (b := 1) (N := N) (sE := sE) (SE := SE) (sL := sL) (SL := SL) (sN := sN) (SN := SN) hm (Nat.le_of_ble_eq_true rfl) @hsE @hsL @hsN (R.rf) rfl rp0 hq) hF (fun f29 rv29 h29 q36 R29 e29 E29 hF => ?_)
                    exact SX35_doPrimitive_b234 (N := N) (sE := sE) (SE := SE) (sL := sL) (SL := SL) (sN := sN) (SN := SN) hm @hsE @hsL @hsN R29 hF
              ·
                refine s_if (i_eq rfl (c_lit 29 29 rfl) rp0 ⟨by decide, by decide⟩) hF (fun c30 hF => ?_) (fun c30 hF => ?_)
                ·
                  refine s_if (i_lt rfl (c_lit 47 47 rfl) rp0 ⟨by decide, by decide⟩) hF (fun c31 hF => ?_) (fun c31 hF => ?_)
                  ·
                    exact SX35_doPrimitive_b228 (N := N) (sE := sE) (SE := SE) (sL := sL) (SL := SL) (sN := sN) (SN := SN) hm hb @hsE @hsL @hsN R rfl rp0 hF
                  ·
                    refine s_if (i_lt (c_lit 69 69 rfl) rfl ⟨by decide, by decide⟩ rp0) hF (fun c32 hF => ?_) (fun c32 hF => ?_)
                    ·
                      exact SX35_doPrimitive_b228 (N := N) (sE := sE) (SE := SE) (sL := sL) (SL := SL) (sN := sN) (SN := SN) hm hb @hsE @hsL @hsN R rfl rp0 hF
                    ·
                      refine s_kok R (t_192 hm R.S) (Nat.le_of_ble_eq_true rfl) ?_
                      refine s_call R hb (fun _ hq => SX35_doList (b := 1) (N := N) (sE := sE) (SE := SE) (sL := sL) (SL := SL) (sN := sN) (SN := SN) hm (Nat.le_of_ble_eq_true rfl) @hsE @hsL @hsN (R.rf) rfl rp0 hq) hF (fun f34 rv34 h34 q41 R34 e34 E34 hF => ?_)
                      exact SX35_doPrimitive_b234 (N := N) (sE := sE) (SE := SE) (sL := sL) (SL := SL) (sN := sN) (SN := SN) hm @hsE @hsL @hsN R34 hF
                ·
                  refine s_if (i_eq rfl (c_lit 30 30 rfl) rp0 ⟨by decide, by decide⟩) hF (fun c35 hF => ?_) (fun c35 hF => ?_)
                  ·
                    refine s_if (i_lt rfl (c_lit 47 47 rfl) rp0 ⟨by decide, by decide⟩) hF (fun c36 hF => ?_) (fun c36 hF => ?_)
                    ·
                      exact SX35_doPrimitive_b228 (N := N) (sE := sE) (SE := SE) (sL := sL) (SL := SL) (sN := sN) (SN := SN) hm hb @hsE @hsL @hsN R rfl rp0 hF
                    ·
                      refine s_if (i_lt (c_lit 69 69 rfl) rfl ⟨by decide, by decide⟩ rp0) hF (fun c37 hF => ?_) (fun c37 hF => ?_)
                      ·
                        exact SX35_doPrimitive_b228 (N := N) (sE := sE) (SE := SE) (sL := sL) (SL := SL) (sN := sN) (SN := SN) hm hb @hsE @hsL @hsN R rfl rp0 hF
                      ·
                        refine s_kok R (t_192 hm R.S) (Nat.le_of_ble_eq_true rfl) ?_
                        refine s_call R hb (fun _ hq => SX35_doList (b := 1) (N := N) (sE := sE) (SE := SE) (sL := sL) (SL := SL) (sN := sN) (SN := SN) hm (Nat.le_of_ble_eq_true rfl) @hsE @hsL @hsN (R.rf) rfl rp0 hq) hF (fun f39 rv39 h39 q46 R39 e39 E39 hF => ?_)
                        exact SX35_doPrimitive_b234 (N := N) (sE := sE) (SE := SE) (sL := sL) (SL := SL) (sN := sN) (SN := SN) hm @hsE @hsL @hsN R39 hF
                  ·
                    refine s_if (i_eq rfl (c_lit 31 31 rfl) rp0 ⟨by decide, by decide⟩) hF (fun c40 hF => ?_) (fun c40 hF => ?_)
                    ·
                      refine s_if (i_lt rfl (c_lit 47 47 rfl) rp0 ⟨by decide, by decide⟩) hF (fun c41 hF => ?_) (fun c41 hF => ?_)
                      ·
                        exact SX35_doPrimitive_b228 (N := N) (sE := sE) (SE := SE) (sL := sL) (SL := SL) (sN := sN) (SN := SN) hm hb @hsE @hsL @hsN R rfl rp0 hF
                      ·
                        refine s_if (i_lt (c_lit 69 69 rfl) rfl ⟨by decide, by decide⟩ rp0) hF (fun c42 hF => ?_) (fun c42 hF => ?_)
                        ·
                          exact SX35_doPrimitive_b228 (N := N) (sE := sE) (SE := SE) (sL := sL) (SL := SL) (sN := sN) (SN := SN) hm hb @hsE @hsL @hsN R rfl rp0 hF
                        ·
                          refine s_kok R (t_192 hm R.S) (Nat.le_of_ble_eq_true rfl) ?_
                          refine s_call R hb (fun _ hq => SX35_doList (b := 1) (N := N) (sE := sE) (SE := SE) (sL := sL) (SL := SL) (sN := sN) (SN := SN) hm (Nat.le_of_ble_eq_true rfl) @hsE @hsL @hsN (R.rf) rfl rp0 hq) hF (fun f44 rv44 h44 q51 R44 e44 E44 hF => ?_)
                          exact SX35_doPrimitive_b234 (N := N) (sE := sE) (SE := SE) (sL := sL) (SL := SL) (sN := sN) (SN := SN) hm @hsE @hsL @hsN R44 hF
                    ·
                      refine s_if (i_eq rfl (c_lit 32 32 rfl) rp0 ⟨by decide, by decide⟩) hF (fun c45 hF => ?_) (fun c45 hF => ?_)
                      ·
                        refine s_if (i_lt rfl (c_lit 47 47 rfl) rp0 ⟨by decide, by decide⟩) hF (fun c46 hF => ?_) (fun c46 hF => ?_)
                        ·
                          exact SX35_doPrimitive_b228 (N := N) (sE := sE) (SE := SE) (sL := sL) (SL := SL) (sN := sN) (SN := SN) hm hb @hsE @hsL @hsN R rfl rp0 hF
                        ·
                          refine s_if (i_lt (c_lit 69 69 rfl) rfl ⟨by decide, by decide⟩ rp0) hF (fun c47 hF => ?_) (fun c47 hF => ?_)
                          ·
                            exact SX35_doPrimitive_b228 (N := N) (sE := sE) (SE := SE) (sL := sL) (SL := SL) (sN := sN) (SN := SN) hm hb @hsE @hsL @hsN R rfl rp0 hF
                          ·
                            refine s_kok R (t_192 hm R.S) (Nat.le_of_ble_eq_true rfl) ?_
                            refine s_call R hb (fun _ hq => SX35_doList (b := 1) (N := N) (sE := sE) (SE := SE) (sL := sL) (SL := SL) (sN := sN) (SN := SN) hm (Nat.le_of_ble_eq_true rfl) @hsE @hsL @hsN (R.rf) rfl rp0 hq) hF (fun f49 rv49 h49 q56 R49 e49 E49 hF => ?_)
                            exact SX35_doPrimitive_b234 (N := N) (sE := sE) (SE := SE) (sL := sL) (SL := SL) (sN := sN) (SN := SN) hm @hsE @hsL @hsN R49 hF
                      ·
                        refine s_if (i_eq rfl (c_lit 33 33 rfl) rp0 ⟨by decide, by decide⟩) hF (fun c50 hF => ?_) (fun c50 hF => ?_)
                        ·
                          refine s_if (i_lt rfl (c_lit 47 47 rfl) rp0 ⟨by decide, by decide⟩) hF (fun c51 hF => ?_) (fun c51 hF => ?_)
                          ·
                            exact SX35_doPrimitive_b228 (N := N) (sE := sE) (SE := SE) (sL := sL) (SL := SL) (sN := sN) (SN := SN) hm hb @hsE @hsL @hsN R rfl rp0 hF
                          ·
                            refine s_if (i_lt (c_lit 69 69 rfl) rfl ⟨by decide, by decide⟩ rp0) hF (fun c52 hF => ?_) (fun c52 hF => ?_)
                            ·
                              exact SX35_doPrimitive_b228 (N := N) (sE := sE) (SE := SE) (sL := sL) (SL := SL) (sN := sN) (SN := SN) hm hb @hsE @hsL @hsN R rfl rp0 hF
                            ·
                              refine s_kok R (t_192 hm R.S) (Nat.le_of_ble_eq_true rfl) ?_
                              refine s_call R hb (fun _ hq => SX35_doList (b := 1) (N := N) (sE := sE) (SE := SE) (sL := sL) (SL := SL) (sN := sN) (SN := SN) hm (Nat.le_of_ble_eq_true rfl) @hsE @hsL @hsN (R.rf) rfl rp0 hq) hF (fun f54 rv54 h54 q61 R54 e54 E54 hF => ?_)
                              exact SX35_doPrimitive_b234 (N := N) (sE := sE) (SE := SE) (sL := sL) (SL := SL) (sN := sN) (SN := SN) hm @hsE @hsL @hsN R54 hF
                        ·
                          refine s_if (i_eq rfl (c_lit 34 34 rfl) rp0 ⟨by decide, by decide⟩) hF (fun c55 hF => ?_) (fun c55 hF => ?_)
                          ·
                            refine s_if (i_lt rfl (c_lit 47 47 rfl) rp0 ⟨by decide, by decide⟩) hF (fun c56 hF => ?_) (fun c56 hF => ?_)
                            ·
                              exact SX35_doPrimitive_b228 (N := N) (sE := sE) (SE := SE) (sL := sL) (SL := SL) (sN := sN) (SN := SN) hm hb @hsE @hsL @hsN R rfl rp0 hF
                            ·
                              refine s_if (i_lt (c_lit 69 69 rfl) rfl ⟨by decide, by decide⟩ rp0) hF (fun c57 hF => ?_) (fun c57 hF => ?_)
                              ·
                                exact SX35_doPrimitive_b228 (N := N) (sE := sE) (SE := SE) (sL := sL) (SL := SL) (sN := sN) (SN := SN) hm hb @hsE @hsL @hsN R rfl rp0 hF
                              ·
                                refine s_kok R (t_192 hm R.S) (Nat.le_of_ble_eq_true rfl) ?_
                                refine s_call R hb (fun _ hq => SX35_doList (b := 1) (N := N) (sE := sE) (SE := SE) (sL := sL) (SL := SL) (sN := sN) (SN := SN) hm (Nat.le_of_ble_eq_true rfl) @hsE @hsL @hsN (R.rf) rfl rp0 hq) hF (fun f59 rv59 h59 q66 R59 e59 E59 hF => ?_)
                                exact SX35_doPrimitive_b234 (N := N) (sE := sE) (SE := SE) (sL := sL) (SL := SL) (sN := sN) (SN := SN) hm @hsE @hsL @hsN R59 hF
                          ·
                            refine s_if (i_eq rfl (c_lit 35 35 rfl) rp0 ⟨by decide, by decide⟩) hF (fun c60 hF => ?_) (fun c60 hF => ?_)
                            ·
                              refine s_if (i_lt rfl (c_lit 47 47 rfl) rp0 ⟨by decide, by decide⟩) hF (fun c61 hF => ?_) (fun c61 hF => ?_)
                              ·
                                exact SX35_doPrimitive_b228 (N := N) (sE := sE) (SE := SE) (sL := sL) (SL := SL) (sN := sN) (SN := SN) hm hb @hsE @hsL @hsN R rfl rp0 hF
                              ·
                                refine s_if (i_lt (c_lit 69 69 rfl) rfl ⟨by decide, by decide⟩ rp0) hF (fun c62 hF => ?_) (fun c62 hF => ?_)
                                ·
                                  exact SX35_doPrimitive_b228 (N := N) (sE := sE) (SE := SE) (sL := sL) (SL := SL) (sN := sN) (SN := SN) hm hb @hsE @hsL @hsN R rfl rp0 hF
                                ·
                                  refine s_kok R (t_192 hm R.S) (Nat.le_of_ble_eq_true rfl) ?_
                                  refine s_call R hb (fun _ hq => SX35_doList (b := 1) (N := N) (sE := sE) (SE := SE) (sL := sL) (SL := SL) (sN := sN) (SN := SN) hm (Nat.le_of_ble_eq_true rfl) @hsE @hsL @hsN (R.rf) rfl rp0 hq) hF (fun f64 rv64 h64 q71 R64 e64 E64 hF => ?_)
                                  exact SX35_doPrimitive_b234 (N := N) (sE := sE) (SE := SE) (sL := sL) (SL := SL) (sN := sN) (SN := SN) hm @hsE @hsL @hsN R64 hF
                            ·
                              refine s_if (i_eq rfl (c_lit 36 36 rfl) rp0 ⟨by decide, by decide⟩) hF (fun c65 hF => ?_) (fun c65 hF => ?_)
                              ·
                                refine s_if (i_lt rfl (c_lit 47 47 rfl) rp0 ⟨by decide, by decide⟩) hF (fun c66 hF => ?_) (fun c66 hF => ?_)
                                ·
                                  exact SX35_doPrimitive_b228 (N := N) (sE := sE) (SE := SE) (sL := sL) (SL := SL) (sN := sN) (SN := SN) hm hb @hsE @hsL @hsN R rfl rp0 hF
                                ·
                                  refine s_if (i_lt (c_lit 69 69 rfl) rfl ⟨by decide, by decide⟩ rp0) hF (fun c67 hF => ?_) (fun c67 hF => ?_)
                                  ·
                                    exact SX35_doPrimitive_b228 (N := N) (sE := sE) (SE := SE) (sL := sL) (SL := SL) (sN := sN) (SN := SN) hm hb @hsE @hsL @hsN R rfl rp0 hF
                                  ·
                                    refine s_kok R (t_192 hm R.S) (Nat.le_of_ble_eq_true rfl) ?_
                                    refine s_call R hb (fun _ hq => SX35_doList (b := 1) (N := N) (sE := sE) (SE := SE) (sL := sL) (SL := SL) (sN := sN) (SN := SN) hm (Nat.le_of_ble_eq_true rfl) @hsE @hsL @hsN (R.rf) rfl rp0 hq) hF (fun f69 rv69 h69 q76 R69 e69 E69 hF => ?_)
                                    exact SX35_doPrimitive_b234 (N := N) (sE := sE) (SE := SE) (sL := sL) (SL := SL) (sN := sN) (SN := SN) hm @hsE @hsL @hsN R69 hF
                              ·
                                refine s_if (i_eq rfl (c_lit 37 37 rfl) rp0 ⟨by decide, by decide⟩) hF (fun c70 hF => ?_) (fun c70 hF => ?_)
                                ·
                                  refine s_if (i_lt rfl (c_lit 47 47 rfl) rp0 ⟨by decide, by decide⟩) hF (fun c71 hF => ?_) (fun c71 hF => ?_)
                                  ·
                                    exact SX35_doPrimitive_b228 (N := N) (sE := sE) (SE := SE) (sL := sL) (SL := SL) (sN := sN) (SN := SN) hm hb @hsE @hsL @hsN R rfl rp0 hF
                                  ·
                                    refine s_if (i_lt (c_lit 69 69 rfl) rfl ⟨by decide, by decide⟩ rp0) hF (fun c72 hF => ?_) (fun c72 hF => ?_)
                                    ·
                                      exact SX35_doPrimitive_b228 (N := N) (sE := sE) (SE := SE) (sL := sL) (SL := SL) (sN := sN) (SN := SN) hm hb @hsE @hsL @hsN R rfl rp0 hF
                                    ·
                                      refine s_kok R (t_192 hm R.S) (Nat.le_of_ble_eq_true rfl) ?_
                                      refine s_call R hb (fun _ hq => SX35_doList (b := 1) (N := N) (sE := sE) (SE := SE) (sL := sL) (SL := SL) (sN := sN) (SN := SN) hm (Nat.le_of_ble_eq_true rfl) @hsE @hsL @hsN (R.rf) rfl rp0 hq) hF (fun f74 rv74 h74 q81 R74 e74 E74 hF => ?_)
                                      exact SX35_doPrimitive_b234 (N := N) (sE := sE) (SE := SE) (sL := sL) (SL := SL) (sN := sN) (SN := SN) hm @hsE @hsL @hsN R74 hF
                                ·
                                  refine s_if (i_eq rfl (c_lit 38 38 rfl) rp0 ⟨by decide, by decide⟩) hF (fun c75 hF => ?_) (fun c75 hF => ?_)
                                  ·
                                    refine s_if (i_lt rfl (c_lit 47 47 rfl) rp0 ⟨by decide, by decide⟩) hF (fun c76 hF => ?_) (fun c76 hF => ?_)
                                    ·
                                      exact SX35_doPrimitive_b228 (N := N) (sE := sE) (SE := SE) (sL := sL) (SL := SL) (sN := sN) (SN := SN) hm hb @hsE @hsL @hsN R rfl rp0 hF
                                    ·
                                      refine s_if (i_lt (c_lit 69 69 rfl) rfl ⟨by decide, by decide⟩ rp0) hF (fun c77 hF => ?_) (fun c77 hF => ?_)
                                      ·
                                        exact SX35_doPrimitive_b228 (N := N) (sE := sE) (SE := SE) (sL := sL) (SL := SL) (sN := sN) (SN := SN) hm hb @hsE @hsL @hsN R rfl rp0 hF
                                      ·
                                        refine s_kok R (t_192 hm R.S) (Nat.le_of_ble_eq_true rfl) ?_
                                        refine s_call R hb (fun _ hq => SX35_doList (b := 1) (N := N) (sE := sE) (SE := SE) (sL := sL) (SL := SL) (sN := sN) (SN := SN) hm (Nat.le_of_ble_eq_true rfl) @hsE @hsL @hsN (R.rf) rfl rp0 hq) hF (fun f79 rv79 h79 q86 R79 e79 E79 hF => ?_)
                                        exact SX35_doPrimitive_b234 (N := N) (sE := sE) (SE := SE) (sL := sL) (SL := SL) (sN := sN) (SN := SN) hm @hsE @hsL @hsN R79 hF
                                  ·
                                    refine s_if (i_eq rfl (c_lit 39 39 rfl) rp0 ⟨by decide, by decide⟩) hF (fun c80 hF => ?_) (fun c80 hF => ?_)
                                    ·
                                      refine s_kok R (t_192 hm R.S) (Nat.le_of_ble_eq_true rfl) ?_
                                      refine s_call R hb (fun _ hq => SX35_prefixed (b := 1) (N := N) (sE := sE) (SE := SE) (sL := sL) (SL := SL) (sN := sN) (SN := SN) hm (Nat.le_of_ble_eq_true rfl) @hsE @hsL @hsN (R.rf) hq) hF (fun f82 rv82 h82 q89 R82 e82 E82 hF => ?_)
                                      exact SX35_doPrimitive_b234 (N := N) (sE := sE) (SE := SE) (sL := sL) (SL := SL) (sN := sN) (SN := SN) hm @hsE @hsL @hsN R82 hF
                                    ·
                                      refine s_if (i_eq rfl (c_lit 40 40 rfl) rp0 ⟨by decide, by decide⟩) hF (fun c83 hF => ?_) (fun c83 hF => ?_)
                                      ·
                                        refine s_if (i_lt rfl (c_lit 47 47 rfl) rp0 ⟨by decide, by decide⟩) hF (fun c84 hF => ?_) (fun c84 hF => ?_)
                                        ·
                                          exact SX35_doPrimitive_b228 (N := N) (sE := sE) (SE := SE) (sL := sL) (SL := SL) (sN := sN) (SN := SN) hm hb @hsE @hsL @hsN R rfl rp0 hF
                                        ·
                                          refine s_if (i_lt (c_lit 69 69 rfl) rfl ⟨by decide, by decide⟩ rp0) hF (fun c85 hF => ?_) (fun c85 hF => ?_)
                                          ·
                                            exact SX35_doPrimitive_b228 (N := N) (sE := sE) (SE := SE) (sL := sL) (SL := SL) (sN := sN) (SN := SN) hm hb @hsE @hsL @hsN R rfl rp0 hF
                                          ·
                                            refine s_kok R (t_192 hm R.S) (Nat.le_of_ble_eq_true rfl) ?_
                                            refine s_call R hb (fun _ hq => SX35_doList (b := 1) (N := N) (sE := sE) (SE := SE) (sL := sL) (SL := SL) (sN := sN) (SN := SN) hm (Nat.le_of_ble_eq_true rfl) @hsE @hsL @hsN (R.rf) rfl rp0 hq) hF (fun f87 rv87 h87 q94 R87 e87 E87 hF => ?_)
                                            exact SX35_doPrimitive_b234 (N := N) (sE := sE) (SE := SE) (sL := sL) (SL := SL) (sN := sN) (SN := SN) hm @hsE @hsL @hsN R87 hF
                                      ·
                                        refine s_if (i_eq rfl (c_lit 41 41 rfl) rp0 ⟨by decide, by decide⟩) hF (fun c88 hF => ?_) (fun c88 hF => ?_)
                                        ·
                                          refine s_if (i_lt rfl (c_lit 47 47 rfl) rp0 ⟨by decide, by decide⟩) hF (fun c89 hF => ?_) (fun c89 hF => ?_)
                                          ·
                                            exact SX35_doPrimitive_b228 (N := N) (sE := sE) (SE := SE) (sL := sL) (SL := SL) (sN := sN) (SN := SN) hm hb @hsE @hsL @hsN R rfl rp0 hF
                                          ·
                                            refine s_if (i_lt (c_lit 69 69 rfl) rfl ⟨by decide, by decide⟩ rp0) hF (fun c90 hF => ?_) (fun c90 hF => ?_)
                                            ·
                                              exact SX35_doPrimitive_b228 (N := N) (sE := sE) (SE := SE) (sL := sL) (SL := SL) (sN := sN) (SN := SN) hm hb @hsE @hsL @hsN R rfl rp0 hF
                                            ·
                                              refine s_kok R (t_192 hm R.S) (Nat.le_of_ble_eq_true rfl) ?_
                                              refine s_call R hb (fun _ hq => SX35_doList (b := 1) (N := N) (sE := sE) (SE := SE) (sL := sL) (SL := SL) (sN := sN) (SN := SN) hm (Nat.le_of_ble_eq_true rfl) @hsE @hsL @hsN (R.rf) rfl rp0 hq) hF (fun f92 rv92 h92 q99 R92 e92 E92 hF => ?_)
                                              exact SX35_doPrimitive_b234 (N := N) (sE := sE) (SE := SE) (sL := sL) (SL := SL) (sN := sN) (SN := SN) hm @hsE @hsL @hsN R92 hF
                                        ·
                                          refine s_if (i_eq rfl (c_lit 42 42 rfl) rp0 ⟨by decide, by decide⟩) hF (fun c93 hF => ?_) (fun c93 hF => ?_)
                                          ·
                                            refine s_if (i_lt rfl (c_lit 47 47 rfl) rp0 ⟨by decide, by decide⟩) hF (fun c94 hF => ?_) (fun c94 hF => ?_)
                                            ·
                                              exact SX35_doPrimitive_b228 (N := N) (sE := sE) (SE := SE) (sL := sL) (SL := SL) (sN := sN) (SN := SN) hm hb @hsE @hsL @hsN R rfl rp0 hF
                                            ·
                                              refine s_if (i_lt (c_lit 69 69 rfl) rfl ⟨by decide, by decide⟩ rp0) hF (fun c95 hF => ?_) (fun c95 hF => ?_)
                                              ·
                                                exact SX35_doPrimitive_b228 (N := N) (sE := sE) (SE := SE) (sL := sL) (SL := SL) (sN := sN) (SN := SN) hm hb @hsE @hsL @hsN R rfl rp0 hF
                                              ·
                                                refine s_kok R (t_192 hm R.S) (Nat.le_of_ble_eq_true rfl) ?_
                                                refine s_call R hb (fun _ hq => SX35_doList (b := 1) (N := N) (sE := sE) (SE := SE) (sL := sL) (SL := SL) (sN := sN) (SN := SN) hm (Nat.le_of_ble_eq_true rfl) @hsE @hsL @hsN (R.rf) rfl rp0 hq) hF (fun f97 rv97 h97 q104 R97 e97 E97 hF => ?_)
                                                exact SX35_doPrimitive_b234 (N := N) (sE := sE) (SE := SE) (sL := sL) (SL := SL) (sN := sN) (SN := SN) hm @hsE @hsL @hsN R97 hF
                                          ·
                                            refine s_if (i_eq rfl (c_lit 43 43 rfl) rp0 ⟨by decide, by decide⟩) hF (fun c98 hF => ?_) (fun c98 hF => ?_)
                                            ·
                                              refine s_if (i_lt rfl (c_lit 47 47 rfl) rp0 ⟨by decide, by decide⟩) hF (fun c99 hF => ?_) (fun c99 hF => ?_)
                                              ·
                                                exact SX35_doPrimitive_b228 (N := N) (sE := sE) (SE := SE) (sL := sL) (SL := SL) (sN := sN) (SN := SN) hm hb @hsE @hsL @hsN R rfl rp0 hF
                                              ·
                                                refine s_if (i_lt (c_lit 69 69 rfl) rfl ⟨by decide, by decide⟩ rp0) hF (fun c100 hF => ?_) (fun c100 hF => ?_)
                                                ·
                                                  exact SX35_doPrimitive_b228 (N := N) (sE := sE) (SE := SE) (sL := sL) (SL := SL) (sN := sN) (SN := SN) hm hb @hsE @hsL @hsN R rfl rp0 hF
                                                ·
                                                  refine s_kok R (t_192 hm R.S) (Nat.le_of_ble_eq_true rfl) ?_
                                                  refine s_call R hb (fun _ hq => SX35_doList (b := 1) (N := N) (sE := sE) (SE := SE) (sL := sL) (SL := SL) (sN := sN) (SN := SN) hm (Nat.le_of_ble_eq_true rfl) @hsE @hsL @hsN (R.rf) rfl rp0 hq) hF (fun f102 rv102 h102 q109 R102 e102 E102 hF => ?_)
                                                  exact SX35_doPrimitive_b234 (N := N) (sE := sE) (SE := SE) (sL := sL) (SL := SL) (sN := sN) (SN := SN) hm @hsE @hsL @hsN R102 hF
                                            ·
                                              refine s_if (i_eq rfl (c_lit 44 44 rfl) rp0 ⟨by decide, by decide⟩) hF (fun c103 hF => ?_) (fun c103 hF => ?_)
                                              ·
                                                refine s_kok R (t_192 hm R.S) (Nat.le_of_ble_eq_true rfl) ?_
                                                refine s_call R (Nat.zero_le _) (fun _ hq => SX35_fail (b := 0) hm (R.rf) (c_lit 6 6 rfl) ⟨by decide, by decide⟩ hq) hF (fun f105 rv105 h105 q112 R105 e105 E105 hF => ?_)
                                                exact SX35_doPrimitive_b234 (N := N) (sE := sE) (SE := SE) (sL := sL) (SL := SL) (sN := sN) (SN := SN) hm @hsE @hsL @hsN R105 hF
                                              ·
                                                refine s_if (i_eq rfl (c_lit 45 45 rfl) rp0 ⟨by decide, by decide⟩) hF (fun c106 hF => ?_) (fun c106 hF => ?_)
                                                ·
                                                  refine s_kok R (t_192 hm R.S) (Nat.le_of_ble_eq_true rfl) ?_
                                                  refine s_call R (Nat.zero_le _) (fun _ hq => SX35_fail (b := 0) hm (R.rf) (c_lit 6 6 rfl) ⟨by decide, by decide⟩ hq) hF (fun f108 rv108 h108 q115 R108 e108 E108 hF => ?_)
                                                  exact SX35_doPrimitive_b234 (N := N) (sE := sE) (SE := SE) (sL := sL) (SL := SL) (sN := sN) (SN := SN) hm @hsE @hsL @hsN R108 hF
                                                ·
                                                  refine s_if (i_eq rfl (c_lit 46 46 rfl) rp0 ⟨by decide, by decide⟩) hF (fun c109 hF => ?_) (fun c109 hF => ?_)
                                                  ·
                                                    refine s_kok R (t_192 hm R.S) (Nat.le_of_ble_eq_true rfl) ?_
                                                    refine s_call R (Nat.zero_le _) (fun _ hq => SX35_fail (b := 0) hm (R.rf) (c_lit 6 6 rfl) ⟨by decide, by decide⟩ hq) hF (fun f111 rv111 h111 q118 R111 e111 E111 hF => ?_)
                                                    exact SX35_doPrimitive_b234 (N := N) (sE := sE) (SE := SE) (sL := sL) (SL := SL) (sN := sN) (SN := SN) hm @hsE @hsL @hsN R111 hF
                                                  ·
                                                    refine s_if (i_lt rfl (c_lit 47 47 rfl) rp0 ⟨by decide, by decide⟩) hF (fun c112 hF => ?_) (fun c112 hF => ?_)
                                                    ·
                                                      exact SX35_doPrimitive_b228 (N := N) (sE := sE) (SE := SE) (sL := sL) (SL := SL) (sN := sN) (SN := SN) hm hb @hsE @hsL @hsN R rfl rp0 hF
                                                    ·
                                                      refine s_if (i_lt (c_lit 69 69 rfl) rfl ⟨by decide, by decide⟩ rp0) hF (fun c113 hF => ?_) (fun c113 hF => ?_)
                                                      ·
                                                        exact SX35_doPrimitive_b228 (N := N) (sE := sE) (SE := SE) (sL := sL) (SL := SL) (sN := sN) (SN := SN) hm hb @hsE @hsL @hsN R rfl rp0 hF
                                                      ·
                                                        refine s_kok R (t_192 hm R.S) (Nat.le_of_ble_eq_true rfl) ?_
                                                        refine s_call R hb (fun _ hq => SX35_doList (b := 1) (N := N) (sE := sE) (SE := SE) (sL := sL) (SL := SL) (sN := sN) (SN := SN) hm (Nat.le_of_ble_eq_true rfl) @hsE @hsL @hsN (R.rf) rfl rp0 hq) hF (fun f115 rv115 h115 q122 R115 e115 E115 hF => ?_)
                                                        exact SX35_doPrimitive_b234 (N := N) (sE := sE) (SE := SE) (sL := sL) (SL := SL) (sN := sN) (SN := SN) hm @hsE @hsL @hsN R115 hF
def FX35_done_b170 (N : Nat) (SE : Int → fS → Option (Unit × fS)) (SL : Int → Int → Int → fS → Option (Int × fS)) (SN : fS → Option (Int × fS)) (s : fS) : Option (Unit × fS) :=
  some ((), s)
theorem SX35_done_b170 {m b : Nat} {φ0 : Nat → Nat} {σo : fS} (hm : 1 ≤ m) {N : Nat} {sE : Nat → Int32 → eH → Option (Unit × eH)} {SE : Int → fS → Option (Unit × fS)} {sL : Nat → Int32 → Int64 → Int64 → eH → Option (Int32 × eH)} {SL : Int → Int → Int → fS → Option (Int × fS)} {sN : Nat → eH → Option (Int32 × eH)} {SN : fS → Option (Int × fS)} {q : Unit × fS} (hsE : ∀ {φ : Nat → Nat} {h : eH} {s : fS} {x1' : Int32} {x1 : Int} {q}, fC m 1 φ s φ h s → x1' = iI x1 → r32 x1 → SE x1 s = some q → gG m 1 φ s lU q (sE 192 x1' h)) (hsL : ∀ {φ : Nat → Nat} {h : eH} {s : fS} {x1' : Int32} {x1 : Int} {x2' : Int64} {x2 : Int} {x3' : Int64} {x3 : Int} {q}, fC m 1 φ s φ h s → x1' = iI x1 → r32 x1 → x2' = iJ x2 → r64 x2 → x3' = iJ x3 → r64 x3 → SL x1 x2 x3 s = some q → gG m 1 φ s lI q (sL 192 x1' x2' x3' h)) (hsN : ∀ {φ : Nat → Nat} {h : eH} {s : fS} {q}, fC m 1 φ s φ h s → SN s = some q → gG m 1 φ s lI q (sN 192 h)) {φ : Nat → Nat} {h : eH} {s : fS} (R : fC m b φ0 σo φ h s) (hF : FX35_done_b170 N SE SL SN s = some q) : gG m b φ0 σo lU q (fX35_done_b170 N sE sL sN h) := by
  unfold FX35_done_b170 at hF
  unfold fX35_done_b170
  exact g_ret R hF trivial
def FX35_done_b97 (N : Nat) (SE : Int → fS → Option (Unit × fS)) (SL : Int → Int → Int → fS → Option (Int × fS)) (SN : fS → Option (Int × fS)) (s : fS) : Option (Unit × fS) :=
  FX35_done_b170 N SE SL SN s
theorem SX35_done_b97 {m b : Nat} {φ0 : Nat → Nat} {σo : fS} (hm : 1 ≤ m) {N : Nat} {sE : Nat → Int32 → eH → Option (Unit × eH)} {SE : Int → fS → Option (Unit × fS)} {sL : Nat → Int32 → Int64 → Int64 → eH → Option (Int32 × eH)} {SL : Int → Int → Int → fS → Option (Int × fS)} {sN : Nat → eH → Option (Int32 × eH)} {SN : fS → Option (Int × fS)} {q : Unit × fS} (hsE : ∀ {φ : Nat → Nat} {h : eH} {s : fS} {x1' : Int32} {x1 : Int} {q}, fC m 1 φ s φ h s → x1' = iI x1 → r32 x1 → SE x1 s = some q → gG m 1 φ s lU q (sE 192 x1' h)) (hsL : ∀ {φ : Nat → Nat} {h : eH} {s : fS} {x1' : Int32} {x1 : Int} {x2' : Int64} {x2 : Int} {x3' : Int64} {x3 : Int} {q}, fC m 1 φ s φ h s → x1' = iI x1 → r32 x1 → x2' = iJ x2 → r64 x2 → x3' = iJ x3 → r64 x3 → SL x1 x2 x3 s = some q → gG m 1 φ s lI q (sL 192 x1' x2' x3' h)) (hsN : ∀ {φ : Nat → Nat} {h : eH} {s : fS} {q}, fC m 1 φ s φ h s → SN s = some q → gG m 1 φ s lI q (sN 192 h)) {φ : Nat → Nat} {h : eH} {s : fS} (R : fC m b φ0 σo φ h s) (hF : FX35_done_b97 N SE SL SN s = some q) : gG m b φ0 σo lU q (fX35_done_b97 N sE sL sN h) := by
  unfold FX35_done_b97 at hF
  unfold fX35_done_b97
  exact SX35_done_b170 (N := N) (sE := sE) (SE := SE) (sL := sL) (SL := SL) (sN := sN) (SN := SN) hm @hsE @hsL @hsN R hF
def FX35_done_b77 (N : Nat) (SE : Int → fS → Option (Unit × fS)) (SL : Int → Int → Int → fS → Option (Int × fS)) (SN : fS → Option (Int × fS)) (s : fS) : Option (Unit × fS) :=
  (FX35_small SN 255 s).bind fun q2 =>
  if ¬ ((q2.2.i 192 46) = 0) then
    FX35_done_b97 N SE SL SN q2.2
  else
    (FX35_character N SL q2.1 q2.2).bind fun q7 =>
    FX35_done_b97 N SE SL SN q7.2
theorem SX35_done_b77 {m b : Nat} {φ0 : Nat → Nat} {σo : fS} (hm : 1 ≤ m) (hb : 1 ≤ b) {N : Nat} {sE : Nat → Int32 → eH → Option (Unit × eH)} {SE : Int → fS → Option (Unit × fS)} {sL : Nat → Int32 → Int64 → Int64 → eH → Option (Int32 × eH)} {SL : Int → Int → Int → fS → Option (Int × fS)} {sN : Nat → eH → Option (Int32 × eH)} {SN : fS → Option (Int × fS)} {q : Unit × fS} (hsE : ∀ {φ : Nat → Nat} {h : eH} {s : fS} {x1' : Int32} {x1 : Int} {q}, fC m 1 φ s φ h s → x1' = iI x1 → r32 x1 → SE x1 s = some q → gG m 1 φ s lU q (sE 192 x1' h)) (hsL : ∀ {φ : Nat → Nat} {h : eH} {s : fS} {x1' : Int32} {x1 : Int} {x2' : Int64} {x2 : Int} {x3' : Int64} {x3 : Int} {q}, fC m 1 φ s φ h s → x1' = iI x1 → r32 x1 → x2' = iJ x2 → r64 x2 → x3' = iJ x3 → r64 x3 → SL x1 x2 x3 s = some q → gG m 1 φ s lI q (sL 192 x1' x2' x3' h)) (hsN : ∀ {φ : Nat → Nat} {h : eH} {s : fS} {q}, fC m 1 φ s φ h s → SN s = some q → gG m 1 φ s lI q (sN 192 h)) {φ : Nat → Nat} {h : eH} {s : fS} (R : fC m b φ0 σo φ h s) (hF : FX35_done_b77 N SE SL SN s = some q) : gG m b φ0 σo lU q (fX35_done_b77 N sE sL sN 192 h) := by
  unfold FX35_done_b77 at hF
  unfold fX35_done_b77
  refine s_kok R (t_192 hm R.S) (Nat.le_of_ble_eq_true rfl) ?_
  refine s_call R hb (fun _ hq => SX35_small (b := 1) (sN := sN) (SN := SN) hm (Nat.le_of_ble_eq_true rfl) @hsN (R.rf) (c_lit 255 255 rfl) ⟨by decide, by decide⟩ hq) hF (fun f2 rv2 h2 q2 R2 e2 E2 hF => ?_)
  refine s_gI R2 (t_192 hm R2.S) (Nat.le_of_ble_eq_true rfl) rfl ?_
  refine s_if (not_congr (i_eq rfl (c_lit 0 0 rfl) (R2.ri (t_192 hm R2.S) (Nat.le_of_ble_eq_true rfl) rfl) ⟨by decide, by decide⟩)) hF (fun c4 hF => ?_) (fun c4 hF => ?_)
  ·
    exact SX35_done_b97 (N := N) (sE := sE) (SE := SE) (sL := sL) (SL := SL) (sN := sN) (SN := SN) hm @hsE @hsL @hsN R2 hF
  ·
    refine s_kok R2 (t_192 hm R2.S) (Nat.le_of_ble_eq_true rfl) ?_
    refine s_call R2 hb (fun _ hq => SX35_character (b := 1) (N := N) (sL := sL) (SL := SL) hm (Nat.le_of_ble_eq_true rfl) @hsL (R2.rf) e2.1 e2.2 hq) hF (fun f6 rv6 h6 q7 R6 e6 E6 hF => ?_)
    exact SX35_done_b97 (N := N) (sE := sE) (SE := SE) (sL := sL) (SL := SL) (sN := sN) (SN := SN) hm @hsE @hsL @hsN R6 hF
def FX35_done_b154 (N : Nat) (SE : Int → fS → Option (Unit × fS)) (SL : Int → Int → Int → fS → Option (Int × fS)) (SN : fS → Option (Int × fS)) (l2 : Int) (s : fS) : Option (Unit × fS) :=
  if ¬ ((s.i 192 46) = 0) then
    FX35_done_b170 N SE SL SN s
  else
    (FX35_doPrimitive N SE SL SN (isub l2 1000) s).bind fun q5 =>
    FX35_done_b170 N SE SL SN q5.2
theorem SX35_done_b154 {m b : Nat} {φ0 : Nat → Nat} {σo : fS} (hm : 1 ≤ m) (hb : 1 ≤ b) {N : Nat} {sE : Nat → Int32 → eH → Option (Unit × eH)} {SE : Int → fS → Option (Unit × fS)} {sL : Nat → Int32 → Int64 → Int64 → eH → Option (Int32 × eH)} {SL : Int → Int → Int → fS → Option (Int × fS)} {sN : Nat → eH → Option (Int32 × eH)} {SN : fS → Option (Int × fS)} {q : Unit × fS} (hsE : ∀ {φ : Nat → Nat} {h : eH} {s : fS} {x1' : Int32} {x1 : Int} {q}, fC m 1 φ s φ h s → x1' = iI x1 → r32 x1 → SE x1 s = some q → gG m 1 φ s lU q (sE 192 x1' h)) (hsL : ∀ {φ : Nat → Nat} {h : eH} {s : fS} {x1' : Int32} {x1 : Int} {x2' : Int64} {x2 : Int} {x3' : Int64} {x3 : Int} {q}, fC m 1 φ s φ h s → x1' = iI x1 → r32 x1 → x2' = iJ x2 → r64 x2 → x3' = iJ x3 → r64 x3 → SL x1 x2 x3 s = some q → gG m 1 φ s lI q (sL 192 x1' x2' x3' h)) (hsN : ∀ {φ : Nat → Nat} {h : eH} {s : fS} {q}, fC m 1 φ s φ h s → SN s = some q → gG m 1 φ s lI q (sN 192 h)) {φ : Nat → Nat} {h : eH} {s : fS} {l2' : Int32} {l2 : Int} (R : fC m b φ0 σo φ h s) (el2 : l2' = iI l2) (rl2 : r32 l2) (hF : FX35_done_b154 N SE SL SN l2 s = some q) : gG m b φ0 σo lU q (fX35_done_b154 N sE sL sN 192 l2' h) := by
  subst el2
  unfold FX35_done_b154 at hF
  unfold fX35_done_b154
  refine s_gI R (t_192 hm R.S) (Nat.le_of_ble_eq_true rfl) rfl ?_
  refine s_if (not_congr (i_eq rfl (c_lit 0 0 rfl) (R.ri (t_192 hm R.S) (Nat.le_of_ble_eq_true rfl) rfl) ⟨by decide, by decide⟩)) hF (fun c2 hF => ?_) (fun c2 hF => ?_)
  ·
    exact SX35_done_b170 (N := N) (sE := sE) (SE := SE) (sL := sL) (SL := SL) (sN := sN) (SN := SN) hm @hsE @hsL @hsN R hF
  ·
    refine s_kok R (t_192 hm R.S) (Nat.le_of_ble_eq_true rfl) ?_
    refine s_call R hb (fun _ hq => SX35_doPrimitive (b := 1) (N := N) (sE := sE) (SE := SE) (sL := sL) (SL := SL) (sN := sN) (SN := SN) hm (Nat.le_of_ble_eq_true rfl) @hsE @hsL @hsN (R.rf) (c_sub rfl (c_lit 1000 1000 rfl)) (rr_I _) hq) hF (fun f4 rv4 h4 q5 R4 e4 E4 hF => ?_)
    exact SX35_done_b170 (N := N) (sE := sE) (SE := SE) (sL := sL) (SL := SL) (sN := sN) (SN := SN) hm @hsE @hsL @hsN R4 hF
def FX35_done_b124 (N : Nat) (SE : Int → fS → Option (Unit × fS)) (SL : Int → Int → Int → fS → Option (Int × fS)) (SN : fS → Option (Int × fS)) (l2 : Int) (s : fS) : Option (Unit × fS) :=
  if ¬ ((s.i 192 46) = 0) then
    FX35_done_b154 N SE SL SN l2 s
  else
    if l2 < 4000000 then
      FX35_done_b154 N SE SL SN l2 s
    else
      (FX35_setAt N 3811 (isub l2 4000000) 0 s).bind fun q6 =>
      FX35_done_b170 N SE SL SN q6.2
theorem SX35_done_b124 {m b : Nat} {φ0 : Nat → Nat} {σo : fS} (hm : 1 ≤ m) (hb : 1 ≤ b) {N : Nat} {sE : Nat → Int32 → eH → Option (Unit × eH)} {SE : Int → fS → Option (Unit × fS)} {sL : Nat → Int32 → Int64 → Int64 → eH → Option (Int32 × eH)} {SL : Int → Int → Int → fS → Option (Int × fS)} {sN : Nat → eH → Option (Int32 × eH)} {SN : fS → Option (Int × fS)} {q : Unit × fS} (hsE : ∀ {φ : Nat → Nat} {h : eH} {s : fS} {x1' : Int32} {x1 : Int} {q}, fC m 1 φ s φ h s → x1' = iI x1 → r32 x1 → SE x1 s = some q → gG m 1 φ s lU q (sE 192 x1' h)) (hsL : ∀ {φ : Nat → Nat} {h : eH} {s : fS} {x1' : Int32} {x1 : Int} {x2' : Int64} {x2 : Int} {x3' : Int64} {x3 : Int} {q}, fC m 1 φ s φ h s → x1' = iI x1 → r32 x1 → x2' = iJ x2 → r64 x2 → x3' = iJ x3 → r64 x3 → SL x1 x2 x3 s = some q → gG m 1 φ s lI q (sL 192 x1' x2' x3' h)) (hsN : ∀ {φ : Nat → Nat} {h : eH} {s : fS} {q}, fC m 1 φ s φ h s → SN s = some q → gG m 1 φ s lI q (sN 192 h)) {φ : Nat → Nat} {h : eH} {s : fS} {l2' : Int32} {l2 : Int} (R : fC m b φ0 σo φ h s) (el2 : l2' = iI l2) (rl2 : r32 l2) (hF : FX35_done_b124 N SE SL SN l2 s = some q) : gG m b φ0 σo lU q (fX35_done_b124 N sE sL sN 192 l2' h) := by
  subst el2
  unfold FX35_done_b124 at hF
  unfold fX35_done_b124
  refine s_gI R (t_192 hm R.S) (Nat.le_of_ble_eq_true rfl) rfl ?_
  refine s_if (not_congr (i_eq rfl (c_lit 0 0 rfl) (R.ri (t_192 hm R.S) (Nat.le_of_ble_eq_true rfl) rfl) ⟨by decide, by decide⟩)) hF (fun c2 hF => ?_) (fun c2 hF => ?_)
  ·
    exact SX35_done_b154 (N := N) (sE := sE) (SE := SE) (sL := sL) (SL := SL) (sN := sN) (SN := SN) hm hb @hsE @hsL @hsN R rfl rl2 hF
  ·
    refine s_if (i_lt rfl (c_lit 4000000 4000000 rfl) rl2 ⟨by decide, by decide⟩) hF (fun c3 hF => ?_) (fun c3 hF => ?_)
    ·
      exact SX35_done_b154 (N := N) (sE := sE) (SE := SE) (sL := sL) (SL := SL) (sN := sN) (SN := SN) hm hb @hsE @hsL @hsN R rfl rl2 hF
    ·
      refine s_kok R (t_192 hm R.S) (Nat.le_of_ble_eq_true rfl) ?_
      refine s_call R (Nat.zero_le _) (fun _ hq => SX35_setAt (b := 0) (N := N) hm (R.rf) (c_lit 3811 3811 rfl) ⟨by decide, by decide⟩ (c_sub rfl (c_lit 4000000 4000000 rfl)) (rr_I _) (c_lit 0 0 rfl) ⟨by decide, by decide⟩ hq) hF (fun f5 rv5 h5 q6 R5 e5 E5 hF => ?_)
      exact SX35_done_b170 (N := N) (sE := sE) (SE := SE) (sL := sL) (SL := SL) (sN := sN) (SN := SN) hm @hsE @hsL @hsN R5 hF
def FX35_done_b58 (N : Nat) (SE : Int → fS → Option (Unit × fS)) (SL : Int → Int → Int → fS → Option (Int × fS)) (SN : fS → Option (Int × fS)) (l2 : Int) (s : fS) : Option (Unit × fS) :=
  if ¬ (l2 = 1051) then
    (FX35_endWord N s).bind fun q3 =>
    if ¬ ((q3.2.i 192 46) = 0) then
      FX35_done_b124 N SE SL SN l2 q3.2
    else
      if ¬ (l2 = 0) then
        FX35_done_b124 N SE SL SN l2 q3.2
      else
        (FX35_fail 11 q3.2).bind fun q9 =>
        FX35_done_b170 N SE SL SN q9.2
  else
    (FX35_isVertical s).bind fun q11 =>
    if q11.1 = 0 then
      FX35_done_b77 N SE SL SN q11.2
    else
      (FX35_beginParagraph N SL 1 q11.2).bind fun q14 =>
      FX35_done_b77 N SE SL SN q14.2
theorem SX35_done_b58 {m b : Nat} {φ0 : Nat → Nat} {σo : fS} (hm : 1 ≤ m) (hb : 1 ≤ b) {N : Nat} {sE : Nat → Int32 → eH → Option (Unit × eH)} {SE : Int → fS → Option (Unit × fS)} {sL : Nat → Int32 → Int64 → Int64 → eH → Option (Int32 × eH)} {SL : Int → Int → Int → fS → Option (Int × fS)} {sN : Nat → eH → Option (Int32 × eH)} {SN : fS → Option (Int × fS)} {q : Unit × fS} (hsE : ∀ {φ : Nat → Nat} {h : eH} {s : fS} {x1' : Int32} {x1 : Int} {q}, fC m 1 φ s φ h s → x1' = iI x1 → r32 x1 → SE x1 s = some q → gG m 1 φ s lU q (sE 192 x1' h)) (hsL : ∀ {φ : Nat → Nat} {h : eH} {s : fS} {x1' : Int32} {x1 : Int} {x2' : Int64} {x2 : Int} {x3' : Int64} {x3 : Int} {q}, fC m 1 φ s φ h s → x1' = iI x1 → r32 x1 → x2' = iJ x2 → r64 x2 → x3' = iJ x3 → r64 x3 → SL x1 x2 x3 s = some q → gG m 1 φ s lI q (sL 192 x1' x2' x3' h)) (hsN : ∀ {φ : Nat → Nat} {h : eH} {s : fS} {q}, fC m 1 φ s φ h s → SN s = some q → gG m 1 φ s lI q (sN 192 h)) {φ : Nat → Nat} {h : eH} {s : fS} {l2' : Int32} {l2 : Int} (R : fC m b φ0 σo φ h s) (el2 : l2' = iI l2) (rl2 : r32 l2) (hF : FX35_done_b58 N SE SL SN l2 s = some q) : gG m b φ0 σo lU q (fX35_done_b58 N sE sL sN 192 l2' h) := by
  subst el2
  unfold FX35_done_b58 at hF
  unfold fX35_done_b58
  refine s_if (not_congr (i_eq rfl (c_lit 1051 1051 rfl) rl2 ⟨by decide, by decide⟩)) hF (fun c1 hF => ?_) (fun c1 hF => ?_)
  ·
    refine s_kok R (t_192 hm R.S) (Nat.le_of_ble_eq_true rfl) ?_
    refine s_call R hb (fun _ hq => SX35_endWord (b := 1) (N := N) hm (Nat.le_of_ble_eq_true rfl) (R.rf) hq) hF (fun f3 rv3 h3 q3 R3 e3 E3 hF => ?_)
    refine s_gI R3 (t_192 hm R3.S) (Nat.le_of_ble_eq_true rfl) rfl ?_
    refine s_if (not_congr (i_eq rfl (c_lit 0 0 rfl) (R3.ri (t_192 hm R3.S) (Nat.le_of_ble_eq_true rfl) rfl) ⟨by decide, by decide⟩)) hF (fun c5 hF => ?_) (fun c5 hF => ?_)
    ·
      exact SX35_done_b124 (N := N) (sE := sE) (SE := SE) (sL := sL) (SL := SL) (sN := sN) (SN := SN) hm hb @hsE @hsL @hsN R3 rfl rl2 hF
    ·
      refine s_if (not_congr (i_eq rfl (c_lit 0 0 rfl) rl2 ⟨by decide, by decide⟩)) hF (fun c6 hF => ?_) (fun c6 hF => ?_)
      ·
        exact SX35_done_b124 (N := N) (sE := sE) (SE := SE) (sL := sL) (SL := SL) (sN := sN) (SN := SN) hm hb @hsE @hsL @hsN R3 rfl rl2 hF
      ·
        refine s_kok R3 (t_192 hm R3.S) (Nat.le_of_ble_eq_true rfl) ?_
        refine s_call R3 (Nat.zero_le _) (fun _ hq => SX35_fail (b := 0) hm (R3.rf) (c_lit 11 11 rfl) ⟨by decide, by decide⟩ hq) hF (fun f8 rv8 h8 q9 R8 e8 E8 hF => ?_)
        exact SX35_done_b170 (N := N) (sE := sE) (SE := SE) (sL := sL) (SL := SL) (sN := sN) (SN := SN) hm @hsE @hsL @hsN R8 hF
  ·
    refine s_kok R (t_192 hm R.S) (Nat.le_of_ble_eq_true rfl) ?_
    refine s_call R (Nat.zero_le _) (fun _ hq => SX35_isVertical (b := 0) hm (R.rf) hq) hF (fun f10 rv10 h10 q11 R10 e10 E10 hF => ?_)
    refine s_if (i_eq e10.1 (c_lit 0 0 rfl) e10.2 ⟨by decide, by decide⟩) hF (fun c11 hF => ?_) (fun c11 hF => ?_)
    ·
      exact SX35_done_b77 (N := N) (sE := sE) (SE := SE) (sL := sL) (SL := SL) (sN := sN) (SN := SN) hm hb @hsE @hsL @hsN R10 hF
    ·
      refine s_kok R10 (t_192 hm R10.S) (Nat.le_of_ble_eq_true rfl) ?_
      refine s_call R10 hb (fun _ hq => SX35_beginParagraph (b := 1) (N := N) (sL := sL) (SL := SL) hm (Nat.le_of_ble_eq_true rfl) @hsL (R10.rf) (c_lit 1 1 rfl) ⟨by decide, by decide⟩ hq) hF (fun f13 rv13 h13 q14 R13 e13 E13 hF => ?_)
      exact SX35_done_b77 (N := N) (sE := sE) (SE := SE) (sL := sL) (SL := SL) (sN := sN) (SN := SN) hm hb @hsE @hsL @hsN R13 hF
def FX35_done_b32 (N : Nat) (SE : Int → fS → Option (Unit × fS)) (SL : Int → Int → Int → fS → Option (Int × fS)) (SN : fS → Option (Int × fS)) (l2 : Int) (s : fS) : Option (Unit × fS) :=
  if l2 < 3000000 then
    FX35_done_b58 N SE SL SN l2 s
  else
    if 4000000 ≤ l2 then
      FX35_done_b58 N SE SL SN l2 s
    else
      (FX35_character N SL (isub l2 3000000) s).bind fun q4 =>
      FX35_done_b170 N SE SL SN q4.2
theorem SX35_done_b32 {m b : Nat} {φ0 : Nat → Nat} {σo : fS} (hm : 1 ≤ m) (hb : 1 ≤ b) {N : Nat} {sE : Nat → Int32 → eH → Option (Unit × eH)} {SE : Int → fS → Option (Unit × fS)} {sL : Nat → Int32 → Int64 → Int64 → eH → Option (Int32 × eH)} {SL : Int → Int → Int → fS → Option (Int × fS)} {sN : Nat → eH → Option (Int32 × eH)} {SN : fS → Option (Int × fS)} {q : Unit × fS} (hsE : ∀ {φ : Nat → Nat} {h : eH} {s : fS} {x1' : Int32} {x1 : Int} {q}, fC m 1 φ s φ h s → x1' = iI x1 → r32 x1 → SE x1 s = some q → gG m 1 φ s lU q (sE 192 x1' h)) (hsL : ∀ {φ : Nat → Nat} {h : eH} {s : fS} {x1' : Int32} {x1 : Int} {x2' : Int64} {x2 : Int} {x3' : Int64} {x3 : Int} {q}, fC m 1 φ s φ h s → x1' = iI x1 → r32 x1 → x2' = iJ x2 → r64 x2 → x3' = iJ x3 → r64 x3 → SL x1 x2 x3 s = some q → gG m 1 φ s lI q (sL 192 x1' x2' x3' h)) (hsN : ∀ {φ : Nat → Nat} {h : eH} {s : fS} {q}, fC m 1 φ s φ h s → SN s = some q → gG m 1 φ s lI q (sN 192 h)) {φ : Nat → Nat} {h : eH} {s : fS} {l2' : Int32} {l2 : Int} (R : fC m b φ0 σo φ h s) (el2 : l2' = iI l2) (rl2 : r32 l2) (hF : FX35_done_b32 N SE SL SN l2 s = some q) : gG m b φ0 σo lU q (fX35_done_b32 N sE sL sN 192 l2' h) := by
  subst el2
  unfold FX35_done_b32 at hF
  unfold fX35_done_b32
  refine s_if (i_lt rfl (c_lit 3000000 3000000 rfl) rl2 ⟨by decide, by decide⟩) hF (fun c1 hF => ?_) (fun c1 hF => ?_)
  ·
    exact SX35_done_b58 (N := N) (sE := sE) (SE := SE) (sL := sL) (SL := SL) (sN := sN) (SN := SN) hm hb @hsE @hsL @hsN R rfl rl2 hF
  ·
    refine s_if (i_le (c_lit 4000000 4000000 rfl) rfl ⟨by decide, by decide⟩ rl2) hF (fun c2 hF => ?_) (fun c2 hF => ?_)
    ·
      exact SX35_done_b58 (N := N) (sE := sE) (SE := SE) (sL := sL) (SL := SL) (sN := sN) (SN := SN) hm hb @hsE @hsL @hsN R rfl rl2 hF
    ·
      refine s_kok R (t_192 hm R.S) (Nat.le_of_ble_eq_true rfl) ?_
      refine s_call R hb (fun _ hq => SX35_character (b := 1) (N := N) (sL := sL) (SL := SL) hm (Nat.le_of_ble_eq_true rfl) @hsL (R.rf) (c_sub rfl (c_lit 3000000 3000000 rfl)) (rr_I _) hq) hF (fun f4 rv4 h4 q4 R4 e4 E4 hF => ?_)
      exact SX35_done_b170 (N := N) (sE := sE) (SE := SE) (sL := sL) (SL := SL) (sN := sN) (SN := SN) hm @hsE @hsL @hsN R4 hF
def FX35_done (N : Nat) (SE : Int → fS → Option (Unit × fS)) (SL : Int → Int → Int → fS → Option (Int × fS)) (SN : fS → Option (Int × fS)) (p0 : Int) (s : fS) : Option (Unit × fS) :=
  (FX35_meaning p0 s).bind fun q2 =>
  if q2.1 < 2000000 then
    FX35_done_b32 N SE SL SN q2.1 q2.2
  else
    if 3000000 ≤ q2.1 then
      FX35_done_b32 N SE SL SN q2.1 q2.2
    else
      (FX35_doCharacter N SL (isub q2.1 2000000) q2.2).bind fun q6 =>
      FX35_done_b170 N SE SL SN q6.2
theorem SX35_done {m b : Nat} {φ0 : Nat → Nat} {σo : fS} (hm : 1 ≤ m) (hb : 1 ≤ b) {N : Nat} {sE : Nat → Int32 → eH → Option (Unit × eH)} {SE : Int → fS → Option (Unit × fS)} {sL : Nat → Int32 → Int64 → Int64 → eH → Option (Int32 × eH)} {SL : Int → Int → Int → fS → Option (Int × fS)} {sN : Nat → eH → Option (Int32 × eH)} {SN : fS → Option (Int × fS)} {q : Unit × fS} (hsE : ∀ {φ : Nat → Nat} {h : eH} {s : fS} {x1' : Int32} {x1 : Int} {q}, fC m 1 φ s φ h s → x1' = iI x1 → r32 x1 → SE x1 s = some q → gG m 1 φ s lU q (sE 192 x1' h)) (hsL : ∀ {φ : Nat → Nat} {h : eH} {s : fS} {x1' : Int32} {x1 : Int} {x2' : Int64} {x2 : Int} {x3' : Int64} {x3 : Int} {q}, fC m 1 φ s φ h s → x1' = iI x1 → r32 x1 → x2' = iJ x2 → r64 x2 → x3' = iJ x3 → r64 x3 → SL x1 x2 x3 s = some q → gG m 1 φ s lI q (sL 192 x1' x2' x3' h)) (hsN : ∀ {φ : Nat → Nat} {h : eH} {s : fS} {q}, fC m 1 φ s φ h s → SN s = some q → gG m 1 φ s lI q (sN 192 h)) {φ : Nat → Nat} {h : eH} {s : fS} {p0' : Int32} {p0 : Int} (R : fC m b φ0 σo φ h s) (ep0 : p0' = iI p0) (rp0 : r32 p0) (hF : FX35_done N SE SL SN p0 s = some q) : gG m b φ0 σo lU q (fX35_done N sE sL sN 192 p0' h) := by
  subst ep0
  unfold FX35_done at hF
  unfold fX35_done
  refine s_kok R (t_192 hm R.S) (Nat.le_of_ble_eq_true rfl) ?_
  refine s_call R (Nat.zero_le _) (fun _ hq => SX35_meaning (b := 0) hm (R.rf) rfl rp0 hq) hF (fun f2 rv2 h2 q2 R2 e2 E2 hF => ?_)
  refine s_if (i_lt e2.1 (c_lit 2000000 2000000 rfl) e2.2 ⟨by decide, by decide⟩) hF (fun c3 hF => ?_) (fun c3 hF => ?_)
  ·
    exact SX35_done_b32 (N := N) (sE := sE) (SE := SE) (sL := sL) (SL := SL) (sN := sN) (SN := SN) hm hb @hsE @hsL @hsN R2 e2.1 e2.2 hF
  ·
    refine s_if (i_le (c_lit 3000000 3000000 rfl) e2.1 ⟨by decide, by decide⟩ e2.2) hF (fun c4 hF => ?_) (fun c4 hF => ?_)
    ·
      exact SX35_done_b32 (N := N) (sE := sE) (SE := SE) (sL := sL) (SL := SL) (sN := sN) (SN := SN) hm hb @hsE @hsL @hsN R2 e2.1 e2.2 hF
    ·
      refine s_kok R2 (t_192 hm R2.S) (Nat.le_of_ble_eq_true rfl) ?_
      refine s_call R2 hb (fun _ hq => SX35_doCharacter (b := 1) (N := N) (sL := sL) (SL := SL) hm (Nat.le_of_ble_eq_true rfl) @hsL (R2.rf) (c_sub e2.1 (c_lit 2000000 2000000 rfl)) (rr_I _) hq) hF (fun f6 rv6 h6 q6 R6 e6 E6 hF => ?_)
      exact SX35_done_b170 (N := N) (sE := sE) (SE := SE) (sL := sL) (SL := SL) (sN := sN) (SN := SN) hm @hsE @hsL @hsN R6 hF
def FX40_areNumbersSmall_b40 (N : Nat) (K14 : Int → Int → fS → Option (Int × fS)) (l3 : Int) (s0 : Int) (s : fS) : Option (Int × fS) :=
  K14 s0 (iadd l3 1) s
theorem SX40_areNumbersSmall_b40 {m b : Nat} {φ0 : Nat → Nat} {σo : fS} (hm : 1 ≤ m) {N : Nat} {k14 : Nat → Int32 → Int32 → eH → Option (Int32 × eH)} {K14 : Int → Int → fS → Option (Int × fS)} {q : Int × fS} (hk14 : ∀ {φ : Nat → Nat} {h : eH} {s : fS} {l2' : Int32} {l2 : Int} {l3' : Int32} {l3 : Int}, fC m b φ0 σo φ h s → l2' = iI l2 → r32 l2 → l3' = iI l3 → r32 l3 → K14 l2 l3 s = some q → gG m b φ0 σo lI q (k14 193 l2' l3' h)) {φ : Nat → Nat} {h : eH} {s : fS} {l3' : Int32} {l3 : Int} {s0' : Int32} {s0 : Int} (R : fC m b φ0 σo φ h s) (el3 : l3' = iI l3) (rl3 : r32 l3) (es0 : s0' = iI s0) (rs0 : r32 s0) (hF : FX40_areNumbersSmall_b40 N K14 l3 s0 s = some q) : gG m b φ0 σo lI q (fX40_areNumbersSmall_b40 N k14 193 l3' s0' h) := by
  subst el3; subst es0
  unfold FX40_areNumbersSmall_b40 at hF
  unfold fX40_areNumbersSmall_b40
  exact hk14 R rfl rs0 (c_add rfl (c_lit 1 1 rfl)) (rr_I _) hF
def FX40_areNumbersSmall_b47 (N : Nat) (l2 : Int) (s : fS) : Option (Int × fS) :=
  uZ l2 (l2, s)
theorem SX40_areNumbersSmall_b47 {m b : Nat} {φ0 : Nat → Nat} {σo : fS} (hm : 1 ≤ m) {N : Nat} {q : Int × fS} {φ : Nat → Nat} {h : eH} {s : fS} {l2' : Int32} {l2 : Int} (R : fC m b φ0 σo φ h s) (el2 : l2' = iI l2) (rl2 : r32 l2) (hF : FX40_areNumbersSmall_b47 N l2 s = some q) : gG m b φ0 σo lI q (fX40_areNumbersSmall_b47 N l2' h) := by
  subst el2
  unfold FX40_areNumbersSmall_b47 at hF
  unfold fX40_areNumbersSmall_b47
  exact g_z R rfl hF ⟨rfl, rl2⟩
def FX40_areNumbersSmall_b14 (N : Nat) : Nat → Int → Int → fS → Option (Int × fS)
  | 0, _, _, _ => none
  | n + 1, l2, l3, s =>
    if 12 ≤ l3 then
      FX40_areNumbersSmall_b47 N l2 s
    else
      if l2 = 0 then
        FX40_areNumbersSmall_b47 N l2 s
      else
        (FX40_half 193 l3 s).bind fun q3 =>
        if 32767 < q3.1 then
          FX40_areNumbersSmall_b40 N (FX40_areNumbersSmall_b14 N n) l3 0 q3.2
        else
          FX40_areNumbersSmall_b40 N (FX40_areNumbersSmall_b14 N n) l3 1 q3.2
theorem SX40_areNumbersSmall_b14 {m b : Nat} {φ0 : Nat → Nat} {σo : fS} (hm : 1 ≤ m) {N : Nat} {q : Int × fS} : ∀ {n : Nat} {φ : Nat → Nat} {h : eH} {s : fS} {l2' : Int32} {l2 : Int} {l3' : Int32} {l3 : Int}, fC m b φ0 σo φ h s → l2' = iI l2 → r32 l2 → l3' = iI l3 → r32 l3 → FX40_areNumbersSmall_b14 N n l2 l3 s = some q → gG m b φ0 σo lI q (fX40_areNumbersSmall_b14 N n 193 l2' l3' h) := by
  intro n
  induction n with
 | zero => intro φ h s l2' l2 l3' l3 R el2 rl2 el3 rl3 hF; simp [FX40_areNumbersSmall_b14] at hF
  | succ n ih =>
    intro φ h s l2' l2 l3' l3 R el2 rl2 el3 rl3 hF
    subst el2; subst el3
    rw [FX40_areNumbersSmall_b14] at hF
    rw [fX40_areNumbersSmall_b14]
    refine s_if (i_le (c_lit 12 12 rfl) rfl ⟨by decide, by decide⟩ rl3) hF (fun c1 hF => ?_) (fun c1 hF => ?_)
    ·
      exact SX40_areNumbersSmall_b47 (N := N) hm R rfl rl2 hF
    ·
      refine s_if (i_eq rfl (c_lit 0 0 rfl) rl2 ⟨by decide, by decide⟩) hF (fun c2 hF => ?_) (fun c2 hF => ?_)
      ·
        exact SX40_areNumbersSmall_b47 (N := N) hm R rfl rl2 hF
      ·
        refine s_call R (Nat.zero_le _) (fun _ hq => SX40_half (b := 0) hm (R.rf) (a_193 hm R) (u_193 hm R.S).1 rfl rl3 hq) hF (fun f3 rv3 h3 q3 R3 e3 E3 hF => ?_)
        refine s_if (i_lt (c_lit 32767 32767 rfl) e3.1 ⟨by decide, by decide⟩ e3.2) hF (fun c4 hF => ?_) (fun c4 hF => ?_)
        ·
          exact SX40_areNumbersSmall_b40 (N := N) (k14 := fX40_areNumbersSmall_b14 N n) (K14 := FX40_areNumbersSmall_b14 N n) hm @ih R3 rfl rl3 (c_lit 0 0 rfl) ⟨by decide, by decide⟩ hF
        ·
          exact SX40_areNumbersSmall_b40 (N := N) (k14 := fX40_areNumbersSmall_b14 N n) (K14 := FX40_areNumbersSmall_b14 N n) hm @ih R3 rfl rl3 (c_lit 1 1 rfl) ⟨by decide, by decide⟩ hF
def FX40_areNumbersSmall_b11 (N : Nat) (s0 : Int) (s : fS) : Option (Int × fS) :=
  FX40_areNumbersSmall_b14 N N s0 0 s
theorem SX40_areNumbersSmall_b11 {m b : Nat} {φ0 : Nat → Nat} {σo : fS} (hm : 1 ≤ m) {N : Nat} {q : Int × fS} {φ : Nat → Nat} {h : eH} {s : fS} {s0' : Int32} {s0 : Int} (R : fC m b φ0 σo φ h s) (es0 : s0' = iI s0) (rs0 : r32 s0) (hF : FX40_areNumbersSmall_b11 N s0 s = some q) : gG m b φ0 σo lI q (fX40_areNumbersSmall_b11 N 193 s0' h) := by
  subst es0
  unfold FX40_areNumbersSmall_b11 at hF
  unfold fX40_areNumbersSmall_b11
  exact SX40_areNumbersSmall_b14 (N := N) hm R rfl rs0 (c_lit 0 0 rfl) ⟨by decide, by decide⟩ hF
def FX40_areNumbersSmall (N : Nat) (p1 : Int) (s : fS) : Option (Int × fS) :=
  if p1 < 24 then
    FX40_areNumbersSmall_b11 N 0 s
  else
    FX40_areNumbersSmall_b11 N 1 s
theorem SX40_areNumbersSmall {m b : Nat} {φ0 : Nat → Nat} {σo : fS} (hm : 1 ≤ m) {N : Nat} {q : Int × fS} {φ : Nat → Nat} {h : eH} {s : fS} {p1' : Int32} {p1 : Int} (R : fC m b φ0 σo φ h s) (ep1 : p1' = iI p1) (rp1 : r32 p1) (hF : FX40_areNumbersSmall N p1 s = some q) : gG m b φ0 σo lI q (fX40_areNumbersSmall N 193 p1' h) := by
  subst ep1
  unfold FX40_areNumbersSmall at hF
  unfold fX40_areNumbersSmall
  refine s_if (i_lt rfl (c_lit 24 24 rfl) rp1 ⟨by decide, by decide⟩) hF (fun c1 hF => ?_) (fun c1 hF => ?_)
  ·
    exact SX40_areNumbersSmall_b11 (N := N) hm R (c_lit 0 0 rfl) ⟨by decide, by decide⟩ hF
  ·
    exact SX40_areNumbersSmall_b11 (N := N) hm R (c_lit 1 1 rfl) ⟨by decide, by decide⟩ hF
def FX40_areSizesRight_b90 (N : Nat) (K4 : Int → Int → fS → Option (Int × fS)) (l2 : Int) (s0 : Int) (s : fS) : Option (Int × fS) :=
  K4 s0 (iadd l2 1) s
theorem SX40_areSizesRight_b90 {m b : Nat} {φ0 : Nat → Nat} {σo : fS} (hm : 1 ≤ m) {N : Nat} {k4 : Nat → Int32 → Int32 → eH → Option (Int32 × eH)} {K4 : Int → Int → fS → Option (Int × fS)} {q : Int × fS} (hk4 : ∀ {φ : Nat → Nat} {h : eH} {s : fS} {l1' : Int32} {l1 : Int} {l2' : Int32} {l2 : Int}, fC m b φ0 σo φ h s → l1' = iI l1 → r32 l1 → l2' = iI l2 → r32 l2 → K4 l1 l2 s = some q → gG m b φ0 σo lI q (k4 193 l1' l2' h)) {φ : Nat → Nat} {h : eH} {s : fS} {l2' : Int32} {l2 : Int} {s0' : Int32} {s0 : Int} (R : fC m b φ0 σo φ h s) (el2 : l2' = iI l2) (rl2 : r32 l2) (es0 : s0' = iI s0) (rs0 : r32 s0) (hF : FX40_areSizesRight_b90 N K4 l2 s0 s = some q) : gG m b φ0 σo lI q (fX40_areSizesRight_b90 N k4 193 l2' s0' h) := by
  subst el2; subst es0
  unfold FX40_areSizesRight_b90 at hF
  unfold fX40_areSizesRight_b90
  exact hk4 R rfl rs0 (c_add rfl (c_lit 1 1 rfl)) (rr_I _) hF
def FX40_areSizesRight_b89 (N : Nat) (K4 : Int → Int → fS → Option (Int × fS)) (l2 : Int) (s : fS) : Option (Int × fS) :=
  FX40_areSizesRight_b90 N K4 l2 0 s
theorem SX40_areSizesRight_b89 {m b : Nat} {φ0 : Nat → Nat} {σo : fS} (hm : 1 ≤ m) {N : Nat} {k4 : Nat → Int32 → Int32 → eH → Option (Int32 × eH)} {K4 : Int → Int → fS → Option (Int × fS)} {q : Int × fS} (hk4 : ∀ {φ : Nat → Nat} {h : eH} {s : fS} {l1' : Int32} {l1 : Int} {l2' : Int32} {l2 : Int}, fC m b φ0 σo φ h s → l1' = iI l1 → r32 l1 → l2' = iI l2 → r32 l2 → K4 l1 l2 s = some q → gG m b φ0 σo lI q (k4 193 l1' l2' h)) {φ : Nat → Nat} {h : eH} {s : fS} {l2' : Int32} {l2 : Int} (R : fC m b φ0 σo φ h s) (el2 : l2' = iI l2) (rl2 : r32 l2) (hF : FX40_areSizesRight_b89 N K4 l2 s = some q) : gG m b φ0 σo lI q (fX40_areSizesRight_b89 N k4 193 l2' h) := by
  subst el2
  unfold FX40_areSizesRight_b89 at hF
  unfold fX40_areSizesRight_b89
  exact SX40_areSizesRight_b90 (N := N) (k4 := k4) (K4 := K4) hm @hk4 R rfl rl2 (c_lit 0 0 rfl) ⟨by decide, by decide⟩ hF
def FX40_areSizesRight_b4 (N : Nat) : Nat → Int → Int → fS → Option (Int × fS)
  | 0, _, _, _ => none
  | n + 1, l1, l2, s =>
    (FX40_words 193 1 s).bind fun q1 =>
    if q1.1 ≤ l2 then
      uZ l1 (l1, q1.2)
    else
      if l1 = 0 then
        FX40_areSizesRight_b89 N (FX40_areSizesRight_b4 N n) l2 q1.2
      else
        (FX40_at N 193 1 l2 0 q1.2).bind fun q5 =>
        (FX40_words 193 2 q5.2).bind fun q6 =>
        if q6.1 ≤ q5.1 then
          FX40_areSizesRight_b89 N (FX40_areSizesRight_b4 N n) l2 q6.2
        else
          (FX40_at N 193 1 l2 1 q6.2).bind fun q8 =>
          (FX40_words 193 3 q8.2).bind fun q9 =>
          if q9.1 ≤ (idiv q8.1 16) then
            FX40_areSizesRight_b89 N (FX40_areSizesRight_b4 N n) l2 q9.2
          else
            (FX40_at N 193 1 l2 1 q9.2).bind fun q11 =>
            (FX40_words 193 4 q11.2).bind fun q12 =>
            if q12.1 ≤ (irem q11.1 16) then
              FX40_areSizesRight_b89 N (FX40_areSizesRight_b4 N n) l2 q12.2
            else
              (FX40_at N 193 1 l2 2 q12.2).bind fun q14 =>
              (FX40_words 193 5 q14.2).bind fun q15 =>
              if q15.1 ≤ (idiv q14.1 4) then
                FX40_areSizesRight_b89 N (FX40_areSizesRight_b4 N n) l2 q15.2
              else
                FX40_areSizesRight_b90 N (FX40_areSizesRight_b4 N n) l2 1 q15.2
theorem SX40_areSizesRight_b4 {m b : Nat} {φ0 : Nat → Nat} {σo : fS} (hm : 1 ≤ m) {N : Nat} {q : Int × fS} : ∀ {n : Nat} {φ : Nat → Nat} {h : eH} {s : fS} {l1' : Int32} {l1 : Int} {l2' : Int32} {l2 : Int}, fC m b φ0 σo φ h s → l1' = iI l1 → r32 l1 → l2' = iI l2 → r32 l2 → FX40_areSizesRight_b4 N n l1 l2 s = some q → gG m b φ0 σo lI q (fX40_areSizesRight_b4 N n 193 l1' l2' h) := by
  intro n
  induction n with
 | zero => intro φ h s l1' l1 l2' l2 R el1 rl1 el2 rl2 hF; simp [FX40_areSizesRight_b4] at hF
  | succ n ih =>
    intro φ h s l1' l1 l2' l2 R el1 rl1 el2 rl2 hF
    subst el1; subst el2
    rw [FX40_areSizesRight_b4] at hF
    rw [fX40_areSizesRight_b4]
    refine s_call R (Nat.zero_le _) (fun _ hq => SX40_words (b := 0) hm (R.rf) (a_193 hm R) (u_193 hm R.S).1 (c_lit 1 1 rfl) ⟨by decide, by decide⟩ hq) hF (fun f1 rv1 h1 q1 R1 e1 E1 hF => ?_)
    refine s_if (i_le e1.1 rfl e1.2 rl2) hF (fun c2 hF => ?_) (fun c2 hF => ?_)
    ·
      exact g_z R1 rfl hF ⟨rfl, rl1⟩
    ·
      refine s_if (i_eq rfl (c_lit 0 0 rfl) rl1 ⟨by decide, by decide⟩) hF (fun c3 hF => ?_) (fun c3 hF => ?_)
      ·
        exact SX40_areSizesRight_b89 (N := N) (k4 := fX40_areSizesRight_b4 N n) (K4 := FX40_areSizesRight_b4 N n) hm @ih R1 rfl rl2 hF
      ·
        refine s_call R1 (Nat.zero_le _) (fun _ hq => SX40_at (b := 0) (N := N) hm (R1.rf) (a_193 hm R1) (u_193 hm R1.S).1 (c_lit 1 1 rfl) ⟨by decide, by decide⟩ rfl rl2 (c_lit 0 0 rfl) ⟨by decide, by decide⟩ hq) hF (fun f4 rv4 h4 q5 R4 e4 E4 hF => ?_)
        refine s_call R4 (Nat.zero_le _) (fun _ hq => SX40_words (b := 0) hm (R4.rf) (a_193 hm R4) (u_193 hm R4.S).1 (c_lit 2 2 rfl) ⟨by decide, by decide⟩ hq) hF (fun f5 rv5 h5 q6 R5 e5 E5 hF => ?_)
        refine s_if (i_le e5.1 e4.1 e5.2 e4.2) hF (fun c6 hF => ?_) (fun c6 hF => ?_)
        ·
          exact SX40_areSizesRight_b89 (N := N) (k4 := fX40_areSizesRight_b4 N n) (K4 := FX40_areSizesRight_b4 N n) hm @ih R5 rfl rl2 hF
        ·
          refine s_call R5 (Nat.zero_le _) (fun _ hq => SX40_at (b := 0) (N := N) hm (R5.rf) (a_193 hm R5) (u_193 hm R5.S).1 (c_lit 1 1 rfl) ⟨by decide, by decide⟩ rfl rl2 (c_lit 1 1 rfl) ⟨by decide, by decide⟩ hq) hF (fun f7 rv7 h7 q8 R7 e7 E7 hF => ?_)
          refine s_call R7 (Nat.zero_le _) (fun _ hq => SX40_words (b := 0) hm (R7.rf) (a_193 hm R7) (u_193 hm R7.S).1 (c_lit 3 3 rfl) ⟨by decide, by decide⟩ hq) hF (fun f8 rv8 h8 q9 R8 e8 E8 hF => ?_)
          refine s_if (i_le e8.1 (c_div e7.1 (c_lit 16 16 rfl)) e8.2 (rr_I _)) hF (fun c9 hF => ?_) (fun c9 hF => ?_)
          ·
            exact SX40_areSizesRight_b89 (N := N) (k4 := fX40_areSizesRight_b4 N n) (K4 := FX40_areSizesRight_b4 N n) hm @ih R8 rfl rl2 hF
          ·
            refine s_call R8 (Nat.zero_le _) (fun _ hq => SX40_at (b := 0) (N := N) hm (R8.rf) (a_193 hm R8) (u_193 hm R8.S).1 (c_lit 1 1 rfl) ⟨by decide, by decide⟩ rfl rl2 (c_lit 1 1 rfl) ⟨by decide, by decide⟩ hq) hF (fun f10 rv10 h10 q11 R10 e10 E10 hF => ?_)
            refine s_call R10 (Nat.zero_le _) (fun _ hq => SX40_words (b := 0) hm (R10.rf) (a_193 hm R10) (u_193 hm R10.S).1 (c_lit 4 4 rfl) ⟨by decide, by decide⟩ hq) hF (fun f11 rv11 h11 q12 R11 e11 E11 hF => ?_)
            refine s_if (i_le e11.1 (c_rem e10.1 (c_lit 16 16 rfl)) e11.2 (rr_I _)) hF (fun c12 hF => ?_) (fun c12 hF => ?_)
            ·
              exact SX40_areSizesRight_b89 (N := N) (k4 := fX40_areSizesRight_b4 N n) (K4 := FX40_areSizesRight_b4 N n) hm @ih R11 rfl rl2 hF
            ·
              refine s_call R11 (Nat.zero_le _) (fun _ hq => SX40_at (b := 0) (N := N) hm (R11.rf) (a_193 hm R11) (u_193 hm R11.S).1 (c_lit 1 1 rfl) ⟨by decide, by decide⟩ rfl rl2 (c_lit 2 2 rfl) ⟨by decide, by decide⟩ hq) hF (fun f13 rv13 h13 q14 R13 e13 E13 hF => ?_)
              refine s_call R13 (Nat.zero_le _) (fun _ hq => SX40_words (b := 0) hm (R13.rf) (a_193 hm R13) (u_193 hm R13.S).1 (c_lit 5 5 rfl) ⟨by decide, by decide⟩ hq) hF (fun f14 rv14 h14 q15 R14 e14 E14 hF => ?_)
              refine s_if (i_le e14.1 (c_div e13.1 (c_lit 4 4 rfl)) e14.2 (rr_I _)) hF (fun c15 hF => ?_) (fun c15 hF => ?_)
              ·
                exact SX40_areSizesRight_b89 (N := N) (k4 := fX40_areSizesRight_b4 N n) (K4 := FX40_areSizesRight_b4 N n) hm @ih R14 rfl rl2 hF
              ·
                exact SX40_areSizesRight_b90 (N := N) (k4 := fX40_areSizesRight_b4 N n) (K4 := FX40_areSizesRight_b4 N n) hm @ih R14 rfl rl2 (c_lit 1 1 rfl) ⟨by decide, by decide⟩ hF
def FX40_areSizesRight (N : Nat) (s : fS) : Option (Int × fS) :=
  FX40_areSizesRight_b4 N N 1 0 s
theorem SX40_areSizesRight {m b : Nat} {φ0 : Nat → Nat} {σo : fS} (hm : 1 ≤ m) {N : Nat} {q : Int × fS} {φ : Nat → Nat} {h : eH} {s : fS} (R : fC m b φ0 σo φ h s) (hF : FX40_areSizesRight N s = some q) : gG m b φ0 σo lI q (fX40_areSizesRight N 193 h) := by
  unfold FX40_areSizesRight at hF
  unfold fX40_areSizesRight
  exact SX40_areSizesRight_b4 (N := N) hm R (c_lit 1 1 rfl) ⟨by decide, by decide⟩ (c_lit 0 0 rfl) ⟨by decide, by decide⟩ hF
def FX40_isLargerRight_b49 (N : Nat) (s : fS) : Option (Int × fS) :=
  some (1, s)
theorem SX40_isLargerRight_b49 {m b : Nat} {φ0 : Nat → Nat} {σo : fS} (hm : 1 ≤ m) {N : Nat} {q : Int × fS} {φ : Nat → Nat} {h : eH} {s : fS} (R : fC m b φ0 σo φ h s) (hF : FX40_isLargerRight_b49 N s = some q) : gG m b φ0 σo lI q (fX40_isLargerRight_b49 N h) := by
  unfold FX40_isLargerRight_b49 at hF
  unfold fX40_isLargerRight_b49
  exact g_ret R hF ⟨(c_lit 1 1 rfl), ⟨by decide, by decide⟩⟩
def FX40_isLargerRight_b18 (N : Nat) : Nat → Int → Int → Int → fS → Option (Int × fS)
  | 0, _, _, _, _ => none
  | n + 1, l1, l2, l3, s =>
    if 256 ≤ l3 then
      some (1, s)
    else
      if ¬ (l2 = l1) then
        (FX40_isThere N 193 l2 s).bind fun q3 =>
        if q3.1 = 0 then
          FX40_isLargerRight_b49 N q3.2
        else
          (FX40_tag N 193 l2 q3.2).bind fun q5 =>
          if q5.1 = 2 then
            (FX40_rest N 193 l2 q5.2).bind fun q7 =>
            FX40_isLargerRight_b18 N n l1 q7.1 (iadd l3 1) q7.2
          else
            FX40_isLargerRight_b49 N q5.2
      else
        some (0, s)
theorem SX40_isLargerRight_b18 {m b : Nat} {φ0 : Nat → Nat} {σo : fS} (hm : 1 ≤ m) {N : Nat} {q : Int × fS} : ∀ {n : Nat} {φ : Nat → Nat} {h : eH} {s : fS} {l1' : Int32} {l1 : Int} {l2' : Int32} {l2 : Int} {l3' : Int32} {l3 : Int}, fC m b φ0 σo φ h s → l1' = iI l1 → r32 l1 → l2' = iI l2 → r32 l2 → l3' = iI l3 → r32 l3 → FX40_isLargerRight_b18 N n l1 l2 l3 s = some q → gG m b φ0 σo lI q (fX40_isLargerRight_b18 N n 193 l1' l2' l3' h) := by
  intro n
  induction n with
 | zero => intro φ h s l1' l1 l2' l2 l3' l3 R el1 rl1 el2 rl2 el3 rl3 hF; simp [FX40_isLargerRight_b18] at hF
  | succ n ih =>
    intro φ h s l1' l1 l2' l2 l3' l3 R el1 rl1 el2 rl2 el3 rl3 hF
    subst el1; subst el2; subst el3
    rw [FX40_isLargerRight_b18] at hF
    rw [fX40_isLargerRight_b18]
    refine s_if (i_le (c_lit 256 256 rfl) rfl ⟨by decide, by decide⟩ rl3) hF (fun c1 hF => ?_) (fun c1 hF => ?_)
    ·
      exact g_ret R hF ⟨(c_lit 1 1 rfl), ⟨by decide, by decide⟩⟩
    ·
      refine s_if (not_congr (i_eq rfl rfl rl2 rl1)) hF (fun c2 hF => ?_) (fun c2 hF => ?_)
      ·
        refine s_call R (Nat.zero_le _) (fun _ hq => SX40_isThere (b := 0) (N := N) hm (R.rf) (a_193 hm R) (u_193 hm R.S).1 rfl rl2 hq) hF (fun f3 rv3 h3 q3 R3 e3 E3 hF => ?_)
        refine s_if (i_eq e3.1 (c_lit 0 0 rfl) e3.2 ⟨by decide, by decide⟩) hF (fun c4 hF => ?_) (fun c4 hF => ?_)
        ·
          exact SX40_isLargerRight_b49 (N := N) hm R3 hF
        ·
          refine s_call R3 (Nat.zero_le _) (fun _ hq => SX40_tag (b := 0) (N := N) hm (R3.rf) (a_193 hm R3) (u_193 hm R3.S).1 rfl rl2 hq) hF (fun f5 rv5 h5 q5 R5 e5 E5 hF => ?_)
          refine s_if (i_eq e5.1 (c_lit 2 2 rfl) e5.2 ⟨by decide, by decide⟩) hF (fun c6 hF => ?_) (fun c6 hF => ?_)
          ·
            refine s_call R5 (Nat.zero_le _) (fun _ hq => SX40_rest (b := 0) (N := N) hm (R5.rf) (a_193 hm R5) (u_193 hm R5.S).1 rfl rl2 hq) hF (fun f7 rv7 h7 q7 R7 e7 E7 hF => ?_)
            exact ih R7 rfl rl1 e7.1 e7.2 (c_add rfl (c_lit 1 1 rfl)) (rr_I _) hF
          ·
            exact SX40_isLargerRight_b49 (N := N) hm R5 hF
      ·
        exact g_ret R hF ⟨(c_lit 0 0 rfl), ⟨by decide, by decide⟩⟩
def FX40_isLargerRight (N : Nat) (p1 : Int) (s : fS) : Option (Int × fS) :=
  (FX40_rest N 193 p1 s).bind fun q1 =>
  (FX40_isThere N 193 q1.1 q1.2).bind fun q2 =>
  if ¬ (q2.1 = 0) then
    FX40_isLargerRight_b18 N N p1 q1.1 0 q2.2
  else
    some (0, q2.2)
theorem SX40_isLargerRight {m b : Nat} {φ0 : Nat → Nat} {σo : fS} (hm : 1 ≤ m) {N : Nat} {q : Int × fS} {φ : Nat → Nat} {h : eH} {s : fS} {p1' : Int32} {p1 : Int} (R : fC m b φ0 σo φ h s) (ep1 : p1' = iI p1) (rp1 : r32 p1) (hF : FX40_isLargerRight N p1 s = some q) : gG m b φ0 σo lI q (fX40_isLargerRight N 193 p1' h) := by
  subst ep1
  unfold FX40_isLargerRight at hF
  unfold fX40_isLargerRight
  refine s_call R (Nat.zero_le _) (fun _ hq => SX40_rest (b := 0) (N := N) hm (R.rf) (a_193 hm R) (u_193 hm R.S).1 rfl rp1 hq) hF (fun f1 rv1 h1 q1 R1 e1 E1 hF => ?_)
  refine s_call R1 (Nat.zero_le _) (fun _ hq => SX40_isThere (b := 0) (N := N) hm (R1.rf) (a_193 hm R1) (u_193 hm R1.S).1 e1.1 e1.2 hq) hF (fun f2 rv2 h2 q2 R2 e2 E2 hF => ?_)
  refine s_if (not_congr (i_eq e2.1 (c_lit 0 0 rfl) e2.2 ⟨by decide, by decide⟩)) hF (fun c3 hF => ?_) (fun c3 hF => ?_)
  ·
    exact SX40_isLargerRight_b18 (N := N) hm R2 rfl rp1 e1.1 e1.2 (c_lit 0 0 rfl) ⟨by decide, by decide⟩ hF
  ·
    exact g_ret R2 hF ⟨(c_lit 0 0 rfl), ⟨by decide, by decide⟩⟩
def FX40_areTagsRight_b92 (N : Nat) (K8 : Int → Int → fS → Option (Int × fS)) (l1 : Int) (l2 : Int) (s : fS) : Option (Int × fS) :=
  K8 l1 (iadd l2 1) s
theorem SX40_areTagsRight_b92 {m b : Nat} {φ0 : Nat → Nat} {σo : fS} (hm : 1 ≤ m) {N : Nat} {k8 : Nat → Int32 → Int32 → eH → Option (Int32 × eH)} {K8 : Int → Int → fS → Option (Int × fS)} {q : Int × fS} (hk8 : ∀ {φ : Nat → Nat} {h : eH} {s : fS} {l1' : Int32} {l1 : Int} {l2' : Int32} {l2 : Int}, fC m b φ0 σo φ h s → l1' = iI l1 → r32 l1 → l2' = iI l2 → r32 l2 → K8 l1 l2 s = some q → gG m b φ0 σo lI q (k8 193 l1' l2' h)) {φ : Nat → Nat} {h : eH} {s : fS} {l1' : Int32} {l1 : Int} {l2' : Int32} {l2 : Int} (R : fC m b φ0 σo φ h s) (el1 : l1' = iI l1) (rl1 : r32 l1) (el2 : l2' = iI l2) (rl2 : r32 l2) (hF : FX40_areTagsRight_b92 N K8 l1 l2 s = some q) : gG m b φ0 σo lI q (fX40_areTagsRight_b92 N k8 193 l1' l2' h) := by
  subst el1; subst el2
  unfold FX40_areTagsRight_b92 at hF
  unfold fX40_areTagsRight_b92
  exact hk8 R rfl rl1 (c_add rfl (c_lit 1 1 rfl)) (rr_I _) hF
def FX40_areTagsRight_b91 (N : Nat) (K8 : Int → Int → fS → Option (Int × fS)) (l2 : Int) (s0 : Int) (s : fS) : Option (Int × fS) :=
  FX40_areTagsRight_b92 N K8 s0 l2 s
theorem SX40_areTagsRight_b91 {m b : Nat} {φ0 : Nat → Nat} {σo : fS} (hm : 1 ≤ m) {N : Nat} {k8 : Nat → Int32 → Int32 → eH → Option (Int32 × eH)} {K8 : Int → Int → fS → Option (Int × fS)} {q : Int × fS} (hk8 : ∀ {φ : Nat → Nat} {h : eH} {s : fS} {l1' : Int32} {l1 : Int} {l2' : Int32} {l2 : Int}, fC m b φ0 σo φ h s → l1' = iI l1 → r32 l1 → l2' = iI l2 → r32 l2 → K8 l1 l2 s = some q → gG m b φ0 σo lI q (k8 193 l1' l2' h)) {φ : Nat → Nat} {h : eH} {s : fS} {l2' : Int32} {l2 : Int} {s0' : Int32} {s0 : Int} (R : fC m b φ0 σo φ h s) (el2 : l2' = iI l2) (rl2 : r32 l2) (es0 : s0' = iI s0) (rs0 : r32 s0) (hF : FX40_areTagsRight_b91 N K8 l2 s0 s = some q) : gG m b φ0 σo lI q (fX40_areTagsRight_b91 N k8 193 l2' s0' h) := by
  subst el2; subst es0
  unfold FX40_areTagsRight_b91 at hF
  unfold fX40_areTagsRight_b91
  exact SX40_areTagsRight_b92 (N := N) (k8 := k8) (K8 := K8) hm @hk8 R rfl rs0 rfl rl2 hF
def FX40_areTagsRight_b86 (N : Nat) (K8 : Int → Int → fS → Option (Int × fS)) (l2 : Int) (s : fS) : Option (Int × fS) :=
  FX40_areTagsRight_b91 N K8 l2 1 s
theorem SX40_areTagsRight_b86 {m b : Nat} {φ0 : Nat → Nat} {σo : fS} (hm : 1 ≤ m) {N : Nat} {k8 : Nat → Int32 → Int32 → eH → Option (Int32 × eH)} {K8 : Int → Int → fS → Option (Int × fS)} {q : Int × fS} (hk8 : ∀ {φ : Nat → Nat} {h : eH} {s : fS} {l1' : Int32} {l1 : Int} {l2' : Int32} {l2 : Int}, fC m b φ0 σo φ h s → l1' = iI l1 → r32 l1 → l2' = iI l2 → r32 l2 → K8 l1 l2 s = some q → gG m b φ0 σo lI q (k8 193 l1' l2' h)) {φ : Nat → Nat} {h : eH} {s : fS} {l2' : Int32} {l2 : Int} (R : fC m b φ0 σo φ h s) (el2 : l2' = iI l2) (rl2 : r32 l2) (hF : FX40_areTagsRight_b86 N K8 l2 s = some q) : gG m b φ0 σo lI q (fX40_areTagsRight_b86 N k8 193 l2' h) := by
  subst el2
  unfold FX40_areTagsRight_b86 at hF
  unfold fX40_areTagsRight_b86
  exact SX40_areTagsRight_b91 (N := N) (k8 := k8) (K8 := K8) hm @hk8 R rfl rl2 (c_lit 1 1 rfl) ⟨by decide, by decide⟩ hF
def FX40_areTagsRight_b90 (N : Nat) (K8 : Int → Int → fS → Option (Int × fS)) (l2 : Int) (s : fS) : Option (Int × fS) :=
  FX40_areTagsRight_b91 N K8 l2 0 s
theorem SX40_areTagsRight_b90 {m b : Nat} {φ0 : Nat → Nat} {σo : fS} (hm : 1 ≤ m) {N : Nat} {k8 : Nat → Int32 → Int32 → eH → Option (Int32 × eH)} {K8 : Int → Int → fS → Option (Int × fS)} {q : Int × fS} (hk8 : ∀ {φ : Nat → Nat} {h : eH} {s : fS} {l1' : Int32} {l1 : Int} {l2' : Int32} {l2 : Int}, fC m b φ0 σo φ h s → l1' = iI l1 → r32 l1 → l2' = iI l2 → r32 l2 → K8 l1 l2 s = some q → gG m b φ0 σo lI q (k8 193 l1' l2' h)) {φ : Nat → Nat} {h : eH} {s : fS} {l2' : Int32} {l2 : Int} (R : fC m b φ0 σo φ h s) (el2 : l2' = iI l2) (rl2 : r32 l2) (hF : FX40_areTagsRight_b90 N K8 l2 s = some q) : gG m b φ0 σo lI q (fX40_areTagsRight_b90 N k8 193 l2' h) := by
  subst el2
  unfold FX40_areTagsRight_b90 at hF
  unfold fX40_areTagsRight_b90
  exact SX40_areTagsRight_b91 (N := N) (k8 := k8) (K8 := K8) hm @hk8 R rfl rl2 (c_lit 0 0 rfl) ⟨by decide, by decide⟩ hF
def FX40_areTagsRight_b73 (N : Nat) (K8 : Int → Int → fS → Option (Int × fS)) (l2 : Int) (l3 : Int) (s : fS) : Option (Int × fS) :=
  if ¬ (l3 = 2) then
    FX40_areTagsRight_b86 N K8 l2 s
  else
    (FX40_isLargerRight N l2 s).bind fun q2 =>
    if q2.1 = 0 then
      FX40_areTagsRight_b90 N K8 l2 q2.2
    else
      FX40_areTagsRight_b86 N K8 l2 q2.2
theorem SX40_areTagsRight_b73 {m b : Nat} {φ0 : Nat → Nat} {σo : fS} (hm : 1 ≤ m) {N : Nat} {k8 : Nat → Int32 → Int32 → eH → Option (Int32 × eH)} {K8 : Int → Int → fS → Option (Int × fS)} {q : Int × fS} (hk8 : ∀ {φ : Nat → Nat} {h : eH} {s : fS} {l1' : Int32} {l1 : Int} {l2' : Int32} {l2 : Int}, fC m b φ0 σo φ h s → l1' = iI l1 → r32 l1 → l2' = iI l2 → r32 l2 → K8 l1 l2 s = some q → gG m b φ0 σo lI q (k8 193 l1' l2' h)) {φ : Nat → Nat} {h : eH} {s : fS} {l2' : Int32} {l2 : Int} {l3' : Int32} {l3 : Int} (R : fC m b φ0 σo φ h s) (el2 : l2' = iI l2) (rl2 : r32 l2) (el3 : l3' = iI l3) (rl3 : r32 l3) (hF : FX40_areTagsRight_b73 N K8 l2 l3 s = some q) : gG m b φ0 σo lI q (fX40_areTagsRight_b73 N k8 193 l2' l3' h) := by
  subst el2; subst el3
  unfold FX40_areTagsRight_b73 at hF
  unfold fX40_areTagsRight_b73
  refine s_if (not_congr (i_eq rfl (c_lit 2 2 rfl) rl3 ⟨by decide, by decide⟩)) hF (fun c1 hF => ?_) (fun c1 hF => ?_)
  ·
    exact SX40_areTagsRight_b86 (N := N) (k8 := k8) (K8 := K8) hm @hk8 R rfl rl2 hF
  ·
    refine s_call R (Nat.zero_le _) (fun _ hq => SX40_isLargerRight (b := 0) (N := N) hm (R.rf) rfl rl2 hq) hF (fun f2 rv2 h2 q2 R2 e2 E2 hF => ?_)
    refine s_if (i_eq e2.1 (c_lit 0 0 rfl) e2.2 ⟨by decide, by decide⟩) hF (fun c3 hF => ?_) (fun c3 hF => ?_)
    ·
      exact SX40_areTagsRight_b90 (N := N) (k8 := k8) (K8 := K8) hm @hk8 R2 rfl rl2 hF
    ·
      exact SX40_areTagsRight_b86 (N := N) (k8 := k8) (K8 := K8) hm @hk8 R2 rfl rl2 hF
def FX40_areTagsRight_b54 (N : Nat) (K8 : Int → Int → fS → Option (Int × fS)) (l2 : Int) (l3 : Int) (s : fS) : Option (Int × fS) :=
  if ¬ (l3 = 3) then
    FX40_areTagsRight_b73 N K8 l2 l3 s
  else
    (FX40_rest N 193 l2 s).bind fun q2 =>
    (FX40_words 193 8 q2.2).bind fun q3 =>
    if q3.1 ≤ q2.1 then
      FX40_areTagsRight_b90 N K8 l2 q3.2
    else
      FX40_areTagsRight_b73 N K8 l2 l3 q3.2
theorem SX40_areTagsRight_b54 {m b : Nat} {φ0 : Nat → Nat} {σo : fS} (hm : 1 ≤ m) {N : Nat} {k8 : Nat → Int32 → Int32 → eH → Option (Int32 × eH)} {K8 : Int → Int → fS → Option (Int × fS)} {q : Int × fS} (hk8 : ∀ {φ : Nat → Nat} {h : eH} {s : fS} {l1' : Int32} {l1 : Int} {l2' : Int32} {l2 : Int}, fC m b φ0 σo φ h s → l1' = iI l1 → r32 l1 → l2' = iI l2 → r32 l2 → K8 l1 l2 s = some q → gG m b φ0 σo lI q (k8 193 l1' l2' h)) {φ : Nat → Nat} {h : eH} {s : fS} {l2' : Int32} {l2 : Int} {l3' : Int32} {l3 : Int} (R : fC m b φ0 σo φ h s) (el2 : l2' = iI l2) (rl2 : r32 l2) (el3 : l3' = iI l3) (rl3 : r32 l3) (hF : FX40_areTagsRight_b54 N K8 l2 l3 s = some q) : gG m b φ0 σo lI q (fX40_areTagsRight_b54 N k8 193 l2' l3' h) := by
  subst el2; subst el3
  unfold FX40_areTagsRight_b54 at hF
  unfold fX40_areTagsRight_b54
  refine s_if (not_congr (i_eq rfl (c_lit 3 3 rfl) rl3 ⟨by decide, by decide⟩)) hF (fun c1 hF => ?_) (fun c1 hF => ?_)
  ·
    exact SX40_areTagsRight_b73 (N := N) (k8 := k8) (K8 := K8) hm @hk8 R rfl rl2 rfl rl3 hF
  ·
    refine s_call R (Nat.zero_le _) (fun _ hq => SX40_rest (b := 0) (N := N) hm (R.rf) (a_193 hm R) (u_193 hm R.S).1 rfl rl2 hq) hF (fun f2 rv2 h2 q2 R2 e2 E2 hF => ?_)
    refine s_call R2 (Nat.zero_le _) (fun _ hq => SX40_words (b := 0) hm (R2.rf) (a_193 hm R2) (u_193 hm R2.S).1 (c_lit 8 8 rfl) ⟨by decide, by decide⟩ hq) hF (fun f3 rv3 h3 q3 R3 e3 E3 hF => ?_)
    refine s_if (i_le e3.1 e2.1 e3.2 e2.2) hF (fun c4 hF => ?_) (fun c4 hF => ?_)
    ·
      exact SX40_areTagsRight_b90 (N := N) (k8 := k8) (K8 := K8) hm @hk8 R3 rfl rl2 hF
    ·
      exact SX40_areTagsRight_b73 (N := N) (k8 := k8) (K8 := K8) hm @hk8 R3 rfl rl2 rfl rl3 hF
def FX40_areTagsRight_b8 (N : Nat) : Nat → Int → Int → fS → Option (Int × fS)
  | 0, _, _, _ => none
  | n + 1, l1, l2, s =>
    (FX40_half 193 3 s).bind fun q1 =>
    if q1.1 < l2 then
      uZ l1 (l1, q1.2)
    else
      (FX40_isThere N 193 l2 q1.2).bind fun q4 =>
      if q4.1 = 0 then
        FX40_areTagsRight_b92 N (FX40_areTagsRight_b8 N n) l1 l2 q4.2
      else
        (FX40_tag N 193 l2 q4.2).bind fun q6 =>
        if l1 = 0 then
          FX40_areTagsRight_b90 N (FX40_areTagsRight_b8 N n) l2 q6.2
        else
          if ¬ (q6.1 = 1) then
            FX40_areTagsRight_b54 N (FX40_areTagsRight_b8 N n) l2 q6.1 q6.2
          else
            (FX40_rest N 193 l2 q6.2).bind fun q9 =>
            (FX40_words 193 6 q9.2).bind fun q10 =>
            if q10.1 ≤ q9.1 then
              FX40_areTagsRight_b90 N (FX40_areTagsRight_b8 N n) l2 q10.2
            else
              FX40_areTagsRight_b54 N (FX40_areTagsRight_b8 N n) l2 q6.1 q10.2
theorem SX40_areTagsRight_b8 {m b : Nat} {φ0 : Nat → Nat} {σo : fS} (hm : 1 ≤ m) {N : Nat} {q : Int × fS} : ∀ {n : Nat} {φ : Nat → Nat} {h : eH} {s : fS} {l1' : Int32} {l1 : Int} {l2' : Int32} {l2 : Int}, fC m b φ0 σo φ h s → l1' = iI l1 → r32 l1 → l2' = iI l2 → r32 l2 → FX40_areTagsRight_b8 N n l1 l2 s = some q → gG m b φ0 σo lI q (fX40_areTagsRight_b8 N n 193 l1' l2' h) := by
  intro n
  induction n with
 | zero => intro φ h s l1' l1 l2' l2 R el1 rl1 el2 rl2 hF; simp [FX40_areTagsRight_b8] at hF
  | succ n ih =>
    intro φ h s l1' l1 l2' l2 R el1 rl1 el2 rl2 hF
    subst el1; subst el2
    rw [FX40_areTagsRight_b8] at hF
    rw [fX40_areTagsRight_b8]
    refine s_call R (Nat.zero_le _) (fun _ hq => SX40_half (b := 0) hm (R.rf) (a_193 hm R) (u_193 hm R.S).1 (c_lit 3 3 rfl) ⟨by decide, by decide⟩ hq) hF (fun f1 rv1 h1 q1 R1 e1 E1 hF => ?_)
    refine s_if (i_lt e1.1 rfl e1.2 rl2) hF (fun c2 hF => ?_) (fun c2 hF => ?_)
    ·
      exact g_z R1 rfl hF ⟨rfl, rl1⟩
    ·
      refine s_call R1 (Nat.zero_le _) (fun _ hq => SX40_isThere (b := 0) (N := N) hm (R1.rf) (a_193 hm R1) (u_193 hm R1.S).1 rfl rl2 hq) hF (fun f3 rv3 h3 q4 R3 e3 E3 hF => ?_)
      refine s_if (i_eq e3.1 (c_lit 0 0 rfl) e3.2 ⟨by decide, by decide⟩) hF (fun c4 hF => ?_) (fun c4 hF => ?_)
      ·
        exact SX40_areTagsRight_b92 (N := N) (k8 := fX40_areTagsRight_b8 N n) (K8 := FX40_areTagsRight_b8 N n) hm @ih R3 rfl rl1 rfl rl2 hF
      ·
        refine s_call R3 (Nat.zero_le _) (fun _ hq => SX40_tag (b := 0) (N := N) hm (R3.rf) (a_193 hm R3) (u_193 hm R3.S).1 rfl rl2 hq) hF (fun f5 rv5 h5 q6 R5 e5 E5 hF => ?_)
        refine s_if (i_eq rfl (c_lit 0 0 rfl) rl1 ⟨by decide, by decide⟩) hF (fun c6 hF => ?_) (fun c6 hF => ?_)
        ·
          exact SX40_areTagsRight_b90 (N := N) (k8 := fX40_areTagsRight_b8 N n) (K8 := FX40_areTagsRight_b8 N n) hm @ih R5 rfl rl2 hF
        ·
          refine s_if (not_congr (i_eq e5.1 (c_lit 1 1 rfl) e5.2 ⟨by decide, by decide⟩)) hF (fun c7 hF => ?_) (fun c7 hF => ?_)
          ·
            exact SX40_areTagsRight_b54 (N := N) (k8 := fX40_areTagsRight_b8 N n) (K8 := FX40_areTagsRight_b8 N n) hm @ih R5 rfl rl2 e5.1 e5.2 hF
          ·
            refine s_call R5 (Nat.zero_le _) (fun _ hq => SX40_rest (b := 0) (N := N) hm (R5.rf) (a_193 hm R5) (u_193 hm R5.S).1 rfl rl2 hq) hF (fun f8 rv8 h8 q9 R8 e8 E8 hF => ?_)
            refine s_call R8 (Nat.zero_le _) (fun _ hq => SX40_words (b := 0) hm (R8.rf) (a_193 hm R8) (u_193 hm R8.S).1 (c_lit 6 6 rfl) ⟨by decide, by decide⟩ hq) hF (fun f9 rv9 h9 q10 R9 e9 E9 hF => ?_)
            refine s_if (i_le e9.1 e8.1 e9.2 e8.2) hF (fun c10 hF => ?_) (fun c10 hF => ?_)
            ·
              exact SX40_areTagsRight_b90 (N := N) (k8 := fX40_areTagsRight_b8 N n) (K8 := FX40_areTagsRight_b8 N n) hm @ih R9 rfl rl2 hF
            ·
              exact SX40_areTagsRight_b54 (N := N) (k8 := fX40_areTagsRight_b8 N n) (K8 := FX40_areTagsRight_b8 N n) hm @ih R9 rfl rl2 e5.1 e5.2 hF
def FX40_areTagsRight (N : Nat) (s : fS) : Option (Int × fS) :=
  (FX40_half 193 2 s).bind fun q1 =>
  FX40_areTagsRight_b8 N N 1 q1.1 q1.2
theorem SX40_areTagsRight {m b : Nat} {φ0 : Nat → Nat} {σo : fS} (hm : 1 ≤ m) {N : Nat} {q : Int × fS} {φ : Nat → Nat} {h : eH} {s : fS} (R : fC m b φ0 σo φ h s) (hF : FX40_areTagsRight N s = some q) : gG m b φ0 σo lI q (fX40_areTagsRight N 193 h) := by
  unfold FX40_areTagsRight at hF
  unfold fX40_areTagsRight
  refine s_call R (Nat.zero_le _) (fun _ hq => SX40_half (b := 0) hm (R.rf) (a_193 hm R) (u_193 hm R.S).1 (c_lit 2 2 rfl) ⟨by decide, by decide⟩ hq) hF (fun f1 rv1 h1 q1 R1 e1 E1 hF => ?_)
  exact SX40_areTagsRight_b8 (N := N) hm R1 (c_lit 1 1 rfl) ⟨by decide, by decide⟩ e1.1 e1.2 hF
def FX40_areFractions_b49 (N : Nat) (K5 : Int → Int → Int → fS → Option (Int × fS)) (l1 : Int) (l4 : Int) (s0 : Int) (s : fS) : Option (Int × fS) :=
  K5 l1 s0 (iadd l4 1) s
theorem SX40_areFractions_b49 {m b : Nat} {φ0 : Nat → Nat} {σo : fS} (hm : 1 ≤ m) {N : Nat} {k5 : Nat → Int32 → Int32 → Int32 → eH → Option (Int32 × eH)} {K5 : Int → Int → Int → fS → Option (Int × fS)} {q : Int × fS} (hk5 : ∀ {φ : Nat → Nat} {h : eH} {s : fS} {l1' : Int32} {l1 : Int} {l3' : Int32} {l3 : Int} {l4' : Int32} {l4 : Int}, fC m b φ0 σo φ h s → l1' = iI l1 → r32 l1 → l3' = iI l3 → r32 l3 → l4' = iI l4 → r32 l4 → K5 l1 l3 l4 s = some q → gG m b φ0 σo lI q (k5 193 l1' l3' l4' h)) {φ : Nat → Nat} {h : eH} {s : fS} {l1' : Int32} {l1 : Int} {l4' : Int32} {l4 : Int} {s0' : Int32} {s0 : Int} (R : fC m b φ0 σo φ h s) (el1 : l1' = iI l1) (rl1 : r32 l1) (el4 : l4' = iI l4) (rl4 : r32 l4) (es0 : s0' = iI s0) (rs0 : r32 s0) (hF : FX40_areFractions_b49 N K5 l1 l4 s0 s = some q) : gG m b φ0 σo lI q (fX40_areFractions_b49 N k5 193 l1' l4' s0' h) := by
  subst el1; subst el4; subst es0
  unfold FX40_areFractions_b49 at hF
  unfold fX40_areFractions_b49
  exact hk5 R rfl rl1 rfl rs0 (c_add rfl (c_lit 1 1 rfl)) (rr_I _) hF
def FX40_areFractions_b44 (N : Nat) (K5 : Int → Int → Int → fS → Option (Int × fS)) (l1 : Int) (l4 : Int) (s : fS) : Option (Int × fS) :=
  FX40_areFractions_b49 N K5 l1 l4 1 s
theorem SX40_areFractions_b44 {m b : Nat} {φ0 : Nat → Nat} {σo : fS} (hm : 1 ≤ m) {N : Nat} {k5 : Nat → Int32 → Int32 → Int32 → eH → Option (Int32 × eH)} {K5 : Int → Int → Int → fS → Option (Int × fS)} {q : Int × fS} (hk5 : ∀ {φ : Nat → Nat} {h : eH} {s : fS} {l1' : Int32} {l1 : Int} {l3' : Int32} {l3 : Int} {l4' : Int32} {l4 : Int}, fC m b φ0 σo φ h s → l1' = iI l1 → r32 l1 → l3' = iI l3 → r32 l3 → l4' = iI l4 → r32 l4 → K5 l1 l3 l4 s = some q → gG m b φ0 σo lI q (k5 193 l1' l3' l4' h)) {φ : Nat → Nat} {h : eH} {s : fS} {l1' : Int32} {l1 : Int} {l4' : Int32} {l4 : Int} (R : fC m b φ0 σo φ h s) (el1 : l1' = iI l1) (rl1 : r32 l1) (el4 : l4' = iI l4) (rl4 : r32 l4) (hF : FX40_areFractions_b44 N K5 l1 l4 s = some q) : gG m b φ0 σo lI q (fX40_areFractions_b44 N k5 193 l1' l4' h) := by
  subst el1; subst el4
  unfold FX40_areFractions_b44 at hF
  unfold fX40_areFractions_b44
  exact SX40_areFractions_b49 (N := N) (k5 := k5) (K5 := K5) hm @hk5 R rfl rl1 rfl rl4 (c_lit 1 1 rfl) ⟨by decide, by decide⟩ hF
def FX40_areFractions_b48 (N : Nat) (K5 : Int → Int → Int → fS → Option (Int × fS)) (l1 : Int) (l4 : Int) (s : fS) : Option (Int × fS) :=
  FX40_areFractions_b49 N K5 l1 l4 0 s
theorem SX40_areFractions_b48 {m b : Nat} {φ0 : Nat → Nat} {σo : fS} (hm : 1 ≤ m) {N : Nat} {k5 : Nat → Int32 → Int32 → Int32 → eH → Option (Int32 × eH)} {K5 : Int → Int → Int → fS → Option (Int × fS)} {q : Int × fS} (hk5 : ∀ {φ : Nat → Nat} {h : eH} {s : fS} {l1' : Int32} {l1 : Int} {l3' : Int32} {l3 : Int} {l4' : Int32} {l4 : Int}, fC m b φ0 σo φ h s → l1' = iI l1 → r32 l1 → l3' = iI l3 → r32 l3 → l4' = iI l4 → r32 l4 → K5 l1 l3 l4 s = some q → gG m b φ0 σo lI q (k5 193 l1' l3' l4' h)) {φ : Nat → Nat} {h : eH} {s : fS} {l1' : Int32} {l1 : Int} {l4' : Int32} {l4 : Int} (R : fC m b φ0 σo φ h s) (el1 : l1' = iI l1) (rl1 : r32 l1) (el4 : l4' = iI l4) (rl4 : r32 l4) (hF : FX40_areFractions_b48 N K5 l1 l4 s = some q) : gG m b φ0 σo lI q (fX40_areFractions_b48 N k5 193 l1' l4' h) := by
  subst el1; subst el4
  unfold FX40_areFractions_b48 at hF
  unfold fX40_areFractions_b48
  exact SX40_areFractions_b49 (N := N) (k5 := k5) (K5 := K5) hm @hk5 R rfl rl1 rfl rl4 (c_lit 0 0 rfl) ⟨by decide, by decide⟩ hF
def FX40_areFractions_b5 (N : Nat) : Nat → Int → Int → Int → fS → Option (Int × fS)
  | 0, _, _, _, _ => none
  | n + 1, l1, l3, l4, s =>
    (FX40_words 193 l1 s).bind fun q1 =>
    if q1.1 ≤ l4 then
      uZ l3 (l3, q1.2)
    else
      if l3 = 0 then
        FX40_areFractions_b48 N (FX40_areFractions_b5 N n) l1 l4 q1.2
      else
        (FX40_at N 193 l1 l4 0 q1.2).bind fun q5 =>
        if q5.1 = 0 then
          FX40_areFractions_b44 N (FX40_areFractions_b5 N n) l1 l4 q5.2
        else
          (FX40_at N 193 l1 l4 0 q5.2).bind fun q7 =>
          if ¬ (q7.1 = 255) then
            FX40_areFractions_b48 N (FX40_areFractions_b5 N n) l1 l4 q7.2
          else
            FX40_areFractions_b44 N (FX40_areFractions_b5 N n) l1 l4 q7.2
theorem SX40_areFractions_b5 {m b : Nat} {φ0 : Nat → Nat} {σo : fS} (hm : 1 ≤ m) {N : Nat} {q : Int × fS} : ∀ {n : Nat} {φ : Nat → Nat} {h : eH} {s : fS} {l1' : Int32} {l1 : Int} {l3' : Int32} {l3 : Int} {l4' : Int32} {l4 : Int}, fC m b φ0 σo φ h s → l1' = iI l1 → r32 l1 → l3' = iI l3 → r32 l3 → l4' = iI l4 → r32 l4 → FX40_areFractions_b5 N n l1 l3 l4 s = some q → gG m b φ0 σo lI q (fX40_areFractions_b5 N n 193 l1' l3' l4' h) := by
  intro n
  induction n with
 | zero => intro φ h s l1' l1 l3' l3 l4' l4 R el1 rl1 el3 rl3 el4 rl4 hF; simp [FX40_areFractions_b5] at hF
  | succ n ih =>
    intro φ h s l1' l1 l3' l3 l4' l4 R el1 rl1 el3 rl3 el4 rl4 hF
    subst el1; subst el3; subst el4
    rw [FX40_areFractions_b5] at hF
    rw [fX40_areFractions_b5]
    refine s_call R (Nat.zero_le _) (fun _ hq => SX40_words (b := 0) hm (R.rf) (a_193 hm R) (u_193 hm R.S).1 rfl rl1 hq) hF (fun f1 rv1 h1 q1 R1 e1 E1 hF => ?_)
    refine s_if (i_le e1.1 rfl e1.2 rl4) hF (fun c2 hF => ?_) (fun c2 hF => ?_)
    ·
      exact g_z R1 rfl hF ⟨rfl, rl3⟩
    ·
      refine s_if (i_eq rfl (c_lit 0 0 rfl) rl3 ⟨by decide, by decide⟩) hF (fun c3 hF => ?_) (fun c3 hF => ?_)
      ·
        exact SX40_areFractions_b48 (N := N) (k5 := fX40_areFractions_b5 N n) (K5 := FX40_areFractions_b5 N n) hm @ih R1 rfl rl1 rfl rl4 hF
      ·
        refine s_call R1 (Nat.zero_le _) (fun _ hq => SX40_at (b := 0) (N := N) hm (R1.rf) (a_193 hm R1) (u_193 hm R1.S).1 rfl rl1 rfl rl4 (c_lit 0 0 rfl) ⟨by decide, by decide⟩ hq) hF (fun f4 rv4 h4 q5 R4 e4 E4 hF => ?_)
        refine s_if (i_eq e4.1 (c_lit 0 0 rfl) e4.2 ⟨by decide, by decide⟩) hF (fun c5 hF => ?_) (fun c5 hF => ?_)
        ·
          exact SX40_areFractions_b44 (N := N) (k5 := fX40_areFractions_b5 N n) (K5 := FX40_areFractions_b5 N n) hm @ih R4 rfl rl1 rfl rl4 hF
        ·
          refine s_call R4 (Nat.zero_le _) (fun _ hq => SX40_at (b := 0) (N := N) hm (R4.rf) (a_193 hm R4) (u_193 hm R4.S).1 rfl rl1 rfl rl4 (c_lit 0 0 rfl) ⟨by decide, by decide⟩ hq) hF (fun f6 rv6 h6 q7 R6 e6 E6 hF => ?_)
          refine s_if (not_congr (i_eq e6.1 (c_lit 255 255 rfl) e6.2 ⟨by decide, by decide⟩)) hF (fun c7 hF => ?_) (fun c7 hF => ?_)
          ·
            exact SX40_areFractions_b48 (N := N) (k5 := fX40_areFractions_b5 N n) (K5 := FX40_areFractions_b5 N n) hm @ih R6 rfl rl1 rfl rl4 hF
          ·
            exact SX40_areFractions_b44 (N := N) (k5 := fX40_areFractions_b5 N n) (K5 := FX40_areFractions_b5 N n) hm @ih R6 rfl rl1 rfl rl4 hF
def FX40_areFractions (N : Nat) (p1 : Int) (p2 : Int) (s : fS) : Option (Int × fS) :=
  FX40_areFractions_b5 N N p1 1 p2 s
theorem SX40_areFractions {m b : Nat} {φ0 : Nat → Nat} {σo : fS} (hm : 1 ≤ m) {N : Nat} {q : Int × fS} {φ : Nat → Nat} {h : eH} {s : fS} {p1' : Int32} {p1 : Int} {p2' : Int32} {p2 : Int} (R : fC m b φ0 σo φ h s) (ep1 : p1' = iI p1) (rp1 : r32 p1) (ep2 : p2' = iI p2) (rp2 : r32 p2) (hF : FX40_areFractions N p1 p2 s = some q) : gG m b φ0 σo lI q (fX40_areFractions N 193 p1' p2' h) := by
  subst ep1; subst ep2
  unfold FX40_areFractions at hF
  unfold fX40_areFractions
  exact SX40_areFractions_b5 (N := N) hm R rfl rp1 (c_lit 1 1 rfl) ⟨by decide, by decide⟩ rfl rp2 hF
def FX40_areTablesRight_b61 (N : Nat) (K37 : Int → Int → Int → fS → Option (Int × fS)) (l2 : Int) (l3 : Int) (s0 : Int) (s : fS) : Option (Int × fS) :=
  K37 s0 l2 (iadd l3 1) s
theorem SX40_areTablesRight_b61 {m b : Nat} {φ0 : Nat → Nat} {σo : fS} (hm : 1 ≤ m) {N : Nat} {k37 : Nat → Int32 → Int32 → Int32 → eH → Option (Int32 × eH)} {K37 : Int → Int → Int → fS → Option (Int × fS)} {q : Int × fS} (hk37 : ∀ {φ : Nat → Nat} {h : eH} {s : fS} {l1' : Int32} {l1 : Int} {l2' : Int32} {l2 : Int} {l3' : Int32} {l3 : Int}, fC m b φ0 σo φ h s → l1' = iI l1 → r32 l1 → l2' = iI l2 → r32 l2 → l3' = iI l3 → r32 l3 → K37 l1 l2 l3 s = some q → gG m b φ0 σo lI q (k37 193 l1' l2' l3' h)) {φ : Nat → Nat} {h : eH} {s : fS} {l2' : Int32} {l2 : Int} {l3' : Int32} {l3 : Int} {s0' : Int32} {s0 : Int} (R : fC m b φ0 σo φ h s) (el2 : l2' = iI l2) (rl2 : r32 l2) (el3 : l3' = iI l3) (rl3 : r32 l3) (es0 : s0' = iI s0) (rs0 : r32 s0) (hF : FX40_areTablesRight_b61 N K37 l2 l3 s0 s = some q) : gG m b φ0 σo lI q (fX40_areTablesRight_b61 N k37 193 l2' l3' s0' h) := by
  subst el2; subst el3; subst es0
  unfold FX40_areTablesRight_b61 at hF
  unfold fX40_areTablesRight_b61
  exact hk37 R rfl rs0 rfl rl2 (c_add rfl (c_lit 1 1 rfl)) (rr_I _) hF
def FX40_areTablesRight_b60 (N : Nat) (K37 : Int → Int → Int → fS → Option (Int × fS)) (l2 : Int) (l3 : Int) (s : fS) : Option (Int × fS) :=
  FX40_areTablesRight_b61 N K37 l2 l3 0 s
theorem SX40_areTablesRight_b60 {m b : Nat} {φ0 : Nat → Nat} {σo : fS} (hm : 1 ≤ m) {N : Nat} {k37 : Nat → Int32 → Int32 → Int32 → eH → Option (Int32 × eH)} {K37 : Int → Int → Int → fS → Option (Int × fS)} {q : Int × fS} (hk37 : ∀ {φ : Nat → Nat} {h : eH} {s : fS} {l1' : Int32} {l1 : Int} {l2' : Int32} {l2 : Int} {l3' : Int32} {l3 : Int}, fC m b φ0 σo φ h s → l1' = iI l1 → r32 l1 → l2' = iI l2 → r32 l2 → l3' = iI l3 → r32 l3 → K37 l1 l2 l3 s = some q → gG m b φ0 σo lI q (k37 193 l1' l2' l3' h)) {φ : Nat → Nat} {h : eH} {s : fS} {l2' : Int32} {l2 : Int} {l3' : Int32} {l3 : Int} (R : fC m b φ0 σo φ h s) (el2 : l2' = iI l2) (rl2 : r32 l2) (el3 : l3' = iI l3) (rl3 : r32 l3) (hF : FX40_areTablesRight_b60 N K37 l2 l3 s = some q) : gG m b φ0 σo lI q (fX40_areTablesRight_b60 N k37 193 l2' l3' h) := by
  subst el2; subst el3
  unfold FX40_areTablesRight_b60 at hF
  unfold fX40_areTablesRight_b60
  exact SX40_areTablesRight_b61 (N := N) (k37 := k37) (K37 := K37) hm @hk37 R rfl rl2 rfl rl3 (c_lit 0 0 rfl) ⟨by decide, by decide⟩ hF
def FX40_areTablesRight_b37 (N : Nat) (K10 : Int → Int → fS → Option (Int × fS)) : Nat → Int → Int → Int → fS → Option (Int × fS)
  | 0, _, _, _, _ => none
  | n + 1, l1, l2, l3, s =>
    if 4 ≤ l3 then
      K10 l1 (iadd l2 1) s
    else
      if l1 = 0 then
        FX40_areTablesRight_b60 N (FX40_areTablesRight_b37 N K10 n) l2 l3 s
      else
        (FX40_at N 193 l2 0 l3 s).bind fun q3 =>
        if ¬ (q3.1 = 0) then
          FX40_areTablesRight_b60 N (FX40_areTablesRight_b37 N K10 n) l2 l3 q3.2
        else
          FX40_areTablesRight_b61 N (FX40_areTablesRight_b37 N K10 n) l2 l3 1 q3.2
theorem SX40_areTablesRight_b37 {m b : Nat} {φ0 : Nat → Nat} {σo : fS} (hm : 1 ≤ m) {N : Nat} {k10 : Nat → Int32 → Int32 → eH → Option (Int32 × eH)} {K10 : Int → Int → fS → Option (Int × fS)} {q : Int × fS} (hk10 : ∀ {φ : Nat → Nat} {h : eH} {s : fS} {l1' : Int32} {l1 : Int} {l2' : Int32} {l2 : Int}, fC m b φ0 σo φ h s → l1' = iI l1 → r32 l1 → l2' = iI l2 → r32 l2 → K10 l1 l2 s = some q → gG m b φ0 σo lI q (k10 193 l1' l2' h)) : ∀ {n : Nat} {φ : Nat → Nat} {h : eH} {s : fS} {l1' : Int32} {l1 : Int} {l2' : Int32} {l2 : Int} {l3' : Int32} {l3 : Int}, fC m b φ0 σo φ h s → l1' = iI l1 → r32 l1 → l2' = iI l2 → r32 l2 → l3' = iI l3 → r32 l3 → FX40_areTablesRight_b37 N K10 n l1 l2 l3 s = some q → gG m b φ0 σo lI q (fX40_areTablesRight_b37 N k10 n 193 l1' l2' l3' h) := by
  intro n
  induction n with
 | zero => intro φ h s l1' l1 l2' l2 l3' l3 R el1 rl1 el2 rl2 el3 rl3 hF; simp [FX40_areTablesRight_b37] at hF
  | succ n ih =>
    intro φ h s l1' l1 l2' l2 l3' l3 R el1 rl1 el2 rl2 el3 rl3 hF
    subst el1; subst el2; subst el3
    rw [FX40_areTablesRight_b37] at hF
    rw [fX40_areTablesRight_b37]
    refine s_if (i_le (c_lit 4 4 rfl) rfl ⟨by decide, by decide⟩ rl3) hF (fun c1 hF => ?_) (fun c1 hF => ?_)
    ·
      exact hk10 R rfl rl1 (c_add rfl (c_lit 1 1 rfl)) (rr_I _) hF
    ·
      refine s_if (i_eq rfl (c_lit 0 0 rfl) rl1 ⟨by decide, by decide⟩) hF (fun c2 hF => ?_) (fun c2 hF => ?_)
      ·
        exact SX40_areTablesRight_b60 (N := N) (k37 := fX40_areTablesRight_b37 N k10 n) (K37 := FX40_areTablesRight_b37 N K10 n) hm @ih R rfl rl2 rfl rl3 hF
      ·
        refine s_call R (Nat.zero_le _) (fun _ hq => SX40_at (b := 0) (N := N) hm (R.rf) (a_193 hm R) (u_193 hm R.S).1 rfl rl2 (c_lit 0 0 rfl) ⟨by decide, by decide⟩ rfl rl3 hq) hF (fun f3 rv3 h3 q3 R3 e3 E3 hF => ?_)
        refine s_if (not_congr (i_eq e3.1 (c_lit 0 0 rfl) e3.2 ⟨by decide, by decide⟩)) hF (fun c4 hF => ?_) (fun c4 hF => ?_)
        ·
          exact SX40_areTablesRight_b60 (N := N) (k37 := fX40_areTablesRight_b37 N k10 n) (K37 := FX40_areTablesRight_b37 N K10 n) hm @ih R3 rfl rl2 rfl rl3 hF
        ·
          exact SX40_areTablesRight_b61 (N := N) (k37 := fX40_areTablesRight_b37 N k10 n) (K37 := FX40_areTablesRight_b37 N K10 n) hm @ih R3 rfl rl2 rfl rl3 (c_lit 1 1 rfl) ⟨by decide, by decide⟩ hF
def FX40_areTablesRight_b34 (N : Nat) (K10 : Int → Int → fS → Option (Int × fS)) (l2 : Int) (s0 : Int) (s : fS) : Option (Int × fS) :=
  FX40_areTablesRight_b37 N K10 N s0 l2 0 s
theorem SX40_areTablesRight_b34 {m b : Nat} {φ0 : Nat → Nat} {σo : fS} (hm : 1 ≤ m) {N : Nat} {k10 : Nat → Int32 → Int32 → eH → Option (Int32 × eH)} {K10 : Int → Int → fS → Option (Int × fS)} {q : Int × fS} (hk10 : ∀ {φ : Nat → Nat} {h : eH} {s : fS} {l1' : Int32} {l1 : Int} {l2' : Int32} {l2 : Int}, fC m b φ0 σo φ h s → l1' = iI l1 → r32 l1 → l2' = iI l2 → r32 l2 → K10 l1 l2 s = some q → gG m b φ0 σo lI q (k10 193 l1' l2' h)) {φ : Nat → Nat} {h : eH} {s : fS} {l2' : Int32} {l2 : Int} {s0' : Int32} {s0 : Int} (R : fC m b φ0 σo φ h s) (el2 : l2' = iI l2) (rl2 : r32 l2) (es0 : s0' = iI s0) (rs0 : r32 s0) (hF : FX40_areTablesRight_b34 N K10 l2 s0 s = some q) : gG m b φ0 σo lI q (fX40_areTablesRight_b34 N k10 193 l2' s0' h) := by
  subst el2; subst es0
  unfold FX40_areTablesRight_b34 at hF
  unfold fX40_areTablesRight_b34
  exact SX40_areTablesRight_b37 (N := N) (k10 := k10) (K10 := K10) hm @hk10 R rfl rs0 rfl rl2 (c_lit 0 0 rfl) ⟨by decide, by decide⟩ hF
def FX40_areTablesRight_b33 (N : Nat) (K10 : Int → Int → fS → Option (Int × fS)) (l2 : Int) (s : fS) : Option (Int × fS) :=
  FX40_areTablesRight_b34 N K10 l2 0 s
theorem SX40_areTablesRight_b33 {m b : Nat} {φ0 : Nat → Nat} {σo : fS} (hm : 1 ≤ m) {N : Nat} {k10 : Nat → Int32 → Int32 → eH → Option (Int32 × eH)} {K10 : Int → Int → fS → Option (Int × fS)} {q : Int × fS} (hk10 : ∀ {φ : Nat → Nat} {h : eH} {s : fS} {l1' : Int32} {l1 : Int} {l2' : Int32} {l2 : Int}, fC m b φ0 σo φ h s → l1' = iI l1 → r32 l1 → l2' = iI l2 → r32 l2 → K10 l1 l2 s = some q → gG m b φ0 σo lI q (k10 193 l1' l2' h)) {φ : Nat → Nat} {h : eH} {s : fS} {l2' : Int32} {l2 : Int} (R : fC m b φ0 σo φ h s) (el2 : l2' = iI l2) (rl2 : r32 l2) (hF : FX40_areTablesRight_b33 N K10 l2 s = some q) : gG m b φ0 σo lI q (fX40_areTablesRight_b33 N k10 193 l2' h) := by
  subst el2
  unfold FX40_areTablesRight_b33 at hF
  unfold fX40_areTablesRight_b33
  exact SX40_areTablesRight_b34 (N := N) (k10 := k10) (K10 := K10) hm @hk10 R rfl rl2 (c_lit 0 0 rfl) ⟨by decide, by decide⟩ hF
def FX40_areTablesRight_b10 (N : Nat) : Nat → Int → Int → fS → Option (Int × fS)
  | 0, _, _, _ => none
  | n + 1, l1, l2, s =>
    if 6 ≤ l2 then
      uZ l1 (l1, s)
    else
      if l1 = 0 then
        FX40_areTablesRight_b33 N (FX40_areTablesRight_b10 N n) l2 s
      else
        (FX40_areFractions N l2 0 s).bind fun q4 =>
        if q4.1 = 0 then
          FX40_areTablesRight_b33 N (FX40_areTablesRight_b10 N n) l2 q4.2
        else
          FX40_areTablesRight_b34 N (FX40_areTablesRight_b10 N n) l2 1 q4.2
theorem SX40_areTablesRight_b10 {m b : Nat} {φ0 : Nat → Nat} {σo : fS} (hm : 1 ≤ m) {N : Nat} {q : Int × fS} : ∀ {n : Nat} {φ : Nat → Nat} {h : eH} {s : fS} {l1' : Int32} {l1 : Int} {l2' : Int32} {l2 : Int}, fC m b φ0 σo φ h s → l1' = iI l1 → r32 l1 → l2' = iI l2 → r32 l2 → FX40_areTablesRight_b10 N n l1 l2 s = some q → gG m b φ0 σo lI q (fX40_areTablesRight_b10 N n 193 l1' l2' h) := by
  intro n
  induction n with
 | zero => intro φ h s l1' l1 l2' l2 R el1 rl1 el2 rl2 hF; simp [FX40_areTablesRight_b10] at hF
  | succ n ih =>
    intro φ h s l1' l1 l2' l2 R el1 rl1 el2 rl2 hF
    subst el1; subst el2
    rw [FX40_areTablesRight_b10] at hF
    rw [fX40_areTablesRight_b10]
    refine s_if (i_le (c_lit 6 6 rfl) rfl ⟨by decide, by decide⟩ rl2) hF (fun c1 hF => ?_) (fun c1 hF => ?_)
    ·
      exact g_z R rfl hF ⟨rfl, rl1⟩
    ·
      refine s_if (i_eq rfl (c_lit 0 0 rfl) rl1 ⟨by decide, by decide⟩) hF (fun c2 hF => ?_) (fun c2 hF => ?_)
      ·
        exact SX40_areTablesRight_b33 (N := N) (k10 := fX40_areTablesRight_b10 N n) (K10 := FX40_areTablesRight_b10 N n) hm @ih R rfl rl2 hF
      ·
        refine s_call R (Nat.zero_le _) (fun _ hq => SX40_areFractions (b := 0) (N := N) hm (R.rf) rfl rl2 (c_lit 0 0 rfl) ⟨by decide, by decide⟩ hq) hF (fun f3 rv3 h3 q4 R3 e3 E3 hF => ?_)
        refine s_if (i_eq e3.1 (c_lit 0 0 rfl) e3.2 ⟨by decide, by decide⟩) hF (fun c4 hF => ?_) (fun c4 hF => ?_)
        ·
          exact SX40_areTablesRight_b33 (N := N) (k10 := fX40_areTablesRight_b10 N n) (K10 := FX40_areTablesRight_b10 N n) hm @ih R3 rfl rl2 hF
        ·
          exact SX40_areTablesRight_b34 (N := N) (k10 := fX40_areTablesRight_b10 N n) (K10 := FX40_areTablesRight_b10 N n) hm @ih R3 rfl rl2 (c_lit 1 1 rfl) ⟨by decide, by decide⟩ hF
def FX40_areTablesRight (N : Nat) (s : fS) : Option (Int × fS) :=
  (FX40_areFractions N 7 0 s).bind fun q1 =>
  FX40_areTablesRight_b10 N N q1.1 2 q1.2
theorem SX40_areTablesRight {m b : Nat} {φ0 : Nat → Nat} {σo : fS} (hm : 1 ≤ m) {N : Nat} {q : Int × fS} {φ : Nat → Nat} {h : eH} {s : fS} (R : fC m b φ0 σo φ h s) (hF : FX40_areTablesRight N s = some q) : gG m b φ0 σo lI q (fX40_areTablesRight N 193 h) := by
  unfold FX40_areTablesRight at hF
  unfold fX40_areTablesRight
  refine s_call R (Nat.zero_le _) (fun _ hq => SX40_areFractions (b := 0) (N := N) hm (R.rf) (c_lit 7 7 rfl) ⟨by decide, by decide⟩ (c_lit 0 0 rfl) ⟨by decide, by decide⟩ hq) hF (fun f1 rv1 h1 q1 R1 e1 E1 hF => ?_)
  exact SX40_areTablesRight_b10 (N := N) hm R1 e1.1 e1.2 (c_lit 2 2 rfl) ⟨by decide, by decide⟩ hF
def FX40_isWordRight_b35 (N : Nat) (s0 : Int) (s : fS) : Option (Int × fS) :=
  uZ s0 (s0, s)
theorem SX40_isWordRight_b35 {m b : Nat} {φ0 : Nat → Nat} {σo : fS} (hm : 1 ≤ m) {N : Nat} {q : Int × fS} {φ : Nat → Nat} {h : eH} {s : fS} {s0' : Int32} {s0 : Int} (R : fC m b φ0 σo φ h s) (es0 : s0' = iI s0) (rs0 : r32 s0) (hF : FX40_isWordRight_b35 N s0 s = some q) : gG m b φ0 σo lI q (fX40_isWordRight_b35 N s0' h) := by
  subst es0
  unfold FX40_isWordRight_b35 at hF
  unfold fX40_isWordRight_b35
  exact g_z R rfl hF ⟨rfl, rs0⟩
def FX40_isWordRight_b173 (N : Nat) (s0 : Int) (s : fS) : Option (Int × fS) :=
  uZ s0 (s0, s)
theorem SX40_isWordRight_b173 {m b : Nat} {φ0 : Nat → Nat} {σo : fS} (hm : 1 ≤ m) {N : Nat} {q : Int × fS} {φ : Nat → Nat} {h : eH} {s : fS} {s0' : Int32} {s0 : Int} (R : fC m b φ0 σo φ h s) (es0 : s0' = iI s0) (rs0 : r32 s0) (hF : FX40_isWordRight_b173 N s0 s = some q) : gG m b φ0 σo lI q (fX40_isWordRight_b173 N s0' h) := by
  subst es0
  unfold FX40_isWordRight_b173 at hF
  unfold fX40_isWordRight_b173
  exact g_z R rfl hF ⟨rfl, rs0⟩
def FX40_isWordRight_b168 (N : Nat) (s : fS) : Option (Int × fS) :=
  FX40_isWordRight_b173 N 1 s
theorem SX40_isWordRight_b168 {m b : Nat} {φ0 : Nat → Nat} {σo : fS} (hm : 1 ≤ m) {N : Nat} {q : Int × fS} {φ : Nat → Nat} {h : eH} {s : fS} (R : fC m b φ0 σo φ h s) (hF : FX40_isWordRight_b168 N s = some q) : gG m b φ0 σo lI q (fX40_isWordRight_b168 N h) := by
  unfold FX40_isWordRight_b168 at hF
  unfold fX40_isWordRight_b168
  exact SX40_isWordRight_b173 (N := N) hm R (c_lit 1 1 rfl) ⟨by decide, by decide⟩ hF
def FX40_isWordRight_b172 (N : Nat) (s : fS) : Option (Int × fS) :=
  FX40_isWordRight_b173 N 0 s
theorem SX40_isWordRight_b172 {m b : Nat} {φ0 : Nat → Nat} {σo : fS} (hm : 1 ≤ m) {N : Nat} {q : Int × fS} {φ : Nat → Nat} {h : eH} {s : fS} (R : fC m b φ0 σo φ h s) (hF : FX40_isWordRight_b172 N s = some q) : gG m b φ0 σo lI q (fX40_isWordRight_b172 N h) := by
  unfold FX40_isWordRight_b172 at hF
  unfold fX40_isWordRight_b172
  exact SX40_isWordRight_b173 (N := N) hm R (c_lit 0 0 rfl) ⟨by decide, by decide⟩ hF
def FX40_isWordRight_b140 (N : Nat) (l1 : Int) (l2 : Int) (s0 : Int) (s : fS) : Option (Int × fS) :=
  if s0 = 0 then
    FX40_isWordRight_b172 N s
  else
    if l2 = 128 then
      FX40_isWordRight_b168 N s
    else
      (FX40_words 193 6 s).bind fun q3 =>
      if q3.1 ≤ (iadd (iadd l1 l2) 1) then
        FX40_isWordRight_b172 N q3.2
      else
        FX40_isWordRight_b168 N q3.2
theorem SX40_isWordRight_b140 {m b : Nat} {φ0 : Nat → Nat} {σo : fS} (hm : 1 ≤ m) {N : Nat} {q : Int × fS} {φ : Nat → Nat} {h : eH} {s : fS} {l1' : Int32} {l1 : Int} {l2' : Int32} {l2 : Int} {s0' : Int32} {s0 : Int} (R : fC m b φ0 σo φ h s) (el1 : l1' = iI l1) (rl1 : r32 l1) (el2 : l2' = iI l2) (rl2 : r32 l2) (es0 : s0' = iI s0) (rs0 : r32 s0) (hF : FX40_isWordRight_b140 N l1 l2 s0 s = some q) : gG m b φ0 σo lI q (fX40_isWordRight_b140 N 193 l1' l2' s0' h) := by
  subst el1; subst el2; subst es0
  unfold FX40_isWordRight_b140 at hF
  unfold fX40_isWordRight_b140
  refine s_if (i_eq rfl (c_lit 0 0 rfl) rs0 ⟨by decide, by decide⟩) hF (fun c1 hF => ?_) (fun c1 hF => ?_)
  ·
    exact SX40_isWordRight_b172 (N := N) hm R hF
  ·
    refine s_if (i_eq rfl (c_lit 128 128 rfl) rl2 ⟨by decide, by decide⟩) hF (fun c2 hF => ?_) (fun c2 hF => ?_)
    ·
      exact SX40_isWordRight_b168 (N := N) hm R hF
    ·
      refine s_call R (Nat.zero_le _) (fun _ hq => SX40_words (b := 0) hm (R.rf) (a_193 hm R) (u_193 hm R.S).1 (c_lit 6 6 rfl) ⟨by decide, by decide⟩ hq) hF (fun f3 rv3 h3 q3 R3 e3 E3 hF => ?_)
      refine s_if (i_le e3.1 (c_add (c_add rfl rfl) (c_lit 1 1 rfl)) e3.2 (rr_I _)) hF (fun c4 hF => ?_) (fun c4 hF => ?_)
      ·
        exact SX40_isWordRight_b172 (N := N) hm R3 hF
      ·
        exact SX40_isWordRight_b168 (N := N) hm R3 hF
def FX40_isWordRight_b135 (N : Nat) (l1 : Int) (l2 : Int) (s : fS) : Option (Int × fS) :=
  FX40_isWordRight_b140 N l1 l2 1 s
theorem SX40_isWordRight_b135 {m b : Nat} {φ0 : Nat → Nat} {σo : fS} (hm : 1 ≤ m) {N : Nat} {q : Int × fS} {φ : Nat → Nat} {h : eH} {s : fS} {l1' : Int32} {l1 : Int} {l2' : Int32} {l2 : Int} (R : fC m b φ0 σo φ h s) (el1 : l1' = iI l1) (rl1 : r32 l1) (el2 : l2' = iI l2) (rl2 : r32 l2) (hF : FX40_isWordRight_b135 N l1 l2 s = some q) : gG m b φ0 σo lI q (fX40_isWordRight_b135 N 193 l1' l2' h) := by
  subst el1; subst el2
  unfold FX40_isWordRight_b135 at hF
  unfold fX40_isWordRight_b135
  exact SX40_isWordRight_b140 (N := N) hm R rfl rl1 rfl rl2 (c_lit 1 1 rfl) ⟨by decide, by decide⟩ hF
def FX40_isWordRight_b139 (N : Nat) (l1 : Int) (l2 : Int) (s : fS) : Option (Int × fS) :=
  FX40_isWordRight_b140 N l1 l2 0 s
theorem SX40_isWordRight_b139 {m b : Nat} {φ0 : Nat → Nat} {σo : fS} (hm : 1 ≤ m) {N : Nat} {q : Int × fS} {φ : Nat → Nat} {h : eH} {s : fS} {l1' : Int32} {l1 : Int} {l2' : Int32} {l2 : Int} (R : fC m b φ0 σo φ h s) (el1 : l1' = iI l1) (rl1 : r32 l1) (el2 : l2' = iI l2) (rl2 : r32 l2) (hF : FX40_isWordRight_b139 N l1 l2 s = some q) : gG m b φ0 σo lI q (fX40_isWordRight_b139 N 193 l1' l2' h) := by
  subst el1; subst el2
  unfold FX40_isWordRight_b139 at hF
  unfold fX40_isWordRight_b139
  exact SX40_isWordRight_b140 (N := N) hm R rfl rl1 rfl rl2 (c_lit 0 0 rfl) ⟨by decide, by decide⟩ hF
def FX40_isWordRight_b86 (N : Nat) (l1 : Int) (l2 : Int) (l4 : Int) (l5 : Int) (s0 : Int) (s : fS) : Option (Int × fS) :=
  if s0 = 0 then
    FX40_isWordRight_b139 N l1 l2 s
  else
    if 128 ≤ l4 then
      (FX40_words 193 7 s).bind fun q3 =>
      if q3.1 ≤ (iadd (imul 256 (isub l4 128)) l5) then
        FX40_isWordRight_b139 N l1 l2 q3.2
      else
        FX40_isWordRight_b135 N l1 l2 q3.2
    else
      (FX40_isThere N 193 l5 s).bind fun q5 =>
      if q5.1 = 0 then
        FX40_isWordRight_b139 N l1 l2 q5.2
      else
        FX40_isWordRight_b135 N l1 l2 q5.2
theorem SX40_isWordRight_b86 {m b : Nat} {φ0 : Nat → Nat} {σo : fS} (hm : 1 ≤ m) {N : Nat} {q : Int × fS} {φ : Nat → Nat} {h : eH} {s : fS} {l1' : Int32} {l1 : Int} {l2' : Int32} {l2 : Int} {l4' : Int32} {l4 : Int} {l5' : Int32} {l5 : Int} {s0' : Int32} {s0 : Int} (R : fC m b φ0 σo φ h s) (el1 : l1' = iI l1) (rl1 : r32 l1) (el2 : l2' = iI l2) (rl2 : r32 l2) (el4 : l4' = iI l4) (rl4 : r32 l4) (el5 : l5' = iI l5) (rl5 : r32 l5) (es0 : s0' = iI s0) (rs0 : r32 s0) (hF : FX40_isWordRight_b86 N l1 l2 l4 l5 s0 s = some q) : gG m b φ0 σo lI q (fX40_isWordRight_b86 N 193 l1' l2' l4' l5' s0' h) := by
  subst el1; subst el2; subst el4; subst el5; subst es0
  unfold FX40_isWordRight_b86 at hF
  unfold fX40_isWordRight_b86
  refine s_if (i_eq rfl (c_lit 0 0 rfl) rs0 ⟨by decide, by decide⟩) hF (fun c1 hF => ?_) (fun c1 hF => ?_)
  ·
    exact SX40_isWordRight_b139 (N := N) hm R rfl rl1 rfl rl2 hF
  ·
    refine s_if (i_le (c_lit 128 128 rfl) rfl ⟨by decide, by decide⟩ rl4) hF (fun c2 hF => ?_) (fun c2 hF => ?_)
    ·
      refine s_call R (Nat.zero_le _) (fun _ hq => SX40_words (b := 0) hm (R.rf) (a_193 hm R) (u_193 hm R.S).1 (c_lit 7 7 rfl) ⟨by decide, by decide⟩ hq) hF (fun f3 rv3 h3 q3 R3 e3 E3 hF => ?_)
      refine s_if (i_le e3.1 (c_add (c_mul (c_lit 256 256 rfl) (c_sub rfl (c_lit 128 128 rfl))) rfl) e3.2 (rr_I _)) hF (fun c4 hF => ?_) (fun c4 hF => ?_)
      ·
        exact SX40_isWordRight_b139 (N := N) hm R3 rfl rl1 rfl rl2 hF
      ·
        exact SX40_isWordRight_b135 (N := N) hm R3 rfl rl1 rfl rl2 hF
    ·
      refine s_call R (Nat.zero_le _) (fun _ hq => SX40_isThere (b := 0) (N := N) hm (R.rf) (a_193 hm R) (u_193 hm R.S).1 rfl rl5 hq) hF (fun f5 rv5 h5 q5 R5 e5 E5 hF => ?_)
      refine s_if (i_eq e5.1 (c_lit 0 0 rfl) e5.2 ⟨by decide, by decide⟩) hF (fun c6 hF => ?_) (fun c6 hF => ?_)
      ·
        exact SX40_isWordRight_b139 (N := N) hm R5 rfl rl1 rfl rl2 hF
      ·
        exact SX40_isWordRight_b135 (N := N) hm R5 rfl rl1 rfl rl2 hF
def FX40_isWordRight_b81 (N : Nat) (l1 : Int) (l2 : Int) (l4 : Int) (l5 : Int) (s : fS) : Option (Int × fS) :=
  FX40_isWordRight_b86 N l1 l2 l4 l5 1 s
theorem SX40_isWordRight_b81 {m b : Nat} {φ0 : Nat → Nat} {σo : fS} (hm : 1 ≤ m) {N : Nat} {q : Int × fS} {φ : Nat → Nat} {h : eH} {s : fS} {l1' : Int32} {l1 : Int} {l2' : Int32} {l2 : Int} {l4' : Int32} {l4 : Int} {l5' : Int32} {l5 : Int} (R : fC m b φ0 σo φ h s) (el1 : l1' = iI l1) (rl1 : r32 l1) (el2 : l2' = iI l2) (rl2 : r32 l2) (el4 : l4' = iI l4) (rl4 : r32 l4) (el5 : l5' = iI l5) (rl5 : r32 l5) (hF : FX40_isWordRight_b81 N l1 l2 l4 l5 s = some q) : gG m b φ0 σo lI q (fX40_isWordRight_b81 N 193 l1' l2' l4' l5' h) := by
  subst el1; subst el2; subst el4; subst el5
  unfold FX40_isWordRight_b81 at hF
  unfold fX40_isWordRight_b81
  exact SX40_isWordRight_b86 (N := N) hm R rfl rl1 rfl rl2 rfl rl4 rfl rl5 (c_lit 1 1 rfl) ⟨by decide, by decide⟩ hF
def FX40_isWordRight (N : Nat) (p1 : Int) (s : fS) : Option (Int × fS) :=
  (FX40_at N 193 6 p1 0 s).bind fun q1 =>
  if q1.1 ≤ 128 then
    (FX40_at N 193 6 p1 1 q1.2).bind fun q3 =>
    (FX40_at N 193 6 p1 2 q3.2).bind fun q4 =>
    (FX40_at N 193 6 p1 3 q4.2).bind fun q5 =>
    (FX40_isThere N 193 q3.1 q5.2).bind fun q6 =>
    if ¬ (q6.1 = 0) then
      FX40_isWordRight_b81 N p1 q1.1 q4.1 q5.1 q6.2
    else
      (FX40_edgeOf N 193 q6.2).bind fun q8 =>
      if ¬ (q3.1 = q8.1) then
        FX40_isWordRight_b86 N p1 q1.1 q4.1 q5.1 0 q8.2
      else
        FX40_isWordRight_b81 N p1 q1.1 q4.1 q5.1 q8.2
  else
    (FX40_far N 193 p1 q1.2).bind fun q10 =>
    (FX40_words 193 6 q10.2).bind fun q11 =>
    if q11.1 ≤ q10.1 then
      FX40_isWordRight_b35 N 0 q11.2
    else
      FX40_isWordRight_b35 N 1 q11.2
theorem SX40_isWordRight {m b : Nat} {φ0 : Nat → Nat} {σo : fS} (hm : 1 ≤ m) {N : Nat} {q : Int × fS} {φ : Nat → Nat} {h : eH} {s : fS} {p1' : Int32} {p1 : Int} (R : fC m b φ0 σo φ h s) (ep1 : p1' = iI p1) (rp1 : r32 p1) (hF : FX40_isWordRight N p1 s = some q) : gG m b φ0 σo lI q (fX40_isWordRight N 193 p1' h) := by
  subst ep1
  unfold FX40_isWordRight at hF
  unfold fX40_isWordRight
  refine s_call R (Nat.zero_le _) (fun _ hq => SX40_at (b := 0) (N := N) hm (R.rf) (a_193 hm R) (u_193 hm R.S).1 (c_lit 6 6 rfl) ⟨by decide, by decide⟩ rfl rp1 (c_lit 0 0 rfl) ⟨by decide, by decide⟩ hq) hF (fun f1 rv1 h1 q1 R1 e1 E1 hF => ?_)
  refine s_if (i_le e1.1 (c_lit 128 128 rfl) e1.2 ⟨by decide, by decide⟩) hF (fun c2 hF => ?_) (fun c2 hF => ?_)
  ·
    refine s_call R1 (Nat.zero_le _) (fun _ hq => SX40_at (b := 0) (N := N) hm (R1.rf) (a_193 hm R1) (u_193 hm R1.S).1 (c_lit 6 6 rfl) ⟨by decide, by decide⟩ rfl rp1 (c_lit 1 1 rfl) ⟨by decide, by decide⟩ hq) hF (fun f3 rv3 h3 q3 R3 e3 E3 hF => ?_)
    refine s_call R3 (Nat.zero_le _) (fun _ hq => SX40_at (b := 0) (N := N) hm (R3.rf) (a_193 hm R3) (u_193 hm R3.S).1 (c_lit 6 6 rfl) ⟨by decide, by decide⟩ rfl rp1 (c_lit 2 2 rfl) ⟨by decide, by decide⟩ hq) hF (fun f4 rv4 h4 q4 R4 e4 E4 hF => ?_)
    refine s_call R4 (Nat.zero_le _) (fun _ hq => SX40_at (b := 0) (N := N) hm (R4.rf) (a_193 hm R4) (u_193 hm R4.S).1 (c_lit 6 6 rfl) ⟨by decide, by decide⟩ rfl rp1 (c_lit 3 3 rfl) ⟨by decide, by decide⟩ hq) hF (fun f5 rv5 h5 q5 R5 e5 E5 hF => ?_)
    refine s_call R5 (Nat.zero_le _) (fun _ hq => SX40_isThere (b := 0) (N := N) hm (R5.rf) (a_193 hm R5) (u_193 hm R5.S).1 e3.1 e3.2 hq) hF (fun f6 rv6 h6 q6 R6 e6 E6 hF => ?_)
    refine s_if (not_congr (i_eq e6.1 (c_lit 0 0 rfl) e6.2 ⟨by decide, by decide⟩)) hF (fun c7 hF => ?_) (fun c7 hF => ?_)
    ·
      exact SX40_isWordRight_b81 (N := N) hm R6 rfl rp1 e1.1 e1.2 e4.1 e4.2 e5.1 e5.2 hF
    ·
      refine s_call R6 (Nat.zero_le _) (fun _ hq => SX40_edgeOf (b := 0) (N := N) hm (R6.rf) (a_193 hm R6) (u_193 hm R6.S).1 hq) hF (fun f8 rv8 h8 q8 R8 e8 E8 hF => ?_)
      refine s_if (not_congr (i_eq e3.1 e8.1 e3.2 e8.2)) hF (fun c9 hF => ?_) (fun c9 hF => ?_)
      ·
        exact SX40_isWordRight_b86 (N := N) hm R8 rfl rp1 e1.1 e1.2 e4.1 e4.2 e5.1 e5.2 (c_lit 0 0 rfl) ⟨by decide, by decide⟩ hF
      ·
        exact SX40_isWordRight_b81 (N := N) hm R8 rfl rp1 e1.1 e1.2 e4.1 e4.2 e5.1 e5.2 hF
  ·
    refine s_call R1 (Nat.zero_le _) (fun _ hq => SX40_far (b := 0) (N := N) hm (R1.rf) (a_193 hm R1) (u_193 hm R1.S).1 rfl rp1 hq) hF (fun f10 rv10 h10 q10 R10 e10 E10 hF => ?_)
    refine s_call R10 (Nat.zero_le _) (fun _ hq => SX40_words (b := 0) hm (R10.rf) (a_193 hm R10) (u_193 hm R10.S).1 (c_lit 6 6 rfl) ⟨by decide, by decide⟩ hq) hF (fun f11 rv11 h11 q11 R11 e11 E11 hF => ?_)
    refine s_if (i_le e11.1 e10.1 e11.2 e10.2) hF (fun c12 hF => ?_) (fun c12 hF => ?_)
    ·
      exact SX40_isWordRight_b35 (N := N) hm R11 (c_lit 0 0 rfl) ⟨by decide, by decide⟩ hF
    ·
      exact SX40_isWordRight_b35 (N := N) hm R11 (c_lit 1 1 rfl) ⟨by decide, by decide⟩ hF
def FX40_isProgramRight_b31 (N : Nat) (K4 : Int → Int → fS → Option (Int × fS)) (l2 : Int) (s0 : Int) (s : fS) : Option (Int × fS) :=
  K4 s0 (iadd l2 1) s
theorem SX40_isProgramRight_b31 {m b : Nat} {φ0 : Nat → Nat} {σo : fS} (hm : 1 ≤ m) {N : Nat} {k4 : Nat → Int32 → Int32 → eH → Option (Int32 × eH)} {K4 : Int → Int → fS → Option (Int × fS)} {q : Int × fS} (hk4 : ∀ {φ : Nat → Nat} {h : eH} {s : fS} {l1' : Int32} {l1 : Int} {l2' : Int32} {l2 : Int}, fC m b φ0 σo φ h s → l1' = iI l1 → r32 l1 → l2' = iI l2 → r32 l2 → K4 l1 l2 s = some q → gG m b φ0 σo lI q (k4 193 l1' l2' h)) {φ : Nat → Nat} {h : eH} {s : fS} {l2' : Int32} {l2 : Int} {s0' : Int32} {s0 : Int} (R : fC m b φ0 σo φ h s) (el2 : l2' = iI l2) (rl2 : r32 l2) (es0 : s0' = iI s0) (rs0 : r32 s0) (hF : FX40_isProgramRight_b31 N K4 l2 s0 s = some q) : gG m b φ0 σo lI q (fX40_isProgramRight_b31 N k4 193 l2' s0' h) := by
  subst el2; subst es0
  unfold FX40_isProgramRight_b31 at hF
  unfold fX40_isProgramRight_b31
  exact hk4 R rfl rs0 (c_add rfl (c_lit 1 1 rfl)) (rr_I _) hF
def FX40_isProgramRight_b30 (N : Nat) (K4 : Int → Int → fS → Option (Int × fS)) (l2 : Int) (s : fS) : Option (Int × fS) :=
  FX40_isProgramRight_b31 N K4 l2 0 s
theorem SX40_isProgramRight_b30 {m b : Nat} {φ0 : Nat → Nat} {σo : fS} (hm : 1 ≤ m) {N : Nat} {k4 : Nat → Int32 → Int32 → eH → Option (Int32 × eH)} {K4 : Int → Int → fS → Option (Int × fS)} {q : Int × fS} (hk4 : ∀ {φ : Nat → Nat} {h : eH} {s : fS} {l1' : Int32} {l1 : Int} {l2' : Int32} {l2 : Int}, fC m b φ0 σo φ h s → l1' = iI l1 → r32 l1 → l2' = iI l2 → r32 l2 → K4 l1 l2 s = some q → gG m b φ0 σo lI q (k4 193 l1' l2' h)) {φ : Nat → Nat} {h : eH} {s : fS} {l2' : Int32} {l2 : Int} (R : fC m b φ0 σo φ h s) (el2 : l2' = iI l2) (rl2 : r32 l2) (hF : FX40_isProgramRight_b30 N K4 l2 s = some q) : gG m b φ0 σo lI q (fX40_isProgramRight_b30 N k4 193 l2' h) := by
  subst el2
  unfold FX40_isProgramRight_b30 at hF
  unfold fX40_isProgramRight_b30
  exact SX40_isProgramRight_b31 (N := N) (k4 := k4) (K4 := K4) hm @hk4 R rfl rl2 (c_lit 0 0 rfl) ⟨by decide, by decide⟩ hF
def FX40_isProgramRight_b4 (N : Nat) : Nat → Int → Int → fS → Option (Int × fS)
  | 0, _, _, _ => none
  | n + 1, l1, l2, s =>
    (FX40_words 193 6 s).bind fun q1 =>
    if q1.1 ≤ l2 then
      uZ l1 (l1, q1.2)
    else
      if l1 = 0 then
        FX40_isProgramRight_b30 N (FX40_isProgramRight_b4 N n) l2 q1.2
      else
        (FX40_isWordRight N l2 q1.2).bind fun q5 =>
        if q5.1 = 0 then
          FX40_isProgramRight_b30 N (FX40_isProgramRight_b4 N n) l2 q5.2
        else
          FX40_isProgramRight_b31 N (FX40_isProgramRight_b4 N n) l2 1 q5.2
theorem SX40_isProgramRight_b4 {m b : Nat} {φ0 : Nat → Nat} {σo : fS} (hm : 1 ≤ m) {N : Nat} {q : Int × fS} : ∀ {n : Nat} {φ : Nat → Nat} {h : eH} {s : fS} {l1' : Int32} {l1 : Int} {l2' : Int32} {l2 : Int}, fC m b φ0 σo φ h s → l1' = iI l1 → r32 l1 → l2' = iI l2 → r32 l2 → FX40_isProgramRight_b4 N n l1 l2 s = some q → gG m b φ0 σo lI q (fX40_isProgramRight_b4 N n 193 l1' l2' h) := by
  intro n
  induction n with
 | zero => intro φ h s l1' l1 l2' l2 R el1 rl1 el2 rl2 hF; simp [FX40_isProgramRight_b4] at hF
  | succ n ih =>
    intro φ h s l1' l1 l2' l2 R el1 rl1 el2 rl2 hF
    subst el1; subst el2
    rw [FX40_isProgramRight_b4] at hF
    rw [fX40_isProgramRight_b4]
    refine s_call R (Nat.zero_le _) (fun _ hq => SX40_words (b := 0) hm (R.rf) (a_193 hm R) (u_193 hm R.S).1 (c_lit 6 6 rfl) ⟨by decide, by decide⟩ hq) hF (fun f1 rv1 h1 q1 R1 e1 E1 hF => ?_)
    refine s_if (i_le e1.1 rfl e1.2 rl2) hF (fun c2 hF => ?_) (fun c2 hF => ?_)
    ·
      exact g_z R1 rfl hF ⟨rfl, rl1⟩
    ·
      refine s_if (i_eq rfl (c_lit 0 0 rfl) rl1 ⟨by decide, by decide⟩) hF (fun c3 hF => ?_) (fun c3 hF => ?_)
      ·
        exact SX40_isProgramRight_b30 (N := N) (k4 := fX40_isProgramRight_b4 N n) (K4 := FX40_isProgramRight_b4 N n) hm @ih R1 rfl rl2 hF
      ·
        refine s_call R1 (Nat.zero_le _) (fun _ hq => SX40_isWordRight (b := 0) (N := N) hm (R1.rf) rfl rl2 hq) hF (fun f4 rv4 h4 q5 R4 e4 E4 hF => ?_)
        refine s_if (i_eq e4.1 (c_lit 0 0 rfl) e4.2 ⟨by decide, by decide⟩) hF (fun c5 hF => ?_) (fun c5 hF => ?_)
        ·
          exact SX40_isProgramRight_b30 (N := N) (k4 := fX40_isProgramRight_b4 N n) (K4 := FX40_isProgramRight_b4 N n) hm @ih R4 rfl rl2 hF
        ·
          exact SX40_isProgramRight_b31 (N := N) (k4 := fX40_isProgramRight_b4 N n) (K4 := FX40_isProgramRight_b4 N n) hm @ih R4 rfl rl2 (c_lit 1 1 rfl) ⟨by decide, by decide⟩ hF
def FX40_isProgramRight (N : Nat) (s : fS) : Option (Int × fS) :=
  FX40_isProgramRight_b4 N N 1 0 s
theorem SX40_isProgramRight {m b : Nat} {φ0 : Nat → Nat} {σo : fS} (hm : 1 ≤ m) {N : Nat} {q : Int × fS} {φ : Nat → Nat} {h : eH} {s : fS} (R : fC m b φ0 σo φ h s) (hF : FX40_isProgramRight N s = some q) : gG m b φ0 σo lI q (fX40_isProgramRight N 193 h) := by
  unfold FX40_isProgramRight at hF
  unfold fX40_isProgramRight
  exact SX40_isProgramRight_b4 (N := N) hm R (c_lit 1 1 rfl) ⟨by decide, by decide⟩ (c_lit 0 0 rfl) ⟨by decide, by decide⟩ hF
def FX40_areRecipesRight_b81 (N : Nat) (K41 : Int → Int → Int → fS → Option (Int × fS)) (l2 : Int) (l3 : Int) (s0 : Int) (s : fS) : Option (Int × fS) :=
  K41 s0 l2 (iadd l3 1) s
theorem SX40_areRecipesRight_b81 {m b : Nat} {φ0 : Nat → Nat} {σo : fS} (hm : 1 ≤ m) {N : Nat} {k41 : Nat → Int32 → Int32 → Int32 → eH → Option (Int32 × eH)} {K41 : Int → Int → Int → fS → Option (Int × fS)} {q : Int × fS} (hk41 : ∀ {φ : Nat → Nat} {h : eH} {s : fS} {l1' : Int32} {l1 : Int} {l2' : Int32} {l2 : Int} {l3' : Int32} {l3 : Int}, fC m b φ0 σo φ h s → l1' = iI l1 → r32 l1 → l2' = iI l2 → r32 l2 → l3' = iI l3 → r32 l3 → K41 l1 l2 l3 s = some q → gG m b φ0 σo lI q (k41 193 l1' l2' l3' h)) {φ : Nat → Nat} {h : eH} {s : fS} {l2' : Int32} {l2 : Int} {l3' : Int32} {l3 : Int} {s0' : Int32} {s0 : Int} (R : fC m b φ0 σo φ h s) (el2 : l2' = iI l2) (rl2 : r32 l2) (el3 : l3' = iI l3) (rl3 : r32 l3) (es0 : s0' = iI s0) (rs0 : r32 s0) (hF : FX40_areRecipesRight_b81 N K41 l2 l3 s0 s = some q) : gG m b φ0 σo lI q (fX40_areRecipesRight_b81 N k41 193 l2' l3' s0' h) := by
  subst el2; subst el3; subst es0
  unfold FX40_areRecipesRight_b81 at hF
  unfold fX40_areRecipesRight_b81
  exact hk41 R rfl rs0 rfl rl2 (c_add rfl (c_lit 1 1 rfl)) (rr_I _) hF
def FX40_areRecipesRight_b76 (N : Nat) (K41 : Int → Int → Int → fS → Option (Int × fS)) (l2 : Int) (l3 : Int) (s : fS) : Option (Int × fS) :=
  FX40_areRecipesRight_b81 N K41 l2 l3 1 s
theorem SX40_areRecipesRight_b76 {m b : Nat} {φ0 : Nat → Nat} {σo : fS} (hm : 1 ≤ m) {N : Nat} {k41 : Nat → Int32 → Int32 → Int32 → eH → Option (Int32 × eH)} {K41 : Int → Int → Int → fS → Option (Int × fS)} {q : Int × fS} (hk41 : ∀ {φ : Nat → Nat} {h : eH} {s : fS} {l1' : Int32} {l1 : Int} {l2' : Int32} {l2 : Int} {l3' : Int32} {l3 : Int}, fC m b φ0 σo φ h s → l1' = iI l1 → r32 l1 → l2' = iI l2 → r32 l2 → l3' = iI l3 → r32 l3 → K41 l1 l2 l3 s = some q → gG m b φ0 σo lI q (k41 193 l1' l2' l3' h)) {φ : Nat → Nat} {h : eH} {s : fS} {l2' : Int32} {l2 : Int} {l3' : Int32} {l3 : Int} (R : fC m b φ0 σo φ h s) (el2 : l2' = iI l2) (rl2 : r32 l2) (el3 : l3' = iI l3) (rl3 : r32 l3) (hF : FX40_areRecipesRight_b76 N K41 l2 l3 s = some q) : gG m b φ0 σo lI q (fX40_areRecipesRight_b76 N k41 193 l2' l3' h) := by
  subst el2; subst el3
  unfold FX40_areRecipesRight_b76 at hF
  unfold fX40_areRecipesRight_b76
  exact SX40_areRecipesRight_b81 (N := N) (k41 := k41) (K41 := K41) hm @hk41 R rfl rl2 rfl rl3 (c_lit 1 1 rfl) ⟨by decide, by decide⟩ hF
def FX40_areRecipesRight_b80 (N : Nat) (K41 : Int → Int → Int → fS → Option (Int × fS)) (l2 : Int) (l3 : Int) (s : fS) : Option (Int × fS) :=
  FX40_areRecipesRight_b81 N K41 l2 l3 0 s
theorem SX40_areRecipesRight_b80 {m b : Nat} {φ0 : Nat → Nat} {σo : fS} (hm : 1 ≤ m) {N : Nat} {k41 : Nat → Int32 → Int32 → Int32 → eH → Option (Int32 × eH)} {K41 : Int → Int → Int → fS → Option (Int × fS)} {q : Int × fS} (hk41 : ∀ {φ : Nat → Nat} {h : eH} {s : fS} {l1' : Int32} {l1 : Int} {l2' : Int32} {l2 : Int} {l3' : Int32} {l3 : Int}, fC m b φ0 σo φ h s → l1' = iI l1 → r32 l1 → l2' = iI l2 → r32 l2 → l3' = iI l3 → r32 l3 → K41 l1 l2 l3 s = some q → gG m b φ0 σo lI q (k41 193 l1' l2' l3' h)) {φ : Nat → Nat} {h : eH} {s : fS} {l2' : Int32} {l2 : Int} {l3' : Int32} {l3 : Int} (R : fC m b φ0 σo φ h s) (el2 : l2' = iI l2) (rl2 : r32 l2) (el3 : l3' = iI l3) (rl3 : r32 l3) (hF : FX40_areRecipesRight_b80 N K41 l2 l3 s = some q) : gG m b φ0 σo lI q (fX40_areRecipesRight_b80 N k41 193 l2' l3' h) := by
  subst el2; subst el3
  unfold FX40_areRecipesRight_b80 at hF
  unfold fX40_areRecipesRight_b80
  exact SX40_areRecipesRight_b81 (N := N) (k41 := k41) (K41 := K41) hm @hk41 R rfl rl2 rfl rl3 (c_lit 0 0 rfl) ⟨by decide, by decide⟩ hF
def FX40_areRecipesRight_b41 (N : Nat) (K4 : Int → Int → fS → Option (Int × fS)) : Nat → Int → Int → Int → fS → Option (Int × fS)
  | 0, _, _, _, _ => none
  | n + 1, l1, l2, l3, s =>
    if 3 ≤ l3 then
      K4 l1 (iadd l2 1) s
    else
      if l1 = 0 then
        FX40_areRecipesRight_b80 N (FX40_areRecipesRight_b41 N K4 n) l2 l3 s
      else
        (FX40_at N 193 8 l2 l3 s).bind fun q3 =>
        if q3.1 = 0 then
          FX40_areRecipesRight_b76 N (FX40_areRecipesRight_b41 N K4 n) l2 l3 q3.2
        else
          (FX40_at N 193 8 l2 l3 q3.2).bind fun q5 =>
          (FX40_isThere N 193 q5.1 q5.2).bind fun q6 =>
          if q6.1 = 0 then
            FX40_areRecipesRight_b80 N (FX40_areRecipesRight_b41 N K4 n) l2 l3 q6.2
          else
            FX40_areRecipesRight_b76 N (FX40_areRecipesRight_b41 N K4 n) l2 l3 q6.2
theorem SX40_areRecipesRight_b41 {m b : Nat} {φ0 : Nat → Nat} {σo : fS} (hm : 1 ≤ m) {N : Nat} {k4 : Nat → Int32 → Int32 → eH → Option (Int32 × eH)} {K4 : Int → Int → fS → Option (Int × fS)} {q : Int × fS} (hk4 : ∀ {φ : Nat → Nat} {h : eH} {s : fS} {l1' : Int32} {l1 : Int} {l2' : Int32} {l2 : Int}, fC m b φ0 σo φ h s → l1' = iI l1 → r32 l1 → l2' = iI l2 → r32 l2 → K4 l1 l2 s = some q → gG m b φ0 σo lI q (k4 193 l1' l2' h)) : ∀ {n : Nat} {φ : Nat → Nat} {h : eH} {s : fS} {l1' : Int32} {l1 : Int} {l2' : Int32} {l2 : Int} {l3' : Int32} {l3 : Int}, fC m b φ0 σo φ h s → l1' = iI l1 → r32 l1 → l2' = iI l2 → r32 l2 → l3' = iI l3 → r32 l3 → FX40_areRecipesRight_b41 N K4 n l1 l2 l3 s = some q → gG m b φ0 σo lI q (fX40_areRecipesRight_b41 N k4 n 193 l1' l2' l3' h) := by
  intro n
  induction n with
 | zero => intro φ h s l1' l1 l2' l2 l3' l3 R el1 rl1 el2 rl2 el3 rl3 hF; simp [FX40_areRecipesRight_b41] at hF
  | succ n ih =>
    intro φ h s l1' l1 l2' l2 l3' l3 R el1 rl1 el2 rl2 el3 rl3 hF
    subst el1; subst el2; subst el3
    rw [FX40_areRecipesRight_b41] at hF
    rw [fX40_areRecipesRight_b41]
    refine s_if (i_le (c_lit 3 3 rfl) rfl ⟨by decide, by decide⟩ rl3) hF (fun c1 hF => ?_) (fun c1 hF => ?_)
    ·
      exact hk4 R rfl rl1 (c_add rfl (c_lit 1 1 rfl)) (rr_I _) hF
    ·
      refine s_if (i_eq rfl (c_lit 0 0 rfl) rl1 ⟨by decide, by decide⟩) hF (fun c2 hF => ?_) (fun c2 hF => ?_)
      ·
        exact SX40_areRecipesRight_b80 (N := N) (k41 := fX40_areRecipesRight_b41 N k4 n) (K41 := FX40_areRecipesRight_b41 N K4 n) hm @ih R rfl rl2 rfl rl3 hF
      ·
        refine s_call R (Nat.zero_le _) (fun _ hq => SX40_at (b := 0) (N := N) hm (R.rf) (a_193 hm R) (u_193 hm R.S).1 (c_lit 8 8 rfl) ⟨by decide, by decide⟩ rfl rl2 rfl rl3 hq) hF (fun f3 rv3 h3 q3 R3 e3 E3 hF => ?_)
        refine s_if (i_eq e3.1 (c_lit 0 0 rfl) e3.2 ⟨by decide, by decide⟩) hF (fun c4 hF => ?_) (fun c4 hF => ?_)
        ·
          exact SX40_areRecipesRight_b76 (N := N) (k41 := fX40_areRecipesRight_b41 N k4 n) (K41 := FX40_areRecipesRight_b41 N K4 n) hm @ih R3 rfl rl2 rfl rl3 hF
        ·
          refine s_call R3 (Nat.zero_le _) (fun _ hq => SX40_at (b := 0) (N := N) hm (R3.rf) (a_193 hm R3) (u_193 hm R3.S).1 (c_lit 8 8 rfl) ⟨by decide, by decide⟩ rfl rl2 rfl rl3 hq) hF (fun f5 rv5 h5 q5 R5 e5 E5 hF => ?_)
          refine s_call R5 (Nat.zero_le _) (fun _ hq => SX40_isThere (b := 0) (N := N) hm (R5.rf) (a_193 hm R5) (u_193 hm R5.S).1 e5.1 e5.2 hq) hF (fun f6 rv6 h6 q6 R6 e6 E6 hF => ?_)
          refine s_if (i_eq e6.1 (c_lit 0 0 rfl) e6.2 ⟨by decide, by decide⟩) hF (fun c7 hF => ?_) (fun c7 hF => ?_)
          ·
            exact SX40_areRecipesRight_b80 (N := N) (k41 := fX40_areRecipesRight_b41 N k4 n) (K41 := FX40_areRecipesRight_b41 N K4 n) hm @ih R6 rfl rl2 rfl rl3 hF
          ·
            exact SX40_areRecipesRight_b76 (N := N) (k41 := fX40_areRecipesRight_b41 N k4 n) (K41 := FX40_areRecipesRight_b41 N K4 n) hm @ih R6 rfl rl2 rfl rl3 hF
def FX40_areRecipesRight_b38 (N : Nat) (K4 : Int → Int → fS → Option (Int × fS)) (l2 : Int) (s0 : Int) (s : fS) : Option (Int × fS) :=
  FX40_areRecipesRight_b41 N K4 N s0 l2 0 s
theorem SX40_areRecipesRight_b38 {m b : Nat} {φ0 : Nat → Nat} {σo : fS} (hm : 1 ≤ m) {N : Nat} {k4 : Nat → Int32 → Int32 → eH → Option (Int32 × eH)} {K4 : Int → Int → fS → Option (Int × fS)} {q : Int × fS} (hk4 : ∀ {φ : Nat → Nat} {h : eH} {s : fS} {l1' : Int32} {l1 : Int} {l2' : Int32} {l2 : Int}, fC m b φ0 σo φ h s → l1' = iI l1 → r32 l1 → l2' = iI l2 → r32 l2 → K4 l1 l2 s = some q → gG m b φ0 σo lI q (k4 193 l1' l2' h)) {φ : Nat → Nat} {h : eH} {s : fS} {l2' : Int32} {l2 : Int} {s0' : Int32} {s0 : Int} (R : fC m b φ0 σo φ h s) (el2 : l2' = iI l2) (rl2 : r32 l2) (es0 : s0' = iI s0) (rs0 : r32 s0) (hF : FX40_areRecipesRight_b38 N K4 l2 s0 s = some q) : gG m b φ0 σo lI q (fX40_areRecipesRight_b38 N k4 193 l2' s0' h) := by
  subst el2; subst es0
  unfold FX40_areRecipesRight_b38 at hF
  unfold fX40_areRecipesRight_b38
  exact SX40_areRecipesRight_b41 (N := N) (k4 := k4) (K4 := K4) hm @hk4 R rfl rs0 rfl rl2 (c_lit 0 0 rfl) ⟨by decide, by decide⟩ hF
def FX40_areRecipesRight_b37 (N : Nat) (K4 : Int → Int → fS → Option (Int × fS)) (l2 : Int) (s : fS) : Option (Int × fS) :=
  FX40_areRecipesRight_b38 N K4 l2 0 s
theorem SX40_areRecipesRight_b37 {m b : Nat} {φ0 : Nat → Nat} {σo : fS} (hm : 1 ≤ m) {N : Nat} {k4 : Nat → Int32 → Int32 → eH → Option (Int32 × eH)} {K4 : Int → Int → fS → Option (Int × fS)} {q : Int × fS} (hk4 : ∀ {φ : Nat → Nat} {h : eH} {s : fS} {l1' : Int32} {l1 : Int} {l2' : Int32} {l2 : Int}, fC m b φ0 σo φ h s → l1' = iI l1 → r32 l1 → l2' = iI l2 → r32 l2 → K4 l1 l2 s = some q → gG m b φ0 σo lI q (k4 193 l1' l2' h)) {φ : Nat → Nat} {h : eH} {s : fS} {l2' : Int32} {l2 : Int} (R : fC m b φ0 σo φ h s) (el2 : l2' = iI l2) (rl2 : r32 l2) (hF : FX40_areRecipesRight_b37 N K4 l2 s = some q) : gG m b φ0 σo lI q (fX40_areRecipesRight_b37 N k4 193 l2' h) := by
  subst el2
  unfold FX40_areRecipesRight_b37 at hF
  unfold fX40_areRecipesRight_b37
  exact SX40_areRecipesRight_b38 (N := N) (k4 := k4) (K4 := K4) hm @hk4 R rfl rl2 (c_lit 0 0 rfl) ⟨by decide, by decide⟩ hF
def FX40_areRecipesRight_b4 (N : Nat) : Nat → Int → Int → fS → Option (Int × fS)
  | 0, _, _, _ => none
  | n + 1, l1, l2, s =>
    (FX40_words 193 8 s).bind fun q1 =>
    if q1.1 ≤ l2 then
      uZ l1 (l1, q1.2)
    else
      if l1 = 0 then
        FX40_areRecipesRight_b37 N (FX40_areRecipesRight_b4 N n) l2 q1.2
      else
        (FX40_at N 193 8 l2 3 q1.2).bind fun q5 =>
        (FX40_isThere N 193 q5.1 q5.2).bind fun q6 =>
        if q6.1 = 0 then
          FX40_areRecipesRight_b37 N (FX40_areRecipesRight_b4 N n) l2 q6.2
        else
          FX40_areRecipesRight_b38 N (FX40_areRecipesRight_b4 N n) l2 1 q6.2
theorem SX40_areRecipesRight_b4 {m b : Nat} {φ0 : Nat → Nat} {σo : fS} (hm : 1 ≤ m) {N : Nat} {q : Int × fS} : ∀ {n : Nat} {φ : Nat → Nat} {h : eH} {s : fS} {l1' : Int32} {l1 : Int} {l2' : Int32} {l2 : Int}, fC m b φ0 σo φ h s → l1' = iI l1 → r32 l1 → l2' = iI l2 → r32 l2 → FX40_areRecipesRight_b4 N n l1 l2 s = some q → gG m b φ0 σo lI q (fX40_areRecipesRight_b4 N n 193 l1' l2' h) := by
  intro n
  induction n with
 | zero => intro φ h s l1' l1 l2' l2 R el1 rl1 el2 rl2 hF; simp [FX40_areRecipesRight_b4] at hF
  | succ n ih =>
    intro φ h s l1' l1 l2' l2 R el1 rl1 el2 rl2 hF
    subst el1; subst el2
    rw [FX40_areRecipesRight_b4] at hF
    rw [fX40_areRecipesRight_b4]
    refine s_call R (Nat.zero_le _) (fun _ hq => SX40_words (b := 0) hm (R.rf) (a_193 hm R) (u_193 hm R.S).1 (c_lit 8 8 rfl) ⟨by decide, by decide⟩ hq) hF (fun f1 rv1 h1 q1 R1 e1 E1 hF => ?_)
    refine s_if (i_le e1.1 rfl e1.2 rl2) hF (fun c2 hF => ?_) (fun c2 hF => ?_)
    ·
      exact g_z R1 rfl hF ⟨rfl, rl1⟩
    ·
      refine s_if (i_eq rfl (c_lit 0 0 rfl) rl1 ⟨by decide, by decide⟩) hF (fun c3 hF => ?_) (fun c3 hF => ?_)
      ·
        exact SX40_areRecipesRight_b37 (N := N) (k4 := fX40_areRecipesRight_b4 N n) (K4 := FX40_areRecipesRight_b4 N n) hm @ih R1 rfl rl2 hF
      ·
        refine s_call R1 (Nat.zero_le _) (fun _ hq => SX40_at (b := 0) (N := N) hm (R1.rf) (a_193 hm R1) (u_193 hm R1.S).1 (c_lit 8 8 rfl) ⟨by decide, by decide⟩ rfl rl2 (c_lit 3 3 rfl) ⟨by decide, by decide⟩ hq) hF (fun f4 rv4 h4 q5 R4 e4 E4 hF => ?_)
        refine s_call R4 (Nat.zero_le _) (fun _ hq => SX40_isThere (b := 0) (N := N) hm (R4.rf) (a_193 hm R4) (u_193 hm R4.S).1 e4.1 e4.2 hq) hF (fun f5 rv5 h5 q6 R5 e5 E5 hF => ?_)
        refine s_if (i_eq e5.1 (c_lit 0 0 rfl) e5.2 ⟨by decide, by decide⟩) hF (fun c6 hF => ?_) (fun c6 hF => ?_)
        ·
          exact SX40_areRecipesRight_b37 (N := N) (k4 := fX40_areRecipesRight_b4 N n) (K4 := FX40_areRecipesRight_b4 N n) hm @ih R5 rfl rl2 hF
        ·
          exact SX40_areRecipesRight_b38 (N := N) (k4 := fX40_areRecipesRight_b4 N n) (K4 := FX40_areRecipesRight_b4 N n) hm @ih R5 rfl rl2 (c_lit 1 1 rfl) ⟨by decide, by decide⟩ hF
def FX40_areRecipesRight (N : Nat) (s : fS) : Option (Int × fS) :=
  FX40_areRecipesRight_b4 N N 1 0 s
theorem SX40_areRecipesRight {m b : Nat} {φ0 : Nat → Nat} {σo : fS} (hm : 1 ≤ m) {N : Nat} {q : Int × fS} {φ : Nat → Nat} {h : eH} {s : fS} (R : fC m b φ0 σo φ h s) (hF : FX40_areRecipesRight N s = some q) : gG m b φ0 σo lI q (fX40_areRecipesRight N 193 h) := by
  unfold FX40_areRecipesRight at hF
  unfold fX40_areRecipesRight
  exact SX40_areRecipesRight_b4 (N := N) hm R (c_lit 1 1 rfl) ⟨by decide, by decide⟩ (c_lit 0 0 rfl) ⟨by decide, by decide⟩ hF
def FX40_fault_b45 (N : Nat) (s : fS) : Option (Int × fS) :=
  some (2, s)
theorem SX40_fault_b45 {m b : Nat} {φ0 : Nat → Nat} {σo : fS} (hm : 1 ≤ m) {N : Nat} {q : Int × fS} {φ : Nat → Nat} {h : eH} {s : fS} (R : fC m b φ0 σo φ h s) (hF : FX40_fault_b45 N s = some q) : gG m b φ0 σo lI q (fX40_fault_b45 N h) := by
  unfold FX40_fault_b45 at hF
  unfold fX40_fault_b45
  exact g_ret R hF ⟨(c_lit 2 2 rfl), ⟨by decide, by decide⟩⟩
def FX40_fault_b99 (N : Nat) (K76 : Int → Int → Int → fS → Option (Int × fS)) (l1 : Int) (l3 : Int) (s0 : Int) (s : fS) : Option (Int × fS) :=
  K76 l1 s0 (iadd l3 1) s
theorem SX40_fault_b99 {m b : Nat} {φ0 : Nat → Nat} {σo : fS} (hm : 1 ≤ m) {N : Nat} {k76 : Nat → Int32 → Int32 → Int32 → eH → Option (Int32 × eH)} {K76 : Int → Int → Int → fS → Option (Int × fS)} {q : Int × fS} (hk76 : ∀ {φ : Nat → Nat} {h : eH} {s : fS} {l1' : Int32} {l1 : Int} {l2' : Int32} {l2 : Int} {l3' : Int32} {l3 : Int}, fC m b φ0 σo φ h s → l1' = iI l1 → r32 l1 → l2' = iI l2 → r32 l2 → l3' = iI l3 → r32 l3 → K76 l1 l2 l3 s = some q → gG m b φ0 σo lI q (k76 193 l1' l2' l3' h)) {φ : Nat → Nat} {h : eH} {s : fS} {l1' : Int32} {l1 : Int} {l3' : Int32} {l3 : Int} {s0' : Int32} {s0 : Int} (R : fC m b φ0 σo φ h s) (el1 : l1' = iI l1) (rl1 : r32 l1) (el3 : l3' = iI l3) (rl3 : r32 l3) (es0 : s0' = iI s0) (rs0 : r32 s0) (hF : FX40_fault_b99 N K76 l1 l3 s0 s = some q) : gG m b φ0 σo lI q (fX40_fault_b99 N k76 193 l1' l3' s0' h) := by
  subst el1; subst el3; subst es0
  unfold FX40_fault_b99 at hF
  unfold fX40_fault_b99
  exact hk76 R rfl rl1 rfl rs0 (c_add rfl (c_lit 1 1 rfl)) (rr_I _) hF
def FX40_fault_b94 (N : Nat) (K76 : Int → Int → Int → fS → Option (Int × fS)) (l1 : Int) (l3 : Int) (s : fS) : Option (Int × fS) :=
  FX40_fault_b99 N K76 l1 l3 1 s
theorem SX40_fault_b94 {m b : Nat} {φ0 : Nat → Nat} {σo : fS} (hm : 1 ≤ m) {N : Nat} {k76 : Nat → Int32 → Int32 → Int32 → eH → Option (Int32 × eH)} {K76 : Int → Int → Int → fS → Option (Int × fS)} {q : Int × fS} (hk76 : ∀ {φ : Nat → Nat} {h : eH} {s : fS} {l1' : Int32} {l1 : Int} {l2' : Int32} {l2 : Int} {l3' : Int32} {l3 : Int}, fC m b φ0 σo φ h s → l1' = iI l1 → r32 l1 → l2' = iI l2 → r32 l2 → l3' = iI l3 → r32 l3 → K76 l1 l2 l3 s = some q → gG m b φ0 σo lI q (k76 193 l1' l2' l3' h)) {φ : Nat → Nat} {h : eH} {s : fS} {l1' : Int32} {l1 : Int} {l3' : Int32} {l3 : Int} (R : fC m b φ0 σo φ h s) (el1 : l1' = iI l1) (rl1 : r32 l1) (el3 : l3' = iI l3) (rl3 : r32 l3) (hF : FX40_fault_b94 N K76 l1 l3 s = some q) : gG m b φ0 σo lI q (fX40_fault_b94 N k76 193 l1' l3' h) := by
  subst el1; subst el3
  unfold FX40_fault_b94 at hF
  unfold fX40_fault_b94
  exact SX40_fault_b99 (N := N) (k76 := k76) (K76 := K76) hm @hk76 R rfl rl1 rfl rl3 (c_lit 1 1 rfl) ⟨by decide, by decide⟩ hF
def FX40_fault_b137 (N : Nat) (s : fS) : Option (Int × fS) :=
  some (4, s)
theorem SX40_fault_b137 {m b : Nat} {φ0 : Nat → Nat} {σo : fS} (hm : 1 ≤ m) {N : Nat} {q : Int × fS} {φ : Nat → Nat} {h : eH} {s : fS} (R : fC m b φ0 σo φ h s) (hF : FX40_fault_b137 N s = some q) : gG m b φ0 σo lI q (fX40_fault_b137 N h) := by
  unfold FX40_fault_b137 at hF
  unfold fX40_fault_b137
  exact g_ret R hF ⟨(c_lit 4 4 rfl), ⟨by decide, by decide⟩⟩
def FX40_fault_b218 (N : Nat) (s0 : Int) (s : fS) : Option (Int × fS) :=
  some (s0, s)
theorem SX40_fault_b218 {m b : Nat} {φ0 : Nat → Nat} {σo : fS} (hm : 1 ≤ m) {N : Nat} {q : Int × fS} {φ : Nat → Nat} {h : eH} {s : fS} {s0' : Int32} {s0 : Int} (R : fC m b φ0 σo φ h s) (es0 : s0' = iI s0) (rs0 : r32 s0) (hF : FX40_fault_b218 N s0 s = some q) : gG m b φ0 σo lI q (fX40_fault_b218 N s0' h) := by
  subst es0
  unfold FX40_fault_b218 at hF
  unfold fX40_fault_b218
  exact g_ret R hF ⟨rfl, rs0⟩
def FX40_fault_b76 (N : Nat) : Nat → Int → Int → Int → fS → Option (Int × fS)
  | 0, _, _, _, _ => none
  | n + 1, l1, l2, l3, s =>
    if 6 ≤ l3 then
      if l2 = 0 then
        (FX40_half 193 0 s).bind fun q3 =>
        (FX40_start N 193 10 q3.2).bind fun q4 =>
        if ¬ (q3.1 = q4.1) then
          FX40_fault_b137 N q4.2
        else
          (FX40_half 193 0 q4.2).bind fun q6 =>
          if l1 = (imul 4 q6.1) then
            (FX40_designOf N 193 q6.2).bind fun q8 =>
            if 1048576 ≤ q8.1 then
              (FX40_areSizesRight N q8.2).bind fun q10 =>
              if ¬ (q10.1 = 0) then
                (FX40_areTagsRight N q10.2).bind fun q12 =>
                if ¬ (q12.1 = 0) then
                  (FX40_areTablesRight N q12.2).bind fun q14 =>
                  if ¬ (q14.1 = 0) then
                    (FX40_isProgramRight N q14.2).bind fun q16 =>
                    if ¬ (q16.1 = 0) then
                      (FX40_areRecipesRight N q16.2).bind fun q18 =>
                      if ¬ (q18.1 = 0) then
                        (FX40_areFractions N 9 1 q18.2).bind fun q20 =>
                        if q20.1 = 0 then
                          FX40_fault_b218 N 11 q20.2
                        else
                          FX40_fault_b218 N 0 q20.2
                      else
                        FX40_fault_b218 N 10 q18.2
                    else
                      some (9, q16.2)
                  else
                    some (8, q14.2)
                else
                  some (7, q12.2)
              else
                some (6, q10.2)
            else
              some (5, q8.2)
          else
            FX40_fault_b137 N q6.2
      else
        some (3, s)
    else
      if ¬ (l2 = 0) then
        FX40_fault_b94 N (FX40_fault_b76 N n) l1 l3 s
      else
        (FX40_words 193 l3 s).bind fun q23 =>
        if ¬ (q23.1 = 0) then
          FX40_fault_b99 N (FX40_fault_b76 N n) l1 l3 0 q23.2
        else
          FX40_fault_b94 N (FX40_fault_b76 N n) l1 l3 q23.2
theorem SX40_fault_b76 {m b : Nat} {φ0 : Nat → Nat} {σo : fS} (hm : 1 ≤ m) {N : Nat} {q : Int × fS} : ∀ {n : Nat} {φ : Nat → Nat} {h : eH} {s : fS} {l1' : Int32} {l1 : Int} {l2' : Int32} {l2 : Int} {l3' : Int32} {l3 : Int}, fC m b φ0 σo φ h s → l1' = iI l1 → r32 l1 → l2' = iI l2 → r32 l2 → l3' = iI l3 → r32 l3 → FX40_fault_b76 N n l1 l2 l3 s = some q → gG m b φ0 σo lI q (fX40_fault_b76 N n 193 l1' l2' l3' h) := by
  intro n
  induction n with
 | zero => intro φ h s l1' l1 l2' l2 l3' l3 R el1 rl1 el2 rl2 el3 rl3 hF; simp [FX40_fault_b76] at hF
  | succ n ih =>
    intro φ h s l1' l1 l2' l2 l3' l3 R el1 rl1 el2 rl2 el3 rl3 hF
    subst el1; subst el2; subst el3
    rw [FX40_fault_b76] at hF
    rw [fX40_fault_b76]
    refine s_if (i_le (c_lit 6 6 rfl) rfl ⟨by decide, by decide⟩ rl3) hF (fun c1 hF => ?_) (fun c1 hF => ?_)
    ·
      refine s_if (i_eq rfl (c_lit 0 0 rfl) rl2 ⟨by decide, by decide⟩) hF (fun c2 hF => ?_) (fun c2 hF => ?_)
      ·
        refine s_call R (Nat.zero_le _) (fun _ hq => SX40_half (b := 0) hm (R.rf) (a_193 hm R) (u_193 hm R.S).1 (c_lit 0 0 rfl) ⟨by decide, by decide⟩ hq) hF (fun f3 rv3 h3 q3 R3 e3 E3 hF => ?_)
        refine s_call R3 (Nat.zero_le _) (fun _ hq => SX40_start (b := 0) (N := N) hm (R3.rf) (a_193 hm R3) (u_193 hm R3.S).1 (c_lit 10 10 rfl) ⟨by decide, by decide⟩ hq) hF (fun f4 rv4 h4 q4 R4 e4 E4 hF => ?_)
        refine s_if (not_congr (i_eq e3.1 e4.1 e3.2 e4.2)) hF (fun c5 hF => ?_) (fun c5 hF => ?_)
        ·
          exact SX40_fault_b137 (N := N) hm R4 hF
        ·
          refine s_call R4 (Nat.zero_le _) (fun _ hq => SX40_half (b := 0) hm (R4.rf) (a_193 hm R4) (u_193 hm R4.S).1 (c_lit 0 0 rfl) ⟨by decide, by decide⟩ hq) hF (fun f6 rv6 h6 q6 R6 e6 E6 hF => ?_)
          refine s_if (i_eq rfl (c_mul (c_lit 4 4 rfl) e6.1) rl1 (rr_I _)) hF (fun c7 hF => ?_) (fun c7 hF => ?_)
          ·
            refine s_call R6 (Nat.zero_le _) (fun _ hq => SX40_designOf (b := 0) (N := N) hm (R6.rf) (a_193 hm R6) (u_193 hm R6.S).1 hq) hF (fun f8 rv8 h8 q8 R8 e8 E8 hF => ?_)
            refine s_if (i_le (c_lit 1048576 1048576 rfl) e8.1 ⟨by decide, by decide⟩ e8.2) hF (fun c9 hF => ?_) (fun c9 hF => ?_)
            ·
              refine s_call R8 (Nat.zero_le _) (fun _ hq => SX40_areSizesRight (b := 0) (N := N) hm (R8.rf) hq) hF (fun f10 rv10 h10 q10 R10 e10 E10 hF => ?_)
              refine s_if (not_congr (i_eq e10.1 (c_lit 0 0 rfl) e10.2 ⟨by decide, by decide⟩)) hF (fun c11 hF => ?_) (fun c11 hF => ?_)
              ·
                refine s_call R10 (Nat.zero_le _) (fun _ hq => SX40_areTagsRight (b := 0) (N := N) hm (R10.rf) hq) hF (fun f12 rv12 h12 q12 R12 e12 E12 hF => ?_)
                refine s_if (not_congr (i_eq e12.1 (c_lit 0 0 rfl) e12.2 ⟨by decide, by decide⟩)) hF (fun c13 hF => ?_) (fun c13 hF => ?_)
                ·
                  refine s_call R12 (Nat.zero_le _) (fun _ hq => SX40_areTablesRight (b := 0) (N := N) hm (R12.rf) hq) hF (fun f14 rv14 h14 q14 R14 e14 E14 hF => ?_)
                  refine s_if (not_congr (i_eq e14.1 (c_lit 0 0 rfl) e14.2 ⟨by decide, by decide⟩)) hF (fun c15 hF => ?_) (fun c15 hF => ?_)
                  ·
                    refine s_call R14 (Nat.zero_le _) (fun _ hq => SX40_isProgramRight (b := 0) (N := N) hm (R14.rf) hq) hF (fun f16 rv16 h16 q16 R16 e16 E16 hF => ?_)
                    refine s_if (not_congr (i_eq e16.1 (c_lit 0 0 rfl) e16.2 ⟨by decide, by decide⟩)) hF (fun c17 hF => ?_) (fun c17 hF => ?_)
                    ·
                      refine s_call R16 (Nat.zero_le _) (fun _ hq => SX40_areRecipesRight (b := 0) (N := N) hm (R16.rf) hq) hF (fun f18 rv18 h18 q18 R18 e18 E18 hF => ?_)
                      refine s_if (not_congr (i_eq e18.1 (c_lit 0 0 rfl) e18.2 ⟨by decide, by decide⟩)) hF (fun c19 hF => ?_) (fun c19 hF => ?_)
                      ·
                        refine s_call R18 (Nat.zero_le _) (fun _ hq => SX40_areFractions (b := 0) (N := N) hm (R18.rf) (c_lit 9 9 rfl) ⟨by decide, by decide⟩ (c_lit 1 1 rfl) ⟨by decide, by decide⟩ hq) hF (fun f20 rv20 h20 q20 R20 e20 E20 hF => ?_)
                        refine s_if (i_eq e20.1 (c_lit 0 0 rfl) e20.2 ⟨by decide, by decide⟩) hF (fun c21 hF => ?_) (fun c21 hF => ?_)
                        ·
                          exact SX40_fault_b218 (N := N) hm R20 (c_lit 11 11 rfl) ⟨by decide, by decide⟩ hF
                        ·
                          exact SX40_fault_b218 (N := N) hm R20 (c_lit 0 0 rfl) ⟨by decide, by decide⟩ hF
                      ·
                        exact SX40_fault_b218 (N := N) hm R18 (c_lit 10 10 rfl) ⟨by decide, by decide⟩ hF
                    ·
                      exact g_ret R16 hF ⟨(c_lit 9 9 rfl), ⟨by decide, by decide⟩⟩
                  ·
                    exact g_ret R14 hF ⟨(c_lit 8 8 rfl), ⟨by decide, by decide⟩⟩
                ·
                  exact g_ret R12 hF ⟨(c_lit 7 7 rfl), ⟨by decide, by decide⟩⟩
              ·
                exact g_ret R10 hF ⟨(c_lit 6 6 rfl), ⟨by decide, by decide⟩⟩
            ·
              exact g_ret R8 hF ⟨(c_lit 5 5 rfl), ⟨by decide, by decide⟩⟩
          ·
            exact SX40_fault_b137 (N := N) hm R6 hF
      ·
        exact g_ret R hF ⟨(c_lit 3 3 rfl), ⟨by decide, by decide⟩⟩
    ·
      refine s_if (not_congr (i_eq rfl (c_lit 0 0 rfl) rl2 ⟨by decide, by decide⟩)) hF (fun c22 hF => ?_) (fun c22 hF => ?_)
      ·
        exact SX40_fault_b94 (N := N) (k76 := fX40_fault_b76 N n) (K76 := FX40_fault_b76 N n) hm @ih R rfl rl1 rfl rl3 hF
      ·
        refine s_call R (Nat.zero_le _) (fun _ hq => SX40_words (b := 0) hm (R.rf) (a_193 hm R) (u_193 hm R.S).1 rfl rl3 hq) hF (fun f23 rv23 h23 q23 R23 e23 E23 hF => ?_)
        refine s_if (not_congr (i_eq e23.1 (c_lit 0 0 rfl) e23.2 ⟨by decide, by decide⟩)) hF (fun c24 hF => ?_) (fun c24 hF => ?_)
        ·
          exact SX40_fault_b99 (N := N) (k76 := fX40_fault_b76 N n) (K76 := FX40_fault_b76 N n) hm @ih R23 rfl rl1 rfl rl3 (c_lit 0 0 rfl) ⟨by decide, by decide⟩ hF
        ·
          exact SX40_fault_b94 (N := N) (k76 := fX40_fault_b76 N n) (K76 := FX40_fault_b76 N n) hm @ih R23 rfl rl1 rfl rl3 hF
def FX40_fault_b73 (N : Nat) (l1 : Int) (s0 : Int) (s : fS) : Option (Int × fS) :=
  FX40_fault_b76 N N l1 s0 2 s
theorem SX40_fault_b73 {m b : Nat} {φ0 : Nat → Nat} {σo : fS} (hm : 1 ≤ m) {N : Nat} {q : Int × fS} {φ : Nat → Nat} {h : eH} {s : fS} {l1' : Int32} {l1 : Int} {s0' : Int32} {s0 : Int} (R : fC m b φ0 σo φ h s) (el1 : l1' = iI l1) (rl1 : r32 l1) (es0 : s0' = iI s0) (rs0 : r32 s0) (hF : FX40_fault_b73 N l1 s0 s = some q) : gG m b φ0 σo lI q (fX40_fault_b73 N 193 l1' s0' h) := by
  subst el1; subst es0
  unfold FX40_fault_b73 at hF
  unfold fX40_fault_b73
  exact SX40_fault_b76 (N := N) hm R rfl rl1 rfl rs0 (c_lit 2 2 rfl) ⟨by decide, by decide⟩ hF
def FX40_fault_b68 (N : Nat) (l1 : Int) (s : fS) : Option (Int × fS) :=
  FX40_fault_b73 N l1 1 s
theorem SX40_fault_b68 {m b : Nat} {φ0 : Nat → Nat} {σo : fS} (hm : 1 ≤ m) {N : Nat} {q : Int × fS} {φ : Nat → Nat} {h : eH} {s : fS} {l1' : Int32} {l1 : Int} (R : fC m b φ0 σo φ h s) (el1 : l1' = iI l1) (rl1 : r32 l1) (hF : FX40_fault_b68 N l1 s = some q) : gG m b φ0 σo lI q (fX40_fault_b68 N 193 l1' h) := by
  subst el1
  unfold FX40_fault_b68 at hF
  unfold fX40_fault_b68
  exact SX40_fault_b73 (N := N) hm R rfl rl1 (c_lit 1 1 rfl) ⟨by decide, by decide⟩ hF
def FX40_fault (N : Nat) (p1 : Int) (s : fS) : Option (Int × fS) :=
  if p1 ≤ 8192 then
    (FX40_areNumbersSmall N p1 s).bind fun q2 =>
    if ¬ (q2.1 = 0) then
      (FX40_half 193 2 q2.2).bind fun q4 =>
      (FX40_half 193 3 q4.2).bind fun q5 =>
      if (iadd q5.1 1) < q4.1 then
        FX40_fault_b45 N q5.2
      else
        (FX40_half 193 3 q5.2).bind fun q7 =>
        if q7.1 ≤ 255 then
          (FX40_words 193 0 q7.2).bind fun q9 =>
          if q9.1 < 2 then
            FX40_fault_b68 N p1 q9.2
          else
            (FX40_words 193 8 q9.2).bind fun q11 =>
            if q11.1 ≤ 256 then
              FX40_fault_b73 N p1 0 q11.2
            else
              FX40_fault_b68 N p1 q11.2
        else
          FX40_fault_b45 N q7.2
    else
      some (1, q2.2)
  else
    some (4, s)
theorem SX40_fault {m b : Nat} {φ0 : Nat → Nat} {σo : fS} (hm : 1 ≤ m) {N : Nat} {q : Int × fS} {φ : Nat → Nat} {h : eH} {s : fS} {p1' : Int32} {p1 : Int} (R : fC m b φ0 σo φ h s) (ep1 : p1' = iI p1) (rp1 : r32 p1) (hF : FX40_fault N p1 s = some q) : gG m b φ0 σo lI q (fX40_fault N 193 p1' h) := by
  subst ep1
  unfold FX40_fault at hF
  unfold fX40_fault
  refine s_if (i_le rfl (c_lit 8192 8192 rfl) rp1 ⟨by decide, by decide⟩) hF (fun c1 hF => ?_) (fun c1 hF => ?_)
  ·
    refine s_call R (Nat.zero_le _) (fun _ hq => SX40_areNumbersSmall (b := 0) (N := N) hm (R.rf) rfl rp1 hq) hF (fun f2 rv2 h2 q2 R2 e2 E2 hF => ?_)
    refine s_if (not_congr (i_eq e2.1 (c_lit 0 0 rfl) e2.2 ⟨by decide, by decide⟩)) hF (fun c3 hF => ?_) (fun c3 hF => ?_)
    ·
      refine s_call R2 (Nat.zero_le _) (fun _ hq => SX40_half (b := 0) hm (R2.rf) (a_193 hm R2) (u_193 hm R2.S).1 (c_lit 2 2 rfl) ⟨by decide, by decide⟩ hq) hF (fun f4 rv4 h4 q4 R4 e4 E4 hF => ?_)
      refine s_call R4 (Nat.zero_le _) (fun _ hq => SX40_half (b := 0) hm (R4.rf) (a_193 hm R4) (u_193 hm R4.S).1 (c_lit 3 3 rfl) ⟨by decide, by decide⟩ hq) hF (fun f5 rv5 h5 q5 R5 e5 E5 hF => ?_)
      refine s_if (i_lt (c_add e5.1 (c_lit 1 1 rfl)) e4.1 (rr_I _) e4.2) hF (fun c6 hF => ?_) (fun c6 hF => ?_)
      ·
        exact SX40_fault_b45 (N := N) hm R5 hF
      ·
        refine s_call R5 (Nat.zero_le _) (fun _ hq => SX40_half (b := 0) hm (R5.rf) (a_193 hm R5) (u_193 hm R5.S).1 (c_lit 3 3 rfl) ⟨by decide, by decide⟩ hq) hF (fun f7 rv7 h7 q7 R7 e7 E7 hF => ?_)
        refine s_if (i_le e7.1 (c_lit 255 255 rfl) e7.2 ⟨by decide, by decide⟩) hF (fun c8 hF => ?_) (fun c8 hF => ?_)
        ·
          refine s_call R7 (Nat.zero_le _) (fun _ hq => SX40_words (b := 0) hm (R7.rf) (a_193 hm R7) (u_193 hm R7.S).1 (c_lit 0 0 rfl) ⟨by decide, by decide⟩ hq) hF (fun f9 rv9 h9 q9 R9 e9 E9 hF => ?_)
          refine s_if (i_lt e9.1 (c_lit 2 2 rfl) e9.2 ⟨by decide, by decide⟩) hF (fun c10 hF => ?_) (fun c10 hF => ?_)
          ·
            exact SX40_fault_b68 (N := N) hm R9 rfl rp1 hF
          ·
            refine s_call R9 (Nat.zero_le _) (fun _ hq => SX40_words (b := 0) hm (R9.rf) (a_193 hm R9) (u_193 hm R9.S).1 (c_lit 8 8 rfl) ⟨by decide, by decide⟩ hq) hF (fun f11 rv11 h11 q11 R11 e11 E11 hF => ?_)
            refine s_if (i_le e11.1 (c_lit 256 256 rfl) e11.2 ⟨by decide, by decide⟩) hF (fun c12 hF => ?_) (fun c12 hF => ?_)
            ·
              exact SX40_fault_b73 (N := N) hm R11 rfl rp1 (c_lit 0 0 rfl) ⟨by decide, by decide⟩ hF
            ·
              exact SX40_fault_b68 (N := N) hm R11 rfl rp1 hF
        ·
          exact SX40_fault_b45 (N := N) hm R7 hF
    ·
      exact g_ret R2 hF ⟨(c_lit 1 1 rfl), ⟨by decide, by decide⟩⟩
  ·
    exact g_ret R hF ⟨(c_lit 4 4 rfl), ⟨by decide, by decide⟩⟩
def FX40_init (this : Nat) (s : fS) : Option (Unit × fS) :=
  (uNA 102 1 s 8192).bind fun q1 =>
  (uK 42 q1.2 this).bind fun _ =>
  (uPF q1.2 this 0 q1.1).bind fun σ3 =>
  (uNA 100 1 σ3 1100).bind fun q5 =>
  (uK 42 q5.2 this).bind fun _ =>
  (uPF q5.2 this 1 q5.1).bind fun σ7 =>
  (uNA 100 1 σ7 1100).bind fun q9 =>
  (uK 42 q9.2 this).bind fun _ =>
  (uPF q9.2 this 2 q9.1).bind fun σ11 =>
  some ((), σ11)
theorem SX40_init {m b : Nat} {φ0 : Nat → Nat} {σo : fS} (hm : 1 ≤ m) {q : Unit × fS} {this : Nat} (hl : f_lim m ≤ this) {φ : Nat → Nat} {h : eH} {s : fS} (R : fC m b φ0 σo φ h s) (hF : FX40_init this s = some q) : gG m b φ0 σo lU q (fX40_init this h) := by
  unfold FX40_init at hF
  unfold fX40_init
  refine s_nA (tmp := 0) R (Or.inl ⟨by decide, rfl⟩) (by decide) (c_lit 8192 8192 rfl) ⟨by decide, by decide⟩ hF (fun h1 s1_ R1 E1 y1 z1 w1 hF => ?_)
  refine s_K hF (fun t3 hF => ?_)
  refine s_pF R1 t3 (Nat.le_of_ble_eq_true rfl) rfl y1 (by rw [z1]; decide) (by rw [z1]; decide) hl w1 hF (fun h2 σ3 R2 T2 hF => ?_)
  refine s_nA (tmp := 0) R2 (Or.inl ⟨by decide, rfl⟩) (by decide) (c_lit 1100 1100 rfl) ⟨by decide, by decide⟩ hF (fun h4 s4_ R4 E4 y4 z4 w4 hF => ?_)
  refine s_K hF (fun t6 hF => ?_)
  refine s_pF R4 t6 (Nat.le_of_ble_eq_true rfl) rfl y4 (by rw [z4]; decide) (by rw [z4]; decide) hl w4 hF (fun h5 σ7 R5 T5 hF => ?_)
  refine s_nA (tmp := 0) R5 (Or.inl ⟨by decide, rfl⟩) (by decide) (c_lit 1100 1100 rfl) ⟨by decide, by decide⟩ hF (fun h7 s7_ R7 E7 y7 z7 w7 hF => ?_)
  refine s_K hF (fun t9 hF => ?_)
  refine s_pF R7 t9 (Nat.le_of_ble_eq_true rfl) rfl y7 (by rw [z7]; decide) (by rw [z7]; decide) hl w7 hF (fun h8 σ11 R8 T8 hF => ?_)
  exact g_ret R8 hF trivial
def FX40_take_b2 (N : Nat) : Nat → Nat → Int → Int → fS → Option (Unit × fS)
  | 0, _, _, _, _ => none
  | n + 1, l0, l2, l3, s =>
    if l2 ≤ l3 then
      some ((), s)
    else
      (uK 42 s l0).bind fun _ =>
      (s.o l0 0).bind fun a2 =>
      (uRI s 193 l3).bind fun x4 =>
      (uKA 102 s a2).bind fun _ =>
      (uQI s a2 l3 (i2b x4)).bind fun σ6 =>
      FX40_take_b2 N n l0 l2 (iadd l3 1) σ6
theorem SX40_take_b2 {m b : Nat} {φ0 : Nat → Nat} {σo : fS} (hm : 1 ≤ m) {N : Nat} {q : Unit × fS} : ∀ {n : Nat} {φ : Nat → Nat} {h : eH} {s : fS} {l0 : Nat} {l2' : Int32} {l2 : Int} {l3' : Int32} {l3 : Int}, fC m b φ0 σo φ h s → l2' = iI l2 → r32 l2 → l3' = iI l3 → r32 l3 → FX40_take_b2 N n l0 l2 l3 s = some q → gG m b φ0 σo lU q (fX40_take_b2 N n l0 193 l2' l3' h) := by
  intro n
  induction n with
 | zero => intro φ h s l0 l2' l2 l3' l3 R el2 rl2 el3 rl3 hF; simp [FX40_take_b2] at hF
  | succ n ih =>
    intro φ h s l0 l2' l2 l3' l3 R el2 rl2 el3 rl3 hF
    subst el2; subst el3
    rw [FX40_take_b2] at hF
    rw [fX40_take_b2]
    refine s_if (i_le rfl rfl rl2 rl3) hF (fun c1 hF => ?_) (fun c1 hF => ?_)
    ·
      exact g_ret R hF trivial
    ·
      refine s_K hF (fun t3 hF => ?_)
      refine s_oo hF (fun a2 e2 hF => ?_)
      refine s_gA R t3 (Nat.le_of_ble_eq_true rfl) rfl e2 (fun x2_ y2_ => ?_)
      refine s_rI R (u_193 hm R.S).1 (u_193 hm R.S).2 (by decide) (a_193 hm R) rfl rl3 hF (fun x4 ra4 hF => ?_)
      refine s_KA hF (fun y6 z6 hF => ?_)
      refine s_qI R y6 z6 (by decide) rfl rfl rl3 (c_2b rfl) (rr_I _) hF (fun h5 σ6 R5 T5 hF => ?_)
      exact ih R5 rfl rl2 (c_add rfl (c_lit 1 1 rfl)) (rr_I _) hF
def FX40_take (N : Nat) (this : Nat) (p1 : Int) (s : fS) : Option (Unit × fS) :=
  FX40_take_b2 N N this p1 0 s
theorem SX40_take {m b : Nat} {φ0 : Nat → Nat} {σo : fS} (hm : 1 ≤ m) {N : Nat} {q : Unit × fS} {φ : Nat → Nat} {h : eH} {s : fS} {this : Nat} {p1' : Int32} {p1 : Int} (R : fC m b φ0 σo φ h s) (ep1 : p1' = iI p1) (rp1 : r32 p1) (hF : FX40_take N this p1 s = some q) : gG m b φ0 σo lU q (fX40_take N this 193 p1' h) := by
  subst ep1
  unfold FX40_take at hF
  unfold fX40_take
  exact SX40_take_b2 (N := N) hm R rfl rp1 (c_lit 0 0 rfl) ⟨by decide, by decide⟩ hF
def FX36_spaces_b38 (N : Nat) (s : fS) : Option (Unit × fS) :=
  some ((), s)
theorem SX36_spaces_b38 {m b : Nat} {φ0 : Nat → Nat} {σo : fS} (hm : 1 ≤ m) {N : Nat} {q : Unit × fS} {φ : Nat → Nat} {h : eH} {s : fS} (R : fC m b φ0 σo φ h s) (hF : FX36_spaces_b38 N s = some q) : gG m b φ0 σo lU q (fX36_spaces_b38 N h) := by
  unfold FX36_spaces_b38 at hF
  unfold fX36_spaces_b38
  exact g_ret R hF trivial
def FX36_spaces_b0 (N : Nat) : Nat → fS → Option (Unit × fS)
  | 0, _ => none
  | n + 1, s =>
    if (s.i 195 3) ≤ (s.i 195 16) then
      FX36_spaces_b38 N s
    else
      (uRI s 197 (s.i 195 16)).bind fun x10 =>
      if ¬ (x10 = 32) then
        FX36_spaces_b38 N s
      else
        (uPI s 195 16 (iadd (s.i 195 16) 1)).bind fun σ15 =>
        FX36_spaces_b0 N n σ15
theorem SX36_spaces_b0 {m b : Nat} {φ0 : Nat → Nat} {σo : fS} (hm : 1 ≤ m) {N : Nat} {q : Unit × fS} : ∀ {n : Nat} {φ : Nat → Nat} {h : eH} {s : fS} , fC m b φ0 σo φ h s → FX36_spaces_b0 N n s = some q → gG m b φ0 σo lU q (fX36_spaces_b0 N n 195 h) := by
  intro n
  induction n with
 | zero => intro φ h s R hF; simp [FX36_spaces_b0] at hF
  | succ n ih =>
    intro φ h s  R  hF
    rw [FX36_spaces_b0] at hF
    rw [fX36_spaces_b0]
    refine s_gI R (t_195 hm R.S) (Nat.le_of_ble_eq_true rfl) rfl ?_
    refine s_gI R (t_195 hm R.S) (Nat.le_of_ble_eq_true rfl) rfl ?_
    refine s_if (i_le rfl rfl (R.ri (t_195 hm R.S) (Nat.le_of_ble_eq_true rfl) rfl) (R.ri (t_195 hm R.S) (Nat.le_of_ble_eq_true rfl) rfl)) hF (fun c3 hF => ?_) (fun c3 hF => ?_)
    ·
      exact SX36_spaces_b38 (N := N) hm R hF
    ·
      refine s_gAs R (t_195 hm R.S) (Nat.le_of_ble_eq_true rfl) rfl (o_195_4 hm R.S) (a_197 hm R) ?_
      refine s_gI R (t_195 hm R.S) (Nat.le_of_ble_eq_true rfl) rfl ?_
      refine s_rI R (u_197 hm R.S).1 (u_197 hm R.S).2 (by decide) (a_197 hm R) rfl (R.ri (t_195 hm R.S) (Nat.le_of_ble_eq_true rfl) rfl) hF (fun x10 ra6 hF => ?_)
      refine s_if (not_congr (i_eq rfl (c_lit 32 32 rfl) ra6 ⟨by decide, by decide⟩)) hF (fun c7 hF => ?_) (fun c7 hF => ?_)
      ·
        exact SX36_spaces_b38 (N := N) hm R hF
      ·
        refine s_gI R (t_195 hm R.S) (Nat.le_of_ble_eq_true rfl) rfl ?_
        refine s_pI R (t_195 hm R.S) (Nat.le_of_ble_eq_true rfl) rfl (c_add rfl (c_lit 1 1 rfl)) (rr_I _) hF (fun h9 σ15 R9 T9 hF => ?_)
        exact ih R9 hF
def FX36_spaces (N : Nat) (s : fS) : Option (Unit × fS) :=
  FX36_spaces_b0 N N s
theorem SX36_spaces {m b : Nat} {φ0 : Nat → Nat} {σo : fS} (hm : 1 ≤ m) {N : Nat} {q : Unit × fS} {φ : Nat → Nat} {h : eH} {s : fS} (R : fC m b φ0 σo φ h s) (hF : FX36_spaces N s = some q) : gG m b φ0 σo lU q (fX36_spaces N 195 h) := by
  unfold FX36_spaces at hF
  unfold fX36_spaces
  exact SX36_spaces_b0 (N := N) hm R hF
def FX36_look_b24 (s0 : Int) (s : fS) : Option (Int × fS) :=
  some (s0, s)
theorem SX36_look_b24 {m b : Nat} {φ0 : Nat → Nat} {σo : fS} (hm : 1 ≤ m) {q : Int × fS} {φ : Nat → Nat} {h : eH} {s : fS} {s0' : Int32} {s0 : Int} (R : fC m b φ0 σo φ h s) (es0 : s0' = iI s0) (rs0 : r32 s0) (hF : FX36_look_b24 s0 s = some q) : gG m b φ0 σo lI q (fX36_look_b24 s0' h) := by
  subst es0
  unfold FX36_look_b24 at hF
  unfold fX36_look_b24
  exact g_ret R hF ⟨rfl, rs0⟩
def FX36_look (s : fS) : Option (Int × fS) :=
  if (s.i 195 3) ≤ (s.i 195 16) then
    FX36_look_b24 0 s
  else
    (uRI s 197 (s.i 195 16)).bind fun x10 =>
    FX36_look_b24 x10 s
theorem SX36_look {m b : Nat} {φ0 : Nat → Nat} {σo : fS} (hm : 1 ≤ m) {q : Int × fS} {φ : Nat → Nat} {h : eH} {s : fS} (R : fC m b φ0 σo φ h s) (hF : FX36_look s = some q) : gG m b φ0 σo lI q (fX36_look 195 h) := by
  unfold FX36_look at hF
  unfold fX36_look
  refine s_gI R (t_195 hm R.S) (Nat.le_of_ble_eq_true rfl) rfl ?_
  refine s_gI R (t_195 hm R.S) (Nat.le_of_ble_eq_true rfl) rfl ?_
  refine s_if (i_le rfl rfl (R.ri (t_195 hm R.S) (Nat.le_of_ble_eq_true rfl) rfl) (R.ri (t_195 hm R.S) (Nat.le_of_ble_eq_true rfl) rfl)) hF (fun c3 hF => ?_) (fun c3 hF => ?_)
  ·
    exact SX36_look_b24 hm R (c_lit 0 0 rfl) ⟨by decide, by decide⟩ hF
  ·
    refine s_gAs R (t_195 hm R.S) (Nat.le_of_ble_eq_true rfl) rfl (o_195_4 hm R.S) (a_197 hm R) ?_
    refine s_gI R (t_195 hm R.S) (Nat.le_of_ble_eq_true rfl) rfl ?_
    refine s_rI R (u_197 hm R.S).1 (u_197 hm R.S).2 (by decide) (a_197 hm R) rfl (R.ri (t_195 hm R.S) (Nat.le_of_ble_eq_true rfl) rfl) hF (fun x10 ra6 hF => ?_)
    exact SX36_look_b24 hm R rfl ra6 hF
def FX36_isDigit_b17 (s0 : Int) (s : fS) : Option (Int × fS) :=
  uZ s0 (s0, s)
theorem SX36_isDigit_b17 {m b : Nat} {φ0 : Nat → Nat} {σo : fS} (hm : 1 ≤ m) {q : Int × fS} {φ : Nat → Nat} {h : eH} {s : fS} {s0' : Int32} {s0 : Int} (R : fC m b φ0 σo φ h s) (es0 : s0' = iI s0) (rs0 : r32 s0) (hF : FX36_isDigit_b17 s0 s = some q) : gG m b φ0 σo lI q (fX36_isDigit_b17 s0' h) := by
  subst es0
  unfold FX36_isDigit_b17 at hF
  unfold fX36_isDigit_b17
  exact g_z R rfl hF ⟨rfl, rs0⟩
def FX36_isDigit_b16 (s : fS) : Option (Int × fS) :=
  FX36_isDigit_b17 0 s
theorem SX36_isDigit_b16 {m b : Nat} {φ0 : Nat → Nat} {σo : fS} (hm : 1 ≤ m) {q : Int × fS} {φ : Nat → Nat} {h : eH} {s : fS} (R : fC m b φ0 σo φ h s) (hF : FX36_isDigit_b16 s = some q) : gG m b φ0 σo lI q (fX36_isDigit_b16 h) := by
  unfold FX36_isDigit_b16 at hF
  unfold fX36_isDigit_b16
  exact SX36_isDigit_b17 hm R (c_lit 0 0 rfl) ⟨by decide, by decide⟩ hF
def FX36_isDigit (p0 : Int) (s : fS) : Option (Int × fS) :=
  if p0 < 48 then
    FX36_isDigit_b16 s
  else
    if 57 < p0 then
      FX36_isDigit_b16 s
    else
      FX36_isDigit_b17 1 s
theorem SX36_isDigit {m b : Nat} {φ0 : Nat → Nat} {σo : fS} (hm : 1 ≤ m) {q : Int × fS} {φ : Nat → Nat} {h : eH} {s : fS} {p0' : Int32} {p0 : Int} (R : fC m b φ0 σo φ h s) (ep0 : p0' = iI p0) (rp0 : r32 p0) (hF : FX36_isDigit p0 s = some q) : gG m b φ0 σo lI q (fX36_isDigit p0' h) := by
  subst ep0
  unfold FX36_isDigit at hF
  unfold fX36_isDigit
  refine s_if (i_lt rfl (c_lit 48 48 rfl) rp0 ⟨by decide, by decide⟩) hF (fun c1 hF => ?_) (fun c1 hF => ?_)
  ·
    exact SX36_isDigit_b16 hm R hF
  ·
    refine s_if (i_lt (c_lit 57 57 rfl) rfl ⟨by decide, by decide⟩ rp0) hF (fun c2 hF => ?_) (fun c2 hF => ?_)
    ·
      exact SX36_isDigit_b16 hm R hF
    ·
      exact SX36_isDigit_b17 hm R (c_lit 1 1 rfl) ⟨by decide, by decide⟩ hF
def FX36_isLetter_b33 (s0 : Int) (s : fS) : Option (Int × fS) :=
  uZ s0 (s0, s)
theorem SX36_isLetter_b33 {m b : Nat} {φ0 : Nat → Nat} {σo : fS} (hm : 1 ≤ m) {q : Int × fS} {φ : Nat → Nat} {h : eH} {s : fS} {s0' : Int32} {s0 : Int} (R : fC m b φ0 σo φ h s) (es0 : s0' = iI s0) (rs0 : r32 s0) (hF : FX36_isLetter_b33 s0 s = some q) : gG m b φ0 σo lI q (fX36_isLetter_b33 s0' h) := by
  subst es0
  unfold FX36_isLetter_b33 at hF
  unfold fX36_isLetter_b33
  exact g_z R rfl hF ⟨rfl, rs0⟩
def FX36_isLetter_b32 (s : fS) : Option (Int × fS) :=
  FX36_isLetter_b33 0 s
theorem SX36_isLetter_b32 {m b : Nat} {φ0 : Nat → Nat} {σo : fS} (hm : 1 ≤ m) {q : Int × fS} {φ : Nat → Nat} {h : eH} {s : fS} (R : fC m b φ0 σo φ h s) (hF : FX36_isLetter_b32 s = some q) : gG m b φ0 σo lI q (fX36_isLetter_b32 h) := by
  unfold FX36_isLetter_b32 at hF
  unfold fX36_isLetter_b32
  exact SX36_isLetter_b33 hm R (c_lit 0 0 rfl) ⟨by decide, by decide⟩ hF
def FX36_isLetter (s : fS) : Option (Int × fS) :=
  if (s.i 195 3) ≤ (s.i 195 16) then
    FX36_isLetter_b32 s
  else
    (uRI s 197 (s.i 195 16)).bind fun x12 =>
    (uRI s 196 x12).bind fun x14 =>
    if x14 ≤ 0 then
      FX36_isLetter_b32 s
    else
      FX36_isLetter_b33 1 s
theorem SX36_isLetter {m b : Nat} {φ0 : Nat → Nat} {σo : fS} (hm : 1 ≤ m) {q : Int × fS} {φ : Nat → Nat} {h : eH} {s : fS} (R : fC m b φ0 σo φ h s) (hF : FX36_isLetter s = some q) : gG m b φ0 σo lI q (fX36_isLetter 195 h) := by
  unfold FX36_isLetter at hF
  unfold fX36_isLetter
  refine s_gI R (t_195 hm R.S) (Nat.le_of_ble_eq_true rfl) rfl ?_
  refine s_gI R (t_195 hm R.S) (Nat.le_of_ble_eq_true rfl) rfl ?_
  refine s_if (i_le rfl rfl (R.ri (t_195 hm R.S) (Nat.le_of_ble_eq_true rfl) rfl) (R.ri (t_195 hm R.S) (Nat.le_of_ble_eq_true rfl) rfl)) hF (fun c3 hF => ?_) (fun c3 hF => ?_)
  ·
    exact SX36_isLetter_b32 hm R hF
  ·
    refine s_gAs R (t_195 hm R.S) (Nat.le_of_ble_eq_true rfl) rfl (o_195_0 hm R.S) (a_196 hm R) ?_
    refine s_gAs R (t_195 hm R.S) (Nat.le_of_ble_eq_true rfl) rfl (o_195_4 hm R.S) (a_197 hm R) ?_
    refine s_gI R (t_195 hm R.S) (Nat.le_of_ble_eq_true rfl) rfl ?_
    refine s_rI R (u_197 hm R.S).1 (u_197 hm R.S).2 (by decide) (a_197 hm R) rfl (R.ri (t_195 hm R.S) (Nat.le_of_ble_eq_true rfl) rfl) hF (fun x12 ra7 hF => ?_)
    refine s_rI R (u_196 hm R.S).1 (u_196 hm R.S).2 (by decide) (a_196 hm R) rfl ra7 hF (fun x14 ra8 hF => ?_)
    refine s_if (i_le rfl (c_lit 0 0 rfl) ra8 ⟨by decide, by decide⟩) hF (fun c9 hF => ?_) (fun c9 hF => ?_)
    ·
      exact SX36_isLetter_b32 hm R hF
    ·
      exact SX36_isLetter_b33 hm R (c_lit 1 1 rfl) ⟨by decide, by decide⟩ hF
def FX36_isOver_b30 (s0 : Int) (s : fS) : Option (Int × fS) :=
  uZ s0 (s0, s)
theorem SX36_isOver_b30 {m b : Nat} {φ0 : Nat → Nat} {σo : fS} (hm : 1 ≤ m) {q : Int × fS} {φ : Nat → Nat} {h : eH} {s : fS} {s0' : Int32} {s0 : Int} (R : fC m b φ0 σo φ h s) (es0 : s0' = iI s0) (rs0 : r32 s0) (hF : FX36_isOver_b30 s0 s = some q) : gG m b φ0 σo lI q (fX36_isOver_b30 s0' h) := by
  subst es0
  unfold FX36_isOver_b30 at hF
  unfold fX36_isOver_b30
  exact g_z R rfl hF ⟨rfl, rs0⟩
def FX36_isOver_b25 (s : fS) : Option (Int × fS) :=
  FX36_isOver_b30 1 s
theorem SX36_isOver_b25 {m b : Nat} {φ0 : Nat → Nat} {σo : fS} (hm : 1 ≤ m) {q : Int × fS} {φ : Nat → Nat} {h : eH} {s : fS} (R : fC m b φ0 σo φ h s) (hF : FX36_isOver_b25 s = some q) : gG m b φ0 σo lI q (fX36_isOver_b25 h) := by
  unfold FX36_isOver_b25 at hF
  unfold fX36_isOver_b25
  exact SX36_isOver_b30 hm R (c_lit 1 1 rfl) ⟨by decide, by decide⟩ hF
def FX36_isOver (s : fS) : Option (Int × fS) :=
  if (s.i 195 16) = (s.i 195 3) then
    FX36_isOver_b25 s
  else
    (uRI s 197 (s.i 195 16)).bind fun x10 =>
    if ¬ (x10 = 32) then
      FX36_isOver_b30 0 s
    else
      FX36_isOver_b25 s
theorem SX36_isOver {m b : Nat} {φ0 : Nat → Nat} {σo : fS} (hm : 1 ≤ m) {q : Int × fS} {φ : Nat → Nat} {h : eH} {s : fS} (R : fC m b φ0 σo φ h s) (hF : FX36_isOver s = some q) : gG m b φ0 σo lI q (fX36_isOver 195 h) := by
  unfold FX36_isOver at hF
  unfold fX36_isOver
  refine s_gI R (t_195 hm R.S) (Nat.le_of_ble_eq_true rfl) rfl ?_
  refine s_gI R (t_195 hm R.S) (Nat.le_of_ble_eq_true rfl) rfl ?_
  refine s_if (i_eq rfl rfl (R.ri (t_195 hm R.S) (Nat.le_of_ble_eq_true rfl) rfl) (R.ri (t_195 hm R.S) (Nat.le_of_ble_eq_true rfl) rfl)) hF (fun c3 hF => ?_) (fun c3 hF => ?_)
  ·
    exact SX36_isOver_b25 hm R hF
  ·
    refine s_gAs R (t_195 hm R.S) (Nat.le_of_ble_eq_true rfl) rfl (o_195_4 hm R.S) (a_197 hm R) ?_
    refine s_gI R (t_195 hm R.S) (Nat.le_of_ble_eq_true rfl) rfl ?_
    refine s_rI R (u_197 hm R.S).1 (u_197 hm R.S).2 (by decide) (a_197 hm R) rfl (R.ri (t_195 hm R.S) (Nat.le_of_ble_eq_true rfl) rfl) hF (fun x10 ra6 hF => ?_)
    refine s_if (not_congr (i_eq rfl (c_lit 32 32 rfl) ra6 ⟨by decide, by decide⟩)) hF (fun c7 hF => ?_) (fun c7 hF => ?_)
    ·
      exact SX36_isOver_b30 hm R (c_lit 0 0 rfl) ⟨by decide, by decide⟩ hF
    ·
      exact SX36_isOver_b25 hm R hF
def FX36_readPattern_b214 (N : Nat) (s0 : Int) (s : fS) : Option (Int × fS) :=
  uZ s0 (s0, s)
theorem SX36_readPattern_b214 {m b : Nat} {φ0 : Nat → Nat} {σo : fS} (hm : 1 ≤ m) {N : Nat} {q : Int × fS} {φ : Nat → Nat} {h : eH} {s : fS} {s0' : Int32} {s0 : Int} (R : fC m b φ0 σo φ h s) (es0 : s0' = iI s0) (rs0 : r32 s0) (hF : FX36_readPattern_b214 N s0 s = some q) : gG m b φ0 σo lI q (fX36_readPattern_b214 N s0' h) := by
  subst es0
  unfold FX36_readPattern_b214 at hF
  unfold fX36_readPattern_b214
  exact g_z R rfl hF ⟨rfl, rs0⟩
def FX36_readPattern_b213 (N : Nat) (s : fS) : Option (Int × fS) :=
  FX36_readPattern_b214 N 0 s
theorem SX36_readPattern_b213 {m b : Nat} {φ0 : Nat → Nat} {σo : fS} (hm : 1 ≤ m) {N : Nat} {q : Int × fS} {φ : Nat → Nat} {h : eH} {s : fS} (R : fC m b φ0 σo φ h s) (hF : FX36_readPattern_b213 N s = some q) : gG m b φ0 σo lI q (fX36_readPattern_b213 N h) := by
  unfold FX36_readPattern_b213 at hF
  unfold fX36_readPattern_b213
  exact SX36_readPattern_b214 (N := N) hm R (c_lit 0 0 rfl) ⟨by decide, by decide⟩ hF
def FX36_readPattern_b195 (N : Nat) (s : fS) : Option (Int × fS) :=
  if (s.i 195 17) ≤ 0 then
    FX36_readPattern_b213 N s
  else
    (FX36_isOver s).bind fun q5 =>
    if q5.1 = 0 then
      FX36_readPattern_b213 N q5.2
    else
      FX36_readPattern_b214 N 1 q5.2
theorem SX36_readPattern_b195 {m b : Nat} {φ0 : Nat → Nat} {σo : fS} (hm : 1 ≤ m) {N : Nat} {q : Int × fS} {φ : Nat → Nat} {h : eH} {s : fS} (R : fC m b φ0 σo φ h s) (hF : FX36_readPattern_b195 N s = some q) : gG m b φ0 σo lI q (fX36_readPattern_b195 N 195 h) := by
  unfold FX36_readPattern_b195 at hF
  unfold fX36_readPattern_b195
  refine s_gI R (t_195 hm R.S) (Nat.le_of_ble_eq_true rfl) rfl ?_
  refine s_if (i_le rfl (c_lit 0 0 rfl) (R.ri (t_195 hm R.S) (Nat.le_of_ble_eq_true rfl) rfl) ⟨by decide, by decide⟩) hF (fun c2 hF => ?_) (fun c2 hF => ?_)
  ·
    exact SX36_readPattern_b213 (N := N) hm R hF
  ·
    refine s_kok R (t_195 hm R.S) (Nat.le_of_ble_eq_true rfl) ?_
    refine s_call R (Nat.zero_le _) (fun _ hq => SX36_isOver (b := 0) hm (R.rf) hq) hF (fun f4 rv4 h4 q5 R4 e4 E4 hF => ?_)
    refine s_if (i_eq e4.1 (c_lit 0 0 rfl) e4.2 ⟨by decide, by decide⟩) hF (fun c5 hF => ?_) (fun c5 hF => ?_)
    ·
      exact SX36_readPattern_b213 (N := N) hm R4 hF
    ·
      exact SX36_readPattern_b214 (N := N) hm R4 (c_lit 1 1 rfl) ⟨by decide, by decide⟩ hF
def FX36_readPattern_b99 (N : Nat) (K54 : Int → fS → Option (Int × fS)) (s : fS) : Option (Int × fS) :=
  (FX36_isLetter s).bind fun q2 =>
  if q2.1 = 0 then
    (FX36_look q2.2).bind fun q5 =>
    if ¬ (q5.1 = 46) then
      FX36_readPattern_b195 N q5.2
    else
      if (q5.2.i 195 17) ≤ 0 then
        FX36_readPattern_b195 N q5.2
      else
        (uPZ q5.2 195 19 1).bind fun σ10 =>
        (uPI σ10 195 16 (iadd (σ10.i 195 16) 1)).bind fun σ14 =>
        (FX36_isOver σ14).bind fun q17 =>
        uZ q17.1 (q17.1, q17.2)
  else
    (FX36_look q2.2).bind fun q26 =>
    (uRI q26.2 196 q26.1).bind fun x27 =>
    (uQI q26.2 207 (q2.2.i 195 17) x27).bind fun σ29 =>
    (uPI σ29 195 17 (iadd (σ29.i 195 17) 1)).bind fun σ33 =>
    (uQI σ33 208 (σ33.i 195 17) 0).bind fun σ39 =>
    (uPI σ39 195 16 (iadd (σ39.i 195 16) 1)).bind fun σ43 =>
    K54 0 σ43
theorem SX36_readPattern_b99 {m b : Nat} {φ0 : Nat → Nat} {σo : fS} (hm : 1 ≤ m) {N : Nat} {k54 : Nat → Int32 → eH → Option (Int32 × eH)} {K54 : Int → fS → Option (Int × fS)} {q : Int × fS} (hk54 : ∀ {φ : Nat → Nat} {h : eH} {s : fS} {l1' : Int32} {l1 : Int}, fC m b φ0 σo φ h s → l1' = iI l1 → r32 l1 → K54 l1 s = some q → gG m b φ0 σo lI q (k54 195 l1' h)) {φ : Nat → Nat} {h : eH} {s : fS} (R : fC m b φ0 σo φ h s) (hF : FX36_readPattern_b99 N K54 s = some q) : gG m b φ0 σo lI q (fX36_readPattern_b99 N k54 195 h) := by
  unfold FX36_readPattern_b99 at hF
  unfold fX36_readPattern_b99
  refine s_kok R (t_195 hm R.S) (Nat.le_of_ble_eq_true rfl) ?_
  refine s_call R (Nat.zero_le _) (fun _ hq => SX36_isLetter (b := 0) hm (R.rf) hq) hF (fun f2 rv2 h2 q2 R2 e2 E2 hF => ?_)
  refine s_if (i_eq e2.1 (c_lit 0 0 rfl) e2.2 ⟨by decide, by decide⟩) hF (fun c3 hF => ?_) (fun c3 hF => ?_)
  ·
    refine s_kok R2 (t_195 hm R2.S) (Nat.le_of_ble_eq_true rfl) ?_
    refine s_call R2 (Nat.zero_le _) (fun _ hq => SX36_look (b := 0) hm (R2.rf) hq) hF (fun f5 rv5 h5 q5 R5 e5 E5 hF => ?_)
    refine s_if (not_congr (i_eq e5.1 (c_lit 46 46 rfl) e5.2 ⟨by decide, by decide⟩)) hF (fun c6 hF => ?_) (fun c6 hF => ?_)
    ·
      exact SX36_readPattern_b195 (N := N) hm R5 hF
    ·
      refine s_gI R5 (t_195 hm R5.S) (Nat.le_of_ble_eq_true rfl) rfl ?_
      refine s_if (i_le rfl (c_lit 0 0 rfl) (R5.ri (t_195 hm R5.S) (Nat.le_of_ble_eq_true rfl) rfl) ⟨by decide, by decide⟩) hF (fun c8 hF => ?_) (fun c8 hF => ?_)
      ·
        exact SX36_readPattern_b195 (N := N) hm R5 hF
      ·
        refine s_pZ R5 (t_195 hm R5.S) (Nat.le_of_ble_eq_true rfl) rfl (c_lit 1 1 rfl) ⟨by decide, by decide⟩ hF (fun h9 σ10 R9 T9 hF => ?_)
        refine s_gI R9 (t_195 hm R9.S) (Nat.le_of_ble_eq_true rfl) rfl ?_
        refine s_pI R9 (t_195 hm R9.S) (Nat.le_of_ble_eq_true rfl) rfl (c_add rfl (c_lit 1 1 rfl)) (rr_I _) hF (fun h11 σ14 R11 T11 hF => ?_)
        refine s_kok R11 (t_195 hm R11.S) (Nat.le_of_ble_eq_true rfl) ?_
        refine s_call R11 (Nat.zero_le _) (fun _ hq => SX36_isOver (b := 0) hm (R11.rf) hq) hF (fun f13 rv13 h13 q17 R13 e13 E13 hF => ?_)
        exact g_z R13 e13.1 hF ⟨e13.1, e13.2⟩
  ·
    refine s_gAs R2 (t_195 hm R2.S) (Nat.le_of_ble_eq_true rfl) rfl (o_195_20 hm R2.S) (a_207 hm R2) ?_
    refine s_gI R2 (t_195 hm R2.S) (Nat.le_of_ble_eq_true rfl) rfl ?_
    refine s_gAs R2 (t_195 hm R2.S) (Nat.le_of_ble_eq_true rfl) rfl (o_195_0 hm R2.S) (a_196 hm R2) ?_
    refine s_kok R2 (t_195 hm R2.S) (Nat.le_of_ble_eq_true rfl) ?_
    refine s_call R2 (Nat.zero_le _) (fun _ hq => SX36_look (b := 0) hm (R2.rf) hq) hF (fun f18 rv18 h18 q26 R18 e18 E18 hF => ?_)
    refine s_rI R18 (u_196 hm R18.S).1 (u_196 hm R18.S).2 (by decide) (a_196 hm R18) e18.1 e18.2 hF (fun x27 ra19 hF => ?_)
    refine s_qI R18 (u_207 hm R18.S).1 (u_207 hm R18.S).2 (by decide) (a_207 hm R18) rfl (R2.ri (t_195 hm R2.S) (Nat.le_of_ble_eq_true rfl) rfl) rfl ra19 hF (fun h20 σ29 R20 T20 hF => ?_)
    refine s_gI R20 (t_195 hm R20.S) (Nat.le_of_ble_eq_true rfl) rfl ?_
    refine s_pI R20 (t_195 hm R20.S) (Nat.le_of_ble_eq_true rfl) rfl (c_add rfl (c_lit 1 1 rfl)) (rr_I _) hF (fun h22 σ33 R22 T22 hF => ?_)
    refine s_gAs R22 (t_195 hm R22.S) (Nat.le_of_ble_eq_true rfl) rfl (o_195_21 hm R22.S) (a_208 hm R22) ?_
    refine s_gI R22 (t_195 hm R22.S) (Nat.le_of_ble_eq_true rfl) rfl ?_
    refine s_qI R22 (u_208 hm R22.S).1 (u_208 hm R22.S).2 (by decide) (a_208 hm R22) rfl (R22.ri (t_195 hm R22.S) (Nat.le_of_ble_eq_true rfl) rfl) (c_lit 0 0 rfl) ⟨by decide, by decide⟩ hF (fun h25 σ39 R25 T25 hF => ?_)
    refine s_gI R25 (t_195 hm R25.S) (Nat.le_of_ble_eq_true rfl) rfl ?_
    refine s_pI R25 (t_195 hm R25.S) (Nat.le_of_ble_eq_true rfl) rfl (c_add rfl (c_lit 1 1 rfl)) (rr_I _) hF (fun h27 σ43 R27 T27 hF => ?_)
    exact hk54 R27 (c_lit 0 0 rfl) ⟨by decide, by decide⟩ hF
def FX36_readPattern_b54 (N : Nat) : Nat → Int → fS → Option (Int × fS)
  | 0, _, _ => none
  | n + 1, l1, s =>
    (FX36_look s).bind fun q2 =>
    (FX36_isDigit q2.1 q2.2).bind fun q3 =>
    if q3.1 = 0 then
      FX36_readPattern_b99 N (FX36_readPattern_b54 N n) q3.2
    else
      if ¬ (l1 = 0) then
        FX36_readPattern_b99 N (FX36_readPattern_b54 N n) q3.2
      else
        (FX36_look q3.2).bind fun q11 =>
        (uQI q11.2 208 (q3.2.i 195 17) (isub q11.1 48)).bind fun σ12 =>
        (uPI σ12 195 16 (iadd (σ12.i 195 16) 1)).bind fun σ16 =>
        FX36_readPattern_b54 N n 1 σ16
theorem SX36_readPattern_b54 {m b : Nat} {φ0 : Nat → Nat} {σo : fS} (hm : 1 ≤ m) {N : Nat} {q : Int × fS} : ∀ {n : Nat} {φ : Nat → Nat} {h : eH} {s : fS} {l1' : Int32} {l1 : Int}, fC m b φ0 σo φ h s → l1' = iI l1 → r32 l1 → FX36_readPattern_b54 N n l1 s = some q → gG m b φ0 σo lI q (fX36_readPattern_b54 N n 195 l1' h) := by
  intro n
  induction n with
 | zero => intro φ h s l1' l1 R el1 rl1 hF; simp [FX36_readPattern_b54] at hF
  | succ n ih =>
    intro φ h s l1' l1 R el1 rl1 hF
    subst el1
    rw [FX36_readPattern_b54] at hF
    rw [fX36_readPattern_b54]
    refine s_kok R (t_195 hm R.S) (Nat.le_of_ble_eq_true rfl) ?_
    refine s_call R (Nat.zero_le _) (fun _ hq => SX36_look (b := 0) hm (R.rf) hq) hF (fun f2 rv2 h2 q2 R2 e2 E2 hF => ?_)
    refine s_call R2 (Nat.zero_le _) (fun _ hq => SX36_isDigit (b := 0) hm (R2.rf) e2.1 e2.2 hq) hF (fun f3 rv3 h3 q3 R3 e3 E3 hF => ?_)
    refine s_if (i_eq e3.1 (c_lit 0 0 rfl) e3.2 ⟨by decide, by decide⟩) hF (fun c4 hF => ?_) (fun c4 hF => ?_)
    ·
      exact SX36_readPattern_b99 (N := N) (k54 := fX36_readPattern_b54 N n) (K54 := FX36_readPattern_b54 N n) hm @ih R3 hF
    ·
      refine s_if (not_congr (i_eq rfl (c_lit 0 0 rfl) rl1 ⟨by decide, by decide⟩)) hF (fun c5 hF => ?_) (fun c5 hF => ?_)
      ·
        exact SX36_readPattern_b99 (N := N) (k54 := fX36_readPattern_b54 N n) (K54 := FX36_readPattern_b54 N n) hm @ih R3 hF
      ·
        refine s_gAs R3 (t_195 hm R3.S) (Nat.le_of_ble_eq_true rfl) rfl (o_195_21 hm R3.S) (a_208 hm R3) ?_
        refine s_gI R3 (t_195 hm R3.S) (Nat.le_of_ble_eq_true rfl) rfl ?_
        refine s_kok R3 (t_195 hm R3.S) (Nat.le_of_ble_eq_true rfl) ?_
        refine s_call R3 (Nat.zero_le _) (fun _ hq => SX36_look (b := 0) hm (R3.rf) hq) hF (fun f9 rv9 h9 q11 R9 e9 E9 hF => ?_)
        refine s_qI R9 (u_208 hm R9.S).1 (u_208 hm R9.S).2 (by decide) (a_208 hm R9) rfl (R3.ri (t_195 hm R3.S) (Nat.le_of_ble_eq_true rfl) rfl) (c_sub e9.1 (c_lit 48 48 rfl)) (rr_I _) hF (fun h10 σ12 R10 T10 hF => ?_)
        refine s_gI R10 (t_195 hm R10.S) (Nat.le_of_ble_eq_true rfl) rfl ?_
        refine s_pI R10 (t_195 hm R10.S) (Nat.le_of_ble_eq_true rfl) rfl (c_add rfl (c_lit 1 1 rfl)) (rr_I _) hF (fun h12 σ16 R12 T12 hF => ?_)
        exact ih R12 (c_lit 1 1 rfl) ⟨by decide, by decide⟩ hF
def FX36_readPattern_b45 (N : Nat) (s : fS) : Option (Int × fS) :=
  (uQI s 208 0 0).bind fun σ3 =>
  FX36_readPattern_b54 N N 0 σ3
theorem SX36_readPattern_b45 {m b : Nat} {φ0 : Nat → Nat} {σo : fS} (hm : 1 ≤ m) {N : Nat} {q : Int × fS} {φ : Nat → Nat} {h : eH} {s : fS} (R : fC m b φ0 σo φ h s) (hF : FX36_readPattern_b45 N s = some q) : gG m b φ0 σo lI q (fX36_readPattern_b45 N 195 h) := by
  unfold FX36_readPattern_b45 at hF
  unfold fX36_readPattern_b45
  refine s_gAs R (t_195 hm R.S) (Nat.le_of_ble_eq_true rfl) rfl (o_195_21 hm R.S) (a_208 hm R) ?_
  refine s_qI R (u_208 hm R.S).1 (u_208 hm R.S).2 (by decide) (a_208 hm R) (c_lit 0 0 rfl) ⟨by decide, by decide⟩ (c_lit 0 0 rfl) ⟨by decide, by decide⟩ hF (fun h2 σ3 R2 T2 hF => ?_)
  exact SX36_readPattern_b54 (N := N) hm R2 (c_lit 0 0 rfl) ⟨by decide, by decide⟩ hF
def FX36_readPattern_b20 (N : Nat) (s1 : Int) (s : fS) : Option (Int × fS) :=
  (uPZ s 195 18 s1).bind fun σ1 =>
  (uPZ σ1 195 19 0).bind fun σ3 =>
  if (σ3.i 195 18) = 0 then
    FX36_readPattern_b45 N σ3
  else
    (uPI σ3 195 16 (iadd (σ3.i 195 16) 1)).bind fun σ10 =>
    FX36_readPattern_b45 N σ10
theorem SX36_readPattern_b20 {m b : Nat} {φ0 : Nat → Nat} {σo : fS} (hm : 1 ≤ m) {N : Nat} {q : Int × fS} {φ : Nat → Nat} {h : eH} {s : fS} {s1' : Int32} {s1 : Int} (R : fC m b φ0 σo φ h s) (es1 : s1' = iI s1) (rs1 : r32 s1) (hF : FX36_readPattern_b20 N s1 s = some q) : gG m b φ0 σo lI q (fX36_readPattern_b20 N 195 195 s1' h) := by
  subst es1
  unfold FX36_readPattern_b20 at hF
  unfold fX36_readPattern_b20
  refine s_pZ R (t_195 hm R.S) (Nat.le_of_ble_eq_true rfl) rfl rfl rs1 hF (fun h1 σ1 R1 T1 hF => ?_)
  refine s_pZ R1 (t_195 hm R1.S) (Nat.le_of_ble_eq_true rfl) rfl (c_lit 0 0 rfl) ⟨by decide, by decide⟩ hF (fun h2 σ3 R2 T2 hF => ?_)
  refine s_gI R2 (t_195 hm R2.S) (Nat.le_of_ble_eq_true rfl) rfl ?_
  refine s_if (i_eq rfl (c_lit 0 0 rfl) (R2.ri (t_195 hm R2.S) (Nat.le_of_ble_eq_true rfl) rfl) ⟨by decide, by decide⟩) hF (fun c4 hF => ?_) (fun c4 hF => ?_)
  ·
    exact SX36_readPattern_b45 (N := N) hm R2 hF
  ·
    refine s_gI R2 (t_195 hm R2.S) (Nat.le_of_ble_eq_true rfl) rfl ?_
    refine s_pI R2 (t_195 hm R2.S) (Nat.le_of_ble_eq_true rfl) rfl (c_add rfl (c_lit 1 1 rfl)) (rr_I _) hF (fun h6 σ10 R6 T6 hF => ?_)
    exact SX36_readPattern_b45 (N := N) hm R6 hF
def FX36_readPattern (N : Nat) (s : fS) : Option (Int × fS) :=
  (uPI s 195 17 0).bind fun σ1 =>
  (FX36_look σ1).bind fun q4 =>
  if ¬ (q4.1 = 46) then
    FX36_readPattern_b20 N 0 q4.2
  else
    FX36_readPattern_b20 N 1 q4.2
theorem SX36_readPattern {m b : Nat} {φ0 : Nat → Nat} {σo : fS} (hm : 1 ≤ m) {N : Nat} {q : Int × fS} {φ : Nat → Nat} {h : eH} {s : fS} (R : fC m b φ0 σo φ h s) (hF : FX36_readPattern N s = some q) : gG m b φ0 σo lI q (fX36_readPattern N 195 h) := by
  unfold FX36_readPattern at hF
  unfold fX36_readPattern
  refine s_pI R (t_195 hm R.S) (Nat.le_of_ble_eq_true rfl) rfl (c_lit 0 0 rfl) ⟨by decide, by decide⟩ hF (fun h1 σ1 R1 T1 hF => ?_)
  refine s_kok R1 (t_195 hm R1.S) (Nat.le_of_ble_eq_true rfl) ?_
  refine s_call R1 (Nat.zero_le _) (fun _ hq => SX36_look (b := 0) hm (R1.rf) hq) hF (fun f3 rv3 h3 q4 R3 e3 E3 hF => ?_)
  refine s_if (not_congr (i_eq e3.1 (c_lit 46 46 rfl) e3.2 ⟨by decide, by decide⟩)) hF (fun c4 hF => ?_) (fun c4 hF => ?_)
  ·
    exact SX36_readPattern_b20 (N := N) hm R3 (c_lit 0 0 rfl) ⟨by decide, by decide⟩ hF
  ·
    exact SX36_readPattern_b20 (N := N) hm R3 (c_lit 1 1 rfl) ⟨by decide, by decide⟩ hF
def FX36_fault (p0 : Int) (p1 : Int) (s : fS) : Option (Int × fS) :=
  some ((isub (imul (-100000) p0) p1), s)
theorem SX36_fault {m b : Nat} {φ0 : Nat → Nat} {σo : fS} (hm : 1 ≤ m) {q : Int × fS} {φ : Nat → Nat} {h : eH} {s : fS} {p0' : Int32} {p0 : Int} {p1' : Int32} {p1 : Int} (R : fC m b φ0 σo φ h s) (ep0 : p0' = iI p0) (rp0 : r32 p0) (ep1 : p1' = iI p1) (rp1 : r32 p1) (hF : FX36_fault p0 p1 s = some q) : gG m b φ0 σo lI q (fX36_fault p0' p1' h) := by
  subst ep0; subst ep1
  unfold FX36_fault at hF
  unfold fX36_fault
  exact g_ret R hF ⟨(c_sub (c_mul (c_lit (-100000) (-100000) rfl) rfl) rfl), (rr_I _)⟩
def FX36_isThere_b50 (N : Nat) (s : fS) : Option (Int × fS) :=
  some (0, s)
theorem SX36_isThere_b50 {m b : Nat} {φ0 : Nat → Nat} {σo : fS} (hm : 1 ≤ m) {N : Nat} {q : Int × fS} {φ : Nat → Nat} {h : eH} {s : fS} (R : fC m b φ0 σo φ h s) (hF : FX36_isThere_b50 N s = some q) : gG m b φ0 σo lI q (fX36_isThere_b50 N h) := by
  unfold FX36_isThere_b50 at hF
  unfold fX36_isThere_b50
  exact g_ret R hF ⟨(c_lit 0 0 rfl), ⟨by decide, by decide⟩⟩
def FX36_isThere_b94 (N : Nat) (K57 : Int → Int → Int → fS → Option (Int × fS)) (l2 : Int) (l4 : Int) (s0 : Int) (s : fS) : Option (Int × fS) :=
  K57 l2 s0 (iadd l4 1) s
theorem SX36_isThere_b94 {m b : Nat} {φ0 : Nat → Nat} {σo : fS} (hm : 1 ≤ m) {N : Nat} {k57 : Nat → Int32 → Int32 → Int32 → eH → Option (Int32 × eH)} {K57 : Int → Int → Int → fS → Option (Int × fS)} {q : Int × fS} (hk57 : ∀ {φ : Nat → Nat} {h : eH} {s : fS} {l2' : Int32} {l2 : Int} {l3' : Int32} {l3 : Int} {l4' : Int32} {l4 : Int}, fC m b φ0 σo φ h s → l2' = iI l2 → r32 l2 → l3' = iI l3 → r32 l3 → l4' = iI l4 → r32 l4 → K57 l2 l3 l4 s = some q → gG m b φ0 σo lI q (k57 195 l2' l3' l4' h)) {φ : Nat → Nat} {h : eH} {s : fS} {l2' : Int32} {l2 : Int} {l4' : Int32} {l4 : Int} {s0' : Int32} {s0 : Int} (R : fC m b φ0 σo φ h s) (el2 : l2' = iI l2) (rl2 : r32 l2) (el4 : l4' = iI l4) (rl4 : r32 l4) (es0 : s0' = iI s0) (rs0 : r32 s0) (hF : FX36_isThere_b94 N K57 l2 l4 s0 s = some q) : gG m b φ0 σo lI q (fX36_isThere_b94 N k57 195 l2' l4' s0' h) := by
  subst el2; subst el4; subst es0
  unfold FX36_isThere_b94 at hF
  unfold fX36_isThere_b94
  exact hk57 R rfl rl2 rfl rs0 (c_add rfl (c_lit 1 1 rfl)) (rr_I _) hF
def FX36_isThere_b101 (N : Nat) (l3 : Int) (s : fS) : Option (Int × fS) :=
  uZ l3 (l3, s)
theorem SX36_isThere_b101 {m b : Nat} {φ0 : Nat → Nat} {σo : fS} (hm : 1 ≤ m) {N : Nat} {q : Int × fS} {φ : Nat → Nat} {h : eH} {s : fS} {l3' : Int32} {l3 : Int} (R : fC m b φ0 σo φ h s) (el3 : l3' = iI l3) (rl3 : r32 l3) (hF : FX36_isThere_b101 N l3 s = some q) : gG m b φ0 σo lI q (fX36_isThere_b101 N l3' h) := by
  subst el3
  unfold FX36_isThere_b101 at hF
  unfold fX36_isThere_b101
  exact g_z R rfl hF ⟨rfl, rl3⟩
def FX36_isThere_b57 (N : Nat) : Nat → Int → Int → Int → fS → Option (Int × fS)
  | 0, _, _, _, _ => none
  | n + 1, l2, l3, l4, s =>
    if (s.i 195 17) ≤ l4 then
      FX36_isThere_b101 N l3 s
    else
      if l3 = 0 then
        FX36_isThere_b101 N l3 s
      else
        (uRI s 202 (iadd l2 l4)).bind fun x7 =>
        (uRI s 207 l4).bind fun x11 =>
        if ¬ (x7 = x11) then
          FX36_isThere_b94 N (FX36_isThere_b57 N n) l2 l4 0 s
        else
          FX36_isThere_b94 N (FX36_isThere_b57 N n) l2 l4 1 s
theorem SX36_isThere_b57 {m b : Nat} {φ0 : Nat → Nat} {σo : fS} (hm : 1 ≤ m) {N : Nat} {q : Int × fS} : ∀ {n : Nat} {φ : Nat → Nat} {h : eH} {s : fS} {l2' : Int32} {l2 : Int} {l3' : Int32} {l3 : Int} {l4' : Int32} {l4 : Int}, fC m b φ0 σo φ h s → l2' = iI l2 → r32 l2 → l3' = iI l3 → r32 l3 → l4' = iI l4 → r32 l4 → FX36_isThere_b57 N n l2 l3 l4 s = some q → gG m b φ0 σo lI q (fX36_isThere_b57 N n 195 l2' l3' l4' h) := by
  intro n
  induction n with
 | zero => intro φ h s l2' l2 l3' l3 l4' l4 R el2 rl2 el3 rl3 el4 rl4 hF; simp [FX36_isThere_b57] at hF
  | succ n ih =>
    intro φ h s l2' l2 l3' l3 l4' l4 R el2 rl2 el3 rl3 el4 rl4 hF
    subst el2; subst el3; subst el4
    rw [FX36_isThere_b57] at hF
    rw [fX36_isThere_b57]
    refine s_gI R (t_195 hm R.S) (Nat.le_of_ble_eq_true rfl) rfl ?_
    refine s_if (i_le rfl rfl (R.ri (t_195 hm R.S) (Nat.le_of_ble_eq_true rfl) rfl) rl4) hF (fun c2 hF => ?_) (fun c2 hF => ?_)
    ·
      exact SX36_isThere_b101 (N := N) hm R rfl rl3 hF
    ·
      refine s_if (i_eq rfl (c_lit 0 0 rfl) rl3 ⟨by decide, by decide⟩) hF (fun c3 hF => ?_) (fun c3 hF => ?_)
      ·
        exact SX36_isThere_b101 (N := N) hm R rfl rl3 hF
      ·
        refine s_gAs R (t_195 hm R.S) (Nat.le_of_ble_eq_true rfl) rfl (o_195_10 hm R.S) (a_202 hm R) ?_
        refine s_rI R (u_202 hm R.S).1 (u_202 hm R.S).2 (by decide) (a_202 hm R) (c_add rfl rfl) (rr_I _) hF (fun x7 ra5 hF => ?_)
        refine s_gAs R (t_195 hm R.S) (Nat.le_of_ble_eq_true rfl) rfl (o_195_20 hm R.S) (a_207 hm R) ?_
        refine s_rI R (u_207 hm R.S).1 (u_207 hm R.S).2 (by decide) (a_207 hm R) rfl rl4 hF (fun x11 ra7 hF => ?_)
        refine s_if (not_congr (i_eq rfl rfl ra5 ra7)) hF (fun c8 hF => ?_) (fun c8 hF => ?_)
        ·
          exact SX36_isThere_b94 (N := N) (k57 := fX36_isThere_b57 N n) (K57 := FX36_isThere_b57 N n) hm @ih R rfl rl2 rfl rl4 (c_lit 0 0 rfl) ⟨by decide, by decide⟩ hF
        ·
          exact SX36_isThere_b94 (N := N) (k57 := fX36_isThere_b57 N n) (K57 := FX36_isThere_b57 N n) hm @ih R rfl rl2 rfl rl4 (c_lit 1 1 rfl) ⟨by decide, by decide⟩ hF
def FX36_isThere (N : Nat) (p0 : Int) (s : fS) : Option (Int × fS) :=
  (uRI s 198 p0).bind fun x3 =>
  (uRI s 198 (iadd p0 1)).bind fun x7 =>
  if ¬ ((isub x7 x3) = (s.i 195 17)) then
    FX36_isThere_b50 N s
  else
    (uRI s 200 p0).bind fun x14 =>
    if ¬ (x14 = (s.i 195 18)) then
      FX36_isThere_b50 N s
    else
      (uRI s 201 p0).bind fun x21 =>
      if x21 = (s.i 195 19) then
        FX36_isThere_b57 N N x3 1 0 s
      else
        FX36_isThere_b50 N s
theorem SX36_isThere {m b : Nat} {φ0 : Nat → Nat} {σo : fS} (hm : 1 ≤ m) {N : Nat} {q : Int × fS} {φ : Nat → Nat} {h : eH} {s : fS} {p0' : Int32} {p0 : Int} (R : fC m b φ0 σo φ h s) (ep0 : p0' = iI p0) (rp0 : r32 p0) (hF : FX36_isThere N p0 s = some q) : gG m b φ0 σo lI q (fX36_isThere N 195 p0' h) := by
  subst ep0
  unfold FX36_isThere at hF
  unfold fX36_isThere
  refine s_gAs R (t_195 hm R.S) (Nat.le_of_ble_eq_true rfl) rfl (o_195_6 hm R.S) (a_198 hm R) ?_
  refine s_rI R (u_198 hm R.S).1 (u_198 hm R.S).2 (by decide) (a_198 hm R) rfl rp0 hF (fun x3 ra2 hF => ?_)
  refine s_gAs R (t_195 hm R.S) (Nat.le_of_ble_eq_true rfl) rfl (o_195_6 hm R.S) (a_198 hm R) ?_
  refine s_rI R (u_198 hm R.S).1 (u_198 hm R.S).2 (by decide) (a_198 hm R) (c_add rfl (c_lit 1 1 rfl)) (rr_I _) hF (fun x7 ra4 hF => ?_)
  refine s_gI R (t_195 hm R.S) (Nat.le_of_ble_eq_true rfl) rfl ?_
  refine s_if (not_congr (i_eq (c_sub rfl rfl) rfl (rr_I _) (R.ri (t_195 hm R.S) (Nat.le_of_ble_eq_true rfl) rfl))) hF (fun c6 hF => ?_) (fun c6 hF => ?_)
  ·
    exact SX36_isThere_b50 (N := N) hm R hF
  ·
    refine s_gAs R (t_195 hm R.S) (Nat.le_of_ble_eq_true rfl) rfl (o_195_8 hm R.S) (a_200 hm R) ?_
    refine s_rI R (u_200 hm R.S).1 (u_200 hm R.S).2 (by decide) (a_200 hm R) rfl rp0 hF (fun x14 ra8 hF => ?_)
    refine s_gI R (t_195 hm R.S) (Nat.le_of_ble_eq_true rfl) rfl ?_
    refine s_if (not_congr (i_eq rfl rfl ra8 (R.ri (t_195 hm R.S) (Nat.le_of_ble_eq_true rfl) rfl))) hF (fun c10 hF => ?_) (fun c10 hF => ?_)
    ·
      exact SX36_isThere_b50 (N := N) hm R hF
    ·
      refine s_gAs R (t_195 hm R.S) (Nat.le_of_ble_eq_true rfl) rfl (o_195_9 hm R.S) (a_201 hm R) ?_
      refine s_rI R (u_201 hm R.S).1 (u_201 hm R.S).2 (by decide) (a_201 hm R) rfl rp0 hF (fun x21 ra12 hF => ?_)
      refine s_gI R (t_195 hm R.S) (Nat.le_of_ble_eq_true rfl) rfl ?_
      refine s_if (i_eq rfl rfl ra12 (R.ri (t_195 hm R.S) (Nat.le_of_ble_eq_true rfl) rfl)) hF (fun c14 hF => ?_) (fun c14 hF => ?_)
      ·
        exact SX36_isThere_b57 (N := N) hm R rfl ra2 (c_lit 1 1 rfl) ⟨by decide, by decide⟩ (c_lit 0 0 rfl) ⟨by decide, by decide⟩ hF
      ·
        exact SX36_isThere_b50 (N := N) hm R hF
def FX36_addPattern_b52 (N : Nat) : Nat → Int → Int → Int → fS → Option (Unit × fS)
  | 0, _, _, _, _ => none
  | n + 1, l1, l2, l3, s =>
    if (s.i 195 17) < l3 then
      (uQI s 200 (s.i 195 5) (iand (s.i 195 18) 1)).bind fun σ10 =>
      (uQI σ10 201 (σ10.i 195 5) (iand (σ10.i 195 19) 1)).bind fun σ18 =>
      (uPI σ18 195 5 (iadd (σ18.i 195 5) 1)).bind fun σ22 =>
      (uQI σ22 198 (σ22.i 195 5) (iadd l1 (σ22.i 195 17))).bind fun σ30 =>
      (uQI σ30 199 (σ30.i 195 5) (iadd (iadd l2 (σ30.i 195 17)) 1)).bind fun σ38 =>
      some ((), σ38)
    else
      (uRI s 208 l3).bind fun x44 =>
      (uQI s 203 (iadd l2 l3) x44).bind fun σ46 =>
      FX36_addPattern_b52 N n l1 l2 (iadd l3 1) σ46
theorem SX36_addPattern_b52 {m b : Nat} {φ0 : Nat → Nat} {σo : fS} (hm : 1 ≤ m) {N : Nat} {q : Unit × fS} : ∀ {n : Nat} {φ : Nat → Nat} {h : eH} {s : fS} {l1' : Int32} {l1 : Int} {l2' : Int32} {l2 : Int} {l3' : Int32} {l3 : Int}, fC m b φ0 σo φ h s → l1' = iI l1 → r32 l1 → l2' = iI l2 → r32 l2 → l3' = iI l3 → r32 l3 → FX36_addPattern_b52 N n l1 l2 l3 s = some q → gG m b φ0 σo lU q (fX36_addPattern_b52 N n 195 l1' l2' l3' h) := by
  intro n
  induction n with
 | zero => intro φ h s l1' l1 l2' l2 l3' l3 R el1 rl1 el2 rl2 el3 rl3 hF; simp [FX36_addPattern_b52] at hF
  | succ n ih =>
    intro φ h s l1' l1 l2' l2 l3' l3 R el1 rl1 el2 rl2 el3 rl3 hF
    subst el1; subst el2; subst el3
    rw [FX36_addPattern_b52] at hF
    rw [fX36_addPattern_b52]
    refine s_gI R (t_195 hm R.S) (Nat.le_of_ble_eq_true rfl) rfl ?_
    refine s_if (i_lt rfl rfl (R.ri (t_195 hm R.S) (Nat.le_of_ble_eq_true rfl) rfl) rl3) hF (fun c2 hF => ?_) (fun c2 hF => ?_)
    ·
      refine s_gAs R (t_195 hm R.S) (Nat.le_of_ble_eq_true rfl) rfl (o_195_8 hm R.S) (a_200 hm R) ?_
      refine s_gI R (t_195 hm R.S) (Nat.le_of_ble_eq_true rfl) rfl ?_
      refine s_gI R (t_195 hm R.S) (Nat.le_of_ble_eq_true rfl) rfl ?_
      refine s_qI R (u_200 hm R.S).1 (u_200 hm R.S).2 (by decide) (a_200 hm R) rfl (R.ri (t_195 hm R.S) (Nat.le_of_ble_eq_true rfl) rfl) (c_and rfl (c_lit 1 1 rfl)) (rr_I _) hF (fun h6 σ10 R6 T6 hF => ?_)
      refine s_gAs R6 (t_195 hm R6.S) (Nat.le_of_ble_eq_true rfl) rfl (o_195_9 hm R6.S) (a_201 hm R6) ?_
      refine s_gI R6 (t_195 hm R6.S) (Nat.le_of_ble_eq_true rfl) rfl ?_
      refine s_gI R6 (t_195 hm R6.S) (Nat.le_of_ble_eq_true rfl) rfl ?_
      refine s_qI R6 (u_201 hm R6.S).1 (u_201 hm R6.S).2 (by decide) (a_201 hm R6) rfl (R6.ri (t_195 hm R6.S) (Nat.le_of_ble_eq_true rfl) rfl) (c_and rfl (c_lit 1 1 rfl)) (rr_I _) hF (fun h10 σ18 R10 T10 hF => ?_)
      refine s_gI R10 (t_195 hm R10.S) (Nat.le_of_ble_eq_true rfl) rfl ?_
      refine s_pI R10 (t_195 hm R10.S) (Nat.le_of_ble_eq_true rfl) rfl (c_add rfl (c_lit 1 1 rfl)) (rr_I _) hF (fun h12 σ22 R12 T12 hF => ?_)
      refine s_gAs R12 (t_195 hm R12.S) (Nat.le_of_ble_eq_true rfl) rfl (o_195_6 hm R12.S) (a_198 hm R12) ?_
      refine s_gI R12 (t_195 hm R12.S) (Nat.le_of_ble_eq_true rfl) rfl ?_
      refine s_gI R12 (t_195 hm R12.S) (Nat.le_of_ble_eq_true rfl) rfl ?_
      refine s_qI R12 (u_198 hm R12.S).1 (u_198 hm R12.S).2 (by decide) (a_198 hm R12) rfl (R12.ri (t_195 hm R12.S) (Nat.le_of_ble_eq_true rfl) rfl) (c_add rfl rfl) (rr_I _) hF (fun h16 σ30 R16 T16 hF => ?_)
      refine s_gAs R16 (t_195 hm R16.S) (Nat.le_of_ble_eq_true rfl) rfl (o_195_7 hm R16.S) (a_199 hm R16) ?_
      refine s_gI R16 (t_195 hm R16.S) (Nat.le_of_ble_eq_true rfl) rfl ?_
      refine s_gI R16 (t_195 hm R16.S) (Nat.le_of_ble_eq_true rfl) rfl ?_
      refine s_qI R16 (u_199 hm R16.S).1 (u_199 hm R16.S).2 (by decide) (a_199 hm R16) rfl (R16.ri (t_195 hm R16.S) (Nat.le_of_ble_eq_true rfl) rfl) (c_add (c_add rfl rfl) (c_lit 1 1 rfl)) (rr_I _) hF (fun h20 σ38 R20 T20 hF => ?_)
      exact g_ret R20 hF trivial
    ·
      refine s_gAs R (t_195 hm R.S) (Nat.le_of_ble_eq_true rfl) rfl (o_195_11 hm R.S) (a_203 hm R) ?_
      refine s_gAs R (t_195 hm R.S) (Nat.le_of_ble_eq_true rfl) rfl (o_195_21 hm R.S) (a_208 hm R) ?_
      refine s_rI R (u_208 hm R.S).1 (u_208 hm R.S).2 (by decide) (a_208 hm R) rfl rl3 hF (fun x44 ra23 hF => ?_)
      refine s_qI R (u_203 hm R.S).1 (u_203 hm R.S).2 (by decide) (a_203 hm R) (c_add rfl rfl) (rr_I _) rfl ra23 hF (fun h24 σ46 R24 T24 hF => ?_)
      exact ih R24 rfl rl1 rfl rl2 (c_add rfl (c_lit 1 1 rfl)) (rr_I _) hF
def FX36_addPattern_b22 (N : Nat) : Nat → Int → Int → Int → fS → Option (Unit × fS)
  | 0, _, _, _, _ => none
  | n + 1, l1, l2, l3, s =>
    if (s.i 195 17) ≤ l3 then
      FX36_addPattern_b52 N N l1 l2 0 s
    else
      (uRI s 207 l3).bind fun x8 =>
      (uQI s 202 (iadd l1 l3) x8).bind fun σ10 =>
      FX36_addPattern_b22 N n l1 l2 (iadd l3 1) σ10
theorem SX36_addPattern_b22 {m b : Nat} {φ0 : Nat → Nat} {σo : fS} (hm : 1 ≤ m) {N : Nat} {q : Unit × fS} : ∀ {n : Nat} {φ : Nat → Nat} {h : eH} {s : fS} {l1' : Int32} {l1 : Int} {l2' : Int32} {l2 : Int} {l3' : Int32} {l3 : Int}, fC m b φ0 σo φ h s → l1' = iI l1 → r32 l1 → l2' = iI l2 → r32 l2 → l3' = iI l3 → r32 l3 → FX36_addPattern_b22 N n l1 l2 l3 s = some q → gG m b φ0 σo lU q (fX36_addPattern_b22 N n 195 l1' l2' l3' h) := by
  intro n
  induction n with
 | zero => intro φ h s l1' l1 l2' l2 l3' l3 R el1 rl1 el2 rl2 el3 rl3 hF; simp [FX36_addPattern_b22] at hF
  | succ n ih =>
    intro φ h s l1' l1 l2' l2 l3' l3 R el1 rl1 el2 rl2 el3 rl3 hF
    subst el1; subst el2; subst el3
    rw [FX36_addPattern_b22] at hF
    rw [fX36_addPattern_b22]
    refine s_gI R (t_195 hm R.S) (Nat.le_of_ble_eq_true rfl) rfl ?_
    refine s_if (i_le rfl rfl (R.ri (t_195 hm R.S) (Nat.le_of_ble_eq_true rfl) rfl) rl3) hF (fun c2 hF => ?_) (fun c2 hF => ?_)
    ·
      exact SX36_addPattern_b52 (N := N) hm R rfl rl1 rfl rl2 (c_lit 0 0 rfl) ⟨by decide, by decide⟩ hF
    ·
      refine s_gAs R (t_195 hm R.S) (Nat.le_of_ble_eq_true rfl) rfl (o_195_10 hm R.S) (a_202 hm R) ?_
      refine s_gAs R (t_195 hm R.S) (Nat.le_of_ble_eq_true rfl) rfl (o_195_20 hm R.S) (a_207 hm R) ?_
      refine s_rI R (u_207 hm R.S).1 (u_207 hm R.S).2 (by decide) (a_207 hm R) rfl rl3 hF (fun x8 ra5 hF => ?_)
      refine s_qI R (u_202 hm R.S).1 (u_202 hm R.S).2 (by decide) (a_202 hm R) (c_add rfl rfl) (rr_I _) rfl ra5 hF (fun h6 σ10 R6 T6 hF => ?_)
      exact ih R6 rfl rl1 rfl rl2 (c_add rfl (c_lit 1 1 rfl)) (rr_I _) hF
def FX36_addPattern (N : Nat) (s : fS) : Option (Unit × fS) :=
  (uRI s 198 (s.i 195 5)).bind fun x5 =>
  (uRI s 199 (s.i 195 5)).bind fun x11 =>
  FX36_addPattern_b22 N N x5 x11 0 s
theorem SX36_addPattern {m b : Nat} {φ0 : Nat → Nat} {σo : fS} (hm : 1 ≤ m) {N : Nat} {q : Unit × fS} {φ : Nat → Nat} {h : eH} {s : fS} (R : fC m b φ0 σo φ h s) (hF : FX36_addPattern N s = some q) : gG m b φ0 σo lU q (fX36_addPattern N 195 h) := by
  unfold FX36_addPattern at hF
  unfold fX36_addPattern
  refine s_gAs R (t_195 hm R.S) (Nat.le_of_ble_eq_true rfl) rfl (o_195_6 hm R.S) (a_198 hm R) ?_
  refine s_gI R (t_195 hm R.S) (Nat.le_of_ble_eq_true rfl) rfl ?_
  refine s_rI R (u_198 hm R.S).1 (u_198 hm R.S).2 (by decide) (a_198 hm R) rfl (R.ri (t_195 hm R.S) (Nat.le_of_ble_eq_true rfl) rfl) hF (fun x5 ra3 hF => ?_)
  refine s_gAs R (t_195 hm R.S) (Nat.le_of_ble_eq_true rfl) rfl (o_195_7 hm R.S) (a_199 hm R) ?_
  refine s_gI R (t_195 hm R.S) (Nat.le_of_ble_eq_true rfl) rfl ?_
  refine s_rI R (u_199 hm R.S).1 (u_199 hm R.S).2 (by decide) (a_199 hm R) rfl (R.ri (t_195 hm R.S) (Nat.le_of_ble_eq_true rfl) rfl) hF (fun x11 ra6 hF => ?_)
  exact SX36_addPattern_b22 (N := N) hm R rfl ra3 rfl ra6 (c_lit 0 0 rfl) ⟨by decide, by decide⟩ hF
def FX36_readPatterns_b116 (N : Nat) (l1 : Int) (s : fS) : Option (Int × fS) :=
  (FX36_fault 4 l1 s).bind fun q1 =>
  some (q1.1, q1.2)
theorem SX36_readPatterns_b116 {m b : Nat} {φ0 : Nat → Nat} {σo : fS} (hm : 1 ≤ m) {N : Nat} {q : Int × fS} {φ : Nat → Nat} {h : eH} {s : fS} {l1' : Int32} {l1 : Int} (R : fC m b φ0 σo φ h s) (el1 : l1' = iI l1) (rl1 : r32 l1) (hF : FX36_readPatterns_b116 N l1 s = some q) : gG m b φ0 σo lI q (fX36_readPatterns_b116 N l1' h) := by
  subst el1
  unfold FX36_readPatterns_b116 at hF
  unfold fX36_readPatterns_b116
  refine s_call R (Nat.zero_le _) (fun _ hq => SX36_fault (b := 0) hm (R.rf) (c_lit 4 4 rfl) ⟨by decide, by decide⟩ rfl rl1 hq) hF (fun f1 rv1 h1 q1 R1 e1 E1 hF => ?_)
  exact g_ret R1 hF ⟨e1.1, e1.2⟩
def FX36_readPatterns_b58 (N : Nat) (K9 : fS → Option (Int × fS)) : Nat → Int → Int → fS → Option (Int × fS)
  | 0, _, _, _ => none
  | n + 1, l1, l2, s =>
    if (s.i 195 5) ≤ l2 then
      if (s.i 195 5) = 1000 then
        FX36_readPatterns_b116 N l1 s
      else
        (uRI s 198 (s.i 195 5)).bind fun x11 =>
        if (iadd x11 (s.i 195 17)) ≤ 8000 then
          (FX36_addPattern N s).bind fun q17 =>
          (FX36_spaces N q17.2).bind fun q19 =>
          K9 q19.2
        else
          FX36_readPatterns_b116 N l1 s
    else
      (FX36_isThere N l2 s).bind fun q21 =>
      if q21.1 = 0 then
        FX36_readPatterns_b58 N K9 n l1 (iadd l2 1) q21.2
      else
        (FX36_fault 3 l1 q21.2).bind fun q23 =>
        some (q23.1, q23.2)
theorem SX36_readPatterns_b58 {m b : Nat} {φ0 : Nat → Nat} {σo : fS} (hm : 1 ≤ m) {N : Nat} {k9 : Nat → eH → Option (Int32 × eH)} {K9 : fS → Option (Int × fS)} {q : Int × fS} (hk9 : ∀ {φ : Nat → Nat} {h : eH} {s : fS} , fC m b φ0 σo φ h s → K9 s = some q → gG m b φ0 σo lI q (k9 195 h)) : ∀ {n : Nat} {φ : Nat → Nat} {h : eH} {s : fS} {l1' : Int32} {l1 : Int} {l2' : Int32} {l2 : Int}, fC m b φ0 σo φ h s → l1' = iI l1 → r32 l1 → l2' = iI l2 → r32 l2 → FX36_readPatterns_b58 N K9 n l1 l2 s = some q → gG m b φ0 σo lI q (fX36_readPatterns_b58 N k9 n 195 l1' l2' h) := by
  intro n
  induction n with
 | zero => intro φ h s l1' l1 l2' l2 R el1 rl1 el2 rl2 hF; simp [FX36_readPatterns_b58] at hF
  | succ n ih =>
    intro φ h s l1' l1 l2' l2 R el1 rl1 el2 rl2 hF
    subst el1; subst el2
    rw [FX36_readPatterns_b58] at hF
    rw [fX36_readPatterns_b58]
    refine s_gI R (t_195 hm R.S) (Nat.le_of_ble_eq_true rfl) rfl ?_
    refine s_if (i_le rfl rfl (R.ri (t_195 hm R.S) (Nat.le_of_ble_eq_true rfl) rfl) rl2) hF (fun c2 hF => ?_) (fun c2 hF => ?_)
    ·
      refine s_gI R (t_195 hm R.S) (Nat.le_of_ble_eq_true rfl) rfl ?_
      refine s_if (i_eq rfl (c_lit 1000 1000 rfl) (R.ri (t_195 hm R.S) (Nat.le_of_ble_eq_true rfl) rfl) ⟨by decide, by decide⟩) hF (fun c4 hF => ?_) (fun c4 hF => ?_)
      ·
        exact SX36_readPatterns_b116 (N := N) hm R rfl rl1 hF
      ·
        refine s_gAs R (t_195 hm R.S) (Nat.le_of_ble_eq_true rfl) rfl (o_195_6 hm R.S) (a_198 hm R) ?_
        refine s_gI R (t_195 hm R.S) (Nat.le_of_ble_eq_true rfl) rfl ?_
        refine s_rI R (u_198 hm R.S).1 (u_198 hm R.S).2 (by decide) (a_198 hm R) rfl (R.ri (t_195 hm R.S) (Nat.le_of_ble_eq_true rfl) rfl) hF (fun x11 ra7 hF => ?_)
        refine s_gI R (t_195 hm R.S) (Nat.le_of_ble_eq_true rfl) rfl ?_
        refine s_if (i_le (c_add rfl rfl) (c_lit 8000 8000 rfl) (rr_I _) ⟨by decide, by decide⟩) hF (fun c9 hF => ?_) (fun c9 hF => ?_)
        ·
          refine s_kok R (t_195 hm R.S) (Nat.le_of_ble_eq_true rfl) ?_
          refine s_call R (Nat.zero_le _) (fun _ hq => SX36_addPattern (b := 0) (N := N) hm (R.rf) hq) hF (fun f11 rv11 h11 q17 R11 e11 E11 hF => ?_)
          refine s_kok R11 (t_195 hm R11.S) (Nat.le_of_ble_eq_true rfl) ?_
          refine s_call R11 (Nat.zero_le _) (fun _ hq => SX36_spaces (b := 0) (N := N) hm (R11.rf) hq) hF (fun f13 rv13 h13 q19 R13 e13 E13 hF => ?_)
          exact hk9 R13 hF
        ·
          exact SX36_readPatterns_b116 (N := N) hm R rfl rl1 hF
    ·
      refine s_kok R (t_195 hm R.S) (Nat.le_of_ble_eq_true rfl) ?_
      refine s_call R (Nat.zero_le _) (fun _ hq => SX36_isThere (b := 0) (N := N) hm (R.rf) rfl rl2 hq) hF (fun f15 rv15 h15 q21 R15 e15 E15 hF => ?_)
      refine s_if (i_eq e15.1 (c_lit 0 0 rfl) e15.2 ⟨by decide, by decide⟩) hF (fun c16 hF => ?_) (fun c16 hF => ?_)
      ·
        exact ih R15 rfl rl1 (c_add rfl (c_lit 1 1 rfl)) (rr_I _) hF
      ·
        refine s_call R15 (Nat.zero_le _) (fun _ hq => SX36_fault (b := 0) hm (R15.rf) (c_lit 3 3 rfl) ⟨by decide, by decide⟩ rfl rl1 hq) hF (fun f17 rv17 h17 q23 R17 e17 E17 hF => ?_)
        exact g_ret R17 hF ⟨e17.1, e17.2⟩
def FX36_readPatterns_b9 (N : Nat) : Nat → fS → Option (Int × fS)
  | 0, _ => none
  | n + 1, s =>
    if (s.i 195 3) ≤ (s.i 195 16) then
      some (0, s)
    else
      (FX36_readPattern N s).bind fun q9 =>
      if ¬ (q9.1 = 0) then
        if (q9.2.i 195 17) ≤ 63 then
          FX36_readPatterns_b58 N (FX36_readPatterns_b9 N n) N (s.i 195 16) 0 q9.2
        else
          (FX36_fault 2 (s.i 195 16) q9.2).bind fun q14 =>
          some (q14.1, q14.2)
      else
        (FX36_fault 1 (q9.2.i 195 16) q9.2).bind fun q17 =>
        some (q17.1, q17.2)
theorem SX36_readPatterns_b9 {m b : Nat} {φ0 : Nat → Nat} {σo : fS} (hm : 1 ≤ m) {N : Nat} {q : Int × fS} : ∀ {n : Nat} {φ : Nat → Nat} {h : eH} {s : fS} , fC m b φ0 σo φ h s → FX36_readPatterns_b9 N n s = some q → gG m b φ0 σo lI q (fX36_readPatterns_b9 N n 195 h) := by
  intro n
  induction n with
 | zero => intro φ h s R hF; simp [FX36_readPatterns_b9] at hF
  | succ n ih =>
    intro φ h s  R  hF
    rw [FX36_readPatterns_b9] at hF
    rw [fX36_readPatterns_b9]
    refine s_gI R (t_195 hm R.S) (Nat.le_of_ble_eq_true rfl) rfl ?_
    refine s_gI R (t_195 hm R.S) (Nat.le_of_ble_eq_true rfl) rfl ?_
    refine s_if (i_le rfl rfl (R.ri (t_195 hm R.S) (Nat.le_of_ble_eq_true rfl) rfl) (R.ri (t_195 hm R.S) (Nat.le_of_ble_eq_true rfl) rfl)) hF (fun c3 hF => ?_) (fun c3 hF => ?_)
    ·
      exact g_ret R hF ⟨(c_lit 0 0 rfl), ⟨by decide, by decide⟩⟩
    ·
      refine s_gI R (t_195 hm R.S) (Nat.le_of_ble_eq_true rfl) rfl ?_
      refine s_kok R (t_195 hm R.S) (Nat.le_of_ble_eq_true rfl) ?_
      refine s_call R (Nat.zero_le _) (fun _ hq => SX36_readPattern (b := 0) (N := N) hm (R.rf) hq) hF (fun f6 rv6 h6 q9 R6 e6 E6 hF => ?_)
      refine s_if (not_congr (i_eq e6.1 (c_lit 0 0 rfl) e6.2 ⟨by decide, by decide⟩)) hF (fun c7 hF => ?_) (fun c7 hF => ?_)
      ·
        refine s_gI R6 (t_195 hm R6.S) (Nat.le_of_ble_eq_true rfl) rfl ?_
        refine s_if (i_le rfl (c_lit 63 63 rfl) (R6.ri (t_195 hm R6.S) (Nat.le_of_ble_eq_true rfl) rfl) ⟨by decide, by decide⟩) hF (fun c9 hF => ?_) (fun c9 hF => ?_)
        ·
          exact SX36_readPatterns_b58 (N := N) (k9 := fX36_readPatterns_b9 N n) (K9 := FX36_readPatterns_b9 N n) hm @ih R6 rfl (R.ri (t_195 hm R.S) (Nat.le_of_ble_eq_true rfl) rfl) (c_lit 0 0 rfl) ⟨by decide, by decide⟩ hF
        ·
          refine s_call R6 (Nat.zero_le _) (fun _ hq => SX36_fault (b := 0) hm (R6.rf) (c_lit 2 2 rfl) ⟨by decide, by decide⟩ rfl (R.ri (t_195 hm R.S) (Nat.le_of_ble_eq_true rfl) rfl) hq) hF (fun f10 rv10 h10 q14 R10 e10 E10 hF => ?_)
          exact g_ret R10 hF ⟨e10.1, e10.2⟩
      ·
        refine s_gI R6 (t_195 hm R6.S) (Nat.le_of_ble_eq_true rfl) rfl ?_
        refine s_call R6 (Nat.zero_le _) (fun _ hq => SX36_fault (b := 0) hm (R6.rf) (c_lit 1 1 rfl) ⟨by decide, by decide⟩ rfl (R6.ri (t_195 hm R6.S) (Nat.le_of_ble_eq_true rfl) rfl) hq) hF (fun f12 rv12 h12 q17 R12 e12 E12 hF => ?_)
        exact g_ret R12 hF ⟨e12.1, e12.2⟩
def FX36_readPatterns (N : Nat) (s : fS) : Option (Int × fS) :=
  (uPI s 195 16 0).bind fun σ1 =>
  (FX36_spaces N σ1).bind fun q4 =>
  FX36_readPatterns_b9 N N q4.2
theorem SX36_readPatterns {m b : Nat} {φ0 : Nat → Nat} {σo : fS} (hm : 1 ≤ m) {N : Nat} {q : Int × fS} {φ : Nat → Nat} {h : eH} {s : fS} (R : fC m b φ0 σo φ h s) (hF : FX36_readPatterns N s = some q) : gG m b φ0 σo lI q (fX36_readPatterns N 195 h) := by
  unfold FX36_readPatterns at hF
  unfold fX36_readPatterns
  refine s_pI R (t_195 hm R.S) (Nat.le_of_ble_eq_true rfl) rfl (c_lit 0 0 rfl) ⟨by decide, by decide⟩ hF (fun h1 σ1 R1 T1 hF => ?_)
  refine s_kok R1 (t_195 hm R1.S) (Nat.le_of_ble_eq_true rfl) ?_
  refine s_call R1 (Nat.zero_le _) (fun _ hq => SX36_spaces (b := 0) (N := N) hm (R1.rf) hq) hF (fun f3 rv3 h3 q4 R3 e3 E3 hF => ?_)
  exact SX36_readPatterns_b9 (N := N) hm R3 hF
def FX36_patterns (N : Nat) (s : fS) : Option (Int × fS) :=
  (FX36_readPatterns N s).bind fun q4 =>
  (uPI q4.2 195 3 0).bind fun σ5 =>
  if 0 ≤ q4.1 then
    some ((isub (σ5.i 195 5) (s.i 195 5)), σ5)
  else
    (uPI σ5 195 5 (s.i 195 5)).bind fun σ10 =>
    some (q4.1, σ10)
theorem SX36_patterns {m b : Nat} {φ0 : Nat → Nat} {σo : fS} (hm : 1 ≤ m) {N : Nat} {q : Int × fS} {φ : Nat → Nat} {h : eH} {s : fS} (R : fC m b φ0 σo φ h s) (hF : FX36_patterns N s = some q) : gG m b φ0 σo lI q (fX36_patterns N 195 h) := by
  unfold FX36_patterns at hF
  unfold fX36_patterns
  refine s_gI R (t_195 hm R.S) (Nat.le_of_ble_eq_true rfl) rfl ?_
  refine s_kok R (t_195 hm R.S) (Nat.le_of_ble_eq_true rfl) ?_
  refine s_call R (Nat.zero_le _) (fun _ hq => SX36_readPatterns (b := 0) (N := N) hm (R.rf) hq) hF (fun f3 rv3 h3 q4 R3 e3 E3 hF => ?_)
  refine s_pI R3 (t_195 hm R3.S) (Nat.le_of_ble_eq_true rfl) rfl (c_lit 0 0 rfl) ⟨by decide, by decide⟩ hF (fun h4 σ5 R4 T4 hF => ?_)
  refine s_if (i_le (c_lit 0 0 rfl) e3.1 ⟨by decide, by decide⟩ e3.2) hF (fun c5 hF => ?_) (fun c5 hF => ?_)
  ·
    refine s_gI R4 (t_195 hm R4.S) (Nat.le_of_ble_eq_true rfl) rfl ?_
    exact g_ret R4 hF ⟨(c_sub rfl rfl), (rr_I _)⟩
  ·
    refine s_pI R4 (t_195 hm R4.S) (Nat.le_of_ble_eq_true rfl) rfl rfl (R.ri (t_195 hm R.S) (Nat.le_of_ble_eq_true rfl) rfl) hF (fun h7 σ10 R7 T7 hF => ?_)
    exact g_ret R7 hF ⟨e3.1, e3.2⟩
def FX36_readWord_b137 (N : Nat) (s0 : Int) (s : fS) : Option (Int × fS) :=
  uZ s0 (s0, s)
theorem SX36_readWord_b137 {m b : Nat} {φ0 : Nat → Nat} {σo : fS} (hm : 1 ≤ m) {N : Nat} {q : Int × fS} {φ : Nat → Nat} {h : eH} {s : fS} {s0' : Int32} {s0 : Int} (R : fC m b φ0 σo φ h s) (es0 : s0' = iI s0) (rs0 : r32 s0) (hF : FX36_readWord_b137 N s0 s = some q) : gG m b φ0 σo lI q (fX36_readWord_b137 N s0' h) := by
  subst es0
  unfold FX36_readWord_b137 at hF
  unfold fX36_readWord_b137
  exact g_z R rfl hF ⟨rfl, rs0⟩
def FX36_readWord_b136 (N : Nat) (s : fS) : Option (Int × fS) :=
  FX36_readWord_b137 N 0 s
theorem SX36_readWord_b136 {m b : Nat} {φ0 : Nat → Nat} {σo : fS} (hm : 1 ≤ m) {N : Nat} {q : Int × fS} {φ : Nat → Nat} {h : eH} {s : fS} (R : fC m b φ0 σo φ h s) (hF : FX36_readWord_b136 N s = some q) : gG m b φ0 σo lI q (fX36_readWord_b136 N h) := by
  unfold FX36_readWord_b136 at hF
  unfold fX36_readWord_b136
  exact SX36_readWord_b137 (N := N) hm R (c_lit 0 0 rfl) ⟨by decide, by decide⟩ hF
def FX36_readWord_b114 (N : Nat) (l1 : Int) (s : fS) : Option (Int × fS) :=
  if (s.i 195 17) ≤ 0 then
    FX36_readWord_b136 N s
  else
    if ¬ (l1 = 0) then
      FX36_readWord_b136 N s
    else
      (FX36_isOver s).bind fun q6 =>
      if q6.1 = 0 then
        FX36_readWord_b136 N q6.2
      else
        FX36_readWord_b137 N 1 q6.2
theorem SX36_readWord_b114 {m b : Nat} {φ0 : Nat → Nat} {σo : fS} (hm : 1 ≤ m) {N : Nat} {q : Int × fS} {φ : Nat → Nat} {h : eH} {s : fS} {l1' : Int32} {l1 : Int} (R : fC m b φ0 σo φ h s) (el1 : l1' = iI l1) (rl1 : r32 l1) (hF : FX36_readWord_b114 N l1 s = some q) : gG m b φ0 σo lI q (fX36_readWord_b114 N 195 l1' h) := by
  subst el1
  unfold FX36_readWord_b114 at hF
  unfold fX36_readWord_b114
  refine s_gI R (t_195 hm R.S) (Nat.le_of_ble_eq_true rfl) rfl ?_
  refine s_if (i_le rfl (c_lit 0 0 rfl) (R.ri (t_195 hm R.S) (Nat.le_of_ble_eq_true rfl) rfl) ⟨by decide, by decide⟩) hF (fun c2 hF => ?_) (fun c2 hF => ?_)
  ·
    exact SX36_readWord_b136 (N := N) hm R hF
  ·
    refine s_if (not_congr (i_eq rfl (c_lit 0 0 rfl) rl1 ⟨by decide, by decide⟩)) hF (fun c3 hF => ?_) (fun c3 hF => ?_)
    ·
      exact SX36_readWord_b136 (N := N) hm R hF
    ·
      refine s_kok R (t_195 hm R.S) (Nat.le_of_ble_eq_true rfl) ?_
      refine s_call R (Nat.zero_le _) (fun _ hq => SX36_isOver (b := 0) hm (R.rf) hq) hF (fun f5 rv5 h5 q6 R5 e5 E5 hF => ?_)
      refine s_if (i_eq e5.1 (c_lit 0 0 rfl) e5.2 ⟨by decide, by decide⟩) hF (fun c6 hF => ?_) (fun c6 hF => ?_)
      ·
        exact SX36_readWord_b136 (N := N) hm R5 hF
      ·
        exact SX36_readWord_b137 (N := N) hm R5 (c_lit 1 1 rfl) ⟨by decide, by decide⟩ hF
def FX36_readWord_b7 (N : Nat) : Nat → Int → fS → Option (Int × fS)
  | 0, _, _ => none
  | n + 1, l1, s =>
    (FX36_isLetter s).bind fun q2 =>
    if q2.1 = 0 then
      (FX36_look q2.2).bind fun q5 =>
      if ¬ (q5.1 = 45) then
        FX36_readWord_b114 N l1 q5.2
      else
        if (q5.2.i 195 17) ≤ 0 then
          FX36_readWord_b114 N l1 q5.2
        else
          if ¬ (l1 = 0) then
            FX36_readWord_b114 N l1 q5.2
          else
            (uQI q5.2 209 (isub (q5.2.i 195 17) 1) (iand 1 1)).bind fun σ15 =>
            (uPI σ15 195 16 (iadd (σ15.i 195 16) 1)).bind fun σ19 =>
            FX36_readWord_b7 N n 1 σ19
    else
      (FX36_look q2.2).bind fun q28 =>
      (uRI q28.2 196 q28.1).bind fun x29 =>
      (uQI q28.2 207 (q2.2.i 195 17) x29).bind fun σ31 =>
      (uQI σ31 209 (σ31.i 195 17) (iand 0 1)).bind fun σ37 =>
      (uPI σ37 195 17 (iadd (σ37.i 195 17) 1)).bind fun σ41 =>
      (uPI σ41 195 16 (iadd (σ41.i 195 16) 1)).bind fun σ45 =>
      FX36_readWord_b7 N n 0 σ45
theorem SX36_readWord_b7 {m b : Nat} {φ0 : Nat → Nat} {σo : fS} (hm : 1 ≤ m) {N : Nat} {q : Int × fS} : ∀ {n : Nat} {φ : Nat → Nat} {h : eH} {s : fS} {l1' : Int32} {l1 : Int}, fC m b φ0 σo φ h s → l1' = iI l1 → r32 l1 → FX36_readWord_b7 N n l1 s = some q → gG m b φ0 σo lI q (fX36_readWord_b7 N n 195 l1' h) := by
  intro n
  induction n with
 | zero => intro φ h s l1' l1 R el1 rl1 hF; simp [FX36_readWord_b7] at hF
  | succ n ih =>
    intro φ h s l1' l1 R el1 rl1 hF
    subst el1
    rw [FX36_readWord_b7] at hF
    rw [fX36_readWord_b7]
    refine s_kok R (t_195 hm R.S) (Nat.le_of_ble_eq_true rfl) ?_
    refine s_call R (Nat.zero_le _) (fun _ hq => SX36_isLetter (b := 0) hm (R.rf) hq) hF (fun f2 rv2 h2 q2 R2 e2 E2 hF => ?_)
    refine s_if (i_eq e2.1 (c_lit 0 0 rfl) e2.2 ⟨by decide, by decide⟩) hF (fun c3 hF => ?_) (fun c3 hF => ?_)
    ·
      refine s_kok R2 (t_195 hm R2.S) (Nat.le_of_ble_eq_true rfl) ?_
      refine s_call R2 (Nat.zero_le _) (fun _ hq => SX36_look (b := 0) hm (R2.rf) hq) hF (fun f5 rv5 h5 q5 R5 e5 E5 hF => ?_)
      refine s_if (not_congr (i_eq e5.1 (c_lit 45 45 rfl) e5.2 ⟨by decide, by decide⟩)) hF (fun c6 hF => ?_) (fun c6 hF => ?_)
      ·
        exact SX36_readWord_b114 (N := N) hm R5 rfl rl1 hF
      ·
        refine s_gI R5 (t_195 hm R5.S) (Nat.le_of_ble_eq_true rfl) rfl ?_
        refine s_if (i_le rfl (c_lit 0 0 rfl) (R5.ri (t_195 hm R5.S) (Nat.le_of_ble_eq_true rfl) rfl) ⟨by decide, by decide⟩) hF (fun c8 hF => ?_) (fun c8 hF => ?_)
        ·
          exact SX36_readWord_b114 (N := N) hm R5 rfl rl1 hF
        ·
          refine s_if (not_congr (i_eq rfl (c_lit 0 0 rfl) rl1 ⟨by decide, by decide⟩)) hF (fun c9 hF => ?_) (fun c9 hF => ?_)
          ·
            exact SX36_readWord_b114 (N := N) hm R5 rfl rl1 hF
          ·
            refine s_gAs R5 (t_195 hm R5.S) (Nat.le_of_ble_eq_true rfl) rfl (o_195_22 hm R5.S) (a_209 hm R5) ?_
            refine s_gI R5 (t_195 hm R5.S) (Nat.le_of_ble_eq_true rfl) rfl ?_
            refine s_qI R5 (u_209 hm R5.S).1 (u_209 hm R5.S).2 (by decide) (a_209 hm R5) (c_sub rfl (c_lit 1 1 rfl)) (rr_I _) (c_and (c_lit 1 1 rfl) (c_lit 1 1 rfl)) (rr_I _) hF (fun h12 σ15 R12 T12 hF => ?_)
            refine s_gI R12 (t_195 hm R12.S) (Nat.le_of_ble_eq_true rfl) rfl ?_
            refine s_pI R12 (t_195 hm R12.S) (Nat.le_of_ble_eq_true rfl) rfl (c_add rfl (c_lit 1 1 rfl)) (rr_I _) hF (fun h14 σ19 R14 T14 hF => ?_)
            exact ih R14 (c_lit 1 1 rfl) ⟨by decide, by decide⟩ hF
    ·
      refine s_gAs R2 (t_195 hm R2.S) (Nat.le_of_ble_eq_true rfl) rfl (o_195_20 hm R2.S) (a_207 hm R2) ?_
      refine s_gI R2 (t_195 hm R2.S) (Nat.le_of_ble_eq_true rfl) rfl ?_
      refine s_gAs R2 (t_195 hm R2.S) (Nat.le_of_ble_eq_true rfl) rfl (o_195_0 hm R2.S) (a_196 hm R2) ?_
      refine s_kok R2 (t_195 hm R2.S) (Nat.le_of_ble_eq_true rfl) ?_
      refine s_call R2 (Nat.zero_le _) (fun _ hq => SX36_look (b := 0) hm (R2.rf) hq) hF (fun f19 rv19 h19 q28 R19 e19 E19 hF => ?_)
      refine s_rI R19 (u_196 hm R19.S).1 (u_196 hm R19.S).2 (by decide) (a_196 hm R19) e19.1 e19.2 hF (fun x29 ra20 hF => ?_)
      refine s_qI R19 (u_207 hm R19.S).1 (u_207 hm R19.S).2 (by decide) (a_207 hm R19) rfl (R2.ri (t_195 hm R2.S) (Nat.le_of_ble_eq_true rfl) rfl) rfl ra20 hF (fun h21 σ31 R21 T21 hF => ?_)
      refine s_gAs R21 (t_195 hm R21.S) (Nat.le_of_ble_eq_true rfl) rfl (o_195_22 hm R21.S) (a_209 hm R21) ?_
      refine s_gI R21 (t_195 hm R21.S) (Nat.le_of_ble_eq_true rfl) rfl ?_
      refine s_qI R21 (u_209 hm R21.S).1 (u_209 hm R21.S).2 (by decide) (a_209 hm R21) rfl (R21.ri (t_195 hm R21.S) (Nat.le_of_ble_eq_true rfl) rfl) (c_and (c_lit 0 0 rfl) (c_lit 1 1 rfl)) (rr_I _) hF (fun h24 σ37 R24 T24 hF => ?_)
      refine s_gI R24 (t_195 hm R24.S) (Nat.le_of_ble_eq_true rfl) rfl ?_
      refine s_pI R24 (t_195 hm R24.S) (Nat.le_of_ble_eq_true rfl) rfl (c_add rfl (c_lit 1 1 rfl)) (rr_I _) hF (fun h26 σ41 R26 T26 hF => ?_)
      refine s_gI R26 (t_195 hm R26.S) (Nat.le_of_ble_eq_true rfl) rfl ?_
      refine s_pI R26 (t_195 hm R26.S) (Nat.le_of_ble_eq_true rfl) rfl (c_add rfl (c_lit 1 1 rfl)) (rr_I _) hF (fun h28 σ45 R28 T28 hF => ?_)
      exact ih R28 (c_lit 0 0 rfl) ⟨by decide, by decide⟩ hF
def FX36_readWord (N : Nat) (s : fS) : Option (Int × fS) :=
  (uPI s 195 17 0).bind fun σ1 =>
  FX36_readWord_b7 N N 0 σ1
theorem SX36_readWord {m b : Nat} {φ0 : Nat → Nat} {σo : fS} (hm : 1 ≤ m) {N : Nat} {q : Int × fS} {φ : Nat → Nat} {h : eH} {s : fS} (R : fC m b φ0 σo φ h s) (hF : FX36_readWord N s = some q) : gG m b φ0 σo lI q (fX36_readWord N 195 h) := by
  unfold FX36_readWord at hF
  unfold fX36_readWord
  refine s_pI R (t_195 hm R.S) (Nat.le_of_ble_eq_true rfl) rfl (c_lit 0 0 rfl) ⟨by decide, by decide⟩ hF (fun h1 σ1 R1 T1 hF => ?_)
  exact SX36_readWord_b7 (N := N) hm R1 (c_lit 0 0 rfl) ⟨by decide, by decide⟩ hF
