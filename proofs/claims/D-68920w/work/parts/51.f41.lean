set_option maxRecDepth 100000
set_option maxHeartbeats 4000000
def FX35_quoted_b78 (N : Nat) (SE : Int → fS → Option (Unit × fS)) (l3 : Int) (s : fS) : Option (Int × fS) :=
  (FX35_dropSpace N SE s).bind fun q2 =>
  some (l3, q2.2)
theorem SX35_quoted_b78 {m b : Nat} {φ0 : Nat → Nat} {σo : fS} (hm : 1 ≤ m) (hb : 1 ≤ b) {N : Nat} {sE : Nat → Int32 → eH → Option (Unit × eH)} {SE : Int → fS → Option (Unit × fS)} {q : Int × fS} (hsE : ∀ {φ : Nat → Nat} {h : eH} {s : fS} {x1' : Int32} {x1 : Int} {q}, fC m 1 φ s φ h s → x1' = iI x1 → r32 x1 → SE x1 s = some q → gG m 1 φ s lU q (sE 192 x1' h)) {φ : Nat → Nat} {h : eH} {s : fS} {l3' : Int32} {l3 : Int} (R : fC m b φ0 σo φ h s) (el3 : l3' = iI l3) (rl3 : r32 l3) (hF : FX35_quoted_b78 N SE l3 s = some q) : gG m b φ0 σo lI q (fX35_quoted_b78 N sE 192 l3' h) := by
  subst el3
  unfold FX35_quoted_b78 at hF
  unfold fX35_quoted_b78
  refine s_kok R (t_192 hm R.S) (Nat.le_of_ble_eq_true rfl) ?_
  refine s_call R hb (fun _ hq => SX35_dropSpace (b := 1) (N := N) (sE := sE) (SE := SE) hm (Nat.le_of_ble_eq_true rfl) @hsE (R.rf) hq) hF (fun f2 rv2 h2 q2 R2 e2 E2 hF => ?_)
  exact g_ret R2 hF ⟨rfl, rl3⟩
def FX35_quoted (N : Nat) (SE : Int → fS → Option (Unit × fS)) (s : fS) : Option (Int × fS) :=
  (FX35_need N s).bind fun q2 =>
  if (q2.2.i 192 46) ≤ 0 then
    (FX35_bare q2.1 q2.2).bind fun q6 =>
    if q6.1 < 65536 then
      FX35_quoted_b78 N SE (irem q6.1 256) q6.2
    else
      if 131072 ≤ q6.1 then
        FX35_quoted_b78 N SE (irem q6.1 256) q6.2
      else
        (uRI q6.2 262 (isub q6.1 65536)).bind fun x11 =>
        if x11 = 1 then
          (uRI q6.2 261 (imul 40 (isub q6.1 65536))).bind fun x16 =>
          FX35_quoted_b78 N SE (iand x16 255) q6.2
        else
          (FX35_fail 6 q6.2).bind fun q19 =>
          some (0, q19.2)
  else
    some (0, q2.2)
theorem SX35_quoted {m b : Nat} {φ0 : Nat → Nat} {σo : fS} (hm : 1 ≤ m) (hb : 1 ≤ b) {N : Nat} {sE : Nat → Int32 → eH → Option (Unit × eH)} {SE : Int → fS → Option (Unit × fS)} {q : Int × fS} (hsE : ∀ {φ : Nat → Nat} {h : eH} {s : fS} {x1' : Int32} {x1 : Int} {q}, fC m 1 φ s φ h s → x1' = iI x1 → r32 x1 → SE x1 s = some q → gG m 1 φ s lU q (sE 192 x1' h)) {φ : Nat → Nat} {h : eH} {s : fS} (R : fC m b φ0 σo φ h s) (hF : FX35_quoted N SE s = some q) : gG m b φ0 σo lI q (fX35_quoted N sE 192 h) := by
  unfold FX35_quoted at hF
  unfold fX35_quoted
  refine s_kok R (t_192 hm R.S) (Nat.le_of_ble_eq_true rfl) ?_
  refine s_call R (Nat.zero_le _) (fun _ hq => SX35_need (b := 0) (N := N) hm (R.rf) hq) hF (fun f2 rv2 h2 q2 R2 e2 E2 hF => ?_)
  refine s_gI R2 (t_192 hm R2.S) (Nat.le_of_ble_eq_true rfl) rfl ?_
  refine s_if (i_le rfl (c_lit 0 0 rfl) (R2.ri (t_192 hm R2.S) (Nat.le_of_ble_eq_true rfl) rfl) ⟨by decide, by decide⟩) hF (fun c4 hF => ?_) (fun c4 hF => ?_)
  ·
    refine s_call R2 (Nat.zero_le _) (fun _ hq => SX35_bare (b := 0) hm (R2.rf) e2.1 e2.2 hq) hF (fun f5 rv5 h5 q6 R5 e5 E5 hF => ?_)
    refine s_if (i_lt e5.1 (c_lit 65536 65536 rfl) e5.2 ⟨by decide, by decide⟩) hF (fun c6 hF => ?_) (fun c6 hF => ?_)
    ·
      exact SX35_quoted_b78 (N := N) (sE := sE) (SE := SE) hm hb @hsE R5 (c_rem e5.1 (c_lit 256 256 rfl)) (rr_I _) hF
    ·
      refine s_if (i_le (c_lit 131072 131072 rfl) e5.1 ⟨by decide, by decide⟩ e5.2) hF (fun c7 hF => ?_) (fun c7 hF => ?_)
      ·
        exact SX35_quoted_b78 (N := N) (sE := sE) (SE := SE) hm hb @hsE R5 (c_rem e5.1 (c_lit 256 256 rfl)) (rr_I _) hF
      ·
        refine s_gAs R5 (t_192 hm R5.S) (Nat.le_of_ble_eq_true rfl) rfl (o_192_17 hm R5.S) (a_262 hm R5) ?_
        refine s_rI R5 (u_262 hm R5.S).1 (u_262 hm R5.S).2 (by decide) (a_262 hm R5) (c_sub e5.1 (c_lit 65536 65536 rfl)) (rr_I _) hF (fun x11 ra9 hF => ?_)
        refine s_if (i_eq rfl (c_lit 1 1 rfl) ra9 ⟨by decide, by decide⟩) hF (fun c10 hF => ?_) (fun c10 hF => ?_)
        ·
          refine s_gAs R5 (t_192 hm R5.S) (Nat.le_of_ble_eq_true rfl) rfl (o_192_16 hm R5.S) (a_261 hm R5) ?_
          refine s_rI R5 (u_261 hm R5.S).1 (u_261 hm R5.S).2 (by decide) (a_261 hm R5) (c_mul (c_lit 40 40 rfl) (c_sub e5.1 (c_lit 65536 65536 rfl))) (rr_I _) hF (fun x16 ra12 hF => ?_)
          exact SX35_quoted_b78 (N := N) (sE := sE) (SE := SE) hm hb @hsE R5 (c_and rfl (c_lit 255 255 rfl)) (rr_I _) hF
        ·
          refine s_kok R5 (t_192 hm R5.S) (Nat.le_of_ble_eq_true rfl) ?_
          refine s_call R5 (Nat.zero_le _) (fun _ hq => SX35_fail (b := 0) hm (R5.rf) (c_lit 6 6 rfl) ⟨by decide, by decide⟩ hq) hF (fun f14 rv14 h14 q19 R14 e14 E14 hF => ?_)
          exact g_ret R14 hF ⟨(c_lit 0 0 rfl), ⟨by decide, by decide⟩⟩
  ·
    exact g_ret R2 hF ⟨(c_lit 0 0 rfl), ⟨by decide, by decide⟩⟩
def FX35_isCounter_b23 (s0 : Int) (s : fS) : Option (Int × fS) :=
  uZ s0 (s0, s)
theorem SX35_isCounter_b23 {m b : Nat} {φ0 : Nat → Nat} {σo : fS} (hm : 1 ≤ m) {q : Int × fS} {φ : Nat → Nat} {h : eH} {s : fS} {s0' : Int32} {s0 : Int} (R : fC m b φ0 σo φ h s) (es0 : s0' = iI s0) (rs0 : r32 s0) (hF : FX35_isCounter_b23 s0 s = some q) : gG m b φ0 σo lI q (fX35_isCounter_b23 s0' h) := by
  subst es0
  unfold FX35_isCounter_b23 at hF
  unfold fX35_isCounter_b23
  exact g_z R rfl hF ⟨rfl, rs0⟩
def FX35_isCounter_b18 (s : fS) : Option (Int × fS) :=
  FX35_isCounter_b23 1 s
theorem SX35_isCounter_b18 {m b : Nat} {φ0 : Nat → Nat} {σo : fS} (hm : 1 ≤ m) {q : Int × fS} {φ : Nat → Nat} {h : eH} {s : fS} (R : fC m b φ0 σo φ h s) (hF : FX35_isCounter_b18 s = some q) : gG m b φ0 σo lI q (fX35_isCounter_b18 h) := by
  unfold FX35_isCounter_b18 at hF
  unfold fX35_isCounter_b18
  exact SX35_isCounter_b23 hm R (c_lit 1 1 rfl) ⟨by decide, by decide⟩ hF
def FX35_isCounter_b22 (s : fS) : Option (Int × fS) :=
  FX35_isCounter_b23 0 s
theorem SX35_isCounter_b22 {m b : Nat} {φ0 : Nat → Nat} {σo : fS} (hm : 1 ≤ m) {q : Int × fS} {φ : Nat → Nat} {h : eH} {s : fS} (R : fC m b φ0 σo φ h s) (hF : FX35_isCounter_b22 s = some q) : gG m b φ0 σo lI q (fX35_isCounter_b22 h) := by
  unfold FX35_isCounter_b22 at hF
  unfold fX35_isCounter_b22
  exact SX35_isCounter_b23 hm R (c_lit 0 0 rfl) ⟨by decide, by decide⟩ hF
def FX35_isCounter (p0 : Int) (s : fS) : Option (Int × fS) :=
  if p0 = 41 then
    FX35_isCounter_b18 s
  else
    if p0 < 70 then
      FX35_isCounter_b22 s
    else
      if 83 ≤ p0 then
        FX35_isCounter_b22 s
      else
        FX35_isCounter_b18 s
theorem SX35_isCounter {m b : Nat} {φ0 : Nat → Nat} {σo : fS} (hm : 1 ≤ m) {q : Int × fS} {φ : Nat → Nat} {h : eH} {s : fS} {p0' : Int32} {p0 : Int} (R : fC m b φ0 σo φ h s) (ep0 : p0' = iI p0) (rp0 : r32 p0) (hF : FX35_isCounter p0 s = some q) : gG m b φ0 σo lI q (fX35_isCounter p0' h) := by
  subst ep0
  unfold FX35_isCounter at hF
  unfold fX35_isCounter
  refine s_if (i_eq rfl (c_lit 41 41 rfl) rp0 ⟨by decide, by decide⟩) hF (fun c1 hF => ?_) (fun c1 hF => ?_)
  ·
    exact SX35_isCounter_b18 hm R hF
  ·
    refine s_if (i_lt rfl (c_lit 70 70 rfl) rp0 ⟨by decide, by decide⟩) hF (fun c2 hF => ?_) (fun c2 hF => ?_)
    ·
      exact SX35_isCounter_b22 hm R hF
    ·
      refine s_if (i_le (c_lit 83 83 rfl) rfl ⟨by decide, by decide⟩ rp0) hF (fun c3 hF => ?_) (fun c3 hF => ?_)
      ·
        exact SX35_isCounter_b22 hm R hF
      ·
        exact SX35_isCounter_b18 hm R hF
def FX35_isNumber_b32 (s0 : Int) (s : fS) : Option (Int × fS) :=
  uZ s0 (s0, s)
theorem SX35_isNumber_b32 {m b : Nat} {φ0 : Nat → Nat} {σo : fS} (hm : 1 ≤ m) {q : Int × fS} {φ : Nat → Nat} {h : eH} {s : fS} {s0' : Int32} {s0 : Int} (R : fC m b φ0 σo φ h s) (es0 : s0' = iI s0) (rs0 : r32 s0) (hF : FX35_isNumber_b32 s0 s = some q) : gG m b φ0 σo lI q (fX35_isNumber_b32 s0' h) := by
  subst es0
  unfold FX35_isNumber_b32 at hF
  unfold fX35_isNumber_b32
  exact g_z R rfl hF ⟨rfl, rs0⟩
def FX35_isNumber_b31 (s : fS) : Option (Int × fS) :=
  FX35_isNumber_b32 0 s
theorem SX35_isNumber_b31 {m b : Nat} {φ0 : Nat → Nat} {σo : fS} (hm : 1 ≤ m) {q : Int × fS} {φ : Nat → Nat} {h : eH} {s : fS} (R : fC m b φ0 σo φ h s) (hF : FX35_isNumber_b31 s = some q) : gG m b φ0 σo lI q (fX35_isNumber_b31 h) := by
  unfold FX35_isNumber_b31 at hF
  unfold fX35_isNumber_b31
  exact SX35_isNumber_b32 hm R (c_lit 0 0 rfl) ⟨by decide, by decide⟩ hF
def FX35_isNumber (p0 : Int) (s : fS) : Option (Int × fS) :=
  if p0 = (-1) then
    FX35_isNumber_b31 s
  else
    (FX35_meaning p0 s).bind fun q3 =>
    if q3.1 < 3000000 then
      FX35_isNumber_b31 q3.2
    else
      (FX35_meaning p0 q3.2).bind fun q6 =>
      if 4000000 ≤ q6.1 then
        FX35_isNumber_b31 q6.2
      else
        FX35_isNumber_b32 1 q6.2
theorem SX35_isNumber {m b : Nat} {φ0 : Nat → Nat} {σo : fS} (hm : 1 ≤ m) {q : Int × fS} {φ : Nat → Nat} {h : eH} {s : fS} {p0' : Int32} {p0 : Int} (R : fC m b φ0 σo φ h s) (ep0 : p0' = iI p0) (rp0 : r32 p0) (hF : FX35_isNumber p0 s = some q) : gG m b φ0 σo lI q (fX35_isNumber 192 p0' h) := by
  subst ep0
  unfold FX35_isNumber at hF
  unfold fX35_isNumber
  refine s_if (i_eq rfl (c_lit (-1) (-1) rfl) rp0 ⟨by decide, by decide⟩) hF (fun c1 hF => ?_) (fun c1 hF => ?_)
  ·
    exact SX35_isNumber_b31 hm R hF
  ·
    refine s_kok R (t_192 hm R.S) (Nat.le_of_ble_eq_true rfl) ?_
    refine s_call R (Nat.zero_le _) (fun _ hq => SX35_meaning (b := 0) hm (R.rf) rfl rp0 hq) hF (fun f3 rv3 h3 q3 R3 e3 E3 hF => ?_)
    refine s_if (i_lt e3.1 (c_lit 3000000 3000000 rfl) e3.2 ⟨by decide, by decide⟩) hF (fun c4 hF => ?_) (fun c4 hF => ?_)
    ·
      exact SX35_isNumber_b31 hm R3 hF
    ·
      refine s_kok R3 (t_192 hm R3.S) (Nat.le_of_ble_eq_true rfl) ?_
      refine s_call R3 (Nat.zero_le _) (fun _ hq => SX35_meaning (b := 0) hm (R3.rf) rfl rp0 hq) hF (fun f6 rv6 h6 q6 R6 e6 E6 hF => ?_)
      refine s_if (i_le (c_lit 4000000 4000000 rfl) e6.1 ⟨by decide, by decide⟩ e6.2) hF (fun c7 hF => ?_) (fun c7 hF => ?_)
      ·
        exact SX35_isNumber_b31 hm R6 hF
      ·
        exact SX35_isNumber_b32 hm R6 (c_lit 1 1 rfl) ⟨by decide, by decide⟩ hF
def FX35_hasValue_b32 (s0 : Int) (s : fS) : Option (Int × fS) :=
  uZ s0 (s0, s)
theorem SX35_hasValue_b32 {m b : Nat} {φ0 : Nat → Nat} {σo : fS} (hm : 1 ≤ m) {q : Int × fS} {φ : Nat → Nat} {h : eH} {s : fS} {s0' : Int32} {s0 : Int} (R : fC m b φ0 σo φ h s) (es0 : s0' = iI s0) (rs0 : r32 s0) (hF : FX35_hasValue_b32 s0 s = some q) : gG m b φ0 σo lI q (fX35_hasValue_b32 s0' h) := by
  subst es0
  unfold FX35_hasValue_b32 at hF
  unfold fX35_hasValue_b32
  exact g_z R rfl hF ⟨rfl, rs0⟩
def FX35_hasValue_b27 (s : fS) : Option (Int × fS) :=
  FX35_hasValue_b32 1 s
theorem SX35_hasValue_b27 {m b : Nat} {φ0 : Nat → Nat} {σo : fS} (hm : 1 ≤ m) {q : Int × fS} {φ : Nat → Nat} {h : eH} {s : fS} (R : fC m b φ0 σo φ h s) (hF : FX35_hasValue_b27 s = some q) : gG m b φ0 σo lI q (fX35_hasValue_b27 h) := by
  unfold FX35_hasValue_b27 at hF
  unfold fX35_hasValue_b27
  exact SX35_hasValue_b32 hm R (c_lit 1 1 rfl) ⟨by decide, by decide⟩ hF
def FX35_hasValue (p0 : Int) (s : fS) : Option (Int × fS) :=
  (FX35_primitiveOf p0 s).bind fun q2 =>
  (FX35_isCounter q2.1 q2.2).bind fun q3 =>
  if ¬ (q3.1 = 0) then
    FX35_hasValue_b27 q3.2
  else
    if q2.1 = 35 then
      FX35_hasValue_b27 q3.2
    else
      (FX35_isNumber p0 q3.2).bind fun q7 =>
      if q7.1 = 0 then
        FX35_hasValue_b32 0 q7.2
      else
        FX35_hasValue_b27 q7.2
theorem SX35_hasValue {m b : Nat} {φ0 : Nat → Nat} {σo : fS} (hm : 1 ≤ m) {q : Int × fS} {φ : Nat → Nat} {h : eH} {s : fS} {p0' : Int32} {p0 : Int} (R : fC m b φ0 σo φ h s) (ep0 : p0' = iI p0) (rp0 : r32 p0) (hF : FX35_hasValue p0 s = some q) : gG m b φ0 σo lI q (fX35_hasValue 192 p0' h) := by
  subst ep0
  unfold FX35_hasValue at hF
  unfold fX35_hasValue
  refine s_kok R (t_192 hm R.S) (Nat.le_of_ble_eq_true rfl) ?_
  refine s_call R (Nat.zero_le _) (fun _ hq => SX35_primitiveOf (b := 0) hm (R.rf) rfl rp0 hq) hF (fun f2 rv2 h2 q2 R2 e2 E2 hF => ?_)
  refine s_call R2 (Nat.zero_le _) (fun _ hq => SX35_isCounter (b := 0) hm (R2.rf) e2.1 e2.2 hq) hF (fun f3 rv3 h3 q3 R3 e3 E3 hF => ?_)
  refine s_if (not_congr (i_eq e3.1 (c_lit 0 0 rfl) e3.2 ⟨by decide, by decide⟩)) hF (fun c4 hF => ?_) (fun c4 hF => ?_)
  ·
    exact SX35_hasValue_b27 hm R3 hF
  ·
    refine s_if (i_eq e2.1 (c_lit 35 35 rfl) e2.2 ⟨by decide, by decide⟩) hF (fun c5 hF => ?_) (fun c5 hF => ?_)
    ·
      exact SX35_hasValue_b27 hm R3 hF
    ·
      refine s_kok R3 (t_192 hm R3.S) (Nat.le_of_ble_eq_true rfl) ?_
      refine s_call R3 (Nat.zero_le _) (fun _ hq => SX35_isNumber (b := 0) hm (R3.rf) rfl rp0 hq) hF (fun f7 rv7 h7 q7 R7 e7 E7 hF => ?_)
      refine s_if (i_eq e7.1 (c_lit 0 0 rfl) e7.2 ⟨by decide, by decide⟩) hF (fun c8 hF => ?_) (fun c8 hF => ?_)
      ·
        exact SX35_hasValue_b32 hm R7 (c_lit 0 0 rfl) ⟨by decide, by decide⟩ hF
      ·
        exact SX35_hasValue_b27 hm R7 hF
def FX35_value_b57 (SN : fS → Option (Int × fS)) (s0 : Int) (s : fS) : Option (Int × fS) :=
  some (s0, s)
theorem SX35_value_b57 {m b : Nat} {φ0 : Nat → Nat} {σo : fS} (hm : 1 ≤ m) {sN : Nat → eH → Option (Int32 × eH)} {SN : fS → Option (Int × fS)} {q : Int × fS} (hsN : ∀ {φ : Nat → Nat} {h : eH} {s : fS} {q}, fC m 1 φ s φ h s → SN s = some q → gG m 1 φ s lI q (sN 192 h)) {φ : Nat → Nat} {h : eH} {s : fS} {s0' : Int32} {s0 : Int} (R : fC m b φ0 σo φ h s) (es0 : s0' = iI s0) (rs0 : r32 s0) (hF : FX35_value_b57 SN s0 s = some q) : gG m b φ0 σo lI q (fX35_value_b57 sN s0' h) := by
  subst es0
  unfold FX35_value_b57 at hF
  unfold fX35_value_b57
  exact g_ret R hF ⟨rfl, rs0⟩
def FX35_value (SN : fS → Option (Int × fS)) (p0 : Int) (s : fS) : Option (Int × fS) :=
  (FX35_isNumber p0 s).bind fun q2 =>
  if q2.1 = 0 then
    (FX35_primitiveOf p0 q2.2).bind fun q5 =>
    if ¬ (q5.1 = 35) then
      (FX35_at SN q5.1 q5.2).bind fun q8 =>
      (FX35_now q8.1 q8.2).bind fun q10 =>
      FX35_value_b57 SN q10.1 q10.2
    else
      (FX35_small SN 255 q5.2).bind fun q12 =>
      (FX35_now (iadd 1460 q12.1) q12.2).bind fun q14 =>
      FX35_value_b57 SN q14.1 q14.2
  else
    (FX35_meaning p0 q2.2).bind fun q16 =>
    some ((isub q16.1 3000000), q16.2)
theorem SX35_value {m b : Nat} {φ0 : Nat → Nat} {σo : fS} (hm : 1 ≤ m) (hb : 1 ≤ b) {sN : Nat → eH → Option (Int32 × eH)} {SN : fS → Option (Int × fS)} {q : Int × fS} (hsN : ∀ {φ : Nat → Nat} {h : eH} {s : fS} {q}, fC m 1 φ s φ h s → SN s = some q → gG m 1 φ s lI q (sN 192 h)) {φ : Nat → Nat} {h : eH} {s : fS} {p0' : Int32} {p0 : Int} (R : fC m b φ0 σo φ h s) (ep0 : p0' = iI p0) (rp0 : r32 p0) (hF : FX35_value SN p0 s = some q) : gG m b φ0 σo lI q (fX35_value sN 192 p0' h) := by
  subst ep0
  unfold FX35_value at hF
  unfold fX35_value
  refine s_kok R (t_192 hm R.S) (Nat.le_of_ble_eq_true rfl) ?_
  refine s_call R (Nat.zero_le _) (fun _ hq => SX35_isNumber (b := 0) hm (R.rf) rfl rp0 hq) hF (fun f2 rv2 h2 q2 R2 e2 E2 hF => ?_)
  refine s_if (i_eq e2.1 (c_lit 0 0 rfl) e2.2 ⟨by decide, by decide⟩) hF (fun c3 hF => ?_) (fun c3 hF => ?_)
  ·
    refine s_kok R2 (t_192 hm R2.S) (Nat.le_of_ble_eq_true rfl) ?_
    refine s_call R2 (Nat.zero_le _) (fun _ hq => SX35_primitiveOf (b := 0) hm (R2.rf) rfl rp0 hq) hF (fun f5 rv5 h5 q5 R5 e5 E5 hF => ?_)
    refine s_if (not_congr (i_eq e5.1 (c_lit 35 35 rfl) e5.2 ⟨by decide, by decide⟩)) hF (fun c6 hF => ?_) (fun c6 hF => ?_)
    ·
      refine s_kok R5 (t_192 hm R5.S) (Nat.le_of_ble_eq_true rfl) ?_
      refine s_call R5 hb (fun _ hq => SX35_at (b := 1) (sN := sN) (SN := SN) hm (Nat.le_of_ble_eq_true rfl) @hsN (R5.rf) e5.1 e5.2 hq) hF (fun f8 rv8 h8 q8 R8 e8 E8 hF => ?_)
      refine s_kok R8 (t_192 hm R8.S) (Nat.le_of_ble_eq_true rfl) ?_
      refine s_call R8 (Nat.zero_le _) (fun _ hq => SX35_now (b := 0) hm (R8.rf) e8.1 e8.2 hq) hF (fun f10 rv10 h10 q10 R10 e10 E10 hF => ?_)
      exact SX35_value_b57 (sN := sN) (SN := SN) hm @hsN R10 e10.1 e10.2 hF
    ·
      refine s_kok R5 (t_192 hm R5.S) (Nat.le_of_ble_eq_true rfl) ?_
      refine s_call R5 hb (fun _ hq => SX35_small (b := 1) (sN := sN) (SN := SN) hm (Nat.le_of_ble_eq_true rfl) @hsN (R5.rf) (c_lit 255 255 rfl) ⟨by decide, by decide⟩ hq) hF (fun f12 rv12 h12 q12 R12 e12 E12 hF => ?_)
      refine s_kok R12 (t_192 hm R12.S) (Nat.le_of_ble_eq_true rfl) ?_
      refine s_call R12 (Nat.zero_le _) (fun _ hq => SX35_now (b := 0) hm (R12.rf) (c_add (c_lit 1460 1460 rfl) e12.1) (rr_I _) hq) hF (fun f14 rv14 h14 q14 R14 e14 E14 hF => ?_)
      exact SX35_value_b57 (sN := sN) (SN := SN) hm @hsN R14 e14.1 e14.2 hF
  ·
    refine s_kok R2 (t_192 hm R2.S) (Nat.le_of_ble_eq_true rfl) ?_
    refine s_call R2 (Nat.zero_le _) (fun _ hq => SX35_meaning (b := 0) hm (R2.rf) rfl rp0 hq) hF (fun f16 rv16 h16 q16 R16 e16 E16 hF => ?_)
    exact g_ret R16 hF ⟨(c_sub e16.1 (c_lit 3000000 3000000 rfl)), (rr_I _)⟩
def FX35_factor_b84 (N : Nat) (SE : Int → fS → Option (Unit × fS)) (SN : fS → Option (Int × fS)) (K37 : Int → Int → Int → fS → Option (Unit × fS)) (l2 : Int) (l4 : Int) (s : fS) : Option (Unit × fS) :=
  (FX35_getExpanded N SE s).bind fun q2 =>
  K37 l2 l4 q2.1 q2.2
theorem SX35_factor_b84 {m b : Nat} {φ0 : Nat → Nat} {σo : fS} (hm : 1 ≤ m) (hb : 1 ≤ b) {N : Nat} {sE : Nat → Int32 → eH → Option (Unit × eH)} {SE : Int → fS → Option (Unit × fS)} {sN : Nat → eH → Option (Int32 × eH)} {SN : fS → Option (Int × fS)} {k37 : Nat → Int64 → Int64 → Int32 → eH → Option (Unit × eH)} {K37 : Int → Int → Int → fS → Option (Unit × fS)} {q : Unit × fS} (hsE : ∀ {φ : Nat → Nat} {h : eH} {s : fS} {x1' : Int32} {x1 : Int} {q}, fC m 1 φ s φ h s → x1' = iI x1 → r32 x1 → SE x1 s = some q → gG m 1 φ s lU q (sE 192 x1' h)) (hsN : ∀ {φ : Nat → Nat} {h : eH} {s : fS} {q}, fC m 1 φ s φ h s → SN s = some q → gG m 1 φ s lI q (sN 192 h)) (hk37 : ∀ {φ : Nat → Nat} {h : eH} {s : fS} {l2' : Int64} {l2 : Int} {l4' : Int64} {l4 : Int} {l6' : Int32} {l6 : Int}, fC m b φ0 σo φ h s → l2' = iJ l2 → r64 l2 → l4' = iJ l4 → r64 l4 → l6' = iI l6 → r32 l6 → K37 l2 l4 l6 s = some q → gG m b φ0 σo lU q (k37 192 l2' l4' l6' h)) {φ : Nat → Nat} {h : eH} {s : fS} {l2' : Int64} {l2 : Int} {l4' : Int64} {l4 : Int} (R : fC m b φ0 σo φ h s) (el2 : l2' = iJ l2) (rl2 : r64 l2) (el4 : l4' = iJ l4) (rl4 : r64 l4) (hF : FX35_factor_b84 N SE SN K37 l2 l4 s = some q) : gG m b φ0 σo lU q (fX35_factor_b84 N sE sN k37 192 l2' l4' h) := by
  subst el2; subst el4
  unfold FX35_factor_b84 at hF
  unfold fX35_factor_b84
  refine s_kok R (t_192 hm R.S) (Nat.le_of_ble_eq_true rfl) ?_
  refine s_call R hb (fun _ hq => SX35_getExpanded (b := 1) (N := N) (sE := sE) (SE := SE) hm (Nat.le_of_ble_eq_true rfl) @hsE (R.rf) hq) hF (fun f2 rv2 h2 q2 R2 e2 E2 hF => ?_)
  exact hk37 R2 rfl rl2 rfl rl4 e2.1 e2.2 hF
def FX35_factor_b153 (N : Nat) (SE : Int → fS → Option (Unit × fS)) (SN : fS → Option (Int × fS)) (K123 : Int → Int → Int → fS → Option (Unit × fS)) (l2 : Int) (l4 : Int) (l6 : Int) (s : fS) : Option (Unit × fS) :=
  (FX35_getExpanded N SE s).bind fun q2 =>
  K123 (lsub (ladd (lmul 10 l2) (irem l6 256)) 48) (lmul 10 l4) q2.1 q2.2
theorem SX35_factor_b153 {m b : Nat} {φ0 : Nat → Nat} {σo : fS} (hm : 1 ≤ m) (hb : 1 ≤ b) {N : Nat} {sE : Nat → Int32 → eH → Option (Unit × eH)} {SE : Int → fS → Option (Unit × fS)} {sN : Nat → eH → Option (Int32 × eH)} {SN : fS → Option (Int × fS)} {k123 : Nat → Int64 → Int64 → Int32 → eH → Option (Unit × eH)} {K123 : Int → Int → Int → fS → Option (Unit × fS)} {q : Unit × fS} (hsE : ∀ {φ : Nat → Nat} {h : eH} {s : fS} {x1' : Int32} {x1 : Int} {q}, fC m 1 φ s φ h s → x1' = iI x1 → r32 x1 → SE x1 s = some q → gG m 1 φ s lU q (sE 192 x1' h)) (hsN : ∀ {φ : Nat → Nat} {h : eH} {s : fS} {q}, fC m 1 φ s φ h s → SN s = some q → gG m 1 φ s lI q (sN 192 h)) (hk123 : ∀ {φ : Nat → Nat} {h : eH} {s : fS} {l2' : Int64} {l2 : Int} {l4' : Int64} {l4 : Int} {l6' : Int32} {l6 : Int}, fC m b φ0 σo φ h s → l2' = iJ l2 → r64 l2 → l4' = iJ l4 → r64 l4 → l6' = iI l6 → r32 l6 → K123 l2 l4 l6 s = some q → gG m b φ0 σo lU q (k123 192 l2' l4' l6' h)) {φ : Nat → Nat} {h : eH} {s : fS} {l2' : Int64} {l2 : Int} {l4' : Int64} {l4 : Int} {l6' : Int32} {l6 : Int} (R : fC m b φ0 σo φ h s) (el2 : l2' = iJ l2) (rl2 : r64 l2) (el4 : l4' = iJ l4) (rl4 : r64 l4) (el6 : l6' = iI l6) (rl6 : r32 l6) (hF : FX35_factor_b153 N SE SN K123 l2 l4 l6 s = some q) : gG m b φ0 σo lU q (fX35_factor_b153 N sE sN k123 192 l2' l4' l6' h) := by
  subst el2; subst el4; subst el6
  unfold FX35_factor_b153 at hF
  unfold fX35_factor_b153
  refine s_kok R (t_192 hm R.S) (Nat.le_of_ble_eq_true rfl) ?_
  refine s_call R hb (fun _ hq => SX35_getExpanded (b := 1) (N := N) (sE := sE) (SE := SE) hm (Nat.le_of_ble_eq_true rfl) @hsE (R.rf) hq) hF (fun f2 rv2 h2 q2 R2 e2 E2 hF => ?_)
  exact hk123 R2 (d_sub (d_add (d_mul (d_lit 10 10 rfl) rfl) (c_2l (c_rem rfl (c_lit 256 256 rfl)) (rr_I _))) (d_lit 48 48 rfl)) (rr_J _) (d_mul (d_lit 10 10 rfl) rfl) (rr_J _) e2.1 e2.2 hF
def FX35_factor_b241 (N : Nat) (SE : Int → fS → Option (Unit × fS)) (SN : fS → Option (Int × fS)) (l2 : Int) (l4 : Int) (s : fS) : Option (Unit × fS) :=
  (uPJ s 192 118 l2).bind fun σ1 =>
  (uPJ σ1 192 119 l4).bind fun σ3 =>
  some ((), σ3)
theorem SX35_factor_b241 {m b : Nat} {φ0 : Nat → Nat} {σo : fS} (hm : 1 ≤ m) {N : Nat} {sE : Nat → Int32 → eH → Option (Unit × eH)} {SE : Int → fS → Option (Unit × fS)} {sN : Nat → eH → Option (Int32 × eH)} {SN : fS → Option (Int × fS)} {q : Unit × fS} (hsE : ∀ {φ : Nat → Nat} {h : eH} {s : fS} {x1' : Int32} {x1 : Int} {q}, fC m 1 φ s φ h s → x1' = iI x1 → r32 x1 → SE x1 s = some q → gG m 1 φ s lU q (sE 192 x1' h)) (hsN : ∀ {φ : Nat → Nat} {h : eH} {s : fS} {q}, fC m 1 φ s φ h s → SN s = some q → gG m 1 φ s lI q (sN 192 h)) {φ : Nat → Nat} {h : eH} {s : fS} {l2' : Int64} {l2 : Int} {l4' : Int64} {l4 : Int} (R : fC m b φ0 σo φ h s) (el2 : l2' = iJ l2) (rl2 : r64 l2) (el4 : l4' = iJ l4) (rl4 : r64 l4) (hF : FX35_factor_b241 N SE SN l2 l4 s = some q) : gG m b φ0 σo lU q (fX35_factor_b241 N sE sN 192 l2' l4' h) := by
  subst el2; subst el4
  unfold FX35_factor_b241 at hF
  unfold fX35_factor_b241
  refine s_pJ R (t_192 hm R.S) (Nat.le_of_ble_eq_true rfl) rfl rfl rl2 hF (fun h1 σ1 R1 T1 hF => ?_)
  refine s_pJ R1 (t_192 hm R1.S) (Nat.le_of_ble_eq_true rfl) rfl rfl rl4 hF (fun h2 σ3 R2 T2 hF => ?_)
  exact g_ret R2 hF trivial
def FX35_factor_b188 (N : Nat) (SE : Int → fS → Option (Unit × fS)) (SN : fS → Option (Int × fS)) (l2 : Int) (l4 : Int) (l6 : Int) (s : fS) : Option (Unit × fS) :=
  (FX35_put l6 s).bind fun q2 =>
  FX35_factor_b241 N SE SN l2 l4 q2.2
theorem SX35_factor_b188 {m b : Nat} {φ0 : Nat → Nat} {σo : fS} (hm : 1 ≤ m) {N : Nat} {sE : Nat → Int32 → eH → Option (Unit × eH)} {SE : Int → fS → Option (Unit × fS)} {sN : Nat → eH → Option (Int32 × eH)} {SN : fS → Option (Int × fS)} {q : Unit × fS} (hsE : ∀ {φ : Nat → Nat} {h : eH} {s : fS} {x1' : Int32} {x1 : Int} {q}, fC m 1 φ s φ h s → x1' = iI x1 → r32 x1 → SE x1 s = some q → gG m 1 φ s lU q (sE 192 x1' h)) (hsN : ∀ {φ : Nat → Nat} {h : eH} {s : fS} {q}, fC m 1 φ s φ h s → SN s = some q → gG m 1 φ s lI q (sN 192 h)) {φ : Nat → Nat} {h : eH} {s : fS} {l2' : Int64} {l2 : Int} {l4' : Int64} {l4 : Int} {l6' : Int32} {l6 : Int} (R : fC m b φ0 σo φ h s) (el2 : l2' = iJ l2) (rl2 : r64 l2) (el4 : l4' = iJ l4) (rl4 : r64 l4) (el6 : l6' = iI l6) (rl6 : r32 l6) (hF : FX35_factor_b188 N SE SN l2 l4 l6 s = some q) : gG m b φ0 σo lU q (fX35_factor_b188 N sE sN 192 l2' l4' l6' h) := by
  subst el2; subst el4; subst el6
  unfold FX35_factor_b188 at hF
  unfold fX35_factor_b188
  refine s_kok R (t_192 hm R.S) (Nat.le_of_ble_eq_true rfl) ?_
  refine s_call R (Nat.zero_le _) (fun _ hq => SX35_put (b := 0) hm (R.rf) rfl rl6 hq) hF (fun f2 rv2 h2 q2 R2 e2 E2 hF => ?_)
  exact SX35_factor_b241 (N := N) (sE := sE) (SE := SE) (sN := sN) (SN := SN) hm @hsE @hsN R2 rfl rl2 rfl rl4 hF
def FX35_factor_b123 (N : Nat) (SE : Int → fS → Option (Unit × fS)) (SN : fS → Option (Int × fS)) : Nat → Int → Int → Int → fS → Option (Unit × fS)
  | 0, _, _, _, _ => none
  | n + 1, l2, l4, l6, s =>
    (FX35_isDigit l6 s).bind fun q1 =>
    if q1.1 = 0 then
      FX35_factor_b188 N SE SN l2 l4 l6 q1.2
    else
      if ¬ ((q1.2.i 192 46) = 0) then
        FX35_factor_b188 N SE SN l2 l4 l6 q1.2
      else
        if ¬ (l4 = 10000) then
          FX35_factor_b153 N SE SN (FX35_factor_b123 N SE SN n) l2 l4 l6 q1.2
        else
          (FX35_fail 7 q1.2).bind fun q8 =>
          FX35_factor_b153 N SE SN (FX35_factor_b123 N SE SN n) l2 l4 l6 q8.2
theorem SX35_factor_b123 {m b : Nat} {φ0 : Nat → Nat} {σo : fS} (hm : 1 ≤ m) (hb : 1 ≤ b) {N : Nat} {sE : Nat → Int32 → eH → Option (Unit × eH)} {SE : Int → fS → Option (Unit × fS)} {sN : Nat → eH → Option (Int32 × eH)} {SN : fS → Option (Int × fS)} {q : Unit × fS} (hsE : ∀ {φ : Nat → Nat} {h : eH} {s : fS} {x1' : Int32} {x1 : Int} {q}, fC m 1 φ s φ h s → x1' = iI x1 → r32 x1 → SE x1 s = some q → gG m 1 φ s lU q (sE 192 x1' h)) (hsN : ∀ {φ : Nat → Nat} {h : eH} {s : fS} {q}, fC m 1 φ s φ h s → SN s = some q → gG m 1 φ s lI q (sN 192 h)) : ∀ {n : Nat} {φ : Nat → Nat} {h : eH} {s : fS} {l2' : Int64} {l2 : Int} {l4' : Int64} {l4 : Int} {l6' : Int32} {l6 : Int}, fC m b φ0 σo φ h s → l2' = iJ l2 → r64 l2 → l4' = iJ l4 → r64 l4 → l6' = iI l6 → r32 l6 → FX35_factor_b123 N SE SN n l2 l4 l6 s = some q → gG m b φ0 σo lU q (fX35_factor_b123 N sE sN n 192 l2' l4' l6' h) := by
  intro n
  induction n with
 | zero => intro φ h s l2' l2 l4' l4 l6' l6 R el2 rl2 el4 rl4 el6 rl6 hF; simp [FX35_factor_b123] at hF
  | succ n ih =>
    intro φ h s l2' l2 l4' l4 l6' l6 R el2 rl2 el4 rl4 el6 rl6 hF
    subst el2; subst el4; subst el6
    rw [FX35_factor_b123] at hF
    rw [fX35_factor_b123]
    refine s_call R (Nat.zero_le _) (fun _ hq => SX35_isDigit (b := 0) hm (R.rf) rfl rl6 hq) hF (fun f1 rv1 h1 q1 R1 e1 E1 hF => ?_)
    refine s_if (i_eq e1.1 (c_lit 0 0 rfl) e1.2 ⟨by decide, by decide⟩) hF (fun c2 hF => ?_) (fun c2 hF => ?_)
    ·
      exact SX35_factor_b188 (N := N) (sE := sE) (SE := SE) (sN := sN) (SN := SN) hm @hsE @hsN R1 rfl rl2 rfl rl4 rfl rl6 hF
    ·
      refine s_gI R1 (t_192 hm R1.S) (Nat.le_of_ble_eq_true rfl) rfl ?_
      refine s_if (not_congr (i_eq rfl (c_lit 0 0 rfl) (R1.ri (t_192 hm R1.S) (Nat.le_of_ble_eq_true rfl) rfl) ⟨by decide, by decide⟩)) hF (fun c4 hF => ?_) (fun c4 hF => ?_)
      ·
        exact SX35_factor_b188 (N := N) (sE := sE) (SE := SE) (sN := sN) (SN := SN) hm @hsE @hsN R1 rfl rl2 rfl rl4 rfl rl6 hF
      ·
        refine s_if (not_congr (lg_eq.trans (j_eq rfl (d_lit 10000 10000 rfl) rl4 ⟨by decide, by decide⟩))) hF (fun c5 hF => ?_) (fun c5 hF => ?_)
        ·
          exact SX35_factor_b153 (N := N) (sE := sE) (SE := SE) (sN := sN) (SN := SN) (k123 := fX35_factor_b123 N sE sN n) (K123 := FX35_factor_b123 N SE SN n) hm hb @hsE @hsN @ih R1 rfl rl2 rfl rl4 rfl rl6 hF
        ·
          refine s_kok R1 (t_192 hm R1.S) (Nat.le_of_ble_eq_true rfl) ?_
          refine s_call R1 (Nat.zero_le _) (fun _ hq => SX35_fail (b := 0) hm (R1.rf) (c_lit 7 7 rfl) ⟨by decide, by decide⟩ hq) hF (fun f7 rv7 h7 q8 R7 e7 E7 hF => ?_)
          exact SX35_factor_b153 (N := N) (sE := sE) (SE := SE) (sN := sN) (SN := SN) (k123 := fX35_factor_b123 N sE sN n) (K123 := FX35_factor_b123 N SE SN n) hm hb @hsE @hsN @ih R7 rfl rl2 rfl rl4 rfl rl6 hF
def FX35_factor_b117 (N : Nat) (SE : Int → fS → Option (Unit × fS)) (SN : fS → Option (Int × fS)) (l2 : Int) (l4 : Int) (s : fS) : Option (Unit × fS) :=
  (FX35_getExpanded N SE s).bind fun q2 =>
  FX35_factor_b123 N SE SN N l2 l4 q2.1 q2.2
theorem SX35_factor_b117 {m b : Nat} {φ0 : Nat → Nat} {σo : fS} (hm : 1 ≤ m) (hb : 1 ≤ b) {N : Nat} {sE : Nat → Int32 → eH → Option (Unit × eH)} {SE : Int → fS → Option (Unit × fS)} {sN : Nat → eH → Option (Int32 × eH)} {SN : fS → Option (Int × fS)} {q : Unit × fS} (hsE : ∀ {φ : Nat → Nat} {h : eH} {s : fS} {x1' : Int32} {x1 : Int} {q}, fC m 1 φ s φ h s → x1' = iI x1 → r32 x1 → SE x1 s = some q → gG m 1 φ s lU q (sE 192 x1' h)) (hsN : ∀ {φ : Nat → Nat} {h : eH} {s : fS} {q}, fC m 1 φ s φ h s → SN s = some q → gG m 1 φ s lI q (sN 192 h)) {φ : Nat → Nat} {h : eH} {s : fS} {l2' : Int64} {l2 : Int} {l4' : Int64} {l4 : Int} (R : fC m b φ0 σo φ h s) (el2 : l2' = iJ l2) (rl2 : r64 l2) (el4 : l4' = iJ l4) (rl4 : r64 l4) (hF : FX35_factor_b117 N SE SN l2 l4 s = some q) : gG m b φ0 σo lU q (fX35_factor_b117 N sE sN 192 l2' l4' h) := by
  subst el2; subst el4
  unfold FX35_factor_b117 at hF
  unfold fX35_factor_b117
  refine s_kok R (t_192 hm R.S) (Nat.le_of_ble_eq_true rfl) ?_
  refine s_call R hb (fun _ hq => SX35_getExpanded (b := 1) (N := N) (sE := sE) (SE := SE) hm (Nat.le_of_ble_eq_true rfl) @hsE (R.rf) hq) hF (fun f2 rv2 h2 q2 R2 e2 E2 hF => ?_)
  exact SX35_factor_b123 (N := N) (sE := sE) (SE := SE) (sN := sN) (SN := SN) hm hb @hsE @hsN R2 rfl rl2 rfl rl4 e2.1 e2.2 hF
def FX35_factor_b93 (N : Nat) (SE : Int → fS → Option (Unit × fS)) (SN : fS → Option (Int × fS)) (l2 : Int) (l4 : Int) (l6 : Int) (s : fS) : Option (Unit × fS) :=
  (FX35_is l6 12 46 s).bind fun q1 =>
  if ¬ (q1.1 = 0) then
    FX35_factor_b117 N SE SN l2 l4 q1.2
  else
    (FX35_is l6 12 44 q1.2).bind fun q3 =>
    if q3.1 = 0 then
      FX35_factor_b188 N SE SN l2 l4 l6 q3.2
    else
      FX35_factor_b117 N SE SN l2 l4 q3.2
theorem SX35_factor_b93 {m b : Nat} {φ0 : Nat → Nat} {σo : fS} (hm : 1 ≤ m) (hb : 1 ≤ b) {N : Nat} {sE : Nat → Int32 → eH → Option (Unit × eH)} {SE : Int → fS → Option (Unit × fS)} {sN : Nat → eH → Option (Int32 × eH)} {SN : fS → Option (Int × fS)} {q : Unit × fS} (hsE : ∀ {φ : Nat → Nat} {h : eH} {s : fS} {x1' : Int32} {x1 : Int} {q}, fC m 1 φ s φ h s → x1' = iI x1 → r32 x1 → SE x1 s = some q → gG m 1 φ s lU q (sE 192 x1' h)) (hsN : ∀ {φ : Nat → Nat} {h : eH} {s : fS} {q}, fC m 1 φ s φ h s → SN s = some q → gG m 1 φ s lI q (sN 192 h)) {φ : Nat → Nat} {h : eH} {s : fS} {l2' : Int64} {l2 : Int} {l4' : Int64} {l4 : Int} {l6' : Int32} {l6 : Int} (R : fC m b φ0 σo φ h s) (el2 : l2' = iJ l2) (rl2 : r64 l2) (el4 : l4' = iJ l4) (rl4 : r64 l4) (el6 : l6' = iI l6) (rl6 : r32 l6) (hF : FX35_factor_b93 N SE SN l2 l4 l6 s = some q) : gG m b φ0 σo lU q (fX35_factor_b93 N sE sN 192 l2' l4' l6' h) := by
  subst el2; subst el4; subst el6
  unfold FX35_factor_b93 at hF
  unfold fX35_factor_b93
  refine s_call R (Nat.zero_le _) (fun _ hq => SX35_is (b := 0) hm (R.rf) rfl rl6 (c_lit 12 12 rfl) ⟨by decide, by decide⟩ (c_lit 46 46 rfl) ⟨by decide, by decide⟩ hq) hF (fun f1 rv1 h1 q1 R1 e1 E1 hF => ?_)
  refine s_if (not_congr (i_eq e1.1 (c_lit 0 0 rfl) e1.2 ⟨by decide, by decide⟩)) hF (fun c2 hF => ?_) (fun c2 hF => ?_)
  ·
    exact SX35_factor_b117 (N := N) (sE := sE) (SE := SE) (sN := sN) (SN := SN) hm hb @hsE @hsN R1 rfl rl2 rfl rl4 hF
  ·
    refine s_call R1 (Nat.zero_le _) (fun _ hq => SX35_is (b := 0) hm (R1.rf) rfl rl6 (c_lit 12 12 rfl) ⟨by decide, by decide⟩ (c_lit 44 44 rfl) ⟨by decide, by decide⟩ hq) hF (fun f3 rv3 h3 q3 R3 e3 E3 hF => ?_)
    refine s_if (i_eq e3.1 (c_lit 0 0 rfl) e3.2 ⟨by decide, by decide⟩) hF (fun c4 hF => ?_) (fun c4 hF => ?_)
    ·
      exact SX35_factor_b188 (N := N) (sE := sE) (SE := SE) (sN := sN) (SN := SN) hm @hsE @hsN R3 rfl rl2 rfl rl4 rfl rl6 hF
    ·
      exact SX35_factor_b117 (N := N) (sE := sE) (SE := SE) (sN := sN) (SN := SN) hm hb @hsE @hsN R3 rfl rl2 rfl rl4 hF
def FX35_factor_b37 (N : Nat) (SE : Int → fS → Option (Unit × fS)) (SN : fS → Option (Int × fS)) : Nat → Int → Int → Int → fS → Option (Unit × fS)
  | 0, _, _, _, _ => none
  | n + 1, l2, l4, l6, s =>
    (FX35_isDigit l6 s).bind fun q1 =>
    if q1.1 = 0 then
      FX35_factor_b93 N SE SN l2 l4 l6 q1.2
    else
      if ¬ ((q1.2.i 192 46) = 0) then
        FX35_factor_b93 N SE SN l2 l4 l6 q1.2
      else
        if (lsub (ladd (lmul 10 l2) (irem l6 256)) 48) ≤ 2147483647 then
          FX35_factor_b84 N SE SN (FX35_factor_b37 N SE SN n) (lsub (ladd (lmul 10 l2) (irem l6 256)) 48) l4 q1.2
        else
          (FX35_fail 7 q1.2).bind fun q8 =>
          FX35_factor_b84 N SE SN (FX35_factor_b37 N SE SN n) (lsub (ladd (lmul 10 l2) (irem l6 256)) 48) l4 q8.2
theorem SX35_factor_b37 {m b : Nat} {φ0 : Nat → Nat} {σo : fS} (hm : 1 ≤ m) (hb : 1 ≤ b) {N : Nat} {sE : Nat → Int32 → eH → Option (Unit × eH)} {SE : Int → fS → Option (Unit × fS)} {sN : Nat → eH → Option (Int32 × eH)} {SN : fS → Option (Int × fS)} {q : Unit × fS} (hsE : ∀ {φ : Nat → Nat} {h : eH} {s : fS} {x1' : Int32} {x1 : Int} {q}, fC m 1 φ s φ h s → x1' = iI x1 → r32 x1 → SE x1 s = some q → gG m 1 φ s lU q (sE 192 x1' h)) (hsN : ∀ {φ : Nat → Nat} {h : eH} {s : fS} {q}, fC m 1 φ s φ h s → SN s = some q → gG m 1 φ s lI q (sN 192 h)) : ∀ {n : Nat} {φ : Nat → Nat} {h : eH} {s : fS} {l2' : Int64} {l2 : Int} {l4' : Int64} {l4 : Int} {l6' : Int32} {l6 : Int}, fC m b φ0 σo φ h s → l2' = iJ l2 → r64 l2 → l4' = iJ l4 → r64 l4 → l6' = iI l6 → r32 l6 → FX35_factor_b37 N SE SN n l2 l4 l6 s = some q → gG m b φ0 σo lU q (fX35_factor_b37 N sE sN n 192 l2' l4' l6' h) := by
  intro n
  induction n with
 | zero => intro φ h s l2' l2 l4' l4 l6' l6 R el2 rl2 el4 rl4 el6 rl6 hF; simp [FX35_factor_b37] at hF
  | succ n ih =>
    intro φ h s l2' l2 l4' l4 l6' l6 R el2 rl2 el4 rl4 el6 rl6 hF
    subst el2; subst el4; subst el6
    rw [FX35_factor_b37] at hF
    rw [fX35_factor_b37]
    refine s_call R (Nat.zero_le _) (fun _ hq => SX35_isDigit (b := 0) hm (R.rf) rfl rl6 hq) hF (fun f1 rv1 h1 q1 R1 e1 E1 hF => ?_)
    refine s_if (i_eq e1.1 (c_lit 0 0 rfl) e1.2 ⟨by decide, by decide⟩) hF (fun c2 hF => ?_) (fun c2 hF => ?_)
    ·
      exact SX35_factor_b93 (N := N) (sE := sE) (SE := SE) (sN := sN) (SN := SN) hm hb @hsE @hsN R1 rfl rl2 rfl rl4 rfl rl6 hF
    ·
      refine s_gI R1 (t_192 hm R1.S) (Nat.le_of_ble_eq_true rfl) rfl ?_
      refine s_if (not_congr (i_eq rfl (c_lit 0 0 rfl) (R1.ri (t_192 hm R1.S) (Nat.le_of_ble_eq_true rfl) rfl) ⟨by decide, by decide⟩)) hF (fun c4 hF => ?_) (fun c4 hF => ?_)
      ·
        exact SX35_factor_b93 (N := N) (sE := sE) (SE := SE) (sN := sN) (SN := SN) hm hb @hsE @hsN R1 rfl rl2 rfl rl4 rfl rl6 hF
      ·
        refine s_if (lg_le.trans (j_le (d_sub (d_add (d_mul (d_lit 10 10 rfl) rfl) (c_2l (c_rem rfl (c_lit 256 256 rfl)) (rr_I _))) (d_lit 48 48 rfl)) (d_lit 2147483647 2147483647 rfl) (rr_J _) ⟨by decide, by decide⟩)) hF (fun c5 hF => ?_) (fun c5 hF => ?_)
        ·
          exact SX35_factor_b84 (N := N) (sE := sE) (SE := SE) (sN := sN) (SN := SN) (k37 := fX35_factor_b37 N sE sN n) (K37 := FX35_factor_b37 N SE SN n) hm hb @hsE @hsN @ih R1 (d_sub (d_add (d_mul (d_lit 10 10 rfl) rfl) (c_2l (c_rem rfl (c_lit 256 256 rfl)) (rr_I _))) (d_lit 48 48 rfl)) (rr_J _) rfl rl4 hF
        ·
          refine s_kok R1 (t_192 hm R1.S) (Nat.le_of_ble_eq_true rfl) ?_
          refine s_call R1 (Nat.zero_le _) (fun _ hq => SX35_fail (b := 0) hm (R1.rf) (c_lit 7 7 rfl) ⟨by decide, by decide⟩ hq) hF (fun f7 rv7 h7 q8 R7 e7 E7 hF => ?_)
          exact SX35_factor_b84 (N := N) (sE := sE) (SE := SE) (sN := sN) (SN := SN) (k37 := fX35_factor_b37 N sE sN n) (K37 := FX35_factor_b37 N SE SN n) hm hb @hsE @hsN @ih R7 (d_sub (d_add (d_mul (d_lit 10 10 rfl) rfl) (c_2l (c_rem rfl (c_lit 256 256 rfl)) (rr_I _))) (d_lit 48 48 rfl)) (rr_J _) rfl rl4 hF
def FX35_factor_b34 (N : Nat) (SE : Int → fS → Option (Unit × fS)) (SN : fS → Option (Int × fS)) (l1 : Int) (l2 : Int) (l4 : Int) (s : fS) : Option (Unit × fS) :=
  FX35_factor_b37 N SE SN N l2 l4 l1 s
theorem SX35_factor_b34 {m b : Nat} {φ0 : Nat → Nat} {σo : fS} (hm : 1 ≤ m) (hb : 1 ≤ b) {N : Nat} {sE : Nat → Int32 → eH → Option (Unit × eH)} {SE : Int → fS → Option (Unit × fS)} {sN : Nat → eH → Option (Int32 × eH)} {SN : fS → Option (Int × fS)} {q : Unit × fS} (hsE : ∀ {φ : Nat → Nat} {h : eH} {s : fS} {x1' : Int32} {x1 : Int} {q}, fC m 1 φ s φ h s → x1' = iI x1 → r32 x1 → SE x1 s = some q → gG m 1 φ s lU q (sE 192 x1' h)) (hsN : ∀ {φ : Nat → Nat} {h : eH} {s : fS} {q}, fC m 1 φ s φ h s → SN s = some q → gG m 1 φ s lI q (sN 192 h)) {φ : Nat → Nat} {h : eH} {s : fS} {l1' : Int32} {l1 : Int} {l2' : Int64} {l2 : Int} {l4' : Int64} {l4 : Int} (R : fC m b φ0 σo φ h s) (el1 : l1' = iI l1) (rl1 : r32 l1) (el2 : l2' = iJ l2) (rl2 : r64 l2) (el4 : l4' = iJ l4) (rl4 : r64 l4) (hF : FX35_factor_b34 N SE SN l1 l2 l4 s = some q) : gG m b φ0 σo lU q (fX35_factor_b34 N sE sN 192 l1' l2' l4' h) := by
  subst el1; subst el2; subst el4
  unfold FX35_factor_b34 at hF
  unfold fX35_factor_b34
  exact SX35_factor_b37 (N := N) (sE := sE) (SE := SE) (sN := sN) (SN := SN) hm hb @hsE @hsN R rfl rl2 rfl rl4 rfl rl1 hF
def FX35_factor (N : Nat) (SE : Int → fS → Option (Unit × fS)) (SN : fS → Option (Int × fS)) (p0 : Int) (s : fS) : Option (Unit × fS) :=
  (FX35_isDigit p0 s).bind fun q1 =>
  if ¬ (q1.1 = 0) then
    FX35_factor_b34 N SE SN p0 0 1 q1.2
  else
    (FX35_is p0 12 46 q1.2).bind fun q3 =>
    if ¬ (q3.1 = 0) then
      FX35_factor_b34 N SE SN p0 0 1 q3.2
    else
      (FX35_is p0 12 44 q3.2).bind fun q5 =>
      if q5.1 = 0 then
        (FX35_is p0 12 96 q5.2).bind fun q7 =>
        if q7.1 = 0 then
          (FX35_hasValue p0 q7.2).bind fun q10 =>
          if q10.1 = 0 then
            (FX35_fail 6 q10.2).bind fun q13 =>
            FX35_factor_b241 N SE SN 0 1 q13.2
          else
            (FX35_value SN p0 q10.2).bind fun q15 =>
            FX35_factor_b241 N SE SN q15.1 1 q15.2
        else
          (FX35_quoted N SE q7.2).bind fun q17 =>
          FX35_factor_b241 N SE SN q17.1 1 q17.2
      else
        FX35_factor_b34 N SE SN p0 0 1 q5.2
theorem SX35_factor {m b : Nat} {φ0 : Nat → Nat} {σo : fS} (hm : 1 ≤ m) (hb : 1 ≤ b) {N : Nat} {sE : Nat → Int32 → eH → Option (Unit × eH)} {SE : Int → fS → Option (Unit × fS)} {sN : Nat → eH → Option (Int32 × eH)} {SN : fS → Option (Int × fS)} {q : Unit × fS} (hsE : ∀ {φ : Nat → Nat} {h : eH} {s : fS} {x1' : Int32} {x1 : Int} {q}, fC m 1 φ s φ h s → x1' = iI x1 → r32 x1 → SE x1 s = some q → gG m 1 φ s lU q (sE 192 x1' h)) (hsN : ∀ {φ : Nat → Nat} {h : eH} {s : fS} {q}, fC m 1 φ s φ h s → SN s = some q → gG m 1 φ s lI q (sN 192 h)) {φ : Nat → Nat} {h : eH} {s : fS} {p0' : Int32} {p0 : Int} (R : fC m b φ0 σo φ h s) (ep0 : p0' = iI p0) (rp0 : r32 p0) (hF : FX35_factor N SE SN p0 s = some q) : gG m b φ0 σo lU q (fX35_factor N sE sN 192 p0' h) := by
  subst ep0
  unfold FX35_factor at hF
  unfold fX35_factor
  refine s_call R (Nat.zero_le _) (fun _ hq => SX35_isDigit (b := 0) hm (R.rf) rfl rp0 hq) hF (fun f1 rv1 h1 q1 R1 e1 E1 hF => ?_)
  refine s_if (not_congr (i_eq e1.1 (c_lit 0 0 rfl) e1.2 ⟨by decide, by decide⟩)) hF (fun c2 hF => ?_) (fun c2 hF => ?_)
  ·
    exact SX35_factor_b34 (N := N) (sE := sE) (SE := SE) (sN := sN) (SN := SN) hm hb @hsE @hsN R1 rfl rp0 (d_lit 0 0 rfl) ⟨by decide, by decide⟩ (d_lit 1 1 rfl) ⟨by decide, by decide⟩ hF
  ·
    refine s_call R1 (Nat.zero_le _) (fun _ hq => SX35_is (b := 0) hm (R1.rf) rfl rp0 (c_lit 12 12 rfl) ⟨by decide, by decide⟩ (c_lit 46 46 rfl) ⟨by decide, by decide⟩ hq) hF (fun f3 rv3 h3 q3 R3 e3 E3 hF => ?_)
    refine s_if (not_congr (i_eq e3.1 (c_lit 0 0 rfl) e3.2 ⟨by decide, by decide⟩)) hF (fun c4 hF => ?_) (fun c4 hF => ?_)
    ·
      exact SX35_factor_b34 (N := N) (sE := sE) (SE := SE) (sN := sN) (SN := SN) hm hb @hsE @hsN R3 rfl rp0 (d_lit 0 0 rfl) ⟨by decide, by decide⟩ (d_lit 1 1 rfl) ⟨by decide, by decide⟩ hF
    ·
      refine s_call R3 (Nat.zero_le _) (fun _ hq => SX35_is (b := 0) hm (R3.rf) rfl rp0 (c_lit 12 12 rfl) ⟨by decide, by decide⟩ (c_lit 44 44 rfl) ⟨by decide, by decide⟩ hq) hF (fun f5 rv5 h5 q5 R5 e5 E5 hF => ?_)
      refine s_if (i_eq e5.1 (c_lit 0 0 rfl) e5.2 ⟨by decide, by decide⟩) hF (fun c6 hF => ?_) (fun c6 hF => ?_)
      ·
        refine s_call R5 (Nat.zero_le _) (fun _ hq => SX35_is (b := 0) hm (R5.rf) rfl rp0 (c_lit 12 12 rfl) ⟨by decide, by decide⟩ (c_lit 96 96 rfl) ⟨by decide, by decide⟩ hq) hF (fun f7 rv7 h7 q7 R7 e7 E7 hF => ?_)
        refine s_if (i_eq e7.1 (c_lit 0 0 rfl) e7.2 ⟨by decide, by decide⟩) hF (fun c8 hF => ?_) (fun c8 hF => ?_)
        ·
          refine s_kok R7 (t_192 hm R7.S) (Nat.le_of_ble_eq_true rfl) ?_
          refine s_call R7 (Nat.zero_le _) (fun _ hq => SX35_hasValue (b := 0) hm (R7.rf) rfl rp0 hq) hF (fun f10 rv10 h10 q10 R10 e10 E10 hF => ?_)
          refine s_if (i_eq e10.1 (c_lit 0 0 rfl) e10.2 ⟨by decide, by decide⟩) hF (fun c11 hF => ?_) (fun c11 hF => ?_)
          ·
            refine s_kok R10 (t_192 hm R10.S) (Nat.le_of_ble_eq_true rfl) ?_
            refine s_call R10 (Nat.zero_le _) (fun _ hq => SX35_fail (b := 0) hm (R10.rf) (c_lit 6 6 rfl) ⟨by decide, by decide⟩ hq) hF (fun f13 rv13 h13 q13 R13 e13 E13 hF => ?_)
            exact SX35_factor_b241 (N := N) (sE := sE) (SE := SE) (sN := sN) (SN := SN) hm @hsE @hsN R13 (d_lit 0 0 rfl) ⟨by decide, by decide⟩ (d_lit 1 1 rfl) ⟨by decide, by decide⟩ hF
          ·
            refine s_kok R10 (t_192 hm R10.S) (Nat.le_of_ble_eq_true rfl) ?_
            refine s_call R10 hb (fun _ hq => SX35_value (b := 1) (sN := sN) (SN := SN) hm (Nat.le_of_ble_eq_true rfl) @hsN (R10.rf) rfl rp0 hq) hF (fun f15 rv15 h15 q15 R15 e15 E15 hF => ?_)
            exact SX35_factor_b241 (N := N) (sE := sE) (SE := SE) (sN := sN) (SN := SN) hm @hsE @hsN R15 (c_2l e15.1 e15.2) (r32.w e15.2) (d_lit 1 1 rfl) ⟨by decide, by decide⟩ hF
        ·
          refine s_kok R7 (t_192 hm R7.S) (Nat.le_of_ble_eq_true rfl) ?_
          refine s_call R7 hb (fun _ hq => SX35_quoted (b := 1) (N := N) (sE := sE) (SE := SE) hm (Nat.le_of_ble_eq_true rfl) @hsE (R7.rf) hq) hF (fun f17 rv17 h17 q17 R17 e17 E17 hF => ?_)
          exact SX35_factor_b241 (N := N) (sE := sE) (SE := SE) (sN := sN) (SN := SN) hm @hsE @hsN R17 (c_2l e17.1 e17.2) (r32.w e17.2) (d_lit 1 1 rfl) ⟨by decide, by decide⟩ hF
      ·
        exact SX35_factor_b34 (N := N) (sE := sE) (SE := SE) (sN := sN) (SN := SN) hm hb @hsE @hsN R5 rfl rp0 (d_lit 0 0 rfl) ⟨by decide, by decide⟩ (d_lit 1 1 rfl) ⟨by decide, by decide⟩ hF
def FX35_isLetter_b33 (s0 : Int) (s : fS) : Option (Int × fS) :=
  uZ s0 (s0, s)
theorem SX35_isLetter_b33 {m b : Nat} {φ0 : Nat → Nat} {σo : fS} (hm : 1 ≤ m) {q : Int × fS} {φ : Nat → Nat} {h : eH} {s : fS} {s0' : Int32} {s0 : Int} (R : fC m b φ0 σo φ h s) (es0 : s0' = iI s0) (rs0 : r32 s0) (hF : FX35_isLetter_b33 s0 s = some q) : gG m b φ0 σo lI q (fX35_isLetter_b33 s0' h) := by
  subst es0
  unfold FX35_isLetter_b33 at hF
  unfold fX35_isLetter_b33
  exact g_z R rfl hF ⟨rfl, rs0⟩
def FX35_isLetter_b28 (s : fS) : Option (Int × fS) :=
  FX35_isLetter_b33 1 s
theorem SX35_isLetter_b28 {m b : Nat} {φ0 : Nat → Nat} {σo : fS} (hm : 1 ≤ m) {q : Int × fS} {φ : Nat → Nat} {h : eH} {s : fS} (R : fC m b φ0 σo φ h s) (hF : FX35_isLetter_b28 s = some q) : gG m b φ0 σo lI q (fX35_isLetter_b28 h) := by
  unfold FX35_isLetter_b28 at hF
  unfold fX35_isLetter_b28
  exact SX35_isLetter_b33 hm R (c_lit 1 1 rfl) ⟨by decide, by decide⟩ hF
def FX35_isLetter_b32 (s : fS) : Option (Int × fS) :=
  FX35_isLetter_b33 0 s
theorem SX35_isLetter_b32 {m b : Nat} {φ0 : Nat → Nat} {σo : fS} (hm : 1 ≤ m) {q : Int × fS} {φ : Nat → Nat} {h : eH} {s : fS} (R : fC m b φ0 σo φ h s) (hF : FX35_isLetter_b32 s = some q) : gG m b φ0 σo lI q (fX35_isLetter_b32 h) := by
  unfold FX35_isLetter_b32 at hF
  unfold fX35_isLetter_b32
  exact SX35_isLetter_b33 hm R (c_lit 0 0 rfl) ⟨by decide, by decide⟩ hF
def FX35_isLetter (p0 : Int) (p1 : Int) (s : fS) : Option (Int × fS) :=
  (FX35_isCharacter p0 s).bind fun q1 =>
  if q1.1 = 0 then
    FX35_isLetter_b32 q1.2
  else
    if (irem p0 256) = p1 then
      FX35_isLetter_b28 q1.2
    else
      if ¬ ((irem p0 256) = (isub p1 32)) then
        FX35_isLetter_b32 q1.2
      else
        FX35_isLetter_b28 q1.2
theorem SX35_isLetter {m b : Nat} {φ0 : Nat → Nat} {σo : fS} (hm : 1 ≤ m) {q : Int × fS} {φ : Nat → Nat} {h : eH} {s : fS} {p0' : Int32} {p0 : Int} {p1' : Int32} {p1 : Int} (R : fC m b φ0 σo φ h s) (ep0 : p0' = iI p0) (rp0 : r32 p0) (ep1 : p1' = iI p1) (rp1 : r32 p1) (hF : FX35_isLetter p0 p1 s = some q) : gG m b φ0 σo lI q (fX35_isLetter 192 p0' p1' h) := by
  subst ep0; subst ep1
  unfold FX35_isLetter at hF
  unfold fX35_isLetter
  refine s_call R (Nat.zero_le _) (fun _ hq => SX35_isCharacter (b := 0) hm (R.rf) rfl rp0 hq) hF (fun f1 rv1 h1 q1 R1 e1 E1 hF => ?_)
  refine s_if (i_eq e1.1 (c_lit 0 0 rfl) e1.2 ⟨by decide, by decide⟩) hF (fun c2 hF => ?_) (fun c2 hF => ?_)
  ·
    exact SX35_isLetter_b32 hm R1 hF
  ·
    refine s_if (i_eq (c_rem rfl (c_lit 256 256 rfl)) rfl (rr_I _) rp1) hF (fun c3 hF => ?_) (fun c3 hF => ?_)
    ·
      exact SX35_isLetter_b28 hm R1 hF
    ·
      refine s_if (not_congr (i_eq (c_rem rfl (c_lit 256 256 rfl)) (c_sub rfl (c_lit 32 32 rfl)) (rr_I _) (rr_I _))) hF (fun c4 hF => ?_) (fun c4 hF => ?_)
      ·
        exact SX35_isLetter_b32 hm R1 hF
      ·
        exact SX35_isLetter_b28 hm R1 hF
def FX35_keyword_b92 (N : Nat) (SE : Int → fS → Option (Unit × fS)) : Nat → Int → Int → fS → Option (Int × fS)
  | 0, _, _, _ => none
  | n + 1, l2, l5, s =>
    if l5 < 0 then
      some (0, s)
    else
      (uRI s 321 (iadd l2 l5)).bind fun x4 =>
      (FX35_put x4 s).bind fun q7 =>
      FX35_keyword_b92 N SE n l2 (iadd l5 (-1)) q7.2
theorem SX35_keyword_b92 {m b : Nat} {φ0 : Nat → Nat} {σo : fS} (hm : 1 ≤ m) {N : Nat} {sE : Nat → Int32 → eH → Option (Unit × eH)} {SE : Int → fS → Option (Unit × fS)} {q : Int × fS} (hsE : ∀ {φ : Nat → Nat} {h : eH} {s : fS} {x1' : Int32} {x1 : Int} {q}, fC m 1 φ s φ h s → x1' = iI x1 → r32 x1 → SE x1 s = some q → gG m 1 φ s lU q (sE 192 x1' h)) : ∀ {n : Nat} {φ : Nat → Nat} {h : eH} {s : fS} {l2' : Int32} {l2 : Int} {l5' : Int32} {l5 : Int}, fC m b φ0 σo φ h s → l2' = iI l2 → r32 l2 → l5' = iI l5 → r32 l5 → FX35_keyword_b92 N SE n l2 l5 s = some q → gG m b φ0 σo lI q (fX35_keyword_b92 N sE n 192 l2' l5' h) := by
  intro n
  induction n with
 | zero => intro φ h s l2' l2 l5' l5 R el2 rl2 el5 rl5 hF; simp [FX35_keyword_b92] at hF
  | succ n ih =>
    intro φ h s l2' l2 l5' l5 R el2 rl2 el5 rl5 hF
    subst el2; subst el5
    rw [FX35_keyword_b92] at hF
    rw [fX35_keyword_b92]
    refine s_if (i_lt rfl (c_lit 0 0 rfl) rl5 ⟨by decide, by decide⟩) hF (fun c1 hF => ?_) (fun c1 hF => ?_)
    ·
      exact g_ret R hF ⟨(c_lit 0 0 rfl), ⟨by decide, by decide⟩⟩
    ·
      refine s_gAs R (t_192 hm R.S) (Nat.le_of_ble_eq_true rfl) rfl (o_192_123 hm R.S) (a_321 hm R) ?_
      refine s_rI R (u_321 hm R.S).1 (u_321 hm R.S).2 (by decide) (a_321 hm R) (c_add rfl rfl) (rr_I _) hF (fun x4 ra3 hF => ?_)
      refine s_kok R (t_192 hm R.S) (Nat.le_of_ble_eq_true rfl) ?_
      refine s_call R (Nat.zero_le _) (fun _ hq => SX35_put (b := 0) hm (R.rf) rfl ra3 hq) hF (fun f5 rv5 h5 q7 R5 e5 E5 hF => ?_)
      exact ih R5 rfl rl2 (c_add rfl (c_lit (-1) (-1) rfl)) (rr_I _) hF
def FX35_keyword_b35 (N : Nat) (SE : Int → fS → Option (Unit × fS)) : Nat → Nat → Int → Int → Int → fS → Option (Int × fS)
  | 0, _, _, _, _, _ => none
  | n + 1, l1, l2, l3, l4, s =>
    (s_ok l1).bind fun _ =>
    (FJ1_charAt l1 l3 s).bind fun q2 =>
    (FX35_isLetter l4 q2.1 q2.2).bind fun q4 =>
    if q4.1 = 0 then
      (FX35_put l4 q4.2).bind fun q7 =>
      FX35_keyword_b92 N SE N l2 (isub l3 1) q7.2
    else
      (uQI q4.2 321 (iadd l2 l3) l4).bind fun σ10 =>
      (s_ok l1).bind fun _ =>
      (FJ1_length l1 σ10).bind fun q13 =>
      if ¬ ((iadd l3 1) = q13.1) then
        (FX35_getExpanded N SE q13.2).bind fun q16 =>
        FX35_keyword_b35 N SE n l1 l2 (iadd l3 1) q16.1 q16.2
      else
        some (1, q13.2)
theorem SX35_keyword_b35 {m b : Nat} {φ0 : Nat → Nat} {σo : fS} (hm : 1 ≤ m) (hb : 1 ≤ b) {N : Nat} {sE : Nat → Int32 → eH → Option (Unit × eH)} {SE : Int → fS → Option (Unit × fS)} {q : Int × fS} (hsE : ∀ {φ : Nat → Nat} {h : eH} {s : fS} {x1' : Int32} {x1 : Int} {q}, fC m 1 φ s φ h s → x1' = iI x1 → r32 x1 → SE x1 s = some q → gG m 1 φ s lU q (sE 192 x1' h)) : ∀ {n : Nat} {φ : Nat → Nat} {h : eH} {s : fS} {l1 : Nat} {l2' : Int32} {l2 : Int} {l3' : Int32} {l3 : Int} {l4' : Int32} {l4 : Int}, fC m b φ0 σo φ h s → l2' = iI l2 → r32 l2 → l3' = iI l3 → r32 l3 → l4' = iI l4 → r32 l4 → FX35_keyword_b35 N SE n l1 l2 l3 l4 s = some q → gG m b φ0 σo lI q (fX35_keyword_b35 N sE n 192 l1 l2' l3' l4' h) := by
  intro n
  induction n with
 | zero => intro φ h s l1 l2' l2 l3' l3 l4' l4 R el2 rl2 el3 rl3 el4 rl4 hF; simp [FX35_keyword_b35] at hF
  | succ n ih =>
    intro φ h s l1 l2' l2 l3' l3 l4' l4 R el2 rl2 el3 rl3 el4 rl4 hF
    subst el2; subst el3; subst el4
    rw [FX35_keyword_b35] at hF
    rw [fX35_keyword_b35]
    refine s_opt hF (fun _ hF => ?_)
    refine s_call R (Nat.zero_le _) (fun _ hq => SJ1_charAt (b := 0) (R.rf) rfl rl3 hq) hF (fun f2 rv2 h2 q2 R2 e2 E2 hF => ?_)
    refine s_kok R2 (t_192 hm R2.S) (Nat.le_of_ble_eq_true rfl) ?_
    refine s_call R2 (Nat.zero_le _) (fun _ hq => SX35_isLetter (b := 0) hm (R2.rf) rfl rl4 e2.1 e2.2 hq) hF (fun f4 rv4 h4 q4 R4 e4 E4 hF => ?_)
    refine s_if (i_eq e4.1 (c_lit 0 0 rfl) e4.2 ⟨by decide, by decide⟩) hF (fun c5 hF => ?_) (fun c5 hF => ?_)
    ·
      refine s_kok R4 (t_192 hm R4.S) (Nat.le_of_ble_eq_true rfl) ?_
      refine s_call R4 (Nat.zero_le _) (fun _ hq => SX35_put (b := 0) hm (R4.rf) rfl rl4 hq) hF (fun f7 rv7 h7 q7 R7 e7 E7 hF => ?_)
      exact SX35_keyword_b92 (N := N) (sE := sE) (SE := SE) hm @hsE R7 rfl rl2 (c_sub rfl (c_lit 1 1 rfl)) (rr_I _) hF
    ·
      refine s_gAs R4 (t_192 hm R4.S) (Nat.le_of_ble_eq_true rfl) rfl (o_192_123 hm R4.S) (a_321 hm R4) ?_
      refine s_qI R4 (u_321 hm R4.S).1 (u_321 hm R4.S).2 (by decide) (a_321 hm R4) (c_add rfl rfl) (rr_I _) rfl rl4 hF (fun h9 σ10 R9 T9 hF => ?_)
      refine s_opt hF (fun _ hF => ?_)
      refine s_call R9 (Nat.zero_le _) (fun _ hq => SJ1_length (b := 0) (R9.rf) hq) hF (fun f11 rv11 h11 q13 R11 e11 E11 hF => ?_)
      refine s_if (not_congr (i_eq (c_add rfl (c_lit 1 1 rfl)) e11.1 (rr_I _) e11.2)) hF (fun c12 hF => ?_) (fun c12 hF => ?_)
      ·
        refine s_kok R11 (t_192 hm R11.S) (Nat.le_of_ble_eq_true rfl) ?_
        refine s_call R11 hb (fun _ hq => SX35_getExpanded (b := 1) (N := N) (sE := sE) (SE := SE) hm (Nat.le_of_ble_eq_true rfl) @hsE (R11.rf) hq) hF (fun f14 rv14 h14 q16 R14 e14 E14 hF => ?_)
        exact ih R14 rfl rl2 (c_add rfl (c_lit 1 1 rfl)) (rr_I _) e14.1 e14.2 hF
      ·
        exact g_ret R11 hF ⟨(c_lit 1 1 rfl), ⟨by decide, by decide⟩⟩
def FX35_keyword_b16 (N : Nat) (SE : Int → fS → Option (Unit × fS)) : Nat → Nat → Int → Int → Int → fS → Option (Int × fS)
  | 0, _, _, _, _, _ => none
  | n + 1, l1, l2, l3, l4, s =>
    (FX35_isOf l4 10 s).bind fun q1 =>
    if q1.1 = 0 then
      FX35_keyword_b35 N SE N l1 l2 l3 l4 q1.2
    else
      (FX35_getExpanded N SE q1.2).bind fun q4 =>
      FX35_keyword_b16 N SE n l1 l2 l3 q4.1 q4.2
theorem SX35_keyword_b16 {m b : Nat} {φ0 : Nat → Nat} {σo : fS} (hm : 1 ≤ m) (hb : 1 ≤ b) {N : Nat} {sE : Nat → Int32 → eH → Option (Unit × eH)} {SE : Int → fS → Option (Unit × fS)} {q : Int × fS} (hsE : ∀ {φ : Nat → Nat} {h : eH} {s : fS} {x1' : Int32} {x1 : Int} {q}, fC m 1 φ s φ h s → x1' = iI x1 → r32 x1 → SE x1 s = some q → gG m 1 φ s lU q (sE 192 x1' h)) : ∀ {n : Nat} {φ : Nat → Nat} {h : eH} {s : fS} {l1 : Nat} {l2' : Int32} {l2 : Int} {l3' : Int32} {l3 : Int} {l4' : Int32} {l4 : Int}, fC m b φ0 σo φ h s → l2' = iI l2 → r32 l2 → l3' = iI l3 → r32 l3 → l4' = iI l4 → r32 l4 → FX35_keyword_b16 N SE n l1 l2 l3 l4 s = some q → gG m b φ0 σo lI q (fX35_keyword_b16 N sE n 192 l1 l2' l3' l4' h) := by
  intro n
  induction n with
 | zero => intro φ h s l1 l2' l2 l3' l3 l4' l4 R el2 rl2 el3 rl3 el4 rl4 hF; simp [FX35_keyword_b16] at hF
  | succ n ih =>
    intro φ h s l1 l2' l2 l3' l3 l4' l4 R el2 rl2 el3 rl3 el4 rl4 hF
    subst el2; subst el3; subst el4
    rw [FX35_keyword_b16] at hF
    rw [fX35_keyword_b16]
    refine s_call R (Nat.zero_le _) (fun _ hq => SX35_isOf (b := 0) hm (R.rf) rfl rl4 (c_lit 10 10 rfl) ⟨by decide, by decide⟩ hq) hF (fun f1 rv1 h1 q1 R1 e1 E1 hF => ?_)
    refine s_if (i_eq e1.1 (c_lit 0 0 rfl) e1.2 ⟨by decide, by decide⟩) hF (fun c2 hF => ?_) (fun c2 hF => ?_)
    ·
      exact SX35_keyword_b35 (N := N) (sE := sE) (SE := SE) hm hb @hsE R1 rfl rl2 rfl rl3 rfl rl4 hF
    ·
      refine s_kok R1 (t_192 hm R1.S) (Nat.le_of_ble_eq_true rfl) ?_
      refine s_call R1 hb (fun _ hq => SX35_getExpanded (b := 1) (N := N) (sE := sE) (SE := SE) hm (Nat.le_of_ble_eq_true rfl) @hsE (R1.rf) hq) hF (fun f4 rv4 h4 q4 R4 e4 E4 hF => ?_)
      exact ih R4 rfl rl2 rfl rl3 e4.1 e4.2 hF
def FX35_keyword (N : Nat) (SE : Int → fS → Option (Unit × fS)) (p0 : Nat) (s : fS) : Option (Int × fS) :=
  (FX35_getExpanded N SE s).bind fun q4 =>
  FX35_keyword_b16 N SE N p0 (imul 17 (s.i 192 45)) 0 q4.1 q4.2
theorem SX35_keyword {m b : Nat} {φ0 : Nat → Nat} {σo : fS} (hm : 1 ≤ m) (hb : 1 ≤ b) {N : Nat} {sE : Nat → Int32 → eH → Option (Unit × eH)} {SE : Int → fS → Option (Unit × fS)} {q : Int × fS} (hsE : ∀ {φ : Nat → Nat} {h : eH} {s : fS} {x1' : Int32} {x1 : Int} {q}, fC m 1 φ s φ h s → x1' = iI x1 → r32 x1 → SE x1 s = some q → gG m 1 φ s lU q (sE 192 x1' h)) {φ : Nat → Nat} {h : eH} {s : fS} {p0 : Nat} (R : fC m b φ0 σo φ h s) (hF : FX35_keyword N SE p0 s = some q) : gG m b φ0 σo lI q (fX35_keyword N sE 192 p0 h) := by
  unfold FX35_keyword at hF
  unfold fX35_keyword
  refine s_gI R (t_192 hm R.S) (Nat.le_of_ble_eq_true rfl) rfl ?_
  refine s_kok R (t_192 hm R.S) (Nat.le_of_ble_eq_true rfl) ?_
  refine s_call R hb (fun _ hq => SX35_getExpanded (b := 1) (N := N) (sE := sE) (SE := SE) hm (Nat.le_of_ble_eq_true rfl) @hsE (R.rf) hq) hF (fun f3 rv3 h3 q4 R3 e3 E3 hF => ?_)
  exact SX35_keyword_b16 (N := N) (sE := sE) (SE := SE) hm hb @hsE R3 (c_mul (c_lit 17 17 rfl) rfl) (rr_I _) (c_lit 0 0 rfl) ⟨by decide, by decide⟩ e3.1 e3.2 hF
def FX35_times_b80 (s0 : Int) (s : fS) : Option (Int × fS) :=
  some (s0, s)
theorem SX35_times_b80 {m b : Nat} {φ0 : Nat → Nat} {σo : fS} (hm : 1 ≤ m) {q : Int × fS} {φ : Nat → Nat} {h : eH} {s : fS} {s0' : Int64} {s0 : Int} (R : fC m b φ0 σo φ h s) (es0 : s0' = iJ s0) (rs0 : r64 s0) (hF : FX35_times_b80 s0 s = some q) : gG m b φ0 σo lJ q (fX35_times_b80 s0' h) := by
  subst es0
  unfold FX35_times_b80 at hF
  unfold fX35_times_b80
  exact g_ret R hF ⟨rfl, rs0⟩
def FX35_times_b63 (l8 : Int) (s0 : Int) (s : fS) : Option (Int × fS) :=
  if 0 ≤ l8 then
    FX35_times_b80 s0 s
  else
    FX35_times_b80 (lneg s0) s
theorem SX35_times_b63 {m b : Nat} {φ0 : Nat → Nat} {σo : fS} (hm : 1 ≤ m) {q : Int × fS} {φ : Nat → Nat} {h : eH} {s : fS} {l8' : Int64} {l8 : Int} {s0' : Int64} {s0 : Int} (R : fC m b φ0 σo φ h s) (el8 : l8' = iJ l8) (rl8 : r64 l8) (es0 : s0' = iJ s0) (rs0 : r64 s0) (hF : FX35_times_b63 l8 s0 s = some q) : gG m b φ0 σo lJ q (fX35_times_b63 l8' s0' h) := by
  subst el8; subst es0
  unfold FX35_times_b63 at hF
  unfold fX35_times_b63
  refine s_if ((lg_cmp_ge _ _).trans (j_le (d_lit 0 0 rfl) rfl ⟨by decide, by decide⟩ rl8)) hF (fun c1 hF => ?_) (fun c1 hF => ?_)
  ·
    exact SX35_times_b80 hm R rfl rs0 hF
  ·
    exact SX35_times_b80 hm R (d_neg rfl) (rr_J _) hF
def FX35_times_b27 (l8 : Int) (l10 : Int) (s0 : Int) (s : fS) : Option (Int × fS) :=
  if l10 = 0 then none else
  if l10 = 0 then none else
  if (lrem s0 l10) < (lsub l10 (lrem s0 l10)) then
    FX35_times_b63 l8 (ldiv s0 l10) s
  else
    FX35_times_b63 l8 (ladd (ldiv s0 l10) 1) s
theorem SX35_times_b27 {m b : Nat} {φ0 : Nat → Nat} {σo : fS} (hm : 1 ≤ m) {q : Int × fS} {φ : Nat → Nat} {h : eH} {s : fS} {l8' : Int64} {l8 : Int} {l10' : Int64} {l10 : Int} {s0' : Int64} {s0 : Int} (R : fC m b φ0 σo φ h s) (el8 : l8' = iJ l8) (rl8 : r64 l8) (el10 : l10' = iJ l10) (rl10 : r64 l10) (es0 : s0' = iJ s0) (rs0 : r64 s0) (hF : FX35_times_b27 l8 l10 s0 s = some q) : gG m b φ0 σo lJ q (fX35_times_b27 l8' l10' s0' h) := by
  subst el8; subst el10; subst es0
  unfold FX35_times_b27 at hF
  unfold fX35_times_b27
  refine s_div (j_eq rfl (d_lit 0 0 rfl) rl10 ⟨by decide, by decide⟩) hF (fun c1 hF => ?_)
  refine s_div (j_eq rfl (d_lit 0 0 rfl) rl10 ⟨by decide, by decide⟩) hF (fun c2 hF => ?_)
  refine s_if (lg_lt.trans (j_lt (d_rem rfl rfl) (d_sub rfl (d_rem rfl rfl)) (rr_J _) (rr_J _))) hF (fun c3 hF => ?_) (fun c3 hF => ?_)
  ·
    exact SX35_times_b63 hm R rfl rl8 (d_div rfl rfl) (rr_J _) hF
  ·
    exact SX35_times_b63 hm R rfl rl8 (d_add (d_div rfl rfl) (d_lit 1 1 rfl)) (rr_J _) hF
def FX35_times (p0 : Int) (p1 : Int) (p2 : Int) (p3 : Int) (s : fS) : Option (Int × fS) :=
  if 0 ≤ (lmul p0 p2) then
    FX35_times_b27 (lmul p0 p2) (lmul p1 p3) (lmul p0 p2) s
  else
    FX35_times_b27 (lmul p0 p2) (lmul p1 p3) (lneg (lmul p0 p2)) s
theorem SX35_times {m b : Nat} {φ0 : Nat → Nat} {σo : fS} (hm : 1 ≤ m) {q : Int × fS} {φ : Nat → Nat} {h : eH} {s : fS} {p0' : Int64} {p0 : Int} {p1' : Int64} {p1 : Int} {p2' : Int64} {p2 : Int} {p3' : Int64} {p3 : Int} (R : fC m b φ0 σo φ h s) (ep0 : p0' = iJ p0) (rp0 : r64 p0) (ep1 : p1' = iJ p1) (rp1 : r64 p1) (ep2 : p2' = iJ p2) (rp2 : r64 p2) (ep3 : p3' = iJ p3) (rp3 : r64 p3) (hF : FX35_times p0 p1 p2 p3 s = some q) : gG m b φ0 σo lJ q (fX35_times p0' p1' p2' p3' h) := by
  subst ep0; subst ep1; subst ep2; subst ep3
  unfold FX35_times at hF
  unfold fX35_times
  refine s_if ((lg_cmp_ge _ _).trans (j_le (d_lit 0 0 rfl) (d_mul rfl rfl) ⟨by decide, by decide⟩ (rr_J _))) hF (fun c1 hF => ?_) (fun c1 hF => ?_)
  ·
    exact SX35_times_b27 hm R (d_mul rfl rfl) (rr_J _) (d_mul rfl rfl) (rr_J _) (d_mul rfl rfl) (rr_J _) hF
  ·
    exact SX35_times_b27 hm R (d_mul rfl rfl) (rr_J _) (d_mul rfl rfl) (rr_J _) (d_neg (d_mul rfl rfl)) (rr_J _) hF
def FX35_unitName_b87 (s0 : Nat) (s : fS) : Option (Nat × fS) :=
  some (s0, s)
theorem SX35_unitName_b87 {m b : Nat} {φ0 : Nat → Nat} {σo : fS} (hm : 1 ≤ m) {q : Nat × fS} {φ : Nat → Nat} {h : eH} {s : fS} {s0 : Nat} (R : fC m b φ0 σo φ h s) (hF : FX35_unitName_b87 s0 s = some q) : gG m b φ0 σo lO q (fX35_unitName_b87 s0 h) := by
  unfold FX35_unitName_b87 at hF
  unfold fX35_unitName_b87
  exact g_ret R hF rfl
def FX35_unitName (p0 : Int) (s : fS) : Option (Nat × fS) :=
  if p0 = 0 then
    some (1000000126, s)
  else
    if p0 = 1 then
      some (1000000127, s)
    else
      if p0 = 2 then
        some (1000000128, s)
      else
        if p0 = 3 then
          some (1000000129, s)
        else
          if p0 = 4 then
            some (1000000130, s)
          else
            if p0 = 5 then
              some (1000000131, s)
            else
              if p0 = 6 then
                some (1000000132, s)
              else
                if ¬ (p0 = 7) then
                  FX35_unitName_b87 1000000134 s
                else
                  FX35_unitName_b87 1000000133 s
theorem SX35_unitName {m b : Nat} {φ0 : Nat → Nat} {σo : fS} (hm : 1 ≤ m) {q : Nat × fS} {φ : Nat → Nat} {h : eH} {s : fS} {p0' : Int32} {p0 : Int} (R : fC m b φ0 σo φ h s) (ep0 : p0' = iI p0) (rp0 : r32 p0) (hF : FX35_unitName p0 s = some q) : gG m b φ0 σo lO q (fX35_unitName p0' h) := by
  subst ep0
  unfold FX35_unitName at hF
  unfold fX35_unitName
  refine s_if (i_eq rfl (c_lit 0 0 rfl) rp0 ⟨by decide, by decide⟩) hF (fun c1 hF => ?_) (fun c1 hF => ?_)
  ·
    exact g_ret R hF rfl
  ·
    refine s_if (i_eq rfl (c_lit 1 1 rfl) rp0 ⟨by decide, by decide⟩) hF (fun c2 hF => ?_) (fun c2 hF => ?_)
    ·
      exact g_ret R hF rfl
    ·
      refine s_if (i_eq rfl (c_lit 2 2 rfl) rp0 ⟨by decide, by decide⟩) hF (fun c3 hF => ?_) (fun c3 hF => ?_)
      ·
        exact g_ret R hF rfl
      ·
        refine s_if (i_eq rfl (c_lit 3 3 rfl) rp0 ⟨by decide, by decide⟩) hF (fun c4 hF => ?_) (fun c4 hF => ?_)
        ·
          exact g_ret R hF rfl
        ·
          refine s_if (i_eq rfl (c_lit 4 4 rfl) rp0 ⟨by decide, by decide⟩) hF (fun c5 hF => ?_) (fun c5 hF => ?_)
          ·
            exact g_ret R hF rfl
          ·
            refine s_if (i_eq rfl (c_lit 5 5 rfl) rp0 ⟨by decide, by decide⟩) hF (fun c6 hF => ?_) (fun c6 hF => ?_)
            ·
              exact g_ret R hF rfl
            ·
              refine s_if (i_eq rfl (c_lit 6 6 rfl) rp0 ⟨by decide, by decide⟩) hF (fun c7 hF => ?_) (fun c7 hF => ?_)
              ·
                exact g_ret R hF rfl
              ·
                refine s_if (not_congr (i_eq rfl (c_lit 7 7 rfl) rp0 ⟨by decide, by decide⟩)) hF (fun c8 hF => ?_) (fun c8 hF => ?_)
                ·
                  exact SX35_unitName_b87 hm R hF
                ·
                  exact SX35_unitName_b87 hm R hF
def FX35_unit_b2 (N : Nat) (SE : Int → fS → Option (Unit × fS)) : Nat → Int → fS → Option (Int × fS)
  | 0, _, _ => none
  | n + 1, l1, s =>
    if 9 ≤ l1 then
      some ((-1), s)
    else
      (FX35_unitName l1 s).bind fun q2 =>
      (FX35_keyword N SE q2.1 q2.2).bind fun q4 =>
      if q4.1 = 0 then
        FX35_unit_b2 N SE n (iadd l1 1) q4.2
      else
        some (l1, q4.2)
theorem SX35_unit_b2 {m b : Nat} {φ0 : Nat → Nat} {σo : fS} (hm : 1 ≤ m) (hb : 1 ≤ b) {N : Nat} {sE : Nat → Int32 → eH → Option (Unit × eH)} {SE : Int → fS → Option (Unit × fS)} {q : Int × fS} (hsE : ∀ {φ : Nat → Nat} {h : eH} {s : fS} {x1' : Int32} {x1 : Int} {q}, fC m 1 φ s φ h s → x1' = iI x1 → r32 x1 → SE x1 s = some q → gG m 1 φ s lU q (sE 192 x1' h)) : ∀ {n : Nat} {φ : Nat → Nat} {h : eH} {s : fS} {l1' : Int32} {l1 : Int}, fC m b φ0 σo φ h s → l1' = iI l1 → r32 l1 → FX35_unit_b2 N SE n l1 s = some q → gG m b φ0 σo lI q (fX35_unit_b2 N sE n 192 l1' h) := by
  intro n
  induction n with
 | zero => intro φ h s l1' l1 R el1 rl1 hF; simp [FX35_unit_b2] at hF
  | succ n ih =>
    intro φ h s l1' l1 R el1 rl1 hF
    subst el1
    rw [FX35_unit_b2] at hF
    rw [fX35_unit_b2]
    refine s_if (i_le (c_lit 9 9 rfl) rfl ⟨by decide, by decide⟩ rl1) hF (fun c1 hF => ?_) (fun c1 hF => ?_)
    ·
      exact g_ret R hF ⟨(c_lit (-1) (-1) rfl), ⟨by decide, by decide⟩⟩
    ·
      refine s_call R (Nat.zero_le _) (fun _ hq => SX35_unitName (b := 0) hm (R.rf) rfl rl1 hq) hF (fun f2 rv2 h2 q2 R2 e2 E2 hF => ?_)
      obtain rfl : rv2 = _ := e2
      refine s_kok R2 (t_192 hm R2.S) (Nat.le_of_ble_eq_true rfl) ?_
      refine s_call R2 hb (fun _ hq => SX35_keyword (b := 1) (N := N) (sE := sE) (SE := SE) hm (Nat.le_of_ble_eq_true rfl) @hsE (R2.rf) hq) hF (fun f4 rv4 h4 q4 R4 e4 E4 hF => ?_)
      refine s_if (i_eq e4.1 (c_lit 0 0 rfl) e4.2 ⟨by decide, by decide⟩) hF (fun c5 hF => ?_) (fun c5 hF => ?_)
      ·
        exact ih R4 (c_add rfl (c_lit 1 1 rfl)) (rr_I _) hF
      ·
        exact g_ret R4 hF ⟨rfl, rl1⟩
def FX35_unit (N : Nat) (SE : Int → fS → Option (Unit × fS)) (s : fS) : Option (Int × fS) :=
  FX35_unit_b2 N SE N 0 s
theorem SX35_unit {m b : Nat} {φ0 : Nat → Nat} {σo : fS} (hm : 1 ≤ m) (hb : 1 ≤ b) {N : Nat} {sE : Nat → Int32 → eH → Option (Unit × eH)} {SE : Int → fS → Option (Unit × fS)} {q : Int × fS} (hsE : ∀ {φ : Nat → Nat} {h : eH} {s : fS} {x1' : Int32} {x1 : Int} {q}, fC m 1 φ s φ h s → x1' = iI x1 → r32 x1 → SE x1 s = some q → gG m 1 φ s lU q (sE 192 x1' h)) {φ : Nat → Nat} {h : eH} {s : fS} (R : fC m b φ0 σo φ h s) (hF : FX35_unit N SE s = some q) : gG m b φ0 σo lI q (fX35_unit N sE 192 h) := by
  unfold FX35_unit at hF
  unfold fX35_unit
  exact SX35_unit_b2 (N := N) (sE := sE) (SE := SE) hm hb @hsE R (c_lit 0 0 rfl) ⟨by decide, by decide⟩ hF
def FX40_parameter_b27 (N : Nat) (s0 : Int) (s : fS) : Option (Int × fS) :=
  some (s0, s)
theorem SX40_parameter_b27 {m b : Nat} {φ0 : Nat → Nat} {σo : fS} (hm : 1 ≤ m) {N : Nat} {q : Int × fS} {φ : Nat → Nat} {h : eH} {s : fS} {s0' : Int32} {s0 : Int} (R : fC m b φ0 σo φ h s) (es0 : s0' = iI s0) (rs0 : r32 s0) (hF : FX40_parameter_b27 N s0 s = some q) : gG m b φ0 σo lI q (fX40_parameter_b27 N s0' h) := by
  subst es0
  unfold FX40_parameter_b27 at hF
  unfold fX40_parameter_b27
  exact g_ret R hF ⟨rfl, rs0⟩
def FX40_parameter (N : Nat) (this : Nat) (p0 : Int) (p1 : Int) (s : fS) : Option (Int × fS) :=
  (uK 42 s this).bind fun _ =>
  (s.o this 0).bind fun a1 =>
  (FX40_words a1 9 s).bind fun q3 =>
  if p0 ≤ q3.1 then
    (uK 42 q3.2 this).bind fun _ =>
    (FX40_scaled N this 9 (isub p0 1) p1 q3.2).bind fun q6 =>
    FX40_parameter_b27 N q6.1 q6.2
  else
    FX40_parameter_b27 N 0 q3.2
theorem SX40_parameter {m b : Nat} {φ0 : Nat → Nat} {σo : fS} (hm : 1 ≤ m) {N : Nat} {q : Int × fS} {φ : Nat → Nat} {h : eH} {s : fS} {this : Nat} {p0' : Int32} {p0 : Int} {p1' : Int32} {p1 : Int} (R : fC m b φ0 σo φ h s) (ep0 : p0' = iI p0) (rp0 : r32 p0) (ep1 : p1' = iI p1) (rp1 : r32 p1) (hF : FX40_parameter N this p0 p1 s = some q) : gG m b φ0 σo lI q (fX40_parameter N this p0' p1' h) := by
  subst ep0; subst ep1
  unfold FX40_parameter at hF
  unfold fX40_parameter
  refine s_K hF (fun t2 hF => ?_)
  refine s_oo hF (fun a1 e1 hF => ?_)
  refine s_gA R t2 (Nat.le_of_ble_eq_true rfl) rfl e1 (fun x1_ y1_ => ?_)
  refine s_call R (Nat.zero_le _) (fun _ hq => SX40_words (b := 0) hm (R.rf) rfl (Nat.lt_trans y1_ (Nat.le_of_ble_eq_true rfl)) (c_lit 9 9 rfl) ⟨by decide, by decide⟩ hq) hF (fun f3 rv3 h3 q3 R3 e3 E3 hF => ?_)
  refine s_if (i_le rfl e3.1 rp0 e3.2) hF (fun c4 hF => ?_) (fun c4 hF => ?_)
  ·
    refine s_K hF (fun t6 hF => ?_)
    refine s_kok R3 t6 (Nat.le_of_ble_eq_true rfl) ?_
    refine s_call R3 (Nat.zero_le _) (fun _ hq => SX40_scaled (b := 0) (N := N) hm (R3.rf) (c_lit 9 9 rfl) ⟨by decide, by decide⟩ (c_sub rfl (c_lit 1 1 rfl)) (rr_I _) rfl rp1 hq) hF (fun f7 rv7 h7 q6 R7 e7 E7 hF => ?_)
    exact SX40_parameter_b27 (N := N) hm R7 e7.1 e7.2 hF
  ·
    exact SX40_parameter_b27 (N := N) hm R3 (c_lit 0 0 rfl) ⟨by decide, by decide⟩ hF
def FX35_parameter_b37 (N : Nat) (s0 : Int) (s : fS) : Option (Int × fS) :=
  some (s0, s)
theorem SX35_parameter_b37 {m b : Nat} {φ0 : Nat → Nat} {σo : fS} (hm : 1 ≤ m) {N : Nat} {q : Int × fS} {φ : Nat → Nat} {h : eH} {s : fS} {s0' : Int32} {s0 : Int} (R : fC m b φ0 σo φ h s) (es0 : s0' = iI s0) (rs0 : r32 s0) (hF : FX35_parameter_b37 N s0 s = some q) : gG m b φ0 σo lI q (fX35_parameter_b37 N s0' h) := by
  subst es0
  unfold FX35_parameter_b37 at hF
  unfold fX35_parameter_b37
  exact g_ret R hF ⟨rfl, rs0⟩
def FX35_parameter (N : Nat) (p0 : Int) (s : fS) : Option (Int × fS) :=
  (FX35_now 3811 s).bind fun q2 =>
  if 0 ≤ q2.1 then
    (uRI q2.2 283 q2.1).bind fun x8 =>
    (uRO q2.2 194 x8).bind fun a10 =>
    (uRI q2.2 284 q2.1).bind fun x14 =>
    (uK 42 q2.2 a10).bind fun _ =>
    (FX40_parameter N a10 p0 x14 q2.2).bind fun q17 =>
    FX35_parameter_b37 N q17.1 q17.2
  else
    FX35_parameter_b37 N 0 q2.2
theorem SX35_parameter {m b : Nat} {φ0 : Nat → Nat} {σo : fS} (hm : 1 ≤ m) {N : Nat} {q : Int × fS} {φ : Nat → Nat} {h : eH} {s : fS} {p0' : Int32} {p0 : Int} (R : fC m b φ0 σo φ h s) (ep0 : p0' = iI p0) (rp0 : r32 p0) (hF : FX35_parameter N p0 s = some q) : gG m b φ0 σo lI q (fX35_parameter N 192 p0' h) := by
  subst ep0
  unfold FX35_parameter at hF
  unfold fX35_parameter
  refine s_kok R (t_192 hm R.S) (Nat.le_of_ble_eq_true rfl) ?_
  refine s_call R (Nat.zero_le _) (fun _ hq => SX35_now (b := 0) hm (R.rf) (c_lit 3811 3811 rfl) ⟨by decide, by decide⟩ hq) hF (fun f2 rv2 h2 q2 R2 e2 E2 hF => ?_)
  refine s_if (i_le (c_lit 0 0 rfl) e2.1 ⟨by decide, by decide⟩ e2.2) hF (fun c3 hF => ?_) (fun c3 hF => ?_)
  ·
    refine s_gAs R2 (t_192 hm R2.S) (Nat.le_of_ble_eq_true rfl) rfl (o_192_4 hm R2.S) (a_194 hm R2) ?_
    refine s_gAs R2 (t_192 hm R2.S) (Nat.le_of_ble_eq_true rfl) rfl (o_192_49 hm R2.S) (a_283 hm R2) ?_
    refine s_rI R2 (u_283 hm R2.S).1 (u_283 hm R2.S).2 (by decide) (a_283 hm R2) e2.1 e2.2 hF (fun x8 ra6 hF => ?_)
    refine s_rO R2 (u_194 hm R2.S).1 (u_194 hm R2.S).2 rfl (fun _ => rfl) (Nat.le_of_ble_eq_true rfl) (a_194 hm R2) rfl ra6 hF (fun a10 y7 hF => ?_)
    refine s_gAs R2 (t_192 hm R2.S) (Nat.le_of_ble_eq_true rfl) rfl (o_192_50 hm R2.S) (a_284 hm R2) ?_
    refine s_rI R2 (u_284 hm R2.S).1 (u_284 hm R2.S).2 (by decide) (a_284 hm R2) e2.1 e2.2 hF (fun x14 ra9 hF => ?_)
    refine s_K hF (fun t11 hF => ?_)
    refine s_kok R2 t11 (Nat.le_of_ble_eq_true rfl) ?_
    refine s_call R2 (Nat.zero_le _) (fun _ hq => SX40_parameter (b := 0) (N := N) hm (R2.rf) rfl rp0 rfl ra9 hq) hF (fun f12 rv12 h12 q17 R12 e12 E12 hF => ?_)
    exact SX35_parameter_b37 (N := N) hm R12 e12.1 e12.2 hF
  ·
    exact SX35_parameter_b37 (N := N) hm R2 (c_lit 0 0 rfl) ⟨by decide, by decide⟩ hF
def FX35_measured_b251 (N : Nat) (SE : Int → fS → Option (Unit × fS)) (SN : fS → Option (Int × fS)) (s0 : Int) (s : fS) : Option (Int × fS) :=
  some (s0, s)
theorem SX35_measured_b251 {m b : Nat} {φ0 : Nat → Nat} {σo : fS} (hm : 1 ≤ m) {N : Nat} {sE : Nat → Int32 → eH → Option (Unit × eH)} {SE : Int → fS → Option (Unit × fS)} {sN : Nat → eH → Option (Int32 × eH)} {SN : fS → Option (Int × fS)} {q : Int × fS} (hsE : ∀ {φ : Nat → Nat} {h : eH} {s : fS} {x1' : Int32} {x1 : Int} {q}, fC m 1 φ s φ h s → x1' = iI x1 → r32 x1 → SE x1 s = some q → gG m 1 φ s lU q (sE 192 x1' h)) (hsN : ∀ {φ : Nat → Nat} {h : eH} {s : fS} {q}, fC m 1 φ s φ h s → SN s = some q → gG m 1 φ s lI q (sN 192 h)) {φ : Nat → Nat} {h : eH} {s : fS} {s0' : Int64} {s0 : Int} (R : fC m b φ0 σo φ h s) (es0 : s0' = iJ s0) (rs0 : r64 s0) (hF : FX35_measured_b251 N SE SN s0 s = some q) : gG m b φ0 σo lJ q (fX35_measured_b251 N sE sN s0' h) := by
  subst es0
  unfold FX35_measured_b251 at hF
  unfold fX35_measured_b251
  exact g_ret R hF ⟨rfl, rs0⟩
def FX35_measured_b231 (N : Nat) (SE : Int → fS → Option (Unit × fS)) (SN : fS → Option (Int × fS)) (l1 : Int) (l3 : Int) (l6 : Int) (l8 : Int) (s : fS) : Option (Int × fS) :=
  if (s.i 192 46) ≤ 0 then
    (FX35_times l1 l3 l6 l8 s).bind fun q4 =>
    FX35_measured_b251 N SE SN q4.1 q4.2
  else
    FX35_measured_b251 N SE SN 0 s
theorem SX35_measured_b231 {m b : Nat} {φ0 : Nat → Nat} {σo : fS} (hm : 1 ≤ m) {N : Nat} {sE : Nat → Int32 → eH → Option (Unit × eH)} {SE : Int → fS → Option (Unit × fS)} {sN : Nat → eH → Option (Int32 × eH)} {SN : fS → Option (Int × fS)} {q : Int × fS} (hsE : ∀ {φ : Nat → Nat} {h : eH} {s : fS} {x1' : Int32} {x1 : Int} {q}, fC m 1 φ s φ h s → x1' = iI x1 → r32 x1 → SE x1 s = some q → gG m 1 φ s lU q (sE 192 x1' h)) (hsN : ∀ {φ : Nat → Nat} {h : eH} {s : fS} {q}, fC m 1 φ s φ h s → SN s = some q → gG m 1 φ s lI q (sN 192 h)) {φ : Nat → Nat} {h : eH} {s : fS} {l1' : Int64} {l1 : Int} {l3' : Int64} {l3 : Int} {l6' : Int64} {l6 : Int} {l8' : Int64} {l8 : Int} (R : fC m b φ0 σo φ h s) (el1 : l1' = iJ l1) (rl1 : r64 l1) (el3 : l3' = iJ l3) (rl3 : r64 l3) (el6 : l6' = iJ l6) (rl6 : r64 l6) (el8 : l8' = iJ l8) (rl8 : r64 l8) (hF : FX35_measured_b231 N SE SN l1 l3 l6 l8 s = some q) : gG m b φ0 σo lJ q (fX35_measured_b231 N sE sN 192 l1' l3' l6' l8' h) := by
  subst el1; subst el3; subst el6; subst el8
  unfold FX35_measured_b231 at hF
  unfold fX35_measured_b231
  refine s_gI R (t_192 hm R.S) (Nat.le_of_ble_eq_true rfl) rfl ?_
  refine s_if (i_le rfl (c_lit 0 0 rfl) (R.ri (t_192 hm R.S) (Nat.le_of_ble_eq_true rfl) rfl) ⟨by decide, by decide⟩) hF (fun c2 hF => ?_) (fun c2 hF => ?_)
  ·
    refine s_call R (Nat.zero_le _) (fun _ hq => SX35_times (b := 0) hm (R.rf) rfl rl1 rfl rl3 rfl rl6 rfl rl8 hq) hF (fun f3 rv3 h3 q4 R3 e3 E3 hF => ?_)
    exact SX35_measured_b251 (N := N) (sE := sE) (SE := SE) (sN := sN) (SN := SN) hm @hsE @hsN R3 e3.1 e3.2 hF
  ·
    exact SX35_measured_b251 (N := N) (sE := sE) (SE := SE) (sN := sN) (SN := SN) hm @hsE @hsN R (d_lit 0 0 rfl) ⟨by decide, by decide⟩ hF
def FX35_measured_b201 (N : Nat) (SE : Int → fS → Option (Unit × fS)) (SN : fS → Option (Int × fS)) (l1 : Int) (l3 : Int) (l6 : Int) (l8 : Int) (l10 : Int) (s : fS) : Option (Int × fS) :=
  if ¬ ((s.i 192 46) = 0) then
    FX35_measured_b231 N SE SN l1 l3 l6 l8 s
  else
    if l10 = 6 then
      FX35_measured_b231 N SE SN l1 l3 l6 l8 s
    else
      if l1 < (lmul 32768 l3) then
        FX35_measured_b231 N SE SN l1 l3 l6 l8 s
      else
        (FX35_fail 7 s).bind fun q7 =>
        FX35_measured_b231 N SE SN l1 l3 l6 l8 q7.2
theorem SX35_measured_b201 {m b : Nat} {φ0 : Nat → Nat} {σo : fS} (hm : 1 ≤ m) {N : Nat} {sE : Nat → Int32 → eH → Option (Unit × eH)} {SE : Int → fS → Option (Unit × fS)} {sN : Nat → eH → Option (Int32 × eH)} {SN : fS → Option (Int × fS)} {q : Int × fS} (hsE : ∀ {φ : Nat → Nat} {h : eH} {s : fS} {x1' : Int32} {x1 : Int} {q}, fC m 1 φ s φ h s → x1' = iI x1 → r32 x1 → SE x1 s = some q → gG m 1 φ s lU q (sE 192 x1' h)) (hsN : ∀ {φ : Nat → Nat} {h : eH} {s : fS} {q}, fC m 1 φ s φ h s → SN s = some q → gG m 1 φ s lI q (sN 192 h)) {φ : Nat → Nat} {h : eH} {s : fS} {l1' : Int64} {l1 : Int} {l3' : Int64} {l3 : Int} {l6' : Int64} {l6 : Int} {l8' : Int64} {l8 : Int} {l10' : Int32} {l10 : Int} (R : fC m b φ0 σo φ h s) (el1 : l1' = iJ l1) (rl1 : r64 l1) (el3 : l3' = iJ l3) (rl3 : r64 l3) (el6 : l6' = iJ l6) (rl6 : r64 l6) (el8 : l8' = iJ l8) (rl8 : r64 l8) (el10 : l10' = iI l10) (rl10 : r32 l10) (hF : FX35_measured_b201 N SE SN l1 l3 l6 l8 l10 s = some q) : gG m b φ0 σo lJ q (fX35_measured_b201 N sE sN 192 l1' l3' l6' l8' l10' h) := by
  subst el1; subst el3; subst el6; subst el8; subst el10
  unfold FX35_measured_b201 at hF
  unfold fX35_measured_b201
  refine s_gI R (t_192 hm R.S) (Nat.le_of_ble_eq_true rfl) rfl ?_
  refine s_if (not_congr (i_eq rfl (c_lit 0 0 rfl) (R.ri (t_192 hm R.S) (Nat.le_of_ble_eq_true rfl) rfl) ⟨by decide, by decide⟩)) hF (fun c2 hF => ?_) (fun c2 hF => ?_)
  ·
    exact SX35_measured_b231 (N := N) (sE := sE) (SE := SE) (sN := sN) (SN := SN) hm @hsE @hsN R rfl rl1 rfl rl3 rfl rl6 rfl rl8 hF
  ·
    refine s_if (i_eq rfl (c_lit 6 6 rfl) rl10 ⟨by decide, by decide⟩) hF (fun c3 hF => ?_) (fun c3 hF => ?_)
    ·
      exact SX35_measured_b231 (N := N) (sE := sE) (SE := SE) (sN := sN) (SN := SN) hm @hsE @hsN R rfl rl1 rfl rl3 rfl rl6 rfl rl8 hF
    ·
      refine s_if (lg_lt.trans (j_lt rfl (d_mul (d_lit 32768 32768 rfl) rfl) rl1 (rr_J _))) hF (fun c4 hF => ?_) (fun c4 hF => ?_)
      ·
        exact SX35_measured_b231 (N := N) (sE := sE) (SE := SE) (sN := sN) (SN := SN) hm @hsE @hsN R rfl rl1 rfl rl3 rfl rl6 rfl rl8 hF
      ·
        refine s_kok R (t_192 hm R.S) (Nat.le_of_ble_eq_true rfl) ?_
        refine s_call R (Nat.zero_le _) (fun _ hq => SX35_fail (b := 0) hm (R.rf) (c_lit 7 7 rfl) ⟨by decide, by decide⟩ hq) hF (fun f6 rv6 h6 q7 R6 e6 E6 hF => ?_)
        exact SX35_measured_b231 (N := N) (sE := sE) (SE := SE) (sN := sN) (SN := SN) hm @hsE @hsN R6 rfl rl1 rfl rl3 rfl rl6 rfl rl8 hF
def FX35_measured_b42 (N : Nat) (SE : Int → fS → Option (Unit × fS)) (SN : fS → Option (Int × fS)) (l1 : Int) (l3 : Int) (l5 : Int) (l8 : Int) (l10 : Int) (s : fS) : Option (Int × fS) :=
  (FX35_lengthOf SN l5 s).bind fun q2 =>
  FX35_measured_b201 N SE SN l1 l3 q2.1 l8 l10 q2.2
theorem SX35_measured_b42 {m b : Nat} {φ0 : Nat → Nat} {σo : fS} (hm : 1 ≤ m) (hb : 1 ≤ b) {N : Nat} {sE : Nat → Int32 → eH → Option (Unit × eH)} {SE : Int → fS → Option (Unit × fS)} {sN : Nat → eH → Option (Int32 × eH)} {SN : fS → Option (Int × fS)} {q : Int × fS} (hsE : ∀ {φ : Nat → Nat} {h : eH} {s : fS} {x1' : Int32} {x1 : Int} {q}, fC m 1 φ s φ h s → x1' = iI x1 → r32 x1 → SE x1 s = some q → gG m 1 φ s lU q (sE 192 x1' h)) (hsN : ∀ {φ : Nat → Nat} {h : eH} {s : fS} {q}, fC m 1 φ s φ h s → SN s = some q → gG m 1 φ s lI q (sN 192 h)) {φ : Nat → Nat} {h : eH} {s : fS} {l1' : Int64} {l1 : Int} {l3' : Int64} {l3 : Int} {l5' : Int32} {l5 : Int} {l8' : Int64} {l8 : Int} {l10' : Int32} {l10 : Int} (R : fC m b φ0 σo φ h s) (el1 : l1' = iJ l1) (rl1 : r64 l1) (el3 : l3' = iJ l3) (rl3 : r64 l3) (el5 : l5' = iI l5) (rl5 : r32 l5) (el8 : l8' = iJ l8) (rl8 : r64 l8) (el10 : l10' = iI l10) (rl10 : r32 l10) (hF : FX35_measured_b42 N SE SN l1 l3 l5 l8 l10 s = some q) : gG m b φ0 σo lJ q (fX35_measured_b42 N sE sN 192 l1' l3' l5' l8' l10' h) := by
  subst el1; subst el3; subst el5; subst el8; subst el10
  unfold FX35_measured_b42 at hF
  unfold fX35_measured_b42
  refine s_kok R (t_192 hm R.S) (Nat.le_of_ble_eq_true rfl) ?_
  refine s_call R hb (fun _ hq => SX35_lengthOf (b := 1) (sN := sN) (SN := SN) hm (Nat.le_of_ble_eq_true rfl) @hsN (R.rf) rfl rl5 hq) hF (fun f2 rv2 h2 q2 R2 e2 E2 hF => ?_)
  exact SX35_measured_b201 (N := N) (sE := sE) (SE := SE) (sN := sN) (SN := SN) hm @hsE @hsN R2 rfl rl1 rfl rl3 (c_2l e2.1 e2.2) (r32.w e2.2) rfl rl8 rfl rl10 hF
def FX35_measured_b195 (N : Nat) (SE : Int → fS → Option (Unit × fS)) (SN : fS → Option (Int × fS)) (l1 : Int) (l3 : Int) (l6 : Int) (l10 : Int) (s0 : Int) (s : fS) : Option (Int × fS) :=
  (FX35_dropSpace N SE s).bind fun q2 =>
  FX35_measured_b201 N SE SN l1 l3 l6 s0 l10 q2.2
theorem SX35_measured_b195 {m b : Nat} {φ0 : Nat → Nat} {σo : fS} (hm : 1 ≤ m) (hb : 1 ≤ b) {N : Nat} {sE : Nat → Int32 → eH → Option (Unit × eH)} {SE : Int → fS → Option (Unit × fS)} {sN : Nat → eH → Option (Int32 × eH)} {SN : fS → Option (Int × fS)} {q : Int × fS} (hsE : ∀ {φ : Nat → Nat} {h : eH} {s : fS} {x1' : Int32} {x1 : Int} {q}, fC m 1 φ s φ h s → x1' = iI x1 → r32 x1 → SE x1 s = some q → gG m 1 φ s lU q (sE 192 x1' h)) (hsN : ∀ {φ : Nat → Nat} {h : eH} {s : fS} {q}, fC m 1 φ s φ h s → SN s = some q → gG m 1 φ s lI q (sN 192 h)) {φ : Nat → Nat} {h : eH} {s : fS} {l1' : Int64} {l1 : Int} {l3' : Int64} {l3 : Int} {l6' : Int64} {l6 : Int} {l10' : Int32} {l10 : Int} {s0' : Int64} {s0 : Int} (R : fC m b φ0 σo φ h s) (el1 : l1' = iJ l1) (rl1 : r64 l1) (el3 : l3' = iJ l3) (rl3 : r64 l3) (el6 : l6' = iJ l6) (rl6 : r64 l6) (el10 : l10' = iI l10) (rl10 : r32 l10) (es0 : s0' = iJ s0) (rs0 : r64 s0) (hF : FX35_measured_b195 N SE SN l1 l3 l6 l10 s0 s = some q) : gG m b φ0 σo lJ q (fX35_measured_b195 N sE sN 192 l1' l3' l6' l10' s0' h) := by
  subst el1; subst el3; subst el6; subst el10; subst es0
  unfold FX35_measured_b195 at hF
  unfold fX35_measured_b195
  refine s_kok R (t_192 hm R.S) (Nat.le_of_ble_eq_true rfl) ?_
  refine s_call R hb (fun _ hq => SX35_dropSpace (b := 1) (N := N) (sE := sE) (SE := SE) hm (Nat.le_of_ble_eq_true rfl) @hsE (R.rf) hq) hF (fun f2 rv2 h2 q2 R2 e2 E2 hF => ?_)
  exact SX35_measured_b201 (N := N) (sE := sE) (SE := SE) (sN := sN) (SN := SN) hm @hsE @hsN R2 rfl rl1 rfl rl3 rfl rl6 rfl rs0 rfl rl10 hF
def FX35_measured_b144 (N : Nat) (SE : Int → fS → Option (Unit × fS)) (SN : fS → Option (Int × fS)) (l1 : Int) (l3 : Int) (l10 : Int) (s0 : Int) (s : fS) : Option (Int × fS) :=
  if ¬ (l10 = 2) then
    if ¬ (l10 = 3) then
      if ¬ (l10 = 4) then
        if ¬ (l10 = 5) then
          FX35_measured_b195 N SE SN l1 l3 s0 l10 1 s
        else
          FX35_measured_b195 N SE SN l1 l3 s0 l10 2540 s
      else
        FX35_measured_b195 N SE SN l1 l3 s0 l10 254 s
    else
      FX35_measured_b195 N SE SN l1 l3 s0 l10 7200 s
  else
    FX35_measured_b195 N SE SN l1 l3 s0 l10 100 s
theorem SX35_measured_b144 {m b : Nat} {φ0 : Nat → Nat} {σo : fS} (hm : 1 ≤ m) (hb : 1 ≤ b) {N : Nat} {sE : Nat → Int32 → eH → Option (Unit × eH)} {SE : Int → fS → Option (Unit × fS)} {sN : Nat → eH → Option (Int32 × eH)} {SN : fS → Option (Int × fS)} {q : Int × fS} (hsE : ∀ {φ : Nat → Nat} {h : eH} {s : fS} {x1' : Int32} {x1 : Int} {q}, fC m 1 φ s φ h s → x1' = iI x1 → r32 x1 → SE x1 s = some q → gG m 1 φ s lU q (sE 192 x1' h)) (hsN : ∀ {φ : Nat → Nat} {h : eH} {s : fS} {q}, fC m 1 φ s φ h s → SN s = some q → gG m 1 φ s lI q (sN 192 h)) {φ : Nat → Nat} {h : eH} {s : fS} {l1' : Int64} {l1 : Int} {l3' : Int64} {l3 : Int} {l10' : Int32} {l10 : Int} {s0' : Int64} {s0 : Int} (R : fC m b φ0 σo φ h s) (el1 : l1' = iJ l1) (rl1 : r64 l1) (el3 : l3' = iJ l3) (rl3 : r64 l3) (el10 : l10' = iI l10) (rl10 : r32 l10) (es0 : s0' = iJ s0) (rs0 : r64 s0) (hF : FX35_measured_b144 N SE SN l1 l3 l10 s0 s = some q) : gG m b φ0 σo lJ q (fX35_measured_b144 N sE sN 192 l1' l3' l10' s0' h) := by
  subst el1; subst el3; subst el10; subst es0
  unfold FX35_measured_b144 at hF
  unfold fX35_measured_b144
  refine s_if (not_congr (i_eq rfl (c_lit 2 2 rfl) rl10 ⟨by decide, by decide⟩)) hF (fun c1 hF => ?_) (fun c1 hF => ?_)
  ·
    refine s_if (not_congr (i_eq rfl (c_lit 3 3 rfl) rl10 ⟨by decide, by decide⟩)) hF (fun c2 hF => ?_) (fun c2 hF => ?_)
    ·
      refine s_if (not_congr (i_eq rfl (c_lit 4 4 rfl) rl10 ⟨by decide, by decide⟩)) hF (fun c3 hF => ?_) (fun c3 hF => ?_)
      ·
        refine s_if (not_congr (i_eq rfl (c_lit 5 5 rfl) rl10 ⟨by decide, by decide⟩)) hF (fun c4 hF => ?_) (fun c4 hF => ?_)
        ·
          exact SX35_measured_b195 (N := N) (sE := sE) (SE := SE) (sN := sN) (SN := SN) hm hb @hsE @hsN R rfl rl1 rfl rl3 rfl rs0 rfl rl10 (d_lit 1 1 rfl) ⟨by decide, by decide⟩ hF
        ·
          exact SX35_measured_b195 (N := N) (sE := sE) (SE := SE) (sN := sN) (SN := SN) hm hb @hsE @hsN R rfl rl1 rfl rl3 rfl rs0 rfl rl10 (d_lit 2540 2540 rfl) ⟨by decide, by decide⟩ hF
      ·
        exact SX35_measured_b195 (N := N) (sE := sE) (SE := SE) (sN := sN) (SN := SN) hm hb @hsE @hsN R rfl rl1 rfl rl3 rfl rs0 rfl rl10 (d_lit 254 254 rfl) ⟨by decide, by decide⟩ hF
    ·
      exact SX35_measured_b195 (N := N) (sE := sE) (SE := SE) (sN := sN) (SN := SN) hm hb @hsE @hsN R rfl rl1 rfl rl3 rfl rs0 rfl rl10 (d_lit 7200 7200 rfl) ⟨by decide, by decide⟩ hF
  ·
    exact SX35_measured_b195 (N := N) (sE := sE) (SE := SE) (sN := sN) (SN := SN) hm hb @hsE @hsN R rfl rl1 rfl rl3 rfl rs0 rfl rl10 (d_lit 100 100 rfl) ⟨by decide, by decide⟩ hF
def FX35_measured_b140 (N : Nat) (SE : Int → fS → Option (Unit × fS)) (SN : fS → Option (Int × fS)) (l1 : Int) (l3 : Int) (l10 : Int) (s1 : Int) (s : fS) : Option (Int × fS) :=
  (FX35_parameter N s1 s).bind fun q2 =>
  FX35_measured_b144 N SE SN l1 l3 l10 q2.1 q2.2
theorem SX35_measured_b140 {m b : Nat} {φ0 : Nat → Nat} {σo : fS} (hm : 1 ≤ m) (hb : 1 ≤ b) {N : Nat} {sE : Nat → Int32 → eH → Option (Unit × eH)} {SE : Int → fS → Option (Unit × fS)} {sN : Nat → eH → Option (Int32 × eH)} {SN : fS → Option (Int × fS)} {q : Int × fS} (hsE : ∀ {φ : Nat → Nat} {h : eH} {s : fS} {x1' : Int32} {x1 : Int} {q}, fC m 1 φ s φ h s → x1' = iI x1 → r32 x1 → SE x1 s = some q → gG m 1 φ s lU q (sE 192 x1' h)) (hsN : ∀ {φ : Nat → Nat} {h : eH} {s : fS} {q}, fC m 1 φ s φ h s → SN s = some q → gG m 1 φ s lI q (sN 192 h)) {φ : Nat → Nat} {h : eH} {s : fS} {l1' : Int64} {l1 : Int} {l3' : Int64} {l3 : Int} {l10' : Int32} {l10 : Int} {s1' : Int32} {s1 : Int} (R : fC m b φ0 σo φ h s) (el1 : l1' = iJ l1) (rl1 : r64 l1) (el3 : l3' = iJ l3) (rl3 : r64 l3) (el10 : l10' = iI l10) (rl10 : r32 l10) (es1 : s1' = iI s1) (rs1 : r32 s1) (hF : FX35_measured_b140 N SE SN l1 l3 l10 s1 s = some q) : gG m b φ0 σo lJ q (fX35_measured_b140 N sE sN 192 l1' l3' l10' 192 s1' h) := by
  subst el1; subst el3; subst el10; subst es1
  unfold FX35_measured_b140 at hF
  unfold fX35_measured_b140
  refine s_kok R (t_192 hm R.S) (Nat.le_of_ble_eq_true rfl) ?_
  refine s_call R (Nat.zero_le _) (fun _ hq => SX35_parameter (b := 0) (N := N) hm (R.rf) rfl rs1 hq) hF (fun f2 rv2 h2 q2 R2 e2 E2 hF => ?_)
  exact SX35_measured_b144 (N := N) (sE := sE) (SE := SE) (sN := sN) (SN := SN) hm hb @hsE @hsN R2 rfl rl1 rfl rl3 rfl rl10 (c_2l e2.1 e2.2) (r32.w e2.2) hF
def FX35_measured (N : Nat) (SE : Int → fS → Option (Unit × fS)) (SN : fS → Option (Int × fS)) (p0 : Int) (p1 : Int) (s : fS) : Option (Int × fS) :=
  (FX35_needExpandedNoSpace N SE s).bind fun q2 =>
  if (q2.2.i 192 46) ≤ 0 then
    (FX35_hasLength q2.1 q2.2).bind fun q7 =>
    if ¬ (q7.1 = 0) then
      FX35_measured_b42 N SE SN p0 p1 q2.1 1 (-1) q7.2
    else
      (FX35_hasGlue q2.1 q7.2).bind fun q10 =>
      if q10.1 = 0 then
        (FX35_put q2.1 q10.2).bind fun q13 =>
        (FX35_unit N SE q13.2).bind fun q15 =>
        if 0 ≤ q15.1 then
          if ¬ (q15.1 = 0) then
            if ¬ (q15.1 = 1) then
              if 6 ≤ q15.1 then
                if ¬ (q15.1 = 6) then
                  if ¬ (q15.1 = 7) then
                    FX35_measured_b140 N SE SN p0 p1 q15.1 5 q15.2
                  else
                    FX35_measured_b140 N SE SN p0 p1 q15.1 6 q15.2
                else
                  FX35_measured_b144 N SE SN p0 p1 q15.1 1 q15.2
              else
                FX35_measured_b144 N SE SN p0 p1 q15.1 473628672 q15.2
            else
              FX35_measured_b144 N SE SN p0 p1 q15.1 786432 q15.2
          else
            FX35_measured_b144 N SE SN p0 p1 q15.1 65536 q15.2
        else
          (FX35_fail 6 q15.2).bind fun q23 =>
          some (0, q23.2)
      else
        FX35_measured_b42 N SE SN p0 p1 q2.1 1 (-1) q10.2
  else
    some (0, q2.2)
theorem SX35_measured {m b : Nat} {φ0 : Nat → Nat} {σo : fS} (hm : 1 ≤ m) (hb : 1 ≤ b) {N : Nat} {sE : Nat → Int32 → eH → Option (Unit × eH)} {SE : Int → fS → Option (Unit × fS)} {sN : Nat → eH → Option (Int32 × eH)} {SN : fS → Option (Int × fS)} {q : Int × fS} (hsE : ∀ {φ : Nat → Nat} {h : eH} {s : fS} {x1' : Int32} {x1 : Int} {q}, fC m 1 φ s φ h s → x1' = iI x1 → r32 x1 → SE x1 s = some q → gG m 1 φ s lU q (sE 192 x1' h)) (hsN : ∀ {φ : Nat → Nat} {h : eH} {s : fS} {q}, fC m 1 φ s φ h s → SN s = some q → gG m 1 φ s lI q (sN 192 h)) {φ : Nat → Nat} {h : eH} {s : fS} {p0' : Int64} {p0 : Int} {p1' : Int64} {p1 : Int} (R : fC m b φ0 σo φ h s) (ep0 : p0' = iJ p0) (rp0 : r64 p0) (ep1 : p1' = iJ p1) (rp1 : r64 p1) (hF : FX35_measured N SE SN p0 p1 s = some q) : gG m b φ0 σo lJ q (fX35_measured N sE sN 192 p0' p1' h) := by
  subst ep0; subst ep1
  unfold FX35_measured at hF
  unfold fX35_measured
  refine s_kok R (t_192 hm R.S) (Nat.le_of_ble_eq_true rfl) ?_
  refine s_call R hb (fun _ hq => SX35_needExpandedNoSpace (b := 1) (N := N) (sE := sE) (SE := SE) hm (Nat.le_of_ble_eq_true rfl) @hsE (R.rf) hq) hF (fun f2 rv2 h2 q2 R2 e2 E2 hF => ?_)
  refine s_gI R2 (t_192 hm R2.S) (Nat.le_of_ble_eq_true rfl) rfl ?_
  refine s_if (i_le rfl (c_lit 0 0 rfl) (R2.ri (t_192 hm R2.S) (Nat.le_of_ble_eq_true rfl) rfl) ⟨by decide, by decide⟩) hF (fun c4 hF => ?_) (fun c4 hF => ?_)
  ·
    refine s_kok R2 (t_192 hm R2.S) (Nat.le_of_ble_eq_true rfl) ?_
    refine s_call R2 (Nat.zero_le _) (fun _ hq => SX35_hasLength (b := 0) hm (R2.rf) e2.1 e2.2 hq) hF (fun f6 rv6 h6 q7 R6 e6 E6 hF => ?_)
    refine s_if (not_congr (i_eq e6.1 (c_lit 0 0 rfl) e6.2 ⟨by decide, by decide⟩)) hF (fun c7 hF => ?_) (fun c7 hF => ?_)
    ·
      exact SX35_measured_b42 (N := N) (sE := sE) (SE := SE) (sN := sN) (SN := SN) hm hb @hsE @hsN R6 rfl rp0 rfl rp1 e2.1 e2.2 (d_lit 1 1 rfl) ⟨by decide, by decide⟩ (c_lit (-1) (-1) rfl) ⟨by decide, by decide⟩ hF
    ·
      refine s_kok R6 (t_192 hm R6.S) (Nat.le_of_ble_eq_true rfl) ?_
      refine s_call R6 (Nat.zero_le _) (fun _ hq => SX35_hasGlue (b := 0) hm (R6.rf) e2.1 e2.2 hq) hF (fun f9 rv9 h9 q10 R9 e9 E9 hF => ?_)
      refine s_if (i_eq e9.1 (c_lit 0 0 rfl) e9.2 ⟨by decide, by decide⟩) hF (fun c10 hF => ?_) (fun c10 hF => ?_)
      ·
        refine s_kok R9 (t_192 hm R9.S) (Nat.le_of_ble_eq_true rfl) ?_
        refine s_call R9 (Nat.zero_le _) (fun _ hq => SX35_put (b := 0) hm (R9.rf) e2.1 e2.2 hq) hF (fun f12 rv12 h12 q13 R12 e12 E12 hF => ?_)
        refine s_kok R12 (t_192 hm R12.S) (Nat.le_of_ble_eq_true rfl) ?_
        refine s_call R12 hb (fun _ hq => SX35_unit (b := 1) (N := N) (sE := sE) (SE := SE) hm (Nat.le_of_ble_eq_true rfl) @hsE (R12.rf) hq) hF (fun f14 rv14 h14 q15 R14 e14 E14 hF => ?_)
        refine s_if (i_le (c_lit 0 0 rfl) e14.1 ⟨by decide, by decide⟩ e14.2) hF (fun c15 hF => ?_) (fun c15 hF => ?_)
        ·
          refine s_if (not_congr (i_eq e14.1 (c_lit 0 0 rfl) e14.2 ⟨by decide, by decide⟩)) hF (fun c16 hF => ?_) (fun c16 hF => ?_)
          ·
            refine s_if (not_congr (i_eq e14.1 (c_lit 1 1 rfl) e14.2 ⟨by decide, by decide⟩)) hF (fun c17 hF => ?_) (fun c17 hF => ?_)
            ·
              refine s_if (i_le (c_lit 6 6 rfl) e14.1 ⟨by decide, by decide⟩ e14.2) hF (fun c18 hF => ?_) (fun c18 hF => ?_)
              ·
                refine s_if (not_congr (i_eq e14.1 (c_lit 6 6 rfl) e14.2 ⟨by decide, by decide⟩)) hF (fun c19 hF => ?_) (fun c19 hF => ?_)
                ·
                  refine s_if (not_congr (i_eq e14.1 (c_lit 7 7 rfl) e14.2 ⟨by decide, by decide⟩)) hF (fun c20 hF => ?_) (fun c20 hF => ?_)
                  ·
                    exact SX35_measured_b140 (N := N) (sE := sE) (SE := SE) (sN := sN) (SN := SN) hm hb @hsE @hsN R14 rfl rp0 rfl rp1 e14.1 e14.2 (c_lit 5 5 rfl) ⟨by decide, by decide⟩ hF
                  ·
                    exact SX35_measured_b140 (N := N) (sE := sE) (SE := SE) (sN := sN) (SN := SN) hm hb @hsE @hsN R14 rfl rp0 rfl rp1 e14.1 e14.2 (c_lit 6 6 rfl) ⟨by decide, by decide⟩ hF
                ·
                  exact SX35_measured_b144 (N := N) (sE := sE) (SE := SE) (sN := sN) (SN := SN) hm hb @hsE @hsN R14 rfl rp0 rfl rp1 e14.1 e14.2 (d_lit 1 1 rfl) ⟨by decide, by decide⟩ hF
              ·
                exact SX35_measured_b144 (N := N) (sE := sE) (SE := SE) (sN := sN) (SN := SN) hm hb @hsE @hsN R14 rfl rp0 rfl rp1 e14.1 e14.2 (d_lit 473628672 473628672 rfl) ⟨by decide, by decide⟩ hF
            ·
              exact SX35_measured_b144 (N := N) (sE := sE) (SE := SE) (sN := sN) (SN := SN) hm hb @hsE @hsN R14 rfl rp0 rfl rp1 e14.1 e14.2 (d_lit 786432 786432 rfl) ⟨by decide, by decide⟩ hF
          ·
            exact SX35_measured_b144 (N := N) (sE := sE) (SE := SE) (sN := sN) (SN := SN) hm hb @hsE @hsN R14 rfl rp0 rfl rp1 e14.1 e14.2 (d_lit 65536 65536 rfl) ⟨by decide, by decide⟩ hF
        ·
          refine s_kok R14 (t_192 hm R14.S) (Nat.le_of_ble_eq_true rfl) ?_
          refine s_call R14 (Nat.zero_le _) (fun _ hq => SX35_fail (b := 0) hm (R14.rf) (c_lit 6 6 rfl) ⟨by decide, by decide⟩ hq) hF (fun f22 rv22 h22 q23 R22 e22 E22 hF => ?_)
          exact g_ret R22 hF ⟨(d_lit 0 0 rfl), ⟨by decide, by decide⟩⟩
      ·
        exact SX35_measured_b42 (N := N) (sE := sE) (SE := SE) (sN := sN) (SN := SN) hm hb @hsE @hsN R9 rfl rp0 rfl rp1 e2.1 e2.2 (d_lit 1 1 rfl) ⟨by decide, by decide⟩ (c_lit (-1) (-1) rfl) ⟨by decide, by decide⟩ hF
  ·
    exact g_ret R2 hF ⟨(d_lit 0 0 rfl), ⟨by decide, by decide⟩⟩
def FX35_sized_b33 (s0 : Int) (s : fS) : Option (Int × fS) :=
  some (s0, s)
theorem SX35_sized_b33 {m b : Nat} {φ0 : Nat → Nat} {σo : fS} (hm : 1 ≤ m) {q : Int × fS} {φ : Nat → Nat} {h : eH} {s : fS} {s0' : Int32} {s0 : Int} (R : fC m b φ0 σo φ h s) (es0 : s0' = iI s0) (rs0 : r32 s0) (hF : FX35_sized_b33 s0 s = some q) : gG m b φ0 σo lI q (fX35_sized_b33 s0' h) := by
  subst es0
  unfold FX35_sized_b33 at hF
  unfold fX35_sized_b33
  exact g_ret R hF ⟨rfl, rs0⟩
def FX35_sized_b20 (l1 : Int) (s : fS) : Option (Int × fS) :=
  if (s.i 192 46) ≤ 0 then
    FX35_sized_b33 (l2i l1) s
  else
    FX35_sized_b33 0 s
theorem SX35_sized_b20 {m b : Nat} {φ0 : Nat → Nat} {σo : fS} (hm : 1 ≤ m) {q : Int × fS} {φ : Nat → Nat} {h : eH} {s : fS} {l1' : Int64} {l1 : Int} (R : fC m b φ0 σo φ h s) (el1 : l1' = iJ l1) (rl1 : r64 l1) (hF : FX35_sized_b20 l1 s = some q) : gG m b φ0 σo lI q (fX35_sized_b20 192 l1' h) := by
  subst el1
  unfold FX35_sized_b20 at hF
  unfold fX35_sized_b20
  refine s_gI R (t_192 hm R.S) (Nat.le_of_ble_eq_true rfl) rfl ?_
  refine s_if (i_le rfl (c_lit 0 0 rfl) (R.ri (t_192 hm R.S) (Nat.le_of_ble_eq_true rfl) rfl) ⟨by decide, by decide⟩) hF (fun c2 hF => ?_) (fun c2 hF => ?_)
  ·
    exact SX35_sized_b33 hm R (d_2i rfl) (rr_I _) hF
  ·
    exact SX35_sized_b33 hm R (c_lit 0 0 rfl) ⟨by decide, by decide⟩ hF
def FX35_sized (p0 : Int) (s : fS) : Option (Int × fS) :=
  if ¬ ((s.i 192 46) = 0) then
    FX35_sized_b20 p0 s
  else
    (FX35_isSize p0 s).bind fun q4 =>
    if ¬ (q4.1 = 0) then
      FX35_sized_b20 p0 q4.2
    else
      (FX35_fail 7 q4.2).bind fun q7 =>
      FX35_sized_b20 p0 q7.2
theorem SX35_sized {m b : Nat} {φ0 : Nat → Nat} {σo : fS} (hm : 1 ≤ m) {q : Int × fS} {φ : Nat → Nat} {h : eH} {s : fS} {p0' : Int64} {p0 : Int} (R : fC m b φ0 σo φ h s) (ep0 : p0' = iJ p0) (rp0 : r64 p0) (hF : FX35_sized p0 s = some q) : gG m b φ0 σo lI q (fX35_sized 192 p0' h) := by
  subst ep0
  unfold FX35_sized at hF
  unfold fX35_sized
  refine s_gI R (t_192 hm R.S) (Nat.le_of_ble_eq_true rfl) rfl ?_
  refine s_if (not_congr (i_eq rfl (c_lit 0 0 rfl) (R.ri (t_192 hm R.S) (Nat.le_of_ble_eq_true rfl) rfl) ⟨by decide, by decide⟩)) hF (fun c2 hF => ?_) (fun c2 hF => ?_)
  ·
    exact SX35_sized_b20 hm R rfl rp0 hF
  ·
    refine s_call R (Nat.zero_le _) (fun _ hq => SX35_isSize (b := 0) hm (R.rf) rfl rp0 hq) hF (fun f3 rv3 h3 q4 R3 e3 E3 hF => ?_)
    refine s_if (not_congr (i_eq e3.1 (c_lit 0 0 rfl) e3.2 ⟨by decide, by decide⟩)) hF (fun c4 hF => ?_) (fun c4 hF => ?_)
    ·
      exact SX35_sized_b20 hm R3 rfl rp0 hF
    ·
      refine s_kok R3 (t_192 hm R3.S) (Nat.le_of_ble_eq_true rfl) ?_
      refine s_call R3 (Nat.zero_le _) (fun _ hq => SX35_fail (b := 0) hm (R3.rf) (c_lit 7 7 rfl) ⟨by decide, by decide⟩ hq) hF (fun f6 rv6 h6 q7 R6 e6 E6 hF => ?_)
      exact SX35_sized_b20 hm R6 rfl rp0 hF
def FX35_sizeFrom_b209 (N : Nat) (SE : Int → fS → Option (Unit × fS)) (SN : fS → Option (Int × fS)) (s1 : Int) (s : fS) : Option (Int × fS) :=
  (FX35_sized s1 s).bind fun q2 =>
  some (q2.1, q2.2)
theorem SX35_sizeFrom_b209 {m b : Nat} {φ0 : Nat → Nat} {σo : fS} (hm : 1 ≤ m) {N : Nat} {sE : Nat → Int32 → eH → Option (Unit × eH)} {SE : Int → fS → Option (Unit × fS)} {sN : Nat → eH → Option (Int32 × eH)} {SN : fS → Option (Int × fS)} {q : Int × fS} (hsE : ∀ {φ : Nat → Nat} {h : eH} {s : fS} {x1' : Int32} {x1 : Int} {q}, fC m 1 φ s φ h s → x1' = iI x1 → r32 x1 → SE x1 s = some q → gG m 1 φ s lU q (sE 192 x1' h)) (hsN : ∀ {φ : Nat → Nat} {h : eH} {s : fS} {q}, fC m 1 φ s φ h s → SN s = some q → gG m 1 φ s lI q (sN 192 h)) {φ : Nat → Nat} {h : eH} {s : fS} {s1' : Int64} {s1 : Int} (R : fC m b φ0 σo φ h s) (es1 : s1' = iJ s1) (rs1 : r64 s1) (hF : FX35_sizeFrom_b209 N SE SN s1 s = some q) : gG m b φ0 σo lI q (fX35_sizeFrom_b209 N sE sN 192 s1' h) := by
  subst es1
  unfold FX35_sizeFrom_b209 at hF
  unfold fX35_sizeFrom_b209
  refine s_kok R (t_192 hm R.S) (Nat.le_of_ble_eq_true rfl) ?_
  refine s_call R (Nat.zero_le _) (fun _ hq => SX35_sized (b := 0) hm (R.rf) rfl rs1 hq) hF (fun f2 rv2 h2 q2 R2 e2 E2 hF => ?_)
  exact g_ret R2 hF ⟨e2.1, e2.2⟩
def FX35_sizeFrom_b190 (N : Nat) (SE : Int → fS → Option (Unit × fS)) (SN : fS → Option (Int × fS)) (l2 : Int) (l4 : Int) (l5 : Int) (s : fS) : Option (Int × fS) :=
  (uPI s 192 120 l4).bind fun σ1 =>
  if l2 = 0 then
    FX35_sizeFrom_b209 N SE SN l5 σ1
  else
    FX35_sizeFrom_b209 N SE SN (lneg l5) σ1
theorem SX35_sizeFrom_b190 {m b : Nat} {φ0 : Nat → Nat} {σo : fS} (hm : 1 ≤ m) {N : Nat} {sE : Nat → Int32 → eH → Option (Unit × eH)} {SE : Int → fS → Option (Unit × fS)} {sN : Nat → eH → Option (Int32 × eH)} {SN : fS → Option (Int × fS)} {q : Int × fS} (hsE : ∀ {φ : Nat → Nat} {h : eH} {s : fS} {x1' : Int32} {x1 : Int} {q}, fC m 1 φ s φ h s → x1' = iI x1 → r32 x1 → SE x1 s = some q → gG m 1 φ s lU q (sE 192 x1' h)) (hsN : ∀ {φ : Nat → Nat} {h : eH} {s : fS} {q}, fC m 1 φ s φ h s → SN s = some q → gG m 1 φ s lI q (sN 192 h)) {φ : Nat → Nat} {h : eH} {s : fS} {l2' : Int32} {l2 : Int} {l4' : Int32} {l4 : Int} {l5' : Int64} {l5 : Int} (R : fC m b φ0 σo φ h s) (el2 : l2' = iI l2) (rl2 : r32 l2) (el4 : l4' = iI l4) (rl4 : r32 l4) (el5 : l5' = iJ l5) (rl5 : r64 l5) (hF : FX35_sizeFrom_b190 N SE SN l2 l4 l5 s = some q) : gG m b φ0 σo lI q (fX35_sizeFrom_b190 N sE sN 192 l2' l4' l5' h) := by
  subst el2; subst el4; subst el5
  unfold FX35_sizeFrom_b190 at hF
  unfold fX35_sizeFrom_b190
  refine s_pI R (t_192 hm R.S) (Nat.le_of_ble_eq_true rfl) rfl rfl rl4 hF (fun h1 σ1 R1 T1 hF => ?_)
  refine s_if (i_eq rfl (c_lit 0 0 rfl) rl2 ⟨by decide, by decide⟩) hF (fun c2 hF => ?_) (fun c2 hF => ?_)
  ·
    exact SX35_sizeFrom_b209 (N := N) (sE := sE) (SE := SE) (sN := sN) (SN := SN) hm @hsE @hsN R1 rfl rl5 hF
  ·
    exact SX35_sizeFrom_b209 (N := N) (sE := sE) (SE := SE) (sN := sN) (SN := SN) hm @hsE @hsN R1 (d_neg rfl) (rr_J _) hF
def FX35_sizeFrom_b29 (N : Nat) (SE : Int → fS → Option (Unit × fS)) (SN : fS → Option (Int × fS)) (l1 : Int) (l2 : Int) (l4 : Int) (s : fS) : Option (Int × fS) :=
  (FX35_lengthOf SN l1 s).bind fun q2 =>
  FX35_sizeFrom_b190 N SE SN l2 l4 q2.1 q2.2
theorem SX35_sizeFrom_b29 {m b : Nat} {φ0 : Nat → Nat} {σo : fS} (hm : 1 ≤ m) (hb : 1 ≤ b) {N : Nat} {sE : Nat → Int32 → eH → Option (Unit × eH)} {SE : Int → fS → Option (Unit × fS)} {sN : Nat → eH → Option (Int32 × eH)} {SN : fS → Option (Int × fS)} {q : Int × fS} (hsE : ∀ {φ : Nat → Nat} {h : eH} {s : fS} {x1' : Int32} {x1 : Int} {q}, fC m 1 φ s φ h s → x1' = iI x1 → r32 x1 → SE x1 s = some q → gG m 1 φ s lU q (sE 192 x1' h)) (hsN : ∀ {φ : Nat → Nat} {h : eH} {s : fS} {q}, fC m 1 φ s φ h s → SN s = some q → gG m 1 φ s lI q (sN 192 h)) {φ : Nat → Nat} {h : eH} {s : fS} {l1' : Int32} {l1 : Int} {l2' : Int32} {l2 : Int} {l4' : Int32} {l4 : Int} (R : fC m b φ0 σo φ h s) (el1 : l1' = iI l1) (rl1 : r32 l1) (el2 : l2' = iI l2) (rl2 : r32 l2) (el4 : l4' = iI l4) (rl4 : r32 l4) (hF : FX35_sizeFrom_b29 N SE SN l1 l2 l4 s = some q) : gG m b φ0 σo lI q (fX35_sizeFrom_b29 N sE sN 192 l1' l2' l4' h) := by
  subst el1; subst el2; subst el4
  unfold FX35_sizeFrom_b29 at hF
  unfold fX35_sizeFrom_b29
  refine s_kok R (t_192 hm R.S) (Nat.le_of_ble_eq_true rfl) ?_
  refine s_call R hb (fun _ hq => SX35_lengthOf (b := 1) (sN := sN) (SN := SN) hm (Nat.le_of_ble_eq_true rfl) @hsN (R.rf) rfl rl1 hq) hF (fun f2 rv2 h2 q2 R2 e2 E2 hF => ?_)
  exact SX35_sizeFrom_b190 (N := N) (sE := sE) (SE := SE) (sN := sN) (SN := SN) hm @hsE @hsN R2 rfl rl2 rfl rl4 (c_2l e2.1 e2.2) (r32.w e2.2) hF
def FX35_sizeFrom_b168 (N : Nat) (SE : Int → fS → Option (Unit × fS)) (SN : fS → Option (Int × fS)) (l2 : Int) (l4 : Int) (s0 : Int) (s : fS) : Option (Int × fS) :=
  FX35_sizeFrom_b190 N SE SN l2 l4 s0 s
theorem SX35_sizeFrom_b168 {m b : Nat} {φ0 : Nat → Nat} {σo : fS} (hm : 1 ≤ m) {N : Nat} {sE : Nat → Int32 → eH → Option (Unit × eH)} {SE : Int → fS → Option (Unit × fS)} {sN : Nat → eH → Option (Int32 × eH)} {SN : fS → Option (Int × fS)} {q : Int × fS} (hsE : ∀ {φ : Nat → Nat} {h : eH} {s : fS} {x1' : Int32} {x1 : Int} {q}, fC m 1 φ s φ h s → x1' = iI x1 → r32 x1 → SE x1 s = some q → gG m 1 φ s lU q (sE 192 x1' h)) (hsN : ∀ {φ : Nat → Nat} {h : eH} {s : fS} {q}, fC m 1 φ s φ h s → SN s = some q → gG m 1 φ s lI q (sN 192 h)) {φ : Nat → Nat} {h : eH} {s : fS} {l2' : Int32} {l2 : Int} {l4' : Int32} {l4 : Int} {s0' : Int64} {s0 : Int} (R : fC m b φ0 σo φ h s) (el2 : l2' = iI l2) (rl2 : r32 l2) (el4 : l4' = iI l4) (rl4 : r32 l4) (es0 : s0' = iJ s0) (rs0 : r64 s0) (hF : FX35_sizeFrom_b168 N SE SN l2 l4 s0 s = some q) : gG m b φ0 σo lI q (fX35_sizeFrom_b168 N sE sN 192 l2' l4' s0' h) := by
  subst el2; subst el4; subst es0
  unfold FX35_sizeFrom_b168 at hF
  unfold fX35_sizeFrom_b168
  exact SX35_sizeFrom_b190 (N := N) (sE := sE) (SE := SE) (sN := sN) (SN := SN) hm @hsE @hsN R rfl rl2 rfl rl4 rfl rs0 hF
def FX35_sizeFrom_b146 (N : Nat) (SE : Int → fS → Option (Unit × fS)) (SN : fS → Option (Int × fS)) (l2 : Int) (l4 : Int) (l7 : Int) (l9 : Int) (s : fS) : Option (Int × fS) :=
  if (s.i 192 46) ≤ 0 then
    (FX35_times l7 l9 65536 1 s).bind fun q4 =>
    FX35_sizeFrom_b168 N SE SN l2 l4 q4.1 q4.2
  else
    FX35_sizeFrom_b168 N SE SN l2 l4 0 s
theorem SX35_sizeFrom_b146 {m b : Nat} {φ0 : Nat → Nat} {σo : fS} (hm : 1 ≤ m) {N : Nat} {sE : Nat → Int32 → eH → Option (Unit × eH)} {SE : Int → fS → Option (Unit × fS)} {sN : Nat → eH → Option (Int32 × eH)} {SN : fS → Option (Int × fS)} {q : Int × fS} (hsE : ∀ {φ : Nat → Nat} {h : eH} {s : fS} {x1' : Int32} {x1 : Int} {q}, fC m 1 φ s φ h s → x1' = iI x1 → r32 x1 → SE x1 s = some q → gG m 1 φ s lU q (sE 192 x1' h)) (hsN : ∀ {φ : Nat → Nat} {h : eH} {s : fS} {q}, fC m 1 φ s φ h s → SN s = some q → gG m 1 φ s lI q (sN 192 h)) {φ : Nat → Nat} {h : eH} {s : fS} {l2' : Int32} {l2 : Int} {l4' : Int32} {l4 : Int} {l7' : Int64} {l7 : Int} {l9' : Int64} {l9 : Int} (R : fC m b φ0 σo φ h s) (el2 : l2' = iI l2) (rl2 : r32 l2) (el4 : l4' = iI l4) (rl4 : r32 l4) (el7 : l7' = iJ l7) (rl7 : r64 l7) (el9 : l9' = iJ l9) (rl9 : r64 l9) (hF : FX35_sizeFrom_b146 N SE SN l2 l4 l7 l9 s = some q) : gG m b φ0 σo lI q (fX35_sizeFrom_b146 N sE sN 192 l2' l4' l7' l9' h) := by
  subst el2; subst el4; subst el7; subst el9
  unfold FX35_sizeFrom_b146 at hF
  unfold fX35_sizeFrom_b146
  refine s_gI R (t_192 hm R.S) (Nat.le_of_ble_eq_true rfl) rfl ?_
  refine s_if (i_le rfl (c_lit 0 0 rfl) (R.ri (t_192 hm R.S) (Nat.le_of_ble_eq_true rfl) rfl) ⟨by decide, by decide⟩) hF (fun c2 hF => ?_) (fun c2 hF => ?_)
  ·
    refine s_call R (Nat.zero_le _) (fun _ hq => SX35_times (b := 0) hm (R.rf) rfl rl7 rfl rl9 (d_lit 65536 65536 rfl) ⟨by decide, by decide⟩ (d_lit 1 1 rfl) ⟨by decide, by decide⟩ hq) hF (fun f3 rv3 h3 q4 R3 e3 E3 hF => ?_)
    exact SX35_sizeFrom_b168 (N := N) (sE := sE) (SE := SE) (sN := sN) (SN := SN) hm @hsE @hsN R3 rfl rl2 rfl rl4 e3.1 e3.2 hF
  ·
    exact SX35_sizeFrom_b168 (N := N) (sE := sE) (SE := SE) (sN := sN) (SN := SN) hm @hsE @hsN R rfl rl2 rfl rl4 (d_lit 0 0 rfl) ⟨by decide, by decide⟩ hF
def FX35_sizeFrom_b117 (N : Nat) (SE : Int → fS → Option (Unit × fS)) (SN : fS → Option (Int × fS)) (l2 : Int) (l4 : Int) (l7 : Int) (l9 : Int) (s : fS) : Option (Int × fS) :=
  (FX35_dropSpace N SE s).bind fun q2 =>
  if ¬ ((q2.2.i 192 46) = 0) then
    FX35_sizeFrom_b146 N SE SN l2 l4 l7 l9 q2.2
  else
    if l7 < (lmul 16384 l9) then
      FX35_sizeFrom_b146 N SE SN l2 l4 l7 l9 q2.2
    else
      (FX35_fail 7 q2.2).bind fun q8 =>
      FX35_sizeFrom_b146 N SE SN l2 l4 l7 l9 q8.2
theorem SX35_sizeFrom_b117 {m b : Nat} {φ0 : Nat → Nat} {σo : fS} (hm : 1 ≤ m) (hb : 1 ≤ b) {N : Nat} {sE : Nat → Int32 → eH → Option (Unit × eH)} {SE : Int → fS → Option (Unit × fS)} {sN : Nat → eH → Option (Int32 × eH)} {SN : fS → Option (Int × fS)} {q : Int × fS} (hsE : ∀ {φ : Nat → Nat} {h : eH} {s : fS} {x1' : Int32} {x1 : Int} {q}, fC m 1 φ s φ h s → x1' = iI x1 → r32 x1 → SE x1 s = some q → gG m 1 φ s lU q (sE 192 x1' h)) (hsN : ∀ {φ : Nat → Nat} {h : eH} {s : fS} {q}, fC m 1 φ s φ h s → SN s = some q → gG m 1 φ s lI q (sN 192 h)) {φ : Nat → Nat} {h : eH} {s : fS} {l2' : Int32} {l2 : Int} {l4' : Int32} {l4 : Int} {l7' : Int64} {l7 : Int} {l9' : Int64} {l9 : Int} (R : fC m b φ0 σo φ h s) (el2 : l2' = iI l2) (rl2 : r32 l2) (el4 : l4' = iI l4) (rl4 : r32 l4) (el7 : l7' = iJ l7) (rl7 : r64 l7) (el9 : l9' = iJ l9) (rl9 : r64 l9) (hF : FX35_sizeFrom_b117 N SE SN l2 l4 l7 l9 s = some q) : gG m b φ0 σo lI q (fX35_sizeFrom_b117 N sE sN 192 l2' l4' l7' l9' h) := by
  subst el2; subst el4; subst el7; subst el9
  unfold FX35_sizeFrom_b117 at hF
  unfold fX35_sizeFrom_b117
  refine s_kok R (t_192 hm R.S) (Nat.le_of_ble_eq_true rfl) ?_
  refine s_call R hb (fun _ hq => SX35_dropSpace (b := 1) (N := N) (sE := sE) (SE := SE) hm (Nat.le_of_ble_eq_true rfl) @hsE (R.rf) hq) hF (fun f2 rv2 h2 q2 R2 e2 E2 hF => ?_)
  refine s_gI R2 (t_192 hm R2.S) (Nat.le_of_ble_eq_true rfl) rfl ?_
  refine s_if (not_congr (i_eq rfl (c_lit 0 0 rfl) (R2.ri (t_192 hm R2.S) (Nat.le_of_ble_eq_true rfl) rfl) ⟨by decide, by decide⟩)) hF (fun c4 hF => ?_) (fun c4 hF => ?_)
  ·
    exact SX35_sizeFrom_b146 (N := N) (sE := sE) (SE := SE) (sN := sN) (SN := SN) hm @hsE @hsN R2 rfl rl2 rfl rl4 rfl rl7 rfl rl9 hF
  ·
    refine s_if (lg_lt.trans (j_lt rfl (d_mul (d_lit 16384 16384 rfl) rfl) rl7 (rr_J _))) hF (fun c5 hF => ?_) (fun c5 hF => ?_)
    ·
      exact SX35_sizeFrom_b146 (N := N) (sE := sE) (SE := SE) (sN := sN) (SN := SN) hm @hsE @hsN R2 rfl rl2 rfl rl4 rfl rl7 rfl rl9 hF
    ·
      refine s_kok R2 (t_192 hm R2.S) (Nat.le_of_ble_eq_true rfl) ?_
      refine s_call R2 (Nat.zero_le _) (fun _ hq => SX35_fail (b := 0) hm (R2.rf) (c_lit 7 7 rfl) ⟨by decide, by decide⟩ hq) hF (fun f7 rv7 h7 q8 R7 e7 E7 hF => ?_)
      exact SX35_sizeFrom_b146 (N := N) (sE := sE) (SE := SE) (sN := sN) (SN := SN) hm @hsE @hsN R7 rfl rl2 rfl rl4 rfl rl7 rfl rl9 hF
def FX35_sizeFrom_b88 (N : Nat) (SE : Int → fS → Option (Unit × fS)) (SN : fS → Option (Int × fS)) : Nat → Int → Int → Int → Int → fS → Option (Int × fS)
  | 0, _, _, _, _, _ => none
  | n + 1, l2, l4, l7, l9, s =>
    if 3 ≤ l4 then
      FX35_sizeFrom_b117 N SE SN l2 l4 l7 l9 s
    else
      if ¬ ((s.i 192 46) = 0) then
        FX35_sizeFrom_b117 N SE SN l2 l4 l7 l9 s
      else
        (FX35_keyword N SE 1000000125 s).bind fun q6 =>
        if q6.1 = 0 then
          FX35_sizeFrom_b117 N SE SN l2 l4 l7 l9 q6.2
        else
          FX35_sizeFrom_b88 N SE SN n l2 (iadd l4 1) l7 l9 q6.2
theorem SX35_sizeFrom_b88 {m b : Nat} {φ0 : Nat → Nat} {σo : fS} (hm : 1 ≤ m) (hb : 1 ≤ b) {N : Nat} {sE : Nat → Int32 → eH → Option (Unit × eH)} {SE : Int → fS → Option (Unit × fS)} {sN : Nat → eH → Option (Int32 × eH)} {SN : fS → Option (Int × fS)} {q : Int × fS} (hsE : ∀ {φ : Nat → Nat} {h : eH} {s : fS} {x1' : Int32} {x1 : Int} {q}, fC m 1 φ s φ h s → x1' = iI x1 → r32 x1 → SE x1 s = some q → gG m 1 φ s lU q (sE 192 x1' h)) (hsN : ∀ {φ : Nat → Nat} {h : eH} {s : fS} {q}, fC m 1 φ s φ h s → SN s = some q → gG m 1 φ s lI q (sN 192 h)) : ∀ {n : Nat} {φ : Nat → Nat} {h : eH} {s : fS} {l2' : Int32} {l2 : Int} {l4' : Int32} {l4 : Int} {l7' : Int64} {l7 : Int} {l9' : Int64} {l9 : Int}, fC m b φ0 σo φ h s → l2' = iI l2 → r32 l2 → l4' = iI l4 → r32 l4 → l7' = iJ l7 → r64 l7 → l9' = iJ l9 → r64 l9 → FX35_sizeFrom_b88 N SE SN n l2 l4 l7 l9 s = some q → gG m b φ0 σo lI q (fX35_sizeFrom_b88 N sE sN n 192 l2' l4' l7' l9' h) := by
  intro n
  induction n with
 | zero => intro φ h s l2' l2 l4' l4 l7' l7 l9' l9 R el2 rl2 el4 rl4 el7 rl7 el9 rl9 hF; simp [FX35_sizeFrom_b88] at hF
  | succ n ih =>
    intro φ h s l2' l2 l4' l4 l7' l7 l9' l9 R el2 rl2 el4 rl4 el7 rl7 el9 rl9 hF
    subst el2; subst el4; subst el7; subst el9
    rw [FX35_sizeFrom_b88] at hF
    rw [fX35_sizeFrom_b88]
    refine s_if (i_le (c_lit 3 3 rfl) rfl ⟨by decide, by decide⟩ rl4) hF (fun c1 hF => ?_) (fun c1 hF => ?_)
    ·
      exact SX35_sizeFrom_b117 (N := N) (sE := sE) (SE := SE) (sN := sN) (SN := SN) hm hb @hsE @hsN R rfl rl2 rfl rl4 rfl rl7 rfl rl9 hF
    ·
      refine s_gI R (t_192 hm R.S) (Nat.le_of_ble_eq_true rfl) rfl ?_
      refine s_if (not_congr (i_eq rfl (c_lit 0 0 rfl) (R.ri (t_192 hm R.S) (Nat.le_of_ble_eq_true rfl) rfl) ⟨by decide, by decide⟩)) hF (fun c3 hF => ?_) (fun c3 hF => ?_)
      ·
        exact SX35_sizeFrom_b117 (N := N) (sE := sE) (SE := SE) (sN := sN) (SN := SN) hm hb @hsE @hsN R rfl rl2 rfl rl4 rfl rl7 rfl rl9 hF
      ·
        refine s_kok R (t_192 hm R.S) (Nat.le_of_ble_eq_true rfl) ?_
        refine s_call R hb (fun _ hq => SX35_keyword (b := 1) (N := N) (sE := sE) (SE := SE) hm (Nat.le_of_ble_eq_true rfl) @hsE (R.rf) hq) hF (fun f5 rv5 h5 q6 R5 e5 E5 hF => ?_)
        refine s_if (i_eq e5.1 (c_lit 0 0 rfl) e5.2 ⟨by decide, by decide⟩) hF (fun c6 hF => ?_) (fun c6 hF => ?_)
        ·
          exact SX35_sizeFrom_b117 (N := N) (sE := sE) (SE := SE) (sN := sN) (SN := SN) hm hb @hsE @hsN R5 rfl rl2 rfl rl4 rfl rl7 rfl rl9 hF
        ·
          exact ih R5 rfl rl2 (c_add rfl (c_lit 1 1 rfl)) (rr_I _) rfl rl7 rfl rl9 hF
def FX35_sizeFrom_b173 (N : Nat) (SE : Int → fS → Option (Unit × fS)) (SN : fS → Option (Int × fS)) (l2 : Int) (l4 : Int) (l5 : Int) (l7 : Int) (l9 : Int) (s : fS) : Option (Int × fS) :=
  if ¬ ((s.i 192 46) = 0) then
    FX35_sizeFrom_b190 N SE SN l2 l4 l5 s
  else
    (FX35_measured N SE SN l7 l9 s).bind fun q5 =>
    FX35_sizeFrom_b190 N SE SN l2 l4 q5.1 q5.2
theorem SX35_sizeFrom_b173 {m b : Nat} {φ0 : Nat → Nat} {σo : fS} (hm : 1 ≤ m) (hb : 1 ≤ b) {N : Nat} {sE : Nat → Int32 → eH → Option (Unit × eH)} {SE : Int → fS → Option (Unit × fS)} {sN : Nat → eH → Option (Int32 × eH)} {SN : fS → Option (Int × fS)} {q : Int × fS} (hsE : ∀ {φ : Nat → Nat} {h : eH} {s : fS} {x1' : Int32} {x1 : Int} {q}, fC m 1 φ s φ h s → x1' = iI x1 → r32 x1 → SE x1 s = some q → gG m 1 φ s lU q (sE 192 x1' h)) (hsN : ∀ {φ : Nat → Nat} {h : eH} {s : fS} {q}, fC m 1 φ s φ h s → SN s = some q → gG m 1 φ s lI q (sN 192 h)) {φ : Nat → Nat} {h : eH} {s : fS} {l2' : Int32} {l2 : Int} {l4' : Int32} {l4 : Int} {l5' : Int64} {l5 : Int} {l7' : Int64} {l7 : Int} {l9' : Int64} {l9 : Int} (R : fC m b φ0 σo φ h s) (el2 : l2' = iI l2) (rl2 : r32 l2) (el4 : l4' = iI l4) (rl4 : r32 l4) (el5 : l5' = iJ l5) (rl5 : r64 l5) (el7 : l7' = iJ l7) (rl7 : r64 l7) (el9 : l9' = iJ l9) (rl9 : r64 l9) (hF : FX35_sizeFrom_b173 N SE SN l2 l4 l5 l7 l9 s = some q) : gG m b φ0 σo lI q (fX35_sizeFrom_b173 N sE sN 192 l2' l4' l5' l7' l9' h) := by
  subst el2; subst el4; subst el5; subst el7; subst el9
  unfold FX35_sizeFrom_b173 at hF
  unfold fX35_sizeFrom_b173
  refine s_gI R (t_192 hm R.S) (Nat.le_of_ble_eq_true rfl) rfl ?_
  refine s_if (not_congr (i_eq rfl (c_lit 0 0 rfl) (R.ri (t_192 hm R.S) (Nat.le_of_ble_eq_true rfl) rfl) ⟨by decide, by decide⟩)) hF (fun c2 hF => ?_) (fun c2 hF => ?_)
  ·
    exact SX35_sizeFrom_b190 (N := N) (sE := sE) (SE := SE) (sN := sN) (SN := SN) hm @hsE @hsN R rfl rl2 rfl rl4 rfl rl5 hF
  ·
    refine s_kok R (t_192 hm R.S) (Nat.le_of_ble_eq_true rfl) ?_
    refine s_call R hb (fun _ hq => SX35_measured (b := 1) (N := N) (sE := sE) (SE := SE) (sN := sN) (SN := SN) hm (Nat.le_of_ble_eq_true rfl) @hsE @hsN (R.rf) rfl rl7 rfl rl9 hq) hF (fun f4 rv4 h4 q5 R4 e4 E4 hF => ?_)
    exact SX35_sizeFrom_b190 (N := N) (sE := sE) (SE := SE) (sN := sN) (SN := SN) hm @hsE @hsN R4 rfl rl2 rfl rl4 e4.1 e4.2 hF
def FX35_sizeFrom_b40 (N : Nat) (SE : Int → fS → Option (Unit × fS)) (SN : fS → Option (Int × fS)) (l1 : Int) (l2 : Int) (l3 : Int) (l4 : Int) (l5 : Int) (s : fS) : Option (Int × fS) :=
  if ¬ ((s.i 192 46) = 0) then
    FX35_sizeFrom_b190 N SE SN l2 l4 l5 s
  else
    (FX35_factor N SE SN l1 s).bind fun q5 =>
    if ¬ ((q5.2.i 192 46) = 0) then
      FX35_sizeFrom_b173 N SE SN l2 l4 l5 (q5.2.j 192 118) (q5.2.j 192 119) q5.2
    else
      if l3 = 0 then
        FX35_sizeFrom_b173 N SE SN l2 l4 l5 (q5.2.j 192 118) (q5.2.j 192 119) q5.2
      else
        (FX35_keyword N SE 1000000124 q5.2).bind fun q15 =>
        if q15.1 = 0 then
          FX35_sizeFrom_b173 N SE SN l2 l4 l5 (q5.2.j 192 118) (q5.2.j 192 119) q15.2
        else
          FX35_sizeFrom_b88 N SE SN N l2 1 (q5.2.j 192 118) (q5.2.j 192 119) q15.2
theorem SX35_sizeFrom_b40 {m b : Nat} {φ0 : Nat → Nat} {σo : fS} (hm : 1 ≤ m) (hb : 1 ≤ b) {N : Nat} {sE : Nat → Int32 → eH → Option (Unit × eH)} {SE : Int → fS → Option (Unit × fS)} {sN : Nat → eH → Option (Int32 × eH)} {SN : fS → Option (Int × fS)} {q : Int × fS} (hsE : ∀ {φ : Nat → Nat} {h : eH} {s : fS} {x1' : Int32} {x1 : Int} {q}, fC m 1 φ s φ h s → x1' = iI x1 → r32 x1 → SE x1 s = some q → gG m 1 φ s lU q (sE 192 x1' h)) (hsN : ∀ {φ : Nat → Nat} {h : eH} {s : fS} {q}, fC m 1 φ s φ h s → SN s = some q → gG m 1 φ s lI q (sN 192 h)) {φ : Nat → Nat} {h : eH} {s : fS} {l1' : Int32} {l1 : Int} {l2' : Int32} {l2 : Int} {l3' : Int32} {l3 : Int} {l4' : Int32} {l4 : Int} {l5' : Int64} {l5 : Int} (R : fC m b φ0 σo φ h s) (el1 : l1' = iI l1) (rl1 : r32 l1) (el2 : l2' = iI l2) (rl2 : r32 l2) (el3 : l3' = iI l3) (rl3 : r32 l3) (el4 : l4' = iI l4) (rl4 : r32 l4) (el5 : l5' = iJ l5) (rl5 : r64 l5) (hF : FX35_sizeFrom_b40 N SE SN l1 l2 l3 l4 l5 s = some q) : gG m b φ0 σo lI q (fX35_sizeFrom_b40 N sE sN 192 l1' l2' l3' l4' l5' h) := by
  subst el1; subst el2; subst el3; subst el4; subst el5
  unfold FX35_sizeFrom_b40 at hF
  unfold fX35_sizeFrom_b40
  refine s_gI R (t_192 hm R.S) (Nat.le_of_ble_eq_true rfl) rfl ?_
  refine s_if (not_congr (i_eq rfl (c_lit 0 0 rfl) (R.ri (t_192 hm R.S) (Nat.le_of_ble_eq_true rfl) rfl) ⟨by decide, by decide⟩)) hF (fun c2 hF => ?_) (fun c2 hF => ?_)
  ·
    exact SX35_sizeFrom_b190 (N := N) (sE := sE) (SE := SE) (sN := sN) (SN := SN) hm @hsE @hsN R rfl rl2 rfl rl4 rfl rl5 hF
  ·
    refine s_kok R (t_192 hm R.S) (Nat.le_of_ble_eq_true rfl) ?_
    refine s_call R hb (fun _ hq => SX35_factor (b := 1) (N := N) (sE := sE) (SE := SE) (sN := sN) (SN := SN) hm (Nat.le_of_ble_eq_true rfl) @hsE @hsN (R.rf) rfl rl1 hq) hF (fun f4 rv4 h4 q5 R4 e4 E4 hF => ?_)
    refine s_gJ R4 (t_192 hm R4.S) (Nat.le_of_ble_eq_true rfl) rfl ?_
    refine s_gJ R4 (t_192 hm R4.S) (Nat.le_of_ble_eq_true rfl) rfl ?_
    refine s_gI R4 (t_192 hm R4.S) (Nat.le_of_ble_eq_true rfl) rfl ?_
    refine s_if (not_congr (i_eq rfl (c_lit 0 0 rfl) (R4.ri (t_192 hm R4.S) (Nat.le_of_ble_eq_true rfl) rfl) ⟨by decide, by decide⟩)) hF (fun c8 hF => ?_) (fun c8 hF => ?_)
    ·
      exact SX35_sizeFrom_b173 (N := N) (sE := sE) (SE := SE) (sN := sN) (SN := SN) hm hb @hsE @hsN R4 rfl rl2 rfl rl4 rfl rl5 rfl (R4.rj (t_192 hm R4.S) (Nat.le_of_ble_eq_true rfl) rfl) rfl (R4.rj (t_192 hm R4.S) (Nat.le_of_ble_eq_true rfl) rfl) hF
    ·
      refine s_if (i_eq rfl (c_lit 0 0 rfl) rl3 ⟨by decide, by decide⟩) hF (fun c9 hF => ?_) (fun c9 hF => ?_)
      ·
        exact SX35_sizeFrom_b173 (N := N) (sE := sE) (SE := SE) (sN := sN) (SN := SN) hm hb @hsE @hsN R4 rfl rl2 rfl rl4 rfl rl5 rfl (R4.rj (t_192 hm R4.S) (Nat.le_of_ble_eq_true rfl) rfl) rfl (R4.rj (t_192 hm R4.S) (Nat.le_of_ble_eq_true rfl) rfl) hF
      ·
        refine s_kok R4 (t_192 hm R4.S) (Nat.le_of_ble_eq_true rfl) ?_
        refine s_call R4 hb (fun _ hq => SX35_keyword (b := 1) (N := N) (sE := sE) (SE := SE) hm (Nat.le_of_ble_eq_true rfl) @hsE (R4.rf) hq) hF (fun f11 rv11 h11 q15 R11 e11 E11 hF => ?_)
        refine s_if (i_eq e11.1 (c_lit 0 0 rfl) e11.2 ⟨by decide, by decide⟩) hF (fun c12 hF => ?_) (fun c12 hF => ?_)
        ·
          exact SX35_sizeFrom_b173 (N := N) (sE := sE) (SE := SE) (sN := sN) (SN := SN) hm hb @hsE @hsN R11 rfl rl2 rfl rl4 rfl rl5 rfl (R4.rj (t_192 hm R4.S) (Nat.le_of_ble_eq_true rfl) rfl) rfl (R4.rj (t_192 hm R4.S) (Nat.le_of_ble_eq_true rfl) rfl) hF
        ·
          exact SX35_sizeFrom_b88 (N := N) (sE := sE) (SE := SE) (sN := sN) (SN := SN) hm hb @hsE @hsN R11 rfl rl2 (c_lit 1 1 rfl) ⟨by decide, by decide⟩ rfl (R4.rj (t_192 hm R4.S) (Nat.le_of_ble_eq_true rfl) rfl) rfl (R4.rj (t_192 hm R4.S) (Nat.le_of_ble_eq_true rfl) rfl) hF
def FX35_sizeFrom (N : Nat) (SE : Int → fS → Option (Unit × fS)) (SN : fS → Option (Int × fS)) (p0 : Int) (p1 : Int) (p2 : Int) (s : fS) : Option (Int × fS) :=
  if ¬ ((s.i 192 46) = 0) then
    FX35_sizeFrom_b40 N SE SN p0 p1 p2 0 0 s
  else
    (FX35_hasLength p0 s).bind fun q5 =>
    if ¬ (q5.1 = 0) then
      FX35_sizeFrom_b29 N SE SN p0 p1 0 q5.2
    else
      (FX35_hasGlue p0 q5.2).bind fun q8 =>
      if q8.1 = 0 then
        FX35_sizeFrom_b40 N SE SN p0 p1 p2 0 0 q8.2
      else
        FX35_sizeFrom_b29 N SE SN p0 p1 0 q8.2
theorem SX35_sizeFrom {m b : Nat} {φ0 : Nat → Nat} {σo : fS} (hm : 1 ≤ m) (hb : 1 ≤ b) {N : Nat} {sE : Nat → Int32 → eH → Option (Unit × eH)} {SE : Int → fS → Option (Unit × fS)} {sN : Nat → eH → Option (Int32 × eH)} {SN : fS → Option (Int × fS)} {q : Int × fS} (hsE : ∀ {φ : Nat → Nat} {h : eH} {s : fS} {x1' : Int32} {x1 : Int} {q}, fC m 1 φ s φ h s → x1' = iI x1 → r32 x1 → SE x1 s = some q → gG m 1 φ s lU q (sE 192 x1' h)) (hsN : ∀ {φ : Nat → Nat} {h : eH} {s : fS} {q}, fC m 1 φ s φ h s → SN s = some q → gG m 1 φ s lI q (sN 192 h)) {φ : Nat → Nat} {h : eH} {s : fS} {p0' : Int32} {p0 : Int} {p1' : Int32} {p1 : Int} {p2' : Int32} {p2 : Int} (R : fC m b φ0 σo φ h s) (ep0 : p0' = iI p0) (rp0 : r32 p0) (ep1 : p1' = iI p1) (rp1 : r32 p1) (ep2 : p2' = iI p2) (rp2 : r32 p2) (hF : FX35_sizeFrom N SE SN p0 p1 p2 s = some q) : gG m b φ0 σo lI q (fX35_sizeFrom N sE sN 192 p0' p1' p2' h) := by
  subst ep0; subst ep1; subst ep2
  unfold FX35_sizeFrom at hF
  unfold fX35_sizeFrom
  refine s_gI R (t_192 hm R.S) (Nat.le_of_ble_eq_true rfl) rfl ?_
  refine s_if (not_congr (i_eq rfl (c_lit 0 0 rfl) (R.ri (t_192 hm R.S) (Nat.le_of_ble_eq_true rfl) rfl) ⟨by decide, by decide⟩)) hF (fun c2 hF => ?_) (fun c2 hF => ?_)
  ·
    exact SX35_sizeFrom_b40 (N := N) (sE := sE) (SE := SE) (sN := sN) (SN := SN) hm hb @hsE @hsN R rfl rp0 rfl rp1 rfl rp2 (c_lit 0 0 rfl) ⟨by decide, by decide⟩ (d_lit 0 0 rfl) ⟨by decide, by decide⟩ hF
  ·
    refine s_kok R (t_192 hm R.S) (Nat.le_of_ble_eq_true rfl) ?_
    refine s_call R (Nat.zero_le _) (fun _ hq => SX35_hasLength (b := 0) hm (R.rf) rfl rp0 hq) hF (fun f4 rv4 h4 q5 R4 e4 E4 hF => ?_)
    refine s_if (not_congr (i_eq e4.1 (c_lit 0 0 rfl) e4.2 ⟨by decide, by decide⟩)) hF (fun c5 hF => ?_) (fun c5 hF => ?_)
    ·
      exact SX35_sizeFrom_b29 (N := N) (sE := sE) (SE := SE) (sN := sN) (SN := SN) hm hb @hsE @hsN R4 rfl rp0 rfl rp1 (c_lit 0 0 rfl) ⟨by decide, by decide⟩ hF
    ·
      refine s_kok R4 (t_192 hm R4.S) (Nat.le_of_ble_eq_true rfl) ?_
      refine s_call R4 (Nat.zero_le _) (fun _ hq => SX35_hasGlue (b := 0) hm (R4.rf) rfl rp0 hq) hF (fun f7 rv7 h7 q8 R7 e7 E7 hF => ?_)
      refine s_if (i_eq e7.1 (c_lit 0 0 rfl) e7.2 ⟨by decide, by decide⟩) hF (fun c8 hF => ?_) (fun c8 hF => ?_)
      ·
        exact SX35_sizeFrom_b40 (N := N) (sE := sE) (SE := SE) (sN := sN) (SN := SN) hm hb @hsE @hsN R7 rfl rp0 rfl rp1 rfl rp2 (c_lit 0 0 rfl) ⟨by decide, by decide⟩ (d_lit 0 0 rfl) ⟨by decide, by decide⟩ hF
      ·
        exact SX35_sizeFrom_b29 (N := N) (sE := sE) (SE := SE) (sN := sN) (SN := SN) hm hb @hsE @hsN R7 rfl rp0 rfl rp1 (c_lit 0 0 rfl) ⟨by decide, by decide⟩ hF
def FX35_dimension (N : Nat) (SE : Int → fS → Option (Unit × fS)) (SN : fS → Option (Int × fS)) (s : fS) : Option (Int × fS) :=
  (FX35_signs N SE s).bind fun q2 =>
  (FX35_sizeFrom N SE SN (q2.2.i 192 121) (q2.2.i 192 122) 0 q2.2).bind fun q8 =>
  some (q8.1, q8.2)
theorem SX35_dimension {m b : Nat} {φ0 : Nat → Nat} {σo : fS} (hm : 1 ≤ m) (hb : 1 ≤ b) {N : Nat} {sE : Nat → Int32 → eH → Option (Unit × eH)} {SE : Int → fS → Option (Unit × fS)} {sN : Nat → eH → Option (Int32 × eH)} {SN : fS → Option (Int × fS)} {q : Int × fS} (hsE : ∀ {φ : Nat → Nat} {h : eH} {s : fS} {x1' : Int32} {x1 : Int} {q}, fC m 1 φ s φ h s → x1' = iI x1 → r32 x1 → SE x1 s = some q → gG m 1 φ s lU q (sE 192 x1' h)) (hsN : ∀ {φ : Nat → Nat} {h : eH} {s : fS} {q}, fC m 1 φ s φ h s → SN s = some q → gG m 1 φ s lI q (sN 192 h)) {φ : Nat → Nat} {h : eH} {s : fS} (R : fC m b φ0 σo φ h s) (hF : FX35_dimension N SE SN s = some q) : gG m b φ0 σo lI q (fX35_dimension N sE sN 192 h) := by
  unfold FX35_dimension at hF
  unfold fX35_dimension
  refine s_kok R (t_192 hm R.S) (Nat.le_of_ble_eq_true rfl) ?_
  refine s_call R hb (fun _ hq => SX35_signs (b := 1) (N := N) (sE := sE) (SE := SE) hm (Nat.le_of_ble_eq_true rfl) @hsE (R.rf) hq) hF (fun f2 rv2 h2 q2 R2 e2 E2 hF => ?_)
  refine s_gI R2 (t_192 hm R2.S) (Nat.le_of_ble_eq_true rfl) rfl ?_
  refine s_gI R2 (t_192 hm R2.S) (Nat.le_of_ble_eq_true rfl) rfl ?_
  refine s_kok R2 (t_192 hm R2.S) (Nat.le_of_ble_eq_true rfl) ?_
  refine s_call R2 hb (fun _ hq => SX35_sizeFrom (b := 1) (N := N) (sE := sE) (SE := SE) (sN := sN) (SN := SN) hm (Nat.le_of_ble_eq_true rfl) @hsE @hsN (R2.rf) rfl (R2.ri (t_192 hm R2.S) (Nat.le_of_ble_eq_true rfl) rfl) rfl (R2.ri (t_192 hm R2.S) (Nat.le_of_ble_eq_true rfl) rfl) (c_lit 0 0 rfl) ⟨by decide, by decide⟩ hq) hF (fun f6 rv6 h6 q8 R6 e6 E6 hF => ?_)
  exact g_ret R6 hF ⟨e6.1, e6.2⟩
def FX35_compareSizes_b113 (N : Nat) (SE : Int → fS → Option (Unit × fS)) (SN : fS → Option (Int × fS)) (s0 : Int) (s : fS) : Option (Int × fS) :=
  uZ s0 (s0, s)
theorem SX35_compareSizes_b113 {m b : Nat} {φ0 : Nat → Nat} {σo : fS} (hm : 1 ≤ m) {N : Nat} {sE : Nat → Int32 → eH → Option (Unit × eH)} {SE : Int → fS → Option (Unit × fS)} {sN : Nat → eH → Option (Int32 × eH)} {SN : fS → Option (Int × fS)} {q : Int × fS} (hsE : ∀ {φ : Nat → Nat} {h : eH} {s : fS} {x1' : Int32} {x1 : Int} {q}, fC m 1 φ s φ h s → x1' = iI x1 → r32 x1 → SE x1 s = some q → gG m 1 φ s lU q (sE 192 x1' h)) (hsN : ∀ {φ : Nat → Nat} {h : eH} {s : fS} {q}, fC m 1 φ s φ h s → SN s = some q → gG m 1 φ s lI q (sN 192 h)) {φ : Nat → Nat} {h : eH} {s : fS} {s0' : Int32} {s0 : Int} (R : fC m b φ0 σo φ h s) (es0 : s0' = iI s0) (rs0 : r32 s0) (hF : FX35_compareSizes_b113 N SE SN s0 s = some q) : gG m b φ0 σo lI q (fX35_compareSizes_b113 N sE sN s0' h) := by
  subst es0
  unfold FX35_compareSizes_b113 at hF
  unfold fX35_compareSizes_b113
  exact g_z R rfl hF ⟨rfl, rs0⟩
def FX35_compareSizes_b108 (N : Nat) (SE : Int → fS → Option (Unit × fS)) (SN : fS → Option (Int × fS)) (s : fS) : Option (Int × fS) :=
  FX35_compareSizes_b113 N SE SN 1 s
theorem SX35_compareSizes_b108 {m b : Nat} {φ0 : Nat → Nat} {σo : fS} (hm : 1 ≤ m) {N : Nat} {sE : Nat → Int32 → eH → Option (Unit × eH)} {SE : Int → fS → Option (Unit × fS)} {sN : Nat → eH → Option (Int32 × eH)} {SN : fS → Option (Int × fS)} {q : Int × fS} (hsE : ∀ {φ : Nat → Nat} {h : eH} {s : fS} {x1' : Int32} {x1 : Int} {q}, fC m 1 φ s φ h s → x1' = iI x1 → r32 x1 → SE x1 s = some q → gG m 1 φ s lU q (sE 192 x1' h)) (hsN : ∀ {φ : Nat → Nat} {h : eH} {s : fS} {q}, fC m 1 φ s φ h s → SN s = some q → gG m 1 φ s lI q (sN 192 h)) {φ : Nat → Nat} {h : eH} {s : fS} (R : fC m b φ0 σo φ h s) (hF : FX35_compareSizes_b108 N SE SN s = some q) : gG m b φ0 σo lI q (fX35_compareSizes_b108 N sE sN h) := by
  unfold FX35_compareSizes_b108 at hF
  unfold fX35_compareSizes_b108
  exact SX35_compareSizes_b113 (N := N) (sE := sE) (SE := SE) (sN := sN) (SN := SN) hm @hsE @hsN R (c_lit 1 1 rfl) ⟨by decide, by decide⟩ hF
def FX35_compareSizes_b112 (N : Nat) (SE : Int → fS → Option (Unit × fS)) (SN : fS → Option (Int × fS)) (s : fS) : Option (Int × fS) :=
  FX35_compareSizes_b113 N SE SN 0 s
theorem SX35_compareSizes_b112 {m b : Nat} {φ0 : Nat → Nat} {σo : fS} (hm : 1 ≤ m) {N : Nat} {sE : Nat → Int32 → eH → Option (Unit × eH)} {SE : Int → fS → Option (Unit × fS)} {sN : Nat → eH → Option (Int32 × eH)} {SN : fS → Option (Int × fS)} {q : Int × fS} (hsE : ∀ {φ : Nat → Nat} {h : eH} {s : fS} {x1' : Int32} {x1 : Int} {q}, fC m 1 φ s φ h s → x1' = iI x1 → r32 x1 → SE x1 s = some q → gG m 1 φ s lU q (sE 192 x1' h)) (hsN : ∀ {φ : Nat → Nat} {h : eH} {s : fS} {q}, fC m 1 φ s φ h s → SN s = some q → gG m 1 φ s lI q (sN 192 h)) {φ : Nat → Nat} {h : eH} {s : fS} (R : fC m b φ0 σo φ h s) (hF : FX35_compareSizes_b112 N SE SN s = some q) : gG m b φ0 σo lI q (fX35_compareSizes_b112 N sE sN h) := by
  unfold FX35_compareSizes_b112 at hF
  unfold fX35_compareSizes_b112
  exact SX35_compareSizes_b113 (N := N) (sE := sE) (SE := SE) (sN := sN) (SN := SN) hm @hsE @hsN R (c_lit 0 0 rfl) ⟨by decide, by decide⟩ hF
def FX35_compareSizes_b62 (N : Nat) (SE : Int → fS → Option (Unit × fS)) (SN : fS → Option (Int × fS)) (l1 : Int) (l3 : Int) (l4 : Int) (s : fS) : Option (Int × fS) :=
  (FX35_dimension N SE SN s).bind fun q2 =>
  if ¬ ((q2.2.i 192 46) = 0) then
    FX35_compareSizes_b112 N SE SN q2.2
  else
    if l3 = 0 then
      if l4 = 0 then
        if ¬ (l1 = q2.1) then
          FX35_compareSizes_b112 N SE SN q2.2
        else
          FX35_compareSizes_b108 N SE SN q2.2
      else
        if l1 ≤ q2.1 then
          FX35_compareSizes_b112 N SE SN q2.2
        else
          FX35_compareSizes_b108 N SE SN q2.2
    else
      if q2.1 ≤ l1 then
        FX35_compareSizes_b112 N SE SN q2.2
      else
        FX35_compareSizes_b108 N SE SN q2.2
theorem SX35_compareSizes_b62 {m b : Nat} {φ0 : Nat → Nat} {σo : fS} (hm : 1 ≤ m) (hb : 1 ≤ b) {N : Nat} {sE : Nat → Int32 → eH → Option (Unit × eH)} {SE : Int → fS → Option (Unit × fS)} {sN : Nat → eH → Option (Int32 × eH)} {SN : fS → Option (Int × fS)} {q : Int × fS} (hsE : ∀ {φ : Nat → Nat} {h : eH} {s : fS} {x1' : Int32} {x1 : Int} {q}, fC m 1 φ s φ h s → x1' = iI x1 → r32 x1 → SE x1 s = some q → gG m 1 φ s lU q (sE 192 x1' h)) (hsN : ∀ {φ : Nat → Nat} {h : eH} {s : fS} {q}, fC m 1 φ s φ h s → SN s = some q → gG m 1 φ s lI q (sN 192 h)) {φ : Nat → Nat} {h : eH} {s : fS} {l1' : Int32} {l1 : Int} {l3' : Int32} {l3 : Int} {l4' : Int32} {l4 : Int} (R : fC m b φ0 σo φ h s) (el1 : l1' = iI l1) (rl1 : r32 l1) (el3 : l3' = iI l3) (rl3 : r32 l3) (el4 : l4' = iI l4) (rl4 : r32 l4) (hF : FX35_compareSizes_b62 N SE SN l1 l3 l4 s = some q) : gG m b φ0 σo lI q (fX35_compareSizes_b62 N sE sN 192 l1' l3' l4' h) := by
  subst el1; subst el3; subst el4
  unfold FX35_compareSizes_b62 at hF
  unfold fX35_compareSizes_b62
  refine s_kok R (t_192 hm R.S) (Nat.le_of_ble_eq_true rfl) ?_
  refine s_call R hb (fun _ hq => SX35_dimension (b := 1) (N := N) (sE := sE) (SE := SE) (sN := sN) (SN := SN) hm (Nat.le_of_ble_eq_true rfl) @hsE @hsN (R.rf) hq) hF (fun f2 rv2 h2 q2 R2 e2 E2 hF => ?_)
  refine s_gI R2 (t_192 hm R2.S) (Nat.le_of_ble_eq_true rfl) rfl ?_
  refine s_if (not_congr (i_eq rfl (c_lit 0 0 rfl) (R2.ri (t_192 hm R2.S) (Nat.le_of_ble_eq_true rfl) rfl) ⟨by decide, by decide⟩)) hF (fun c4 hF => ?_) (fun c4 hF => ?_)
  ·
    exact SX35_compareSizes_b112 (N := N) (sE := sE) (SE := SE) (sN := sN) (SN := SN) hm @hsE @hsN R2 hF
  ·
    refine s_if (i_eq rfl (c_lit 0 0 rfl) rl3 ⟨by decide, by decide⟩) hF (fun c5 hF => ?_) (fun c5 hF => ?_)
    ·
      refine s_if (i_eq rfl (c_lit 0 0 rfl) rl4 ⟨by decide, by decide⟩) hF (fun c6 hF => ?_) (fun c6 hF => ?_)
      ·
        refine s_if (not_congr (i_eq rfl e2.1 rl1 e2.2)) hF (fun c7 hF => ?_) (fun c7 hF => ?_)
        ·
          exact SX35_compareSizes_b112 (N := N) (sE := sE) (SE := SE) (sN := sN) (SN := SN) hm @hsE @hsN R2 hF
        ·
          exact SX35_compareSizes_b108 (N := N) (sE := sE) (SE := SE) (sN := sN) (SN := SN) hm @hsE @hsN R2 hF
      ·
        refine s_if (i_le rfl e2.1 rl1 e2.2) hF (fun c8 hF => ?_) (fun c8 hF => ?_)
        ·
          exact SX35_compareSizes_b112 (N := N) (sE := sE) (SE := SE) (sN := sN) (SN := SN) hm @hsE @hsN R2 hF
        ·
          exact SX35_compareSizes_b108 (N := N) (sE := sE) (SE := SE) (sN := sN) (SN := SN) hm @hsE @hsN R2 hF
    ·
      refine s_if (i_le e2.1 rfl e2.2 rl1) hF (fun c9 hF => ?_) (fun c9 hF => ?_)
      ·
        exact SX35_compareSizes_b112 (N := N) (sE := sE) (SE := SE) (sN := sN) (SN := SN) hm @hsE @hsN R2 hF
      ·
        exact SX35_compareSizes_b108 (N := N) (sE := sE) (SE := SE) (sN := sN) (SN := SN) hm @hsE @hsN R2 hF
def FX35_compareSizes (N : Nat) (SE : Int → fS → Option (Unit × fS)) (SN : fS → Option (Int × fS)) (s : fS) : Option (Int × fS) :=
  (FX35_dimension N SE SN s).bind fun q2 =>
  (FX35_needExpandedNoSpace N SE q2.2).bind fun q4 =>
  (FX35_is q4.1 12 60 q4.2).bind fun q5 =>
  (FX35_is q4.1 12 62 q5.2).bind fun q6 =>
  if ¬ ((q6.2.i 192 46) = 0) then
    FX35_compareSizes_b62 N SE SN q2.1 q5.1 q6.1 q6.2
  else
    if ¬ (q5.1 = 0) then
      FX35_compareSizes_b62 N SE SN q2.1 q5.1 q6.1 q6.2
    else
      if ¬ (q6.1 = 0) then
        FX35_compareSizes_b62 N SE SN q2.1 q5.1 q6.1 q6.2
      else
        (FX35_is q4.1 12 61 q6.2).bind fun q12 =>
        if ¬ (q12.1 = 0) then
          FX35_compareSizes_b62 N SE SN q2.1 q5.1 q6.1 q12.2
        else
          (FX35_fail 6 q12.2).bind fun q15 =>
          FX35_compareSizes_b62 N SE SN q2.1 q5.1 q6.1 q15.2
theorem SX35_compareSizes {m b : Nat} {φ0 : Nat → Nat} {σo : fS} (hm : 1 ≤ m) (hb : 1 ≤ b) {N : Nat} {sE : Nat → Int32 → eH → Option (Unit × eH)} {SE : Int → fS → Option (Unit × fS)} {sN : Nat → eH → Option (Int32 × eH)} {SN : fS → Option (Int × fS)} {q : Int × fS} (hsE : ∀ {φ : Nat → Nat} {h : eH} {s : fS} {x1' : Int32} {x1 : Int} {q}, fC m 1 φ s φ h s → x1' = iI x1 → r32 x1 → SE x1 s = some q → gG m 1 φ s lU q (sE 192 x1' h)) (hsN : ∀ {φ : Nat → Nat} {h : eH} {s : fS} {q}, fC m 1 φ s φ h s → SN s = some q → gG m 1 φ s lI q (sN 192 h)) {φ : Nat → Nat} {h : eH} {s : fS} (R : fC m b φ0 σo φ h s) (hF : FX35_compareSizes N SE SN s = some q) : gG m b φ0 σo lI q (fX35_compareSizes N sE sN 192 h) := by
  unfold FX35_compareSizes at hF
  unfold fX35_compareSizes
  refine s_kok R (t_192 hm R.S) (Nat.le_of_ble_eq_true rfl) ?_
  refine s_call R hb (fun _ hq => SX35_dimension (b := 1) (N := N) (sE := sE) (SE := SE) (sN := sN) (SN := SN) hm (Nat.le_of_ble_eq_true rfl) @hsE @hsN (R.rf) hq) hF (fun f2 rv2 h2 q2 R2 e2 E2 hF => ?_)
  refine s_kok R2 (t_192 hm R2.S) (Nat.le_of_ble_eq_true rfl) ?_
  refine s_call R2 hb (fun _ hq => SX35_needExpandedNoSpace (b := 1) (N := N) (sE := sE) (SE := SE) hm (Nat.le_of_ble_eq_true rfl) @hsE (R2.rf) hq) hF (fun f4 rv4 h4 q4 R4 e4 E4 hF => ?_)
  refine s_call R4 (Nat.zero_le _) (fun _ hq => SX35_is (b := 0) hm (R4.rf) e4.1 e4.2 (c_lit 12 12 rfl) ⟨by decide, by decide⟩ (c_lit 60 60 rfl) ⟨by decide, by decide⟩ hq) hF (fun f5 rv5 h5 q5 R5 e5 E5 hF => ?_)
  refine s_call R5 (Nat.zero_le _) (fun _ hq => SX35_is (b := 0) hm (R5.rf) e4.1 e4.2 (c_lit 12 12 rfl) ⟨by decide, by decide⟩ (c_lit 62 62 rfl) ⟨by decide, by decide⟩ hq) hF (fun f6 rv6 h6 q6 R6 e6 E6 hF => ?_)
  refine s_gI R6 (t_192 hm R6.S) (Nat.le_of_ble_eq_true rfl) rfl ?_
  refine s_if (not_congr (i_eq rfl (c_lit 0 0 rfl) (R6.ri (t_192 hm R6.S) (Nat.le_of_ble_eq_true rfl) rfl) ⟨by decide, by decide⟩)) hF (fun c8 hF => ?_) (fun c8 hF => ?_)
  ·
    exact SX35_compareSizes_b62 (N := N) (sE := sE) (SE := SE) (sN := sN) (SN := SN) hm hb @hsE @hsN R6 e2.1 e2.2 e5.1 e5.2 e6.1 e6.2 hF
  ·
    refine s_if (not_congr (i_eq e5.1 (c_lit 0 0 rfl) e5.2 ⟨by decide, by decide⟩)) hF (fun c9 hF => ?_) (fun c9 hF => ?_)
    ·
      exact SX35_compareSizes_b62 (N := N) (sE := sE) (SE := SE) (sN := sN) (SN := SN) hm hb @hsE @hsN R6 e2.1 e2.2 e5.1 e5.2 e6.1 e6.2 hF
    ·
      refine s_if (not_congr (i_eq e6.1 (c_lit 0 0 rfl) e6.2 ⟨by decide, by decide⟩)) hF (fun c10 hF => ?_) (fun c10 hF => ?_)
      ·
        exact SX35_compareSizes_b62 (N := N) (sE := sE) (SE := SE) (sN := sN) (SN := SN) hm hb @hsE @hsN R6 e2.1 e2.2 e5.1 e5.2 e6.1 e6.2 hF
      ·
        refine s_call R6 (Nat.zero_le _) (fun _ hq => SX35_is (b := 0) hm (R6.rf) e4.1 e4.2 (c_lit 12 12 rfl) ⟨by decide, by decide⟩ (c_lit 61 61 rfl) ⟨by decide, by decide⟩ hq) hF (fun f11 rv11 h11 q12 R11 e11 E11 hF => ?_)
        refine s_if (not_congr (i_eq e11.1 (c_lit 0 0 rfl) e11.2 ⟨by decide, by decide⟩)) hF (fun c12 hF => ?_) (fun c12 hF => ?_)
        ·
          exact SX35_compareSizes_b62 (N := N) (sE := sE) (SE := SE) (sN := sN) (SN := SN) hm hb @hsE @hsN R11 e2.1 e2.2 e5.1 e5.2 e6.1 e6.2 hF
        ·
          refine s_kok R11 (t_192 hm R11.S) (Nat.le_of_ble_eq_true rfl) ?_
          refine s_call R11 (Nat.zero_le _) (fun _ hq => SX35_fail (b := 0) hm (R11.rf) (c_lit 6 6 rfl) ⟨by decide, by decide⟩ hq) hF (fun f14 rv14 h14 q15 R14 e14 E14 hF => ?_)
          exact SX35_compareSizes_b62 (N := N) (sE := sE) (SE := SE) (sN := sN) (SN := SN) hm hb @hsE @hsN R14 e2.1 e2.2 e5.1 e5.2 e6.1 e6.2 hF
def FX35_shape_b32 (s0 : Int) (s : fS) : Option (Int × fS) :=
  some (s0, s)
theorem SX35_shape_b32 {m b : Nat} {φ0 : Nat → Nat} {σo : fS} (hm : 1 ≤ m) {q : Int × fS} {φ : Nat → Nat} {h : eH} {s : fS} {s0' : Int32} {s0 : Int} (R : fC m b φ0 σo φ h s) (es0 : s0' = iI s0) (rs0 : r32 s0) (hF : FX35_shape_b32 s0 s = some q) : gG m b φ0 σo lI q (fX35_shape_b32 s0' h) := by
  subst es0
  unfold FX35_shape_b32 at hF
  unfold fX35_shape_b32
  exact g_ret R hF ⟨rfl, rs0⟩
def FX35_shape_b20 (l2 : Int) (s : fS) : Option (Int × fS) :=
  if l2 = 0 then
    FX35_shape_b32 256 s
  else
    FX35_shape_b32 16 s
theorem SX35_shape_b20 {m b : Nat} {φ0 : Nat → Nat} {σo : fS} (hm : 1 ≤ m) {q : Int × fS} {φ : Nat → Nat} {h : eH} {s : fS} {l2' : Int32} {l2 : Int} (R : fC m b φ0 σo φ h s) (el2 : l2' = iI l2) (rl2 : r32 l2) (hF : FX35_shape_b20 l2 s = some q) : gG m b φ0 σo lI q (fX35_shape_b20 l2' h) := by
  subst el2
  unfold FX35_shape_b20 at hF
  unfold fX35_shape_b20
  refine s_if (i_eq rfl (c_lit 0 0 rfl) rl2 ⟨by decide, by decide⟩) hF (fun c1 hF => ?_) (fun c1 hF => ?_)
  ·
    exact SX35_shape_b32 hm R (c_lit 256 256 rfl) ⟨by decide, by decide⟩ hF
  ·
    exact SX35_shape_b32 hm R (c_lit 16 16 rfl) ⟨by decide, by decide⟩ hF
def FX35_shape_b58 (s0 : Int) (s : fS) : Option (Int × fS) :=
  some (s0, s)
theorem SX35_shape_b58 {m b : Nat} {φ0 : Nat → Nat} {σo : fS} (hm : 1 ≤ m) {q : Int × fS} {φ : Nat → Nat} {h : eH} {s : fS} {s0' : Int32} {s0 : Int} (R : fC m b φ0 σo φ h s) (es0 : s0' = iI s0) (rs0 : r32 s0) (hF : FX35_shape_b58 s0 s = some q) : gG m b φ0 σo lI q (fX35_shape_b58 s0' h) := by
  subst es0
  unfold FX35_shape_b58 at hF
  unfold fX35_shape_b58
  exact g_ret R hF ⟨rfl, rs0⟩
def FX35_shape (p0 : Int) (p1 : Int) (s : fS) : Option (Int × fS) :=
  (FX35_meaning p0 s).bind fun q2 =>
  if q2.1 < 2000000 then
    FX35_shape_b20 p1 q2.2
  else
    if q2.1 < 3000000 then
      if p1 = 0 then
        FX35_shape_b58 (irem (isub q2.1 2000000) 256) q2.2
      else
        FX35_shape_b58 (idiv (isub q2.1 2000000) 256) q2.2
    else
      FX35_shape_b20 p1 q2.2
theorem SX35_shape {m b : Nat} {φ0 : Nat → Nat} {σo : fS} (hm : 1 ≤ m) {q : Int × fS} {φ : Nat → Nat} {h : eH} {s : fS} {p0' : Int32} {p0 : Int} {p1' : Int32} {p1 : Int} (R : fC m b φ0 σo φ h s) (ep0 : p0' = iI p0) (rp0 : r32 p0) (ep1 : p1' = iI p1) (rp1 : r32 p1) (hF : FX35_shape p0 p1 s = some q) : gG m b φ0 σo lI q (fX35_shape 192 p0' p1' h) := by
  subst ep0; subst ep1
  unfold FX35_shape at hF
  unfold fX35_shape
  refine s_kok R (t_192 hm R.S) (Nat.le_of_ble_eq_true rfl) ?_
  refine s_call R (Nat.zero_le _) (fun _ hq => SX35_meaning (b := 0) hm (R.rf) rfl rp0 hq) hF (fun f2 rv2 h2 q2 R2 e2 E2 hF => ?_)
  refine s_if (i_lt e2.1 (c_lit 2000000 2000000 rfl) e2.2 ⟨by decide, by decide⟩) hF (fun c3 hF => ?_) (fun c3 hF => ?_)
  ·
    exact SX35_shape_b20 hm R2 rfl rp1 hF
  ·
    refine s_if (i_lt e2.1 (c_lit 3000000 3000000 rfl) e2.2 ⟨by decide, by decide⟩) hF (fun c4 hF => ?_) (fun c4 hF => ?_)
    ·
      refine s_if (i_eq rfl (c_lit 0 0 rfl) rp1 ⟨by decide, by decide⟩) hF (fun c5 hF => ?_) (fun c5 hF => ?_)
      ·
        exact SX35_shape_b58 hm R2 (c_rem (c_sub e2.1 (c_lit 2000000 2000000 rfl)) (c_lit 256 256 rfl)) (rr_I _) hF
      ·
        exact SX35_shape_b58 hm R2 (c_div (c_sub e2.1 (c_lit 2000000 2000000 rfl)) (c_lit 256 256 rfl)) (rr_I _) hF
    ·
      exact SX35_shape_b20 hm R2 rfl rp1 hF
def FX35_meanSame_b33 (N : Nat) (s : fS) : Option (Int × fS) :=
  some (0, s)
theorem SX35_meanSame_b33 {m b : Nat} {φ0 : Nat → Nat} {σo : fS} (hm : 1 ≤ m) {N : Nat} {q : Int × fS} {φ : Nat → Nat} {h : eH} {s : fS} (R : fC m b φ0 σo φ h s) (hF : FX35_meanSame_b33 N s = some q) : gG m b φ0 σo lI q (fX35_meanSame_b33 N h) := by
  unfold FX35_meanSame_b33 at hF
  unfold fX35_meanSame_b33
  exact g_ret R hF ⟨(c_lit 0 0 rfl), ⟨by decide, by decide⟩⟩
def FX35_meanSame_b178 (N : Nat) (K118 : Int → Int → Int → Int → fS → Option (Int × fS)) (l3 : Int) (l4 : Int) (l6 : Int) (s0 : Int) (s : fS) : Option (Int × fS) :=
  K118 l3 l4 s0 (iadd l6 1) s
theorem SX35_meanSame_b178 {m b : Nat} {φ0 : Nat → Nat} {σo : fS} (hm : 1 ≤ m) {N : Nat} {k118 : Nat → Int32 → Int32 → Int32 → Int32 → eH → Option (Int32 × eH)} {K118 : Int → Int → Int → Int → fS → Option (Int × fS)} {q : Int × fS} (hk118 : ∀ {φ : Nat → Nat} {h : eH} {s : fS} {l3' : Int32} {l3 : Int} {l4' : Int32} {l4 : Int} {l5' : Int32} {l5 : Int} {l6' : Int32} {l6 : Int}, fC m b φ0 σo φ h s → l3' = iI l3 → r32 l3 → l4' = iI l4 → r32 l4 → l5' = iI l5 → r32 l5 → l6' = iI l6 → r32 l6 → K118 l3 l4 l5 l6 s = some q → gG m b φ0 σo lI q (k118 192 l3' l4' l5' l6' h)) {φ : Nat → Nat} {h : eH} {s : fS} {l3' : Int32} {l3 : Int} {l4' : Int32} {l4 : Int} {l6' : Int32} {l6 : Int} {s0' : Int32} {s0 : Int} (R : fC m b φ0 σo φ h s) (el3 : l3' = iI l3) (rl3 : r32 l3) (el4 : l4' = iI l4) (rl4 : r32 l4) (el6 : l6' = iI l6) (rl6 : r32 l6) (es0 : s0' = iI s0) (rs0 : r32 s0) (hF : FX35_meanSame_b178 N K118 l3 l4 l6 s0 s = some q) : gG m b φ0 σo lI q (fX35_meanSame_b178 N k118 192 l3' l4' l6' s0' h) := by
  subst el3; subst el4; subst el6; subst es0
  unfold FX35_meanSame_b178 at hF
  unfold fX35_meanSame_b178
  exact hk118 R rfl rl3 rfl rl4 rfl rs0 (c_add rfl (c_lit 1 1 rfl)) (rr_I _) hF
def FX35_meanSame_b186 (N : Nat) (l5 : Int) (s : fS) : Option (Int × fS) :=
  uZ l5 (l5, s)
theorem SX35_meanSame_b186 {m b : Nat} {φ0 : Nat → Nat} {σo : fS} (hm : 1 ≤ m) {N : Nat} {q : Int × fS} {φ : Nat → Nat} {h : eH} {s : fS} {l5' : Int32} {l5 : Int} (R : fC m b φ0 σo φ h s) (el5 : l5' = iI l5) (rl5 : r32 l5) (hF : FX35_meanSame_b186 N l5 s = some q) : gG m b φ0 σo lI q (fX35_meanSame_b186 N l5' h) := by
  subst el5
  unfold FX35_meanSame_b186 at hF
  unfold fX35_meanSame_b186
  exact g_z R rfl hF ⟨rfl, rl5⟩
def FX35_meanSame_b118 (N : Nat) : Nat → Int → Int → Int → Int → fS → Option (Int × fS)
  | 0, _, _, _, _, _ => none
  | n + 1, l3, l4, l5, l6, s =>
    if l5 = 0 then
      FX35_meanSame_b186 N l5 s
    else
      (uRI s 276 l3).bind fun x4 =>
      (uRI s 274 l3).bind fun x8 =>
      if (isub x4 x8) ≤ l6 then
        FX35_meanSame_b186 N l5 s
      else
        (uRI s 274 l3).bind fun x15 =>
        (uRI s 277 (iadd x15 l6)).bind fun x17 =>
        (uRI s 274 l4).bind fun x23 =>
        (uRI s 277 (iadd x23 l6)).bind fun x25 =>
        if ¬ (x17 = x25) then
          FX35_meanSame_b178 N (FX35_meanSame_b118 N n) l3 l4 l6 0 s
        else
          FX35_meanSame_b178 N (FX35_meanSame_b118 N n) l3 l4 l6 1 s
theorem SX35_meanSame_b118 {m b : Nat} {φ0 : Nat → Nat} {σo : fS} (hm : 1 ≤ m) {N : Nat} {q : Int × fS} : ∀ {n : Nat} {φ : Nat → Nat} {h : eH} {s : fS} {l3' : Int32} {l3 : Int} {l4' : Int32} {l4 : Int} {l5' : Int32} {l5 : Int} {l6' : Int32} {l6 : Int}, fC m b φ0 σo φ h s → l3' = iI l3 → r32 l3 → l4' = iI l4 → r32 l4 → l5' = iI l5 → r32 l5 → l6' = iI l6 → r32 l6 → FX35_meanSame_b118 N n l3 l4 l5 l6 s = some q → gG m b φ0 σo lI q (fX35_meanSame_b118 N n 192 l3' l4' l5' l6' h) := by
  intro n
  induction n with
 | zero => intro φ h s l3' l3 l4' l4 l5' l5 l6' l6 R el3 rl3 el4 rl4 el5 rl5 el6 rl6 hF; simp [FX35_meanSame_b118] at hF
  | succ n ih =>
    intro φ h s l3' l3 l4' l4 l5' l5 l6' l6 R el3 rl3 el4 rl4 el5 rl5 el6 rl6 hF
    subst el3; subst el4; subst el5; subst el6
    rw [FX35_meanSame_b118] at hF
    rw [fX35_meanSame_b118]
    refine s_if (i_eq rfl (c_lit 0 0 rfl) rl5 ⟨by decide, by decide⟩) hF (fun c1 hF => ?_) (fun c1 hF => ?_)
    ·
      exact SX35_meanSame_b186 (N := N) hm R rfl rl5 hF
    ·
      refine s_gAs R (t_192 hm R.S) (Nat.le_of_ble_eq_true rfl) rfl (o_192_34 hm R.S) (a_276 hm R) ?_
      refine s_rI R (u_276 hm R.S).1 (u_276 hm R.S).2 (by decide) (a_276 hm R) rfl rl3 hF (fun x4 ra3 hF => ?_)
      refine s_gAs R (t_192 hm R.S) (Nat.le_of_ble_eq_true rfl) rfl (o_192_32 hm R.S) (a_274 hm R) ?_
      refine s_rI R (u_274 hm R.S).1 (u_274 hm R.S).2 (by decide) (a_274 hm R) rfl rl3 hF (fun x8 ra5 hF => ?_)
      refine s_if (i_le (c_sub rfl rfl) rfl (rr_I _) rl6) hF (fun c6 hF => ?_) (fun c6 hF => ?_)
      ·
        exact SX35_meanSame_b186 (N := N) hm R rfl rl5 hF
      ·
        refine s_gAs R (t_192 hm R.S) (Nat.le_of_ble_eq_true rfl) rfl (o_192_36 hm R.S) (a_277 hm R) ?_
        refine s_gAs R (t_192 hm R.S) (Nat.le_of_ble_eq_true rfl) rfl (o_192_32 hm R.S) (a_274 hm R) ?_
        refine s_rI R (u_274 hm R.S).1 (u_274 hm R.S).2 (by decide) (a_274 hm R) rfl rl3 hF (fun x15 ra9 hF => ?_)
        refine s_rI R (u_277 hm R.S).1 (u_277 hm R.S).2 (by decide) (a_277 hm R) (c_add rfl rfl) (rr_I _) hF (fun x17 ra10 hF => ?_)
        refine s_gAs R (t_192 hm R.S) (Nat.le_of_ble_eq_true rfl) rfl (o_192_36 hm R.S) (a_277 hm R) ?_
        refine s_gAs R (t_192 hm R.S) (Nat.le_of_ble_eq_true rfl) rfl (o_192_32 hm R.S) (a_274 hm R) ?_
        refine s_rI R (u_274 hm R.S).1 (u_274 hm R.S).2 (by decide) (a_274 hm R) rfl rl4 hF (fun x23 ra13 hF => ?_)
        refine s_rI R (u_277 hm R.S).1 (u_277 hm R.S).2 (by decide) (a_277 hm R) (c_add rfl rfl) (rr_I _) hF (fun x25 ra14 hF => ?_)
        refine s_if (not_congr (i_eq rfl rfl ra10 ra14)) hF (fun c15 hF => ?_) (fun c15 hF => ?_)
        ·
          exact SX35_meanSame_b178 (N := N) (k118 := fX35_meanSame_b118 N n) (K118 := FX35_meanSame_b118 N n) hm @ih R rfl rl3 rfl rl4 rfl rl6 (c_lit 0 0 rfl) ⟨by decide, by decide⟩ hF
        ·
          exact SX35_meanSame_b178 (N := N) (k118 := fX35_meanSame_b118 N n) (K118 := FX35_meanSame_b118 N n) hm @ih R rfl rl3 rfl rl4 rfl rl6 (c_lit 1 1 rfl) ⟨by decide, by decide⟩ hF
def FX35_meanSame_b113 (N : Nat) (l3 : Int) (l4 : Int) (s0 : Int) (s : fS) : Option (Int × fS) :=
  FX35_meanSame_b118 N N l3 l4 s0 0 s
theorem SX35_meanSame_b113 {m b : Nat} {φ0 : Nat → Nat} {σo : fS} (hm : 1 ≤ m) {N : Nat} {q : Int × fS} {φ : Nat → Nat} {h : eH} {s : fS} {l3' : Int32} {l3 : Int} {l4' : Int32} {l4 : Int} {s0' : Int32} {s0 : Int} (R : fC m b φ0 σo φ h s) (el3 : l3' = iI l3) (rl3 : r32 l3) (el4 : l4' = iI l4) (rl4 : r32 l4) (es0 : s0' = iI s0) (rs0 : r32 s0) (hF : FX35_meanSame_b113 N l3 l4 s0 s = some q) : gG m b φ0 σo lI q (fX35_meanSame_b113 N 192 l3' l4' s0' h) := by
  subst el3; subst el4; subst es0
  unfold FX35_meanSame_b113 at hF
  unfold fX35_meanSame_b113
  exact SX35_meanSame_b118 (N := N) hm R rfl rl3 rfl rl4 rfl rs0 (c_lit 0 0 rfl) ⟨by decide, by decide⟩ hF
def FX35_meanSame_b112 (N : Nat) (l3 : Int) (l4 : Int) (s : fS) : Option (Int × fS) :=
  FX35_meanSame_b113 N l3 l4 0 s
theorem SX35_meanSame_b112 {m b : Nat} {φ0 : Nat → Nat} {σo : fS} (hm : 1 ≤ m) {N : Nat} {q : Int × fS} {φ : Nat → Nat} {h : eH} {s : fS} {l3' : Int32} {l3 : Int} {l4' : Int32} {l4 : Int} (R : fC m b φ0 σo φ h s) (el3 : l3' = iI l3) (rl3 : r32 l3) (el4 : l4' = iI l4) (rl4 : r32 l4) (hF : FX35_meanSame_b112 N l3 l4 s = some q) : gG m b φ0 σo lI q (fX35_meanSame_b112 N 192 l3' l4' h) := by
  subst el3; subst el4
  unfold FX35_meanSame_b112 at hF
  unfold fX35_meanSame_b112
  exact SX35_meanSame_b113 (N := N) hm R rfl rl3 rfl rl4 (c_lit 0 0 rfl) ⟨by decide, by decide⟩ hF
def FX35_meanSame (N : Nat) (p0 : Int) (p1 : Int) (s : fS) : Option (Int × fS) :=
  if ¬ (p0 = p1) then
    if p0 < 100000 then
      FX35_meanSame_b33 N s
    else
      if 2000000 ≤ p0 then
        FX35_meanSame_b33 N s
      else
        if p1 < 100000 then
          FX35_meanSame_b33 N s
        else
          if p1 < 2000000 then
            (uRI s 275 (isub p0 100000)).bind fun x8 =>
            (uRI s 274 (isub p0 100000)).bind fun x12 =>
            (uRI s 275 (isub p1 100000)).bind fun x16 =>
            (uRI s 274 (isub p1 100000)).bind fun x20 =>
            if ¬ ((isub x8 x12) = (isub x16 x20)) then
              FX35_meanSame_b112 N (isub p0 100000) (isub p1 100000) s
            else
              (uRI s 276 (isub p0 100000)).bind fun x25 =>
              (uRI s 274 (isub p0 100000)).bind fun x29 =>
              (uRI s 276 (isub p1 100000)).bind fun x33 =>
              (uRI s 274 (isub p1 100000)).bind fun x37 =>
              if ¬ ((isub x25 x29) = (isub x33 x37)) then
                FX35_meanSame_b112 N (isub p0 100000) (isub p1 100000) s
              else
                FX35_meanSame_b113 N (isub p0 100000) (isub p1 100000) 1 s
          else
            FX35_meanSame_b33 N s
  else
    some (1, s)
theorem SX35_meanSame {m b : Nat} {φ0 : Nat → Nat} {σo : fS} (hm : 1 ≤ m) {N : Nat} {q : Int × fS} {φ : Nat → Nat} {h : eH} {s : fS} {p0' : Int32} {p0 : Int} {p1' : Int32} {p1 : Int} (R : fC m b φ0 σo φ h s) (ep0 : p0' = iI p0) (rp0 : r32 p0) (ep1 : p1' = iI p1) (rp1 : r32 p1) (hF : FX35_meanSame N p0 p1 s = some q) : gG m b φ0 σo lI q (fX35_meanSame N 192 p0' p1' h) := by
  subst ep0; subst ep1
  unfold FX35_meanSame at hF
  unfold fX35_meanSame
  refine s_if (not_congr (i_eq rfl rfl rp0 rp1)) hF (fun c1 hF => ?_) (fun c1 hF => ?_)
  ·
    refine s_if (i_lt rfl (c_lit 100000 100000 rfl) rp0 ⟨by decide, by decide⟩) hF (fun c2 hF => ?_) (fun c2 hF => ?_)
    ·
      exact SX35_meanSame_b33 (N := N) hm R hF
    ·
      refine s_if (i_le (c_lit 2000000 2000000 rfl) rfl ⟨by decide, by decide⟩ rp0) hF (fun c3 hF => ?_) (fun c3 hF => ?_)
      ·
        exact SX35_meanSame_b33 (N := N) hm R hF
      ·
        refine s_if (i_lt rfl (c_lit 100000 100000 rfl) rp1 ⟨by decide, by decide⟩) hF (fun c4 hF => ?_) (fun c4 hF => ?_)
        ·
          exact SX35_meanSame_b33 (N := N) hm R hF
        ·
          refine s_if (i_lt rfl (c_lit 2000000 2000000 rfl) rp1 ⟨by decide, by decide⟩) hF (fun c5 hF => ?_) (fun c5 hF => ?_)
          ·
            refine s_gAs R (t_192 hm R.S) (Nat.le_of_ble_eq_true rfl) rfl (o_192_33 hm R.S) (a_275 hm R) ?_
            refine s_rI R (u_275 hm R.S).1 (u_275 hm R.S).2 (by decide) (a_275 hm R) (c_sub rfl (c_lit 100000 100000 rfl)) (rr_I _) hF (fun x8 ra7 hF => ?_)
            refine s_gAs R (t_192 hm R.S) (Nat.le_of_ble_eq_true rfl) rfl (o_192_32 hm R.S) (a_274 hm R) ?_
            refine s_rI R (u_274 hm R.S).1 (u_274 hm R.S).2 (by decide) (a_274 hm R) (c_sub rfl (c_lit 100000 100000 rfl)) (rr_I _) hF (fun x12 ra9 hF => ?_)
            refine s_gAs R (t_192 hm R.S) (Nat.le_of_ble_eq_true rfl) rfl (o_192_33 hm R.S) (a_275 hm R) ?_
            refine s_rI R (u_275 hm R.S).1 (u_275 hm R.S).2 (by decide) (a_275 hm R) (c_sub rfl (c_lit 100000 100000 rfl)) (rr_I _) hF (fun x16 ra11 hF => ?_)
            refine s_gAs R (t_192 hm R.S) (Nat.le_of_ble_eq_true rfl) rfl (o_192_32 hm R.S) (a_274 hm R) ?_
            refine s_rI R (u_274 hm R.S).1 (u_274 hm R.S).2 (by decide) (a_274 hm R) (c_sub rfl (c_lit 100000 100000 rfl)) (rr_I _) hF (fun x20 ra13 hF => ?_)
            refine s_if (not_congr (i_eq (c_sub rfl rfl) (c_sub rfl rfl) (rr_I _) (rr_I _))) hF (fun c14 hF => ?_) (fun c14 hF => ?_)
            ·
              exact SX35_meanSame_b112 (N := N) hm R (c_sub rfl (c_lit 100000 100000 rfl)) (rr_I _) (c_sub rfl (c_lit 100000 100000 rfl)) (rr_I _) hF
            ·
              refine s_gAs R (t_192 hm R.S) (Nat.le_of_ble_eq_true rfl) rfl (o_192_34 hm R.S) (a_276 hm R) ?_
              refine s_rI R (u_276 hm R.S).1 (u_276 hm R.S).2 (by decide) (a_276 hm R) (c_sub rfl (c_lit 100000 100000 rfl)) (rr_I _) hF (fun x25 ra16 hF => ?_)
              refine s_gAs R (t_192 hm R.S) (Nat.le_of_ble_eq_true rfl) rfl (o_192_32 hm R.S) (a_274 hm R) ?_
              refine s_rI R (u_274 hm R.S).1 (u_274 hm R.S).2 (by decide) (a_274 hm R) (c_sub rfl (c_lit 100000 100000 rfl)) (rr_I _) hF (fun x29 ra18 hF => ?_)
              refine s_gAs R (t_192 hm R.S) (Nat.le_of_ble_eq_true rfl) rfl (o_192_34 hm R.S) (a_276 hm R) ?_
              refine s_rI R (u_276 hm R.S).1 (u_276 hm R.S).2 (by decide) (a_276 hm R) (c_sub rfl (c_lit 100000 100000 rfl)) (rr_I _) hF (fun x33 ra20 hF => ?_)
              refine s_gAs R (t_192 hm R.S) (Nat.le_of_ble_eq_true rfl) rfl (o_192_32 hm R.S) (a_274 hm R) ?_
              refine s_rI R (u_274 hm R.S).1 (u_274 hm R.S).2 (by decide) (a_274 hm R) (c_sub rfl (c_lit 100000 100000 rfl)) (rr_I _) hF (fun x37 ra22 hF => ?_)
              refine s_if (not_congr (i_eq (c_sub rfl rfl) (c_sub rfl rfl) (rr_I _) (rr_I _))) hF (fun c23 hF => ?_) (fun c23 hF => ?_)
              ·
                exact SX35_meanSame_b112 (N := N) hm R (c_sub rfl (c_lit 100000 100000 rfl)) (rr_I _) (c_sub rfl (c_lit 100000 100000 rfl)) (rr_I _) hF
              ·
                exact SX35_meanSame_b113 (N := N) hm R (c_sub rfl (c_lit 100000 100000 rfl)) (rr_I _) (c_sub rfl (c_lit 100000 100000 rfl)) (rr_I _) (c_lit 1 1 rfl) ⟨by decide, by decide⟩ hF
          ·
            exact SX35_meanSame_b33 (N := N) hm R hF
  ·
    exact g_ret R hF ⟨(c_lit 1 1 rfl), ⟨by decide, by decide⟩⟩
def FX35_drop_b198 (N : Nat) (K15 : Int → Int → Int → Int → Int → fS → Option (Unit × fS)) (l1 : Int) (l2 : Int) (l3 : Int) (l4 : Int) (l5 : Int) (s : fS) : Option (Unit × fS) :=
  K15 l1 l2 l3 l4 l5 s
theorem SX35_drop_b198 {m b : Nat} {φ0 : Nat → Nat} {σo : fS} (hm : 1 ≤ m) {N : Nat} {k15 : Nat → Int32 → Int32 → Int32 → Int32 → Int32 → eH → Option (Unit × eH)} {K15 : Int → Int → Int → Int → Int → fS → Option (Unit × fS)} {q : Unit × fS} (hk15 : ∀ {φ : Nat → Nat} {h : eH} {s : fS} {l1' : Int32} {l1 : Int} {l2' : Int32} {l2 : Int} {l3' : Int32} {l3 : Int} {l4' : Int32} {l4 : Int} {l5' : Int32} {l5 : Int}, fC m b φ0 σo φ h s → l1' = iI l1 → r32 l1 → l2' = iI l2 → r32 l2 → l3' = iI l3 → r32 l3 → l4' = iI l4 → r32 l4 → l5' = iI l5 → r32 l5 → K15 l1 l2 l3 l4 l5 s = some q → gG m b φ0 σo lU q (k15 192 l1' l2' l3' l4' l5' h)) {φ : Nat → Nat} {h : eH} {s : fS} {l1' : Int32} {l1 : Int} {l2' : Int32} {l2 : Int} {l3' : Int32} {l3 : Int} {l4' : Int32} {l4 : Int} {l5' : Int32} {l5 : Int} (R : fC m b φ0 σo φ h s) (el1 : l1' = iI l1) (rl1 : r32 l1) (el2 : l2' = iI l2) (rl2 : r32 l2) (el3 : l3' = iI l3) (rl3 : r32 l3) (el4 : l4' = iI l4) (rl4 : r32 l4) (el5 : l5' = iI l5) (rl5 : r32 l5) (hF : FX35_drop_b198 N K15 l1 l2 l3 l4 l5 s = some q) : gG m b φ0 σo lU q (fX35_drop_b198 N k15 192 l1' l2' l3' l4' l5' h) := by
  subst el1; subst el2; subst el3; subst el4; subst el5
  unfold FX35_drop_b198 at hF
  unfold fX35_drop_b198
  exact hk15 R rfl rl1 rfl rl2 rfl rl3 rfl rl4 rfl rl5 hF
def FX35_drop_b85 (N : Nat) (K15 : Int → Int → Int → Int → Int → fS → Option (Unit × fS)) (l1 : Int) (l2 : Int) (l3 : Int) (l4 : Int) (l5 : Int) (s1 : Int) (s : fS) : Option (Unit × fS) :=
  (uPI s 192 41 s1).bind fun σ1 =>
  FX35_drop_b198 N K15 l1 l2 (iadd l3 (-1)) l4 l5 σ1
theorem SX35_drop_b85 {m b : Nat} {φ0 : Nat → Nat} {σo : fS} (hm : 1 ≤ m) {N : Nat} {k15 : Nat → Int32 → Int32 → Int32 → Int32 → Int32 → eH → Option (Unit × eH)} {K15 : Int → Int → Int → Int → Int → fS → Option (Unit × fS)} {q : Unit × fS} (hk15 : ∀ {φ : Nat → Nat} {h : eH} {s : fS} {l1' : Int32} {l1 : Int} {l2' : Int32} {l2 : Int} {l3' : Int32} {l3 : Int} {l4' : Int32} {l4 : Int} {l5' : Int32} {l5 : Int}, fC m b φ0 σo φ h s → l1' = iI l1 → r32 l1 → l2' = iI l2 → r32 l2 → l3' = iI l3 → r32 l3 → l4' = iI l4 → r32 l4 → l5' = iI l5 → r32 l5 → K15 l1 l2 l3 l4 l5 s = some q → gG m b φ0 σo lU q (k15 192 l1' l2' l3' l4' l5' h)) {φ : Nat → Nat} {h : eH} {s : fS} {l1' : Int32} {l1 : Int} {l2' : Int32} {l2 : Int} {l3' : Int32} {l3 : Int} {l4' : Int32} {l4 : Int} {l5' : Int32} {l5 : Int} {s1' : Int32} {s1 : Int} (R : fC m b φ0 σo φ h s) (el1 : l1' = iI l1) (rl1 : r32 l1) (el2 : l2' = iI l2) (rl2 : r32 l2) (el3 : l3' = iI l3) (rl3 : r32 l3) (el4 : l4' = iI l4) (rl4 : r32 l4) (el5 : l5' = iI l5) (rl5 : r32 l5) (es1 : s1' = iI s1) (rs1 : r32 s1) (hF : FX35_drop_b85 N K15 l1 l2 l3 l4 l5 s1 s = some q) : gG m b φ0 σo lU q (fX35_drop_b85 N k15 192 l1' l2' l3' l4' l5' 192 s1' h) := by
  subst el1; subst el2; subst el3; subst el4; subst el5; subst es1
  unfold FX35_drop_b85 at hF
  unfold fX35_drop_b85
  refine s_pI R (t_192 hm R.S) (Nat.le_of_ble_eq_true rfl) rfl rfl rs1 hF (fun h1 σ1 R1 T1 hF => ?_)
  exact SX35_drop_b198 (N := N) (k15 := k15) (K15 := K15) hm @hk15 R1 rfl rl1 rfl rl2 (c_add rfl (c_lit (-1) (-1) rfl)) (rr_I _) rfl rl4 rfl rl5 hF
def FX35_drop_b69 (N : Nat) (K15 : Int → Int → Int → Int → Int → fS → Option (Unit × fS)) (l1 : Int) (l2 : Int) (l3 : Int) (l4 : Int) (s0 : Int) (s : fS) : Option (Unit × fS) :=
  if s0 = 0 then
    FX35_drop_b85 N K15 l1 l2 l3 l4 s0 l1 s
  else
    FX35_drop_b85 N K15 l1 l2 l3 l4 s0 (s.i 192 41) s
theorem SX35_drop_b69 {m b : Nat} {φ0 : Nat → Nat} {σo : fS} (hm : 1 ≤ m) {N : Nat} {k15 : Nat → Int32 → Int32 → Int32 → Int32 → Int32 → eH → Option (Unit × eH)} {K15 : Int → Int → Int → Int → Int → fS → Option (Unit × fS)} {q : Unit × fS} (hk15 : ∀ {φ : Nat → Nat} {h : eH} {s : fS} {l1' : Int32} {l1 : Int} {l2' : Int32} {l2 : Int} {l3' : Int32} {l3 : Int} {l4' : Int32} {l4 : Int} {l5' : Int32} {l5 : Int}, fC m b φ0 σo φ h s → l1' = iI l1 → r32 l1 → l2' = iI l2 → r32 l2 → l3' = iI l3 → r32 l3 → l4' = iI l4 → r32 l4 → l5' = iI l5 → r32 l5 → K15 l1 l2 l3 l4 l5 s = some q → gG m b φ0 σo lU q (k15 192 l1' l2' l3' l4' l5' h)) {φ : Nat → Nat} {h : eH} {s : fS} {l1' : Int32} {l1 : Int} {l2' : Int32} {l2 : Int} {l3' : Int32} {l3 : Int} {l4' : Int32} {l4 : Int} {s0' : Int32} {s0 : Int} (R : fC m b φ0 σo φ h s) (el1 : l1' = iI l1) (rl1 : r32 l1) (el2 : l2' = iI l2) (rl2 : r32 l2) (el3 : l3' = iI l3) (rl3 : r32 l3) (el4 : l4' = iI l4) (rl4 : r32 l4) (es0 : s0' = iI s0) (rs0 : r32 s0) (hF : FX35_drop_b69 N K15 l1 l2 l3 l4 s0 s = some q) : gG m b φ0 σo lU q (fX35_drop_b69 N k15 192 l1' l2' l3' l4' s0' h) := by
  subst el1; subst el2; subst el3; subst el4; subst es0
  unfold FX35_drop_b69 at hF
  unfold fX35_drop_b69
  refine s_if (i_eq rfl (c_lit 0 0 rfl) rs0 ⟨by decide, by decide⟩) hF (fun c1 hF => ?_) (fun c1 hF => ?_)
  ·
    exact SX35_drop_b85 (N := N) (k15 := k15) (K15 := K15) hm @hk15 R rfl rl1 rfl rl2 rfl rl3 rfl rl4 rfl rs0 rfl rl1 hF
  ·
    refine s_gI R (t_192 hm R.S) (Nat.le_of_ble_eq_true rfl) rfl ?_
    exact SX35_drop_b85 (N := N) (k15 := k15) (K15 := K15) hm @hk15 R rfl rl1 rfl rl2 rfl rl3 rfl rl4 rfl rs0 rfl (R.ri (t_192 hm R.S) (Nat.le_of_ble_eq_true rfl) rfl) hF
def FX35_drop_b195 (N : Nat) (K15 : Int → Int → Int → Int → Int → fS → Option (Unit × fS)) (l1 : Int) (l2 : Int) (l3 : Int) (l4 : Int) (l5 : Int) (s1 : Int) (s : fS) : Option (Unit × fS) :=
  (uPI s 192 41 s1).bind fun σ1 =>
  FX35_drop_b198 N K15 l1 l2 l3 l4 l5 σ1
theorem SX35_drop_b195 {m b : Nat} {φ0 : Nat → Nat} {σo : fS} (hm : 1 ≤ m) {N : Nat} {k15 : Nat → Int32 → Int32 → Int32 → Int32 → Int32 → eH → Option (Unit × eH)} {K15 : Int → Int → Int → Int → Int → fS → Option (Unit × fS)} {q : Unit × fS} (hk15 : ∀ {φ : Nat → Nat} {h : eH} {s : fS} {l1' : Int32} {l1 : Int} {l2' : Int32} {l2 : Int} {l3' : Int32} {l3 : Int} {l4' : Int32} {l4 : Int} {l5' : Int32} {l5 : Int}, fC m b φ0 σo φ h s → l1' = iI l1 → r32 l1 → l2' = iI l2 → r32 l2 → l3' = iI l3 → r32 l3 → l4' = iI l4 → r32 l4 → l5' = iI l5 → r32 l5 → K15 l1 l2 l3 l4 l5 s = some q → gG m b φ0 σo lU q (k15 192 l1' l2' l3' l4' l5' h)) {φ : Nat → Nat} {h : eH} {s : fS} {l1' : Int32} {l1 : Int} {l2' : Int32} {l2 : Int} {l3' : Int32} {l3 : Int} {l4' : Int32} {l4 : Int} {l5' : Int32} {l5 : Int} {s1' : Int32} {s1 : Int} (R : fC m b φ0 σo φ h s) (el1 : l1' = iI l1) (rl1 : r32 l1) (el2 : l2' = iI l2) (rl2 : r32 l2) (el3 : l3' = iI l3) (rl3 : r32 l3) (el4 : l4' = iI l4) (rl4 : r32 l4) (el5 : l5' = iI l5) (rl5 : r32 l5) (es1 : s1' = iI s1) (rs1 : r32 s1) (hF : FX35_drop_b195 N K15 l1 l2 l3 l4 l5 s1 s = some q) : gG m b φ0 σo lU q (fX35_drop_b195 N k15 192 l1' l2' l3' l4' l5' 192 s1' h) := by
  subst el1; subst el2; subst el3; subst el4; subst el5; subst es1
  unfold FX35_drop_b195 at hF
  unfold fX35_drop_b195
  refine s_pI R (t_192 hm R.S) (Nat.le_of_ble_eq_true rfl) rfl rfl rs1 hF (fun h1 σ1 R1 T1 hF => ?_)
  exact SX35_drop_b198 (N := N) (k15 := k15) (K15 := K15) hm @hk15 R1 rfl rl1 rfl rl2 rfl rl3 rfl rl4 rfl rl5 hF
def FX35_drop_b177 (N : Nat) (K15 : Int → Int → Int → Int → Int → fS → Option (Unit × fS)) (l1 : Int) (l2 : Int) (l3 : Int) (l4 : Int) (s0 : Int) (s : fS) : Option (Unit × fS) :=
  if s0 = 0 then
    FX35_drop_b195 N K15 l1 l2 l3 l4 s0 (iadd l1 1) s
  else
    FX35_drop_b195 N K15 l1 l2 l3 l4 s0 (s.i 192 41) s
theorem SX35_drop_b177 {m b : Nat} {φ0 : Nat → Nat} {σo : fS} (hm : 1 ≤ m) {N : Nat} {k15 : Nat → Int32 → Int32 → Int32 → Int32 → Int32 → eH → Option (Unit × eH)} {K15 : Int → Int → Int → Int → Int → fS → Option (Unit × fS)} {q : Unit × fS} (hk15 : ∀ {φ : Nat → Nat} {h : eH} {s : fS} {l1' : Int32} {l1 : Int} {l2' : Int32} {l2 : Int} {l3' : Int32} {l3 : Int} {l4' : Int32} {l4 : Int} {l5' : Int32} {l5 : Int}, fC m b φ0 σo φ h s → l1' = iI l1 → r32 l1 → l2' = iI l2 → r32 l2 → l3' = iI l3 → r32 l3 → l4' = iI l4 → r32 l4 → l5' = iI l5 → r32 l5 → K15 l1 l2 l3 l4 l5 s = some q → gG m b φ0 σo lU q (k15 192 l1' l2' l3' l4' l5' h)) {φ : Nat → Nat} {h : eH} {s : fS} {l1' : Int32} {l1 : Int} {l2' : Int32} {l2 : Int} {l3' : Int32} {l3 : Int} {l4' : Int32} {l4 : Int} {s0' : Int32} {s0 : Int} (R : fC m b φ0 σo φ h s) (el1 : l1' = iI l1) (rl1 : r32 l1) (el2 : l2' = iI l2) (rl2 : r32 l2) (el3 : l3' = iI l3) (rl3 : r32 l3) (el4 : l4' = iI l4) (rl4 : r32 l4) (es0 : s0' = iI s0) (rs0 : r32 s0) (hF : FX35_drop_b177 N K15 l1 l2 l3 l4 s0 s = some q) : gG m b φ0 σo lU q (fX35_drop_b177 N k15 192 l1' l2' l3' l4' s0' h) := by
  subst el1; subst el2; subst el3; subst el4; subst es0
  unfold FX35_drop_b177 at hF
  unfold fX35_drop_b177
  refine s_if (i_eq rfl (c_lit 0 0 rfl) rs0 ⟨by decide, by decide⟩) hF (fun c1 hF => ?_) (fun c1 hF => ?_)
  ·
    exact SX35_drop_b195 (N := N) (k15 := k15) (K15 := K15) hm @hk15 R rfl rl1 rfl rl2 rfl rl3 rfl rl4 rfl rs0 (c_add rfl (c_lit 1 1 rfl)) (rr_I _) hF
  ·
    refine s_gI R (t_192 hm R.S) (Nat.le_of_ble_eq_true rfl) rfl ?_
    exact SX35_drop_b195 (N := N) (k15 := k15) (K15 := K15) hm @hk15 R rfl rl1 rfl rl2 rfl rl3 rfl rl4 rfl rs0 rfl (R.ri (t_192 hm R.S) (Nat.le_of_ble_eq_true rfl) rfl) hF
def FX35_drop_b172 (N : Nat) (K15 : Int → Int → Int → Int → Int → fS → Option (Unit × fS)) (l1 : Int) (l2 : Int) (l3 : Int) (l4 : Int) (s : fS) : Option (Unit × fS) :=
  FX35_drop_b177 N K15 l1 l2 l3 l4 1 s
theorem SX35_drop_b172 {m b : Nat} {φ0 : Nat → Nat} {σo : fS} (hm : 1 ≤ m) {N : Nat} {k15 : Nat → Int32 → Int32 → Int32 → Int32 → Int32 → eH → Option (Unit × eH)} {K15 : Int → Int → Int → Int → Int → fS → Option (Unit × fS)} {q : Unit × fS} (hk15 : ∀ {φ : Nat → Nat} {h : eH} {s : fS} {l1' : Int32} {l1 : Int} {l2' : Int32} {l2 : Int} {l3' : Int32} {l3 : Int} {l4' : Int32} {l4 : Int} {l5' : Int32} {l5 : Int}, fC m b φ0 σo φ h s → l1' = iI l1 → r32 l1 → l2' = iI l2 → r32 l2 → l3' = iI l3 → r32 l3 → l4' = iI l4 → r32 l4 → l5' = iI l5 → r32 l5 → K15 l1 l2 l3 l4 l5 s = some q → gG m b φ0 σo lU q (k15 192 l1' l2' l3' l4' l5' h)) {φ : Nat → Nat} {h : eH} {s : fS} {l1' : Int32} {l1 : Int} {l2' : Int32} {l2 : Int} {l3' : Int32} {l3 : Int} {l4' : Int32} {l4 : Int} (R : fC m b φ0 σo φ h s) (el1 : l1' = iI l1) (rl1 : r32 l1) (el2 : l2' = iI l2) (rl2 : r32 l2) (el3 : l3' = iI l3) (rl3 : r32 l3) (el4 : l4' = iI l4) (rl4 : r32 l4) (hF : FX35_drop_b172 N K15 l1 l2 l3 l4 s = some q) : gG m b φ0 σo lU q (fX35_drop_b172 N k15 192 l1' l2' l3' l4' h) := by
  subst el1; subst el2; subst el3; subst el4
  unfold FX35_drop_b172 at hF
  unfold fX35_drop_b172
  exact SX35_drop_b177 (N := N) (k15 := k15) (K15 := K15) hm @hk15 R rfl rl1 rfl rl2 rfl rl3 rfl rl4 (c_lit 1 1 rfl) ⟨by decide, by decide⟩ hF
def FX35_drop_b159 (N : Nat) (K15 : Int → Int → Int → Int → Int → fS → Option (Unit × fS)) (l1 : Int) (l2 : Int) (l3 : Int) (l4 : Int) (s : fS) : Option (Unit × fS) :=
  if l2 < 0 then
    FX35_drop_b172 N K15 l1 l2 l3 (iadd l4 1) s
  else
    if (iadd l4 1) = l2 then
      FX35_drop_b177 N K15 l1 l2 l3 (iadd l4 1) 0 s
    else
      FX35_drop_b172 N K15 l1 l2 l3 (iadd l4 1) s
theorem SX35_drop_b159 {m b : Nat} {φ0 : Nat → Nat} {σo : fS} (hm : 1 ≤ m) {N : Nat} {k15 : Nat → Int32 → Int32 → Int32 → Int32 → Int32 → eH → Option (Unit × eH)} {K15 : Int → Int → Int → Int → Int → fS → Option (Unit × fS)} {q : Unit × fS} (hk15 : ∀ {φ : Nat → Nat} {h : eH} {s : fS} {l1' : Int32} {l1 : Int} {l2' : Int32} {l2 : Int} {l3' : Int32} {l3 : Int} {l4' : Int32} {l4 : Int} {l5' : Int32} {l5 : Int}, fC m b φ0 σo φ h s → l1' = iI l1 → r32 l1 → l2' = iI l2 → r32 l2 → l3' = iI l3 → r32 l3 → l4' = iI l4 → r32 l4 → l5' = iI l5 → r32 l5 → K15 l1 l2 l3 l4 l5 s = some q → gG m b φ0 σo lU q (k15 192 l1' l2' l3' l4' l5' h)) {φ : Nat → Nat} {h : eH} {s : fS} {l1' : Int32} {l1 : Int} {l2' : Int32} {l2 : Int} {l3' : Int32} {l3 : Int} {l4' : Int32} {l4 : Int} (R : fC m b φ0 σo φ h s) (el1 : l1' = iI l1) (rl1 : r32 l1) (el2 : l2' = iI l2) (rl2 : r32 l2) (el3 : l3' = iI l3) (rl3 : r32 l3) (el4 : l4' = iI l4) (rl4 : r32 l4) (hF : FX35_drop_b159 N K15 l1 l2 l3 l4 s = some q) : gG m b φ0 σo lU q (fX35_drop_b159 N k15 192 l1' l2' l3' l4' h) := by
  subst el1; subst el2; subst el3; subst el4
  unfold FX35_drop_b159 at hF
  unfold fX35_drop_b159
  refine s_if (i_lt rfl (c_lit 0 0 rfl) rl2 ⟨by decide, by decide⟩) hF (fun c1 hF => ?_) (fun c1 hF => ?_)
  ·
    exact SX35_drop_b172 (N := N) (k15 := k15) (K15 := K15) hm @hk15 R rfl rl1 rfl rl2 rfl rl3 (c_add rfl (c_lit 1 1 rfl)) (rr_I _) hF
  ·
    refine s_if (i_eq (c_add rfl (c_lit 1 1 rfl)) rfl (rr_I _) rl2) hF (fun c2 hF => ?_) (fun c2 hF => ?_)
    ·
      exact SX35_drop_b177 (N := N) (k15 := k15) (K15 := K15) hm @hk15 R rfl rl1 rfl rl2 rfl rl3 (c_add rfl (c_lit 1 1 rfl)) (rr_I _) (c_lit 0 0 rfl) ⟨by decide, by decide⟩ hF
    ·
      exact SX35_drop_b172 (N := N) (k15 := k15) (K15 := K15) hm @hk15 R rfl rl1 rfl rl2 rfl rl3 (c_add rfl (c_lit 1 1 rfl)) (rr_I _) hF
def FX35_drop_b129 (N : Nat) (K15 : Int → Int → Int → Int → Int → fS → Option (Unit × fS)) (l1 : Int) (l2 : Int) (l3 : Int) (l4 : Int) (l5 : Int) (l6 : Int) (s : fS) : Option (Unit × fS) :=
  if ¬ (l3 = 0) then
    FX35_drop_b198 N K15 l1 l2 l3 l4 l5 s
  else
    (FX35_means l6 20 s).bind fun q3 =>
    if q3.1 = 0 then
      FX35_drop_b198 N K15 l1 l2 l3 l4 l5 q3.2
    else
      (uRI q3.2 281 l1).bind fun x7 =>
      if ¬ (x7 = 0) then
        FX35_drop_b159 N K15 l1 l2 l3 l4 q3.2
      else
        (FX35_fail 8 q3.2).bind fun q11 =>
        FX35_drop_b159 N K15 l1 l2 l3 l4 q11.2
theorem SX35_drop_b129 {m b : Nat} {φ0 : Nat → Nat} {σo : fS} (hm : 1 ≤ m) {N : Nat} {k15 : Nat → Int32 → Int32 → Int32 → Int32 → Int32 → eH → Option (Unit × eH)} {K15 : Int → Int → Int → Int → Int → fS → Option (Unit × fS)} {q : Unit × fS} (hk15 : ∀ {φ : Nat → Nat} {h : eH} {s : fS} {l1' : Int32} {l1 : Int} {l2' : Int32} {l2 : Int} {l3' : Int32} {l3 : Int} {l4' : Int32} {l4 : Int} {l5' : Int32} {l5 : Int}, fC m b φ0 σo φ h s → l1' = iI l1 → r32 l1 → l2' = iI l2 → r32 l2 → l3' = iI l3 → r32 l3 → l4' = iI l4 → r32 l4 → l5' = iI l5 → r32 l5 → K15 l1 l2 l3 l4 l5 s = some q → gG m b φ0 σo lU q (k15 192 l1' l2' l3' l4' l5' h)) {φ : Nat → Nat} {h : eH} {s : fS} {l1' : Int32} {l1 : Int} {l2' : Int32} {l2 : Int} {l3' : Int32} {l3 : Int} {l4' : Int32} {l4 : Int} {l5' : Int32} {l5 : Int} {l6' : Int32} {l6 : Int} (R : fC m b φ0 σo φ h s) (el1 : l1' = iI l1) (rl1 : r32 l1) (el2 : l2' = iI l2) (rl2 : r32 l2) (el3 : l3' = iI l3) (rl3 : r32 l3) (el4 : l4' = iI l4) (rl4 : r32 l4) (el5 : l5' = iI l5) (rl5 : r32 l5) (el6 : l6' = iI l6) (rl6 : r32 l6) (hF : FX35_drop_b129 N K15 l1 l2 l3 l4 l5 l6 s = some q) : gG m b φ0 σo lU q (fX35_drop_b129 N k15 192 l1' l2' l3' l4' l5' l6' h) := by
  subst el1; subst el2; subst el3; subst el4; subst el5; subst el6
  unfold FX35_drop_b129 at hF
  unfold fX35_drop_b129
  refine s_if (not_congr (i_eq rfl (c_lit 0 0 rfl) rl3 ⟨by decide, by decide⟩)) hF (fun c1 hF => ?_) (fun c1 hF => ?_)
  ·
    exact SX35_drop_b198 (N := N) (k15 := k15) (K15 := K15) hm @hk15 R rfl rl1 rfl rl2 rfl rl3 rfl rl4 rfl rl5 hF
  ·
    refine s_kok R (t_192 hm R.S) (Nat.le_of_ble_eq_true rfl) ?_
    refine s_call R (Nat.zero_le _) (fun _ hq => SX35_means (b := 0) hm (R.rf) rfl rl6 (c_lit 20 20 rfl) ⟨by decide, by decide⟩ hq) hF (fun f3 rv3 h3 q3 R3 e3 E3 hF => ?_)
    refine s_if (i_eq e3.1 (c_lit 0 0 rfl) e3.2 ⟨by decide, by decide⟩) hF (fun c4 hF => ?_) (fun c4 hF => ?_)
    ·
      exact SX35_drop_b198 (N := N) (k15 := k15) (K15 := K15) hm @hk15 R3 rfl rl1 rfl rl2 rfl rl3 rfl rl4 rfl rl5 hF
    ·
      refine s_gAs R3 (t_192 hm R3.S) (Nat.le_of_ble_eq_true rfl) rfl (o_192_42 hm R3.S) (a_281 hm R3) ?_
      refine s_rI R3 (u_281 hm R3.S).1 (u_281 hm R3.S).2 (by decide) (a_281 hm R3) rfl rl1 hF (fun x7 ra6 hF => ?_)
      refine s_if (not_congr (i_eq rfl (c_lit 0 0 rfl) ra6 ⟨by decide, by decide⟩)) hF (fun c7 hF => ?_) (fun c7 hF => ?_)
      ·
        exact SX35_drop_b159 (N := N) (k15 := k15) (K15 := K15) hm @hk15 R3 rfl rl1 rfl rl2 rfl rl3 rfl rl4 hF
      ·
        refine s_kok R3 (t_192 hm R3.S) (Nat.le_of_ble_eq_true rfl) ?_
        refine s_call R3 (Nat.zero_le _) (fun _ hq => SX35_fail (b := 0) hm (R3.rf) (c_lit 8 8 rfl) ⟨by decide, by decide⟩ hq) hF (fun f9 rv9 h9 q11 R9 e9 E9 hF => ?_)
        exact SX35_drop_b159 (N := N) (k15 := k15) (K15 := K15) hm @hk15 R9 rfl rl1 rfl rl2 rfl rl3 rfl rl4 hF
def FX35_drop_b15 (N : Nat) : Nat → Int → Int → Int → Int → Int → fS → Option (Unit × fS)
  | 0, _, _, _, _, _, _ => none
  | n + 1, l1, l2, l3, l4, l5, s =>
    if l5 = 0 then
      some ((), s)
    else
      (FX35_need N s).bind fun q3 =>
      if (q3.2.i 192 46) ≤ 0 then
        (FX35_isCondition q3.1 q3.2).bind fun q8 =>
        if q8.1 = 0 then
          (FX35_means q3.1 21 q8.2).bind fun q11 =>
          if q11.1 = 0 then
            if ¬ (l3 = 0) then
              FX35_drop_b129 N (FX35_drop_b15 N n) l1 l2 l3 l4 l5 q3.1 q11.2
            else
              (FX35_means q3.1 19 q11.2).bind fun q15 =>
              if q15.1 = 0 then
                FX35_drop_b129 N (FX35_drop_b15 N n) l1 l2 l3 l4 l5 q3.1 q15.2
              else
                (uQI q15.2 282 l1 2).bind fun σ19 =>
                (uPI σ19 192 41 (iadd l1 1)).bind fun σ21 =>
                FX35_drop_b198 N (FX35_drop_b15 N n) l1 l2 l3 l4 0 σ21
          else
            if l3 ≤ 0 then
              FX35_drop_b69 N (FX35_drop_b15 N n) l1 l2 l3 l4 0 q11.2
            else
              FX35_drop_b69 N (FX35_drop_b15 N n) l1 l2 l3 l4 1 q11.2
        else
          FX35_drop_b198 N (FX35_drop_b15 N n) l1 l2 (iadd l3 1) l4 l5 q8.2
      else
        some ((), q3.2)
theorem SX35_drop_b15 {m b : Nat} {φ0 : Nat → Nat} {σo : fS} (hm : 1 ≤ m) {N : Nat} {q : Unit × fS} : ∀ {n : Nat} {φ : Nat → Nat} {h : eH} {s : fS} {l1' : Int32} {l1 : Int} {l2' : Int32} {l2 : Int} {l3' : Int32} {l3 : Int} {l4' : Int32} {l4 : Int} {l5' : Int32} {l5 : Int}, fC m b φ0 σo φ h s → l1' = iI l1 → r32 l1 → l2' = iI l2 → r32 l2 → l3' = iI l3 → r32 l3 → l4' = iI l4 → r32 l4 → l5' = iI l5 → r32 l5 → FX35_drop_b15 N n l1 l2 l3 l4 l5 s = some q → gG m b φ0 σo lU q (fX35_drop_b15 N n 192 l1' l2' l3' l4' l5' h) := by
  intro n
  induction n with
 | zero => intro φ h s l1' l1 l2' l2 l3' l3 l4' l4 l5' l5 R el1 rl1 el2 rl2 el3 rl3 el4 rl4 el5 rl5 hF; simp [FX35_drop_b15] at hF
  | succ n ih =>
    intro φ h s l1' l1 l2' l2 l3' l3 l4' l4 l5' l5 R el1 rl1 el2 rl2 el3 rl3 el4 rl4 el5 rl5 hF
    subst el1; subst el2; subst el3; subst el4; subst el5
    rw [FX35_drop_b15] at hF
    rw [fX35_drop_b15]
    refine s_if (i_eq rfl (c_lit 0 0 rfl) rl5 ⟨by decide, by decide⟩) hF (fun c1 hF => ?_) (fun c1 hF => ?_)
    ·
      exact g_ret R hF trivial
    ·
      refine s_kok R (t_192 hm R.S) (Nat.le_of_ble_eq_true rfl) ?_
      refine s_call R (Nat.zero_le _) (fun _ hq => SX35_need (b := 0) (N := N) hm (R.rf) hq) hF (fun f3 rv3 h3 q3 R3 e3 E3 hF => ?_)
      refine s_gI R3 (t_192 hm R3.S) (Nat.le_of_ble_eq_true rfl) rfl ?_
      refine s_if (i_le rfl (c_lit 0 0 rfl) (R3.ri (t_192 hm R3.S) (Nat.le_of_ble_eq_true rfl) rfl) ⟨by decide, by decide⟩) hF (fun c5 hF => ?_) (fun c5 hF => ?_)
      ·
        refine s_kok R3 (t_192 hm R3.S) (Nat.le_of_ble_eq_true rfl) ?_
        refine s_call R3 (Nat.zero_le _) (fun _ hq => SX35_isCondition (b := 0) hm (R3.rf) e3.1 e3.2 hq) hF (fun f7 rv7 h7 q8 R7 e7 E7 hF => ?_)
        refine s_if (i_eq e7.1 (c_lit 0 0 rfl) e7.2 ⟨by decide, by decide⟩) hF (fun c8 hF => ?_) (fun c8 hF => ?_)
        ·
          refine s_kok R7 (t_192 hm R7.S) (Nat.le_of_ble_eq_true rfl) ?_
          refine s_call R7 (Nat.zero_le _) (fun _ hq => SX35_means (b := 0) hm (R7.rf) e3.1 e3.2 (c_lit 21 21 rfl) ⟨by decide, by decide⟩ hq) hF (fun f10 rv10 h10 q11 R10 e10 E10 hF => ?_)
          refine s_if (i_eq e10.1 (c_lit 0 0 rfl) e10.2 ⟨by decide, by decide⟩) hF (fun c11 hF => ?_) (fun c11 hF => ?_)
          ·
            refine s_if (not_congr (i_eq rfl (c_lit 0 0 rfl) rl3 ⟨by decide, by decide⟩)) hF (fun c12 hF => ?_) (fun c12 hF => ?_)
            ·
              exact SX35_drop_b129 (N := N) (k15 := fX35_drop_b15 N n) (K15 := FX35_drop_b15 N n) hm @ih R10 rfl rl1 rfl rl2 rfl rl3 rfl rl4 rfl rl5 e3.1 e3.2 hF
            ·
              refine s_kok R10 (t_192 hm R10.S) (Nat.le_of_ble_eq_true rfl) ?_
              refine s_call R10 (Nat.zero_le _) (fun _ hq => SX35_means (b := 0) hm (R10.rf) e3.1 e3.2 (c_lit 19 19 rfl) ⟨by decide, by decide⟩ hq) hF (fun f14 rv14 h14 q15 R14 e14 E14 hF => ?_)
              refine s_if (i_eq e14.1 (c_lit 0 0 rfl) e14.2 ⟨by decide, by decide⟩) hF (fun c15 hF => ?_) (fun c15 hF => ?_)
              ·
                exact SX35_drop_b129 (N := N) (k15 := fX35_drop_b15 N n) (K15 := FX35_drop_b15 N n) hm @ih R14 rfl rl1 rfl rl2 rfl rl3 rfl rl4 rfl rl5 e3.1 e3.2 hF
              ·
                refine s_gAs R14 (t_192 hm R14.S) (Nat.le_of_ble_eq_true rfl) rfl (o_192_43 hm R14.S) (a_282 hm R14) ?_
                refine s_qI R14 (u_282 hm R14.S).1 (u_282 hm R14.S).2 (by decide) (a_282 hm R14) rfl rl1 (c_lit 2 2 rfl) ⟨by decide, by decide⟩ hF (fun h17 σ19 R17 T17 hF => ?_)
                refine s_pI R17 (t_192 hm R17.S) (Nat.le_of_ble_eq_true rfl) rfl (c_add rfl (c_lit 1 1 rfl)) (rr_I _) hF (fun h18 σ21 R18 T18 hF => ?_)
                exact SX35_drop_b198 (N := N) (k15 := fX35_drop_b15 N n) (K15 := FX35_drop_b15 N n) hm @ih R18 rfl rl1 rfl rl2 rfl rl3 rfl rl4 (c_lit 0 0 rfl) ⟨by decide, by decide⟩ hF
          ·
            refine s_if (i_le rfl (c_lit 0 0 rfl) rl3 ⟨by decide, by decide⟩) hF (fun c19 hF => ?_) (fun c19 hF => ?_)
            ·
              exact SX35_drop_b69 (N := N) (k15 := fX35_drop_b15 N n) (K15 := FX35_drop_b15 N n) hm @ih R10 rfl rl1 rfl rl2 rfl rl3 rfl rl4 (c_lit 0 0 rfl) ⟨by decide, by decide⟩ hF
            ·
              exact SX35_drop_b69 (N := N) (k15 := fX35_drop_b15 N n) (K15 := FX35_drop_b15 N n) hm @ih R10 rfl rl1 rfl rl2 rfl rl3 rfl rl4 (c_lit 1 1 rfl) ⟨by decide, by decide⟩ hF
        ·
          exact SX35_drop_b198 (N := N) (k15 := fX35_drop_b15 N n) (K15 := FX35_drop_b15 N n) hm @ih R7 rfl rl1 rfl rl2 (c_add rfl (c_lit 1 1 rfl)) (rr_I _) rfl rl4 rfl rl5 hF
      ·
        exact g_ret R3 hF trivial
def FX35_drop (N : Nat) (p0 : Int) (p1 : Int) (s : fS) : Option (Unit × fS) :=
  FX35_drop_b15 N N p0 p1 (isub (isub (s.i 192 41) 1) p0) 0 1 s
theorem SX35_drop {m b : Nat} {φ0 : Nat → Nat} {σo : fS} (hm : 1 ≤ m) {N : Nat} {q : Unit × fS} {φ : Nat → Nat} {h : eH} {s : fS} {p0' : Int32} {p0 : Int} {p1' : Int32} {p1 : Int} (R : fC m b φ0 σo φ h s) (ep0 : p0' = iI p0) (rp0 : r32 p0) (ep1 : p1' = iI p1) (rp1 : r32 p1) (hF : FX35_drop N p0 p1 s = some q) : gG m b φ0 σo lU q (fX35_drop N 192 p0' p1' h) := by
  subst ep0; subst ep1
  unfold FX35_drop at hF
  unfold fX35_drop
  refine s_gI R (t_192 hm R.S) (Nat.le_of_ble_eq_true rfl) rfl ?_
  exact SX35_drop_b15 (N := N) hm R rfl rp0 rfl rp1 (c_sub (c_sub rfl (c_lit 1 1 rfl)) rfl) (rr_I _) (c_lit 0 0 rfl) ⟨by decide, by decide⟩ (c_lit 1 1 rfl) ⟨by decide, by decide⟩ hF
def FX35_condition_b399 (N : Nat) (SE : Int → fS → Option (Unit × fS)) (SN : fS → Option (Int × fS)) (s : fS) : Option (Unit × fS) :=
  some ((), s)
theorem SX35_condition_b399 {m b : Nat} {φ0 : Nat → Nat} {σo : fS} (hm : 1 ≤ m) {N : Nat} {sE : Nat → Int32 → eH → Option (Unit × eH)} {SE : Int → fS → Option (Unit × fS)} {sN : Nat → eH → Option (Int32 × eH)} {SN : fS → Option (Int × fS)} {q : Unit × fS} (hsE : ∀ {φ : Nat → Nat} {h : eH} {s : fS} {x1' : Int32} {x1 : Int} {q}, fC m 1 φ s φ h s → x1' = iI x1 → r32 x1 → SE x1 s = some q → gG m 1 φ s lU q (sE 192 x1' h)) (hsN : ∀ {φ : Nat → Nat} {h : eH} {s : fS} {q}, fC m 1 φ s φ h s → SN s = some q → gG m 1 φ s lI q (sN 192 h)) {φ : Nat → Nat} {h : eH} {s : fS} (R : fC m b φ0 σo φ h s) (hF : FX35_condition_b399 N SE SN s = some q) : gG m b φ0 σo lU q (fX35_condition_b399 N sE sN h) := by
  unfold FX35_condition_b399 at hF
  unfold fX35_condition_b399
  exact g_ret R hF trivial
def FX35_condition_b396 (N : Nat) (SE : Int → fS → Option (Unit × fS)) (SN : fS → Option (Int × fS)) (s1 : Int) (s2 : Int) (s : fS) : Option (Unit × fS) :=
  (FX35_drop N s1 s2 s).bind fun q2 =>
  FX35_condition_b399 N SE SN q2.2
theorem SX35_condition_b396 {m b : Nat} {φ0 : Nat → Nat} {σo : fS} (hm : 1 ≤ m) {N : Nat} {sE : Nat → Int32 → eH → Option (Unit × eH)} {SE : Int → fS → Option (Unit × fS)} {sN : Nat → eH → Option (Int32 × eH)} {SN : fS → Option (Int × fS)} {q : Unit × fS} (hsE : ∀ {φ : Nat → Nat} {h : eH} {s : fS} {x1' : Int32} {x1 : Int} {q}, fC m 1 φ s φ h s → x1' = iI x1 → r32 x1 → SE x1 s = some q → gG m 1 φ s lU q (sE 192 x1' h)) (hsN : ∀ {φ : Nat → Nat} {h : eH} {s : fS} {q}, fC m 1 φ s φ h s → SN s = some q → gG m 1 φ s lI q (sN 192 h)) {φ : Nat → Nat} {h : eH} {s : fS} {s1' : Int32} {s1 : Int} {s2' : Int32} {s2 : Int} (R : fC m b φ0 σo φ h s) (es1 : s1' = iI s1) (rs1 : r32 s1) (es2 : s2' = iI s2) (rs2 : r32 s2) (hF : FX35_condition_b396 N SE SN s1 s2 s = some q) : gG m b φ0 σo lU q (fX35_condition_b396 N sE sN 192 s1' s2' h) := by
  subst es1; subst es2
  unfold FX35_condition_b396 at hF
  unfold fX35_condition_b396
  refine s_kok R (t_192 hm R.S) (Nat.le_of_ble_eq_true rfl) ?_
  refine s_call R (Nat.zero_le _) (fun _ hq => SX35_drop (b := 0) (N := N) hm (R.rf) rfl rs1 rfl rs2 hq) hF (fun f2 rv2 h2 q2 R2 e2 E2 hF => ?_)
  exact SX35_condition_b399 (N := N) (sE := sE) (SE := SE) (sN := sN) (SN := SN) hm @hsE @hsN R2 hF
def FX35_condition_b363 (N : Nat) (SE : Int → fS → Option (Unit × fS)) (SN : fS → Option (Int × fS)) (l1 : Int) (l2 : Int) (l3 : Int) (l4 : Int) (s : fS) : Option (Unit × fS) :=
  if (s.i 192 46) ≤ 0 then
    (uQI s 282 l2 1).bind fun σ6 =>
    if ¬ (l3 = 0) then
      FX35_condition_b399 N SE SN σ6
    else
      if ¬ (l1 = 18) then
        FX35_condition_b396 N SE SN l2 (-1) σ6
      else
        FX35_condition_b396 N SE SN l2 l4 σ6
  else
    some ((), s)
theorem SX35_condition_b363 {m b : Nat} {φ0 : Nat → Nat} {σo : fS} (hm : 1 ≤ m) {N : Nat} {sE : Nat → Int32 → eH → Option (Unit × eH)} {SE : Int → fS → Option (Unit × fS)} {sN : Nat → eH → Option (Int32 × eH)} {SN : fS → Option (Int × fS)} {q : Unit × fS} (hsE : ∀ {φ : Nat → Nat} {h : eH} {s : fS} {x1' : Int32} {x1 : Int} {q}, fC m 1 φ s φ h s → x1' = iI x1 → r32 x1 → SE x1 s = some q → gG m 1 φ s lU q (sE 192 x1' h)) (hsN : ∀ {φ : Nat → Nat} {h : eH} {s : fS} {q}, fC m 1 φ s φ h s → SN s = some q → gG m 1 φ s lI q (sN 192 h)) {φ : Nat → Nat} {h : eH} {s : fS} {l1' : Int32} {l1 : Int} {l2' : Int32} {l2 : Int} {l3' : Int32} {l3 : Int} {l4' : Int32} {l4 : Int} (R : fC m b φ0 σo φ h s) (el1 : l1' = iI l1) (rl1 : r32 l1) (el2 : l2' = iI l2) (rl2 : r32 l2) (el3 : l3' = iI l3) (rl3 : r32 l3) (el4 : l4' = iI l4) (rl4 : r32 l4) (hF : FX35_condition_b363 N SE SN l1 l2 l3 l4 s = some q) : gG m b φ0 σo lU q (fX35_condition_b363 N sE sN 192 l1' l2' l3' l4' h) := by
  subst el1; subst el2; subst el3; subst el4
  unfold FX35_condition_b363 at hF
  unfold fX35_condition_b363
  refine s_gI R (t_192 hm R.S) (Nat.le_of_ble_eq_true rfl) rfl ?_
  refine s_if (i_le rfl (c_lit 0 0 rfl) (R.ri (t_192 hm R.S) (Nat.le_of_ble_eq_true rfl) rfl) ⟨by decide, by decide⟩) hF (fun c2 hF => ?_) (fun c2 hF => ?_)
  ·
    refine s_gAs R (t_192 hm R.S) (Nat.le_of_ble_eq_true rfl) rfl (o_192_43 hm R.S) (a_282 hm R) ?_
    refine s_qI R (u_282 hm R.S).1 (u_282 hm R.S).2 (by decide) (a_282 hm R) rfl rl2 (c_lit 1 1 rfl) ⟨by decide, by decide⟩ hF (fun h4 σ6 R4 T4 hF => ?_)
    refine s_if (not_congr (i_eq rfl (c_lit 0 0 rfl) rl3 ⟨by decide, by decide⟩)) hF (fun c5 hF => ?_) (fun c5 hF => ?_)
    ·
      exact SX35_condition_b399 (N := N) (sE := sE) (SE := SE) (sN := sN) (SN := SN) hm @hsE @hsN R4 hF
    ·
      refine s_if (not_congr (i_eq rfl (c_lit 18 18 rfl) rl1 ⟨by decide, by decide⟩)) hF (fun c6 hF => ?_) (fun c6 hF => ?_)
      ·
        exact SX35_condition_b396 (N := N) (sE := sE) (SE := SE) (sN := sN) (SN := SN) hm @hsE @hsN R4 rfl rl2 (c_lit (-1) (-1) rfl) ⟨by decide, by decide⟩ hF
      ·
        exact SX35_condition_b396 (N := N) (sE := sE) (SE := SE) (sN := sN) (SN := SN) hm @hsE @hsN R4 rfl rl2 rfl rl4 hF
  ·
    exact g_ret R hF trivial
def FX35_condition_b145 (N : Nat) (SE : Int → fS → Option (Unit × fS)) (SN : fS → Option (Int × fS)) (l1 : Int) (l2 : Int) (l4 : Int) (s0 : Int) (s : fS) : Option (Unit × fS) :=
  FX35_condition_b363 N SE SN l1 l2 s0 l4 s
theorem SX35_condition_b145 {m b : Nat} {φ0 : Nat → Nat} {σo : fS} (hm : 1 ≤ m) {N : Nat} {sE : Nat → Int32 → eH → Option (Unit × eH)} {SE : Int → fS → Option (Unit × fS)} {sN : Nat → eH → Option (Int32 × eH)} {SN : fS → Option (Int × fS)} {q : Unit × fS} (hsE : ∀ {φ : Nat → Nat} {h : eH} {s : fS} {x1' : Int32} {x1 : Int} {q}, fC m 1 φ s φ h s → x1' = iI x1 → r32 x1 → SE x1 s = some q → gG m 1 φ s lU q (sE 192 x1' h)) (hsN : ∀ {φ : Nat → Nat} {h : eH} {s : fS} {q}, fC m 1 φ s φ h s → SN s = some q → gG m 1 φ s lI q (sN 192 h)) {φ : Nat → Nat} {h : eH} {s : fS} {l1' : Int32} {l1 : Int} {l2' : Int32} {l2 : Int} {l4' : Int32} {l4 : Int} {s0' : Int32} {s0 : Int} (R : fC m b φ0 σo φ h s) (el1 : l1' = iI l1) (rl1 : r32 l1) (el2 : l2' = iI l2) (rl2 : r32 l2) (el4 : l4' = iI l4) (rl4 : r32 l4) (es0 : s0' = iI s0) (rs0 : r32 s0) (hF : FX35_condition_b145 N SE SN l1 l2 l4 s0 s = some q) : gG m b φ0 σo lU q (fX35_condition_b145 N sE sN 192 l1' l2' l4' s0' h) := by
  subst el1; subst el2; subst el4; subst es0
  unfold FX35_condition_b145 at hF
  unfold fX35_condition_b145
  exact SX35_condition_b363 (N := N) (sE := sE) (SE := SE) (sN := sN) (SN := SN) hm @hsE @hsN R rfl rl1 rfl rl2 rfl rs0 rfl rl4 hF
def FX35_condition_b162 (N : Nat) (SE : Int → fS → Option (Unit × fS)) (SN : fS → Option (Int × fS)) (l1 : Int) (l2 : Int) (l4 : Int) (s0 : Int) (s : fS) : Option (Unit × fS) :=
  FX35_condition_b363 N SE SN l1 l2 s0 l4 s
theorem SX35_condition_b162 {m b : Nat} {φ0 : Nat → Nat} {σo : fS} (hm : 1 ≤ m) {N : Nat} {sE : Nat → Int32 → eH → Option (Unit × eH)} {SE : Int → fS → Option (Unit × fS)} {sN : Nat → eH → Option (Int32 × eH)} {SN : fS → Option (Int × fS)} {q : Unit × fS} (hsE : ∀ {φ : Nat → Nat} {h : eH} {s : fS} {x1' : Int32} {x1 : Int} {q}, fC m 1 φ s φ h s → x1' = iI x1 → r32 x1 → SE x1 s = some q → gG m 1 φ s lU q (sE 192 x1' h)) (hsN : ∀ {φ : Nat → Nat} {h : eH} {s : fS} {q}, fC m 1 φ s φ h s → SN s = some q → gG m 1 φ s lI q (sN 192 h)) {φ : Nat → Nat} {h : eH} {s : fS} {l1' : Int32} {l1 : Int} {l2' : Int32} {l2 : Int} {l4' : Int32} {l4 : Int} {s0' : Int32} {s0 : Int} (R : fC m b φ0 σo φ h s) (el1 : l1' = iI l1) (rl1 : r32 l1) (el2 : l2' = iI l2) (rl2 : r32 l2) (el4 : l4' = iI l4) (rl4 : r32 l4) (es0 : s0' = iI s0) (rs0 : r32 s0) (hF : FX35_condition_b162 N SE SN l1 l2 l4 s0 s = some q) : gG m b φ0 σo lU q (fX35_condition_b162 N sE sN 192 l1' l2' l4' s0' h) := by
  subst el1; subst el2; subst el4; subst es0
  unfold FX35_condition_b162 at hF
  unfold fX35_condition_b162
  exact SX35_condition_b363 (N := N) (sE := sE) (SE := SE) (sN := sN) (SN := SN) hm @hsE @hsN R rfl rl1 rfl rl2 rfl rs0 rfl rl4 hF
def FX35_condition_b189 (N : Nat) (SE : Int → fS → Option (Unit × fS)) (SN : fS → Option (Int × fS)) (l1 : Int) (l2 : Int) (l4 : Int) (s0 : Int) (s : fS) : Option (Unit × fS) :=
  FX35_condition_b363 N SE SN l1 l2 s0 l4 s
theorem SX35_condition_b189 {m b : Nat} {φ0 : Nat → Nat} {σo : fS} (hm : 1 ≤ m) {N : Nat} {sE : Nat → Int32 → eH → Option (Unit × eH)} {SE : Int → fS → Option (Unit × fS)} {sN : Nat → eH → Option (Int32 × eH)} {SN : fS → Option (Int × fS)} {q : Unit × fS} (hsE : ∀ {φ : Nat → Nat} {h : eH} {s : fS} {x1' : Int32} {x1 : Int} {q}, fC m 1 φ s φ h s → x1' = iI x1 → r32 x1 → SE x1 s = some q → gG m 1 φ s lU q (sE 192 x1' h)) (hsN : ∀ {φ : Nat → Nat} {h : eH} {s : fS} {q}, fC m 1 φ s φ h s → SN s = some q → gG m 1 φ s lI q (sN 192 h)) {φ : Nat → Nat} {h : eH} {s : fS} {l1' : Int32} {l1 : Int} {l2' : Int32} {l2 : Int} {l4' : Int32} {l4 : Int} {s0' : Int32} {s0 : Int} (R : fC m b φ0 σo φ h s) (el1 : l1' = iI l1) (rl1 : r32 l1) (el2 : l2' = iI l2) (rl2 : r32 l2) (el4 : l4' = iI l4) (rl4 : r32 l4) (es0 : s0' = iI s0) (rs0 : r32 s0) (hF : FX35_condition_b189 N SE SN l1 l2 l4 s0 s = some q) : gG m b φ0 σo lU q (fX35_condition_b189 N sE sN 192 l1' l2' l4' s0' h) := by
  subst el1; subst el2; subst el4; subst es0
  unfold FX35_condition_b189 at hF
  unfold fX35_condition_b189
  exact SX35_condition_b363 (N := N) (sE := sE) (SE := SE) (sN := sN) (SN := SN) hm @hsE @hsN R rfl rl1 rfl rl2 rfl rs0 rfl rl4 hF
def FX35_condition_b254 (N : Nat) (SE : Int → fS → Option (Unit × fS)) (SN : fS → Option (Int × fS)) (l1 : Int) (l2 : Int) (l4 : Int) (s0 : Int) (s : fS) : Option (Unit × fS) :=
  FX35_condition_b363 N SE SN l1 l2 s0 l4 s
theorem SX35_condition_b254 {m b : Nat} {φ0 : Nat → Nat} {σo : fS} (hm : 1 ≤ m) {N : Nat} {sE : Nat → Int32 → eH → Option (Unit × eH)} {SE : Int → fS → Option (Unit × fS)} {sN : Nat → eH → Option (Int32 × eH)} {SN : fS → Option (Int × fS)} {q : Unit × fS} (hsE : ∀ {φ : Nat → Nat} {h : eH} {s : fS} {x1' : Int32} {x1 : Int} {q}, fC m 1 φ s φ h s → x1' = iI x1 → r32 x1 → SE x1 s = some q → gG m 1 φ s lU q (sE 192 x1' h)) (hsN : ∀ {φ : Nat → Nat} {h : eH} {s : fS} {q}, fC m 1 φ s φ h s → SN s = some q → gG m 1 φ s lI q (sN 192 h)) {φ : Nat → Nat} {h : eH} {s : fS} {l1' : Int32} {l1 : Int} {l2' : Int32} {l2 : Int} {l4' : Int32} {l4 : Int} {s0' : Int32} {s0 : Int} (R : fC m b φ0 σo φ h s) (el1 : l1' = iI l1) (rl1 : r32 l1) (el2 : l2' = iI l2) (rl2 : r32 l2) (el4 : l4' = iI l4) (rl4 : r32 l4) (es0 : s0' = iI s0) (rs0 : r32 s0) (hF : FX35_condition_b254 N SE SN l1 l2 l4 s0 s = some q) : gG m b φ0 σo lU q (fX35_condition_b254 N sE sN 192 l1' l2' l4' s0' h) := by
  subst el1; subst el2; subst el4; subst es0
  unfold FX35_condition_b254 at hF
  unfold fX35_condition_b254
  exact SX35_condition_b363 (N := N) (sE := sE) (SE := SE) (sN := sN) (SN := SN) hm @hsE @hsN R rfl rl1 rfl rl2 rfl rs0 rfl rl4 hF
def FX35_condition_b253 (N : Nat) (SE : Int → fS → Option (Unit × fS)) (SN : fS → Option (Int × fS)) (l1 : Int) (l2 : Int) (l4 : Int) (s : fS) : Option (Unit × fS) :=
  FX35_condition_b254 N SE SN l1 l2 l4 0 s
theorem SX35_condition_b253 {m b : Nat} {φ0 : Nat → Nat} {σo : fS} (hm : 1 ≤ m) {N : Nat} {sE : Nat → Int32 → eH → Option (Unit × eH)} {SE : Int → fS → Option (Unit × fS)} {sN : Nat → eH → Option (Int32 × eH)} {SN : fS → Option (Int × fS)} {q : Unit × fS} (hsE : ∀ {φ : Nat → Nat} {h : eH} {s : fS} {x1' : Int32} {x1 : Int} {q}, fC m 1 φ s φ h s → x1' = iI x1 → r32 x1 → SE x1 s = some q → gG m 1 φ s lU q (sE 192 x1' h)) (hsN : ∀ {φ : Nat → Nat} {h : eH} {s : fS} {q}, fC m 1 φ s φ h s → SN s = some q → gG m 1 φ s lI q (sN 192 h)) {φ : Nat → Nat} {h : eH} {s : fS} {l1' : Int32} {l1 : Int} {l2' : Int32} {l2 : Int} {l4' : Int32} {l4 : Int} (R : fC m b φ0 σo φ h s) (el1 : l1' = iI l1) (rl1 : r32 l1) (el2 : l2' = iI l2) (rl2 : r32 l2) (el4 : l4' = iI l4) (rl4 : r32 l4) (hF : FX35_condition_b253 N SE SN l1 l2 l4 s = some q) : gG m b φ0 σo lU q (fX35_condition_b253 N sE sN 192 l1' l2' l4' h) := by
  subst el1; subst el2; subst el4
  unfold FX35_condition_b253 at hF
  unfold fX35_condition_b253
  exact SX35_condition_b254 (N := N) (sE := sE) (SE := SE) (sN := sN) (SN := SN) hm @hsE @hsN R rfl rl1 rfl rl2 rfl rl4 (c_lit 0 0 rfl) ⟨by decide, by decide⟩ hF
def FX35_condition_b243 (N : Nat) (SE : Int → fS → Option (Unit × fS)) (SN : fS → Option (Int × fS)) (l1 : Int) (l2 : Int) (l4 : Int) (s0 : Int) (s2 : Int) (s3 : Int) (s : fS) : Option (Unit × fS) :=
  (FX35_shape s2 s3 s).bind fun q2 =>
  if ¬ (s0 = q2.1) then
    FX35_condition_b253 N SE SN l1 l2 l4 q2.2
  else
    FX35_condition_b254 N SE SN l1 l2 l4 1 q2.2
theorem SX35_condition_b243 {m b : Nat} {φ0 : Nat → Nat} {σo : fS} (hm : 1 ≤ m) {N : Nat} {sE : Nat → Int32 → eH → Option (Unit × eH)} {SE : Int → fS → Option (Unit × fS)} {sN : Nat → eH → Option (Int32 × eH)} {SN : fS → Option (Int × fS)} {q : Unit × fS} (hsE : ∀ {φ : Nat → Nat} {h : eH} {s : fS} {x1' : Int32} {x1 : Int} {q}, fC m 1 φ s φ h s → x1' = iI x1 → r32 x1 → SE x1 s = some q → gG m 1 φ s lU q (sE 192 x1' h)) (hsN : ∀ {φ : Nat → Nat} {h : eH} {s : fS} {q}, fC m 1 φ s φ h s → SN s = some q → gG m 1 φ s lI q (sN 192 h)) {φ : Nat → Nat} {h : eH} {s : fS} {l1' : Int32} {l1 : Int} {l2' : Int32} {l2 : Int} {l4' : Int32} {l4 : Int} {s0' : Int32} {s0 : Int} {s2' : Int32} {s2 : Int} {s3' : Int32} {s3 : Int} (R : fC m b φ0 σo φ h s) (el1 : l1' = iI l1) (rl1 : r32 l1) (el2 : l2' = iI l2) (rl2 : r32 l2) (el4 : l4' = iI l4) (rl4 : r32 l4) (es0 : s0' = iI s0) (rs0 : r32 s0) (es2 : s2' = iI s2) (rs2 : r32 s2) (es3 : s3' = iI s3) (rs3 : r32 s3) (hF : FX35_condition_b243 N SE SN l1 l2 l4 s0 s2 s3 s = some q) : gG m b φ0 σo lU q (fX35_condition_b243 N sE sN 192 l1' l2' l4' s0' 192 s2' s3' h) := by
  subst el1; subst el2; subst el4; subst es0; subst es2; subst es3
  unfold FX35_condition_b243 at hF
  unfold fX35_condition_b243
  refine s_kok R (t_192 hm R.S) (Nat.le_of_ble_eq_true rfl) ?_
  refine s_call R (Nat.zero_le _) (fun _ hq => SX35_shape (b := 0) hm (R.rf) rfl rs2 rfl rs3 hq) hF (fun f2 rv2 h2 q2 R2 e2 E2 hF => ?_)
  refine s_if (not_congr (i_eq rfl e2.1 rs0 e2.2)) hF (fun c3 hF => ?_) (fun c3 hF => ?_)
  ·
    exact SX35_condition_b253 (N := N) (sE := sE) (SE := SE) (sN := sN) (SN := SN) hm @hsE @hsN R2 rfl rl1 rfl rl2 rfl rl4 hF
  ·
    exact SX35_condition_b254 (N := N) (sE := sE) (SE := SE) (sN := sN) (SN := SN) hm @hsE @hsN R2 rfl rl1 rfl rl2 rfl rl4 (c_lit 1 1 rfl) ⟨by decide, by decide⟩ hF
def FX35_condition_b226 (N : Nat) (SE : Int → fS → Option (Unit × fS)) (SN : fS → Option (Int × fS)) (l1 : Int) (l2 : Int) (l4 : Int) (l6 : Int) (s1 : Int) (s2 : Int) (s : fS) : Option (Unit × fS) :=
  (FX35_shape s1 s2 s).bind fun q2 =>
  if ¬ (l1 = 8) then
    FX35_condition_b243 N SE SN l1 l2 l4 q2.1 l6 0 q2.2
  else
    FX35_condition_b243 N SE SN l1 l2 l4 q2.1 l6 1 q2.2
theorem SX35_condition_b226 {m b : Nat} {φ0 : Nat → Nat} {σo : fS} (hm : 1 ≤ m) {N : Nat} {sE : Nat → Int32 → eH → Option (Unit × eH)} {SE : Int → fS → Option (Unit × fS)} {sN : Nat → eH → Option (Int32 × eH)} {SN : fS → Option (Int × fS)} {q : Unit × fS} (hsE : ∀ {φ : Nat → Nat} {h : eH} {s : fS} {x1' : Int32} {x1 : Int} {q}, fC m 1 φ s φ h s → x1' = iI x1 → r32 x1 → SE x1 s = some q → gG m 1 φ s lU q (sE 192 x1' h)) (hsN : ∀ {φ : Nat → Nat} {h : eH} {s : fS} {q}, fC m 1 φ s φ h s → SN s = some q → gG m 1 φ s lI q (sN 192 h)) {φ : Nat → Nat} {h : eH} {s : fS} {l1' : Int32} {l1 : Int} {l2' : Int32} {l2 : Int} {l4' : Int32} {l4 : Int} {l6' : Int32} {l6 : Int} {s1' : Int32} {s1 : Int} {s2' : Int32} {s2 : Int} (R : fC m b φ0 σo φ h s) (el1 : l1' = iI l1) (rl1 : r32 l1) (el2 : l2' = iI l2) (rl2 : r32 l2) (el4 : l4' = iI l4) (rl4 : r32 l4) (el6 : l6' = iI l6) (rl6 : r32 l6) (es1 : s1' = iI s1) (rs1 : r32 s1) (es2 : s2' = iI s2) (rs2 : r32 s2) (hF : FX35_condition_b226 N SE SN l1 l2 l4 l6 s1 s2 s = some q) : gG m b φ0 σo lU q (fX35_condition_b226 N sE sN 192 l1' l2' l4' l6' 192 s1' s2' h) := by
  subst el1; subst el2; subst el4; subst el6; subst es1; subst es2
  unfold FX35_condition_b226 at hF
  unfold fX35_condition_b226
  refine s_kok R (t_192 hm R.S) (Nat.le_of_ble_eq_true rfl) ?_
  refine s_call R (Nat.zero_le _) (fun _ hq => SX35_shape (b := 0) hm (R.rf) rfl rs1 rfl rs2 hq) hF (fun f2 rv2 h2 q2 R2 e2 E2 hF => ?_)
  refine s_if (not_congr (i_eq rfl (c_lit 8 8 rfl) rl1 ⟨by decide, by decide⟩)) hF (fun c3 hF => ?_) (fun c3 hF => ?_)
  ·
    exact SX35_condition_b243 (N := N) (sE := sE) (SE := SE) (sN := sN) (SN := SN) hm @hsE @hsN R2 rfl rl1 rfl rl2 rfl rl4 e2.1 e2.2 rfl rl6 (c_lit 0 0 rfl) ⟨by decide, by decide⟩ hF
  ·
    exact SX35_condition_b243 (N := N) (sE := sE) (SE := SE) (sN := sN) (SN := SN) hm @hsE @hsN R2 rfl rl1 rfl rl2 rfl rl4 e2.1 e2.2 rfl rl6 (c_lit 1 1 rfl) ⟨by decide, by decide⟩ hF
def FX35_condition_b301 (N : Nat) (SE : Int → fS → Option (Unit × fS)) (SN : fS → Option (Int × fS)) (l1 : Int) (l2 : Int) (l4 : Int) (s0 : Int) (s : fS) : Option (Unit × fS) :=
  FX35_condition_b363 N SE SN l1 l2 s0 l4 s
theorem SX35_condition_b301 {m b : Nat} {φ0 : Nat → Nat} {σo : fS} (hm : 1 ≤ m) {N : Nat} {sE : Nat → Int32 → eH → Option (Unit × eH)} {SE : Int → fS → Option (Unit × fS)} {sN : Nat → eH → Option (Int32 × eH)} {SN : fS → Option (Int × fS)} {q : Unit × fS} (hsE : ∀ {φ : Nat → Nat} {h : eH} {s : fS} {x1' : Int32} {x1 : Int} {q}, fC m 1 φ s φ h s → x1' = iI x1 → r32 x1 → SE x1 s = some q → gG m 1 φ s lU q (sE 192 x1' h)) (hsN : ∀ {φ : Nat → Nat} {h : eH} {s : fS} {q}, fC m 1 φ s φ h s → SN s = some q → gG m 1 φ s lI q (sN 192 h)) {φ : Nat → Nat} {h : eH} {s : fS} {l1' : Int32} {l1 : Int} {l2' : Int32} {l2 : Int} {l4' : Int32} {l4 : Int} {s0' : Int32} {s0 : Int} (R : fC m b φ0 σo φ h s) (el1 : l1' = iI l1) (rl1 : r32 l1) (el2 : l2' = iI l2) (rl2 : r32 l2) (el4 : l4' = iI l4) (rl4 : r32 l4) (es0 : s0' = iI s0) (rs0 : r32 s0) (hF : FX35_condition_b301 N SE SN l1 l2 l4 s0 s = some q) : gG m b φ0 σo lU q (fX35_condition_b301 N sE sN 192 l1' l2' l4' s0' h) := by
  subst el1; subst el2; subst el4; subst es0
  unfold FX35_condition_b301 at hF
  unfold fX35_condition_b301
  exact SX35_condition_b363 (N := N) (sE := sE) (SE := SE) (sN := sN) (SN := SN) hm @hsE @hsN R rfl rl1 rfl rl2 rfl rs0 rfl rl4 hF
def FX35_condition_b300 (N : Nat) (SE : Int → fS → Option (Unit × fS)) (SN : fS → Option (Int × fS)) (l1 : Int) (l2 : Int) (l4 : Int) (s : fS) : Option (Unit × fS) :=
  FX35_condition_b301 N SE SN l1 l2 l4 0 s
theorem SX35_condition_b300 {m b : Nat} {φ0 : Nat → Nat} {σo : fS} (hm : 1 ≤ m) {N : Nat} {sE : Nat → Int32 → eH → Option (Unit × eH)} {SE : Int → fS → Option (Unit × fS)} {sN : Nat → eH → Option (Int32 × eH)} {SN : fS → Option (Int × fS)} {q : Unit × fS} (hsE : ∀ {φ : Nat → Nat} {h : eH} {s : fS} {x1' : Int32} {x1 : Int} {q}, fC m 1 φ s φ h s → x1' = iI x1 → r32 x1 → SE x1 s = some q → gG m 1 φ s lU q (sE 192 x1' h)) (hsN : ∀ {φ : Nat → Nat} {h : eH} {s : fS} {q}, fC m 1 φ s φ h s → SN s = some q → gG m 1 φ s lI q (sN 192 h)) {φ : Nat → Nat} {h : eH} {s : fS} {l1' : Int32} {l1 : Int} {l2' : Int32} {l2 : Int} {l4' : Int32} {l4 : Int} (R : fC m b φ0 σo φ h s) (el1 : l1' = iI l1) (rl1 : r32 l1) (el2 : l2' = iI l2) (rl2 : r32 l2) (el4 : l4' = iI l4) (rl4 : r32 l4) (hF : FX35_condition_b300 N SE SN l1 l2 l4 s = some q) : gG m b φ0 σo lU q (fX35_condition_b300 N sE sN 192 l1' l2' l4' h) := by
  subst el1; subst el2; subst el4
  unfold FX35_condition_b300 at hF
  unfold fX35_condition_b300
  exact SX35_condition_b301 (N := N) (sE := sE) (SE := SE) (sN := sN) (SN := SN) hm @hsE @hsN R rfl rl1 rfl rl2 rfl rl4 (c_lit 0 0 rfl) ⟨by decide, by decide⟩ hF
def FX35_condition_b327 (N : Nat) (SE : Int → fS → Option (Unit × fS)) (SN : fS → Option (Int × fS)) (l1 : Int) (l2 : Int) (l4 : Int) (s0 : Int) (s : fS) : Option (Unit × fS) :=
  FX35_condition_b363 N SE SN l1 l2 s0 l4 s
theorem SX35_condition_b327 {m b : Nat} {φ0 : Nat → Nat} {σo : fS} (hm : 1 ≤ m) {N : Nat} {sE : Nat → Int32 → eH → Option (Unit × eH)} {SE : Int → fS → Option (Unit × fS)} {sN : Nat → eH → Option (Int32 × eH)} {SN : fS → Option (Int × fS)} {q : Unit × fS} (hsE : ∀ {φ : Nat → Nat} {h : eH} {s : fS} {x1' : Int32} {x1 : Int} {q}, fC m 1 φ s φ h s → x1' = iI x1 → r32 x1 → SE x1 s = some q → gG m 1 φ s lU q (sE 192 x1' h)) (hsN : ∀ {φ : Nat → Nat} {h : eH} {s : fS} {q}, fC m 1 φ s φ h s → SN s = some q → gG m 1 φ s lI q (sN 192 h)) {φ : Nat → Nat} {h : eH} {s : fS} {l1' : Int32} {l1 : Int} {l2' : Int32} {l2 : Int} {l4' : Int32} {l4 : Int} {s0' : Int32} {s0 : Int} (R : fC m b φ0 σo φ h s) (el1 : l1' = iI l1) (rl1 : r32 l1) (el2 : l2' = iI l2) (rl2 : r32 l2) (el4 : l4' = iI l4) (rl4 : r32 l4) (es0 : s0' = iI s0) (rs0 : r32 s0) (hF : FX35_condition_b327 N SE SN l1 l2 l4 s0 s = some q) : gG m b φ0 σo lU q (fX35_condition_b327 N sE sN 192 l1' l2' l4' s0' h) := by
  subst el1; subst el2; subst el4; subst es0
  unfold FX35_condition_b327 at hF
  unfold fX35_condition_b327
  exact SX35_condition_b363 (N := N) (sE := sE) (SE := SE) (sN := sN) (SN := SN) hm @hsE @hsN R rfl rl1 rfl rl2 rfl rs0 rfl rl4 hF
def FX35_condition_b347 (N : Nat) (SE : Int → fS → Option (Unit × fS)) (SN : fS → Option (Int × fS)) (l1 : Int) (l2 : Int) (l4 : Int) (s0 : Int) (s : fS) : Option (Unit × fS) :=
  FX35_condition_b363 N SE SN l1 l2 s0 l4 s
theorem SX35_condition_b347 {m b : Nat} {φ0 : Nat → Nat} {σo : fS} (hm : 1 ≤ m) {N : Nat} {sE : Nat → Int32 → eH → Option (Unit × eH)} {SE : Int → fS → Option (Unit × fS)} {sN : Nat → eH → Option (Int32 × eH)} {SN : fS → Option (Int × fS)} {q : Unit × fS} (hsE : ∀ {φ : Nat → Nat} {h : eH} {s : fS} {x1' : Int32} {x1 : Int} {q}, fC m 1 φ s φ h s → x1' = iI x1 → r32 x1 → SE x1 s = some q → gG m 1 φ s lU q (sE 192 x1' h)) (hsN : ∀ {φ : Nat → Nat} {h : eH} {s : fS} {q}, fC m 1 φ s φ h s → SN s = some q → gG m 1 φ s lI q (sN 192 h)) {φ : Nat → Nat} {h : eH} {s : fS} {l1' : Int32} {l1 : Int} {l2' : Int32} {l2 : Int} {l4' : Int32} {l4 : Int} {s0' : Int32} {s0 : Int} (R : fC m b φ0 σo φ h s) (el1 : l1' = iI l1) (rl1 : r32 l1) (el2 : l2' = iI l2) (rl2 : r32 l2) (el4 : l4' = iI l4) (rl4 : r32 l4) (es0 : s0' = iI s0) (rs0 : r32 s0) (hF : FX35_condition_b347 N SE SN l1 l2 l4 s0 s = some q) : gG m b φ0 σo lU q (fX35_condition_b347 N sE sN 192 l1' l2' l4' s0' h) := by
  subst el1; subst el2; subst el4; subst es0
  unfold FX35_condition_b347 at hF
  unfold fX35_condition_b347
  exact SX35_condition_b363 (N := N) (sE := sE) (SE := SE) (sN := sN) (SN := SN) hm @hsE @hsN R rfl rl1 rfl rl2 rfl rs0 rfl rl4 hF
def FX35_condition_b362 (N : Nat) (SE : Int → fS → Option (Unit × fS)) (SN : fS → Option (Int × fS)) (l1 : Int) (l2 : Int) (l4 : Int) (s0 : Int) (s : fS) : Option (Unit × fS) :=
  FX35_condition_b363 N SE SN l1 l2 s0 l4 s
theorem SX35_condition_b362 {m b : Nat} {φ0 : Nat → Nat} {σo : fS} (hm : 1 ≤ m) {N : Nat} {sE : Nat → Int32 → eH → Option (Unit × eH)} {SE : Int → fS → Option (Unit × fS)} {sN : Nat → eH → Option (Int32 × eH)} {SN : fS → Option (Int × fS)} {q : Unit × fS} (hsE : ∀ {φ : Nat → Nat} {h : eH} {s : fS} {x1' : Int32} {x1 : Int} {q}, fC m 1 φ s φ h s → x1' = iI x1 → r32 x1 → SE x1 s = some q → gG m 1 φ s lU q (sE 192 x1' h)) (hsN : ∀ {φ : Nat → Nat} {h : eH} {s : fS} {q}, fC m 1 φ s φ h s → SN s = some q → gG m 1 φ s lI q (sN 192 h)) {φ : Nat → Nat} {h : eH} {s : fS} {l1' : Int32} {l1 : Int} {l2' : Int32} {l2 : Int} {l4' : Int32} {l4 : Int} {s0' : Int32} {s0 : Int} (R : fC m b φ0 σo φ h s) (el1 : l1' = iI l1) (rl1 : r32 l1) (el2 : l2' = iI l2) (rl2 : r32 l2) (el4 : l4' = iI l4) (rl4 : r32 l4) (es0 : s0' = iI s0) (rs0 : r32 s0) (hF : FX35_condition_b362 N SE SN l1 l2 l4 s0 s = some q) : gG m b φ0 σo lU q (fX35_condition_b362 N sE sN 192 l1' l2' l4' s0' h) := by
  subst el1; subst el2; subst el4; subst es0
  unfold FX35_condition_b362 at hF
  unfold fX35_condition_b362
  exact SX35_condition_b363 (N := N) (sE := sE) (SE := SE) (sN := sN) (SN := SN) hm @hsE @hsN R rfl rl1 rfl rl2 rfl rs0 rfl rl4 hF
def FX35_condition_b36 (N : Nat) (SE : Int → fS → Option (Unit × fS)) (SN : fS → Option (Int × fS)) (l1 : Int) (l2 : Int) (s1 : Int) (s2 : Int) (s : fS) : Option (Unit × fS) :=
  (uQI s 281 s1 (iand s2 1)).bind fun σ1 =>
  (uQI σ1 282 l2 0).bind fun σ5 =>
  (uPI σ5 192 41 (iadd (σ5.i 192 41) 1)).bind fun σ9 =>
  if l1 = 7 then
    (FX35_needExpanded N SE σ9).bind fun q13 =>
    (FX35_needExpanded N SE q13.2).bind fun q15 =>
    if ¬ ((q15.2.i 192 46) = 0) then
      FX35_condition_b253 N SE SN l1 l2 0 q15.2
    else
      if ¬ (l1 = 8) then
        FX35_condition_b226 N SE SN l1 l2 0 q15.1 q13.1 0 q15.2
      else
        FX35_condition_b226 N SE SN l1 l2 0 q15.1 q13.1 1 q15.2
  else
    if l1 = 8 then
      (FX35_needExpanded N SE σ9).bind fun q22 =>
      (FX35_needExpanded N SE q22.2).bind fun q24 =>
      if ¬ ((q24.2.i 192 46) = 0) then
        FX35_condition_b253 N SE SN l1 l2 0 q24.2
      else
        if ¬ (l1 = 8) then
          FX35_condition_b226 N SE SN l1 l2 0 q24.1 q22.1 0 q24.2
        else
          FX35_condition_b226 N SE SN l1 l2 0 q24.1 q22.1 1 q24.2
    else
      if l1 = 9 then
        (FX35_need N σ9).bind fun q31 =>
        (FX35_need N q31.2).bind fun q33 =>
        if ¬ ((q33.2.i 192 46) = 0) then
          FX35_condition_b300 N SE SN l1 l2 0 q33.2
        else
          (FX35_meaning q31.1 q33.2).bind fun q38 =>
          (FX35_meaning q33.1 q38.2).bind fun q40 =>
          (FX35_meanSame N q38.1 q40.1 q40.2).bind fun q42 =>
          if q42.1 = 0 then
            FX35_condition_b300 N SE SN l1 l2 0 q42.2
          else
            FX35_condition_b301 N SE SN l1 l2 0 1 q42.2
      else
        if l1 = 10 then
          (FX35_compare N SE SN σ9).bind fun q46 =>
          FX35_condition_b363 N SE SN l1 l2 q46.1 0 q46.2
        else
          if l1 = 11 then
            (FX35_compareSizes N SE SN σ9).bind fun q49 =>
            FX35_condition_b363 N SE SN l1 l2 q49.1 0 q49.2
          else
            if l1 = 12 then
              (SN σ9).bind fun q52 =>
              if (irem q52.1 2) = 0 then
                FX35_condition_b327 N SE SN l1 l2 0 0 q52.2
              else
                FX35_condition_b327 N SE SN l1 l2 0 1 q52.2
            else
              if l1 = 13 then
                (FX35_mode σ9).bind fun q56 =>
                if 2 ≤ q56.1 then
                  FX35_condition_b145 N SE SN l1 l2 0 0 q56.2
                else
                  FX35_condition_b145 N SE SN l1 l2 0 1 q56.2
              else
                if l1 = 14 then
                  (FX35_mode σ9).bind fun q60 =>
                  if q60.1 < 2 then
                    FX35_condition_b162 N SE SN l1 l2 0 0 q60.2
                  else
                    FX35_condition_b162 N SE SN l1 l2 0 1 q60.2
                else
                  if l1 = 15 then
                    (FX35_small SN 255 σ9).bind fun q64 =>
                    (FX35_now (iadd 3299 q64.1) q64.2).bind fun q66 =>
                    if 0 ≤ q66.1 then
                      FX35_condition_b189 N SE SN l1 l2 0 0 q66.2
                    else
                      FX35_condition_b189 N SE SN l1 l2 0 1 q66.2
                  else
                    if l1 = 16 then
                      if ¬ (l1 = 16) then
                        FX35_condition_b362 N SE SN l1 l2 0 0 σ9
                      else
                        FX35_condition_b362 N SE SN l1 l2 0 1 σ9
                    else
                      if l1 = 17 then
                        if ¬ (l1 = 16) then
                          FX35_condition_b362 N SE SN l1 l2 0 0 σ9
                        else
                          FX35_condition_b362 N SE SN l1 l2 0 1 σ9
                      else
                        if l1 = 18 then
                          (SN σ9).bind fun q74 =>
                          if ¬ (q74.1 = 0) then
                            FX35_condition_b347 N SE SN l1 l2 q74.1 0 q74.2
                          else
                            FX35_condition_b347 N SE SN l1 l2 q74.1 1 q74.2
                        else
                          if ¬ (l1 = 16) then
                            FX35_condition_b362 N SE SN l1 l2 0 0 σ9
                          else
                            FX35_condition_b362 N SE SN l1 l2 0 1 σ9
theorem SX35_condition_b36 {m b : Nat} {φ0 : Nat → Nat} {σo : fS} (hm : 1 ≤ m) (hb : 1 ≤ b) {N : Nat} {sE : Nat → Int32 → eH → Option (Unit × eH)} {SE : Int → fS → Option (Unit × fS)} {sN : Nat → eH → Option (Int32 × eH)} {SN : fS → Option (Int × fS)} {q : Unit × fS} (hsE : ∀ {φ : Nat → Nat} {h : eH} {s : fS} {x1' : Int32} {x1 : Int} {q}, fC m 1 φ s φ h s → x1' = iI x1 → r32 x1 → SE x1 s = some q → gG m 1 φ s lU q (sE 192 x1' h)) (hsN : ∀ {φ : Nat → Nat} {h : eH} {s : fS} {q}, fC m 1 φ s φ h s → SN s = some q → gG m 1 φ s lI q (sN 192 h)) {φ : Nat → Nat} {h : eH} {s : fS} {l1' : Int32} {l1 : Int} {l2' : Int32} {l2 : Int} {s1' : Int32} {s1 : Int} {s2' : Int32} {s2 : Int} (R : fC m b φ0 σo φ h s) (el1 : l1' = iI l1) (rl1 : r32 l1) (el2 : l2' = iI l2) (rl2 : r32 l2) (es1 : s1' = iI s1) (rs1 : r32 s1) (es2 : s2' = iI s2) (rs2 : r32 s2) (hF : FX35_condition_b36 N SE SN l1 l2 s1 s2 s = some q) : gG m b φ0 σo lU q (fX35_condition_b36 N sE sN 192 l1' l2' 281 s1' s2' h) := by
  subst el1; subst el2; subst es1; subst es2
  unfold FX35_condition_b36 at hF
  unfold fX35_condition_b36
  refine s_qI R (u_281 hm R.S).1 (u_281 hm R.S).2 (by decide) (a_281 hm R) rfl rs1 (c_and rfl (c_lit 1 1 rfl)) (rr_I _) hF (fun h1 σ1 R1 T1 hF => ?_)
  refine s_gAs R1 (t_192 hm R1.S) (Nat.le_of_ble_eq_true rfl) rfl (o_192_43 hm R1.S) (a_282 hm R1) ?_
  refine s_qI R1 (u_282 hm R1.S).1 (u_282 hm R1.S).2 (by decide) (a_282 hm R1) rfl rl2 (c_lit 0 0 rfl) ⟨by decide, by decide⟩ hF (fun h3 σ5 R3 T3 hF => ?_)
  refine s_gI R3 (t_192 hm R3.S) (Nat.le_of_ble_eq_true rfl) rfl ?_
  refine s_pI R3 (t_192 hm R3.S) (Nat.le_of_ble_eq_true rfl) rfl (c_add rfl (c_lit 1 1 rfl)) (rr_I _) hF (fun h5 σ9 R5 T5 hF => ?_)
  refine s_if (i_eq rfl (c_lit 7 7 rfl) rl1 ⟨by decide, by decide⟩) hF (fun c6 hF => ?_) (fun c6 hF => ?_)
  ·
    refine s_kok R5 (t_192 hm R5.S) (Nat.le_of_ble_eq_true rfl) ?_
    refine s_call R5 hb (fun _ hq => SX35_needExpanded (b := 1) (N := N) (sE := sE) (SE := SE) hm (Nat.le_of_ble_eq_true rfl) @hsE (R5.rf) hq) hF (fun f8 rv8 h8 q13 R8 e8 E8 hF => ?_)
    refine s_kok R8 (t_192 hm R8.S) (Nat.le_of_ble_eq_true rfl) ?_
    refine s_call R8 hb (fun _ hq => SX35_needExpanded (b := 1) (N := N) (sE := sE) (SE := SE) hm (Nat.le_of_ble_eq_true rfl) @hsE (R8.rf) hq) hF (fun f10 rv10 h10 q15 R10 e10 E10 hF => ?_)
    refine s_gI R10 (t_192 hm R10.S) (Nat.le_of_ble_eq_true rfl) rfl ?_
    refine s_if (not_congr (i_eq rfl (c_lit 0 0 rfl) (R10.ri (t_192 hm R10.S) (Nat.le_of_ble_eq_true rfl) rfl) ⟨by decide, by decide⟩)) hF (fun c12 hF => ?_) (fun c12 hF => ?_)
    ·
      exact SX35_condition_b253 (N := N) (sE := sE) (SE := SE) (sN := sN) (SN := SN) hm @hsE @hsN R10 rfl rl1 rfl rl2 (c_lit 0 0 rfl) ⟨by decide, by decide⟩ hF
    ·
      refine s_if (not_congr (i_eq rfl (c_lit 8 8 rfl) rl1 ⟨by decide, by decide⟩)) hF (fun c13 hF => ?_) (fun c13 hF => ?_)
      ·
        exact SX35_condition_b226 (N := N) (sE := sE) (SE := SE) (sN := sN) (SN := SN) hm @hsE @hsN R10 rfl rl1 rfl rl2 (c_lit 0 0 rfl) ⟨by decide, by decide⟩ e10.1 e10.2 e8.1 e8.2 (c_lit 0 0 rfl) ⟨by decide, by decide⟩ hF
      ·
        exact SX35_condition_b226 (N := N) (sE := sE) (SE := SE) (sN := sN) (SN := SN) hm @hsE @hsN R10 rfl rl1 rfl rl2 (c_lit 0 0 rfl) ⟨by decide, by decide⟩ e10.1 e10.2 e8.1 e8.2 (c_lit 1 1 rfl) ⟨by decide, by decide⟩ hF
  ·
    refine s_if (i_eq rfl (c_lit 8 8 rfl) rl1 ⟨by decide, by decide⟩) hF (fun c14 hF => ?_) (fun c14 hF => ?_)
    ·
      refine s_kok R5 (t_192 hm R5.S) (Nat.le_of_ble_eq_true rfl) ?_
      refine s_call R5 hb (fun _ hq => SX35_needExpanded (b := 1) (N := N) (sE := sE) (SE := SE) hm (Nat.le_of_ble_eq_true rfl) @hsE (R5.rf) hq) hF (fun f16 rv16 h16 q22 R16 e16 E16 hF => ?_)
      refine s_kok R16 (t_192 hm R16.S) (Nat.le_of_ble_eq_true rfl) ?_
      refine s_call R16 hb (fun _ hq => SX35_needExpanded (b := 1) (N := N) (sE := sE) (SE := SE) hm (Nat.le_of_ble_eq_true rfl) @hsE (R16.rf) hq) hF (fun f18 rv18 h18 q24 R18 e18 E18 hF => ?_)
      refine s_gI R18 (t_192 hm R18.S) (Nat.le_of_ble_eq_true rfl) rfl ?_
      refine s_if (not_congr (i_eq rfl (c_lit 0 0 rfl) (R18.ri (t_192 hm R18.S) (Nat.le_of_ble_eq_true rfl) rfl) ⟨by decide, by decide⟩)) hF (fun c20 hF => ?_) (fun c20 hF => ?_)
      ·
        exact SX35_condition_b253 (N := N) (sE := sE) (SE := SE) (sN := sN) (SN := SN) hm @hsE @hsN R18 rfl rl1 rfl rl2 (c_lit 0 0 rfl) ⟨by decide, by decide⟩ hF
      ·
        refine s_if (not_congr (i_eq rfl (c_lit 8 8 rfl) rl1 ⟨by decide, by decide⟩)) hF (fun c21 hF => ?_) (fun c21 hF => ?_)
        ·
          exact SX35_condition_b226 (N := N) (sE := sE) (SE := SE) (sN := sN) (SN := SN) hm @hsE @hsN R18 rfl rl1 rfl rl2 (c_lit 0 0 rfl) ⟨by decide, by decide⟩ e18.1 e18.2 e16.1 e16.2 (c_lit 0 0 rfl) ⟨by decide, by decide⟩ hF
        ·
          exact SX35_condition_b226 (N := N) (sE := sE) (SE := SE) (sN := sN) (SN := SN) hm @hsE @hsN R18 rfl rl1 rfl rl2 (c_lit 0 0 rfl) ⟨by decide, by decide⟩ e18.1 e18.2 e16.1 e16.2 (c_lit 1 1 rfl) ⟨by decide, by decide⟩ hF
    ·
      refine s_if (i_eq rfl (c_lit 9 9 rfl) rl1 ⟨by decide, by decide⟩) hF (fun c22 hF => ?_) (fun c22 hF => ?_)
      ·
        refine s_kok R5 (t_192 hm R5.S) (Nat.le_of_ble_eq_true rfl) ?_
        refine s_call R5 (Nat.zero_le _) (fun _ hq => SX35_need (b := 0) (N := N) hm (R5.rf) hq) hF (fun f24 rv24 h24 q31 R24 e24 E24 hF => ?_)
        refine s_kok R24 (t_192 hm R24.S) (Nat.le_of_ble_eq_true rfl) ?_
        refine s_call R24 (Nat.zero_le _) (fun _ hq => SX35_need (b := 0) (N := N) hm (R24.rf) hq) hF (fun f26 rv26 h26 q33 R26 e26 E26 hF => ?_)
        refine s_gI R26 (t_192 hm R26.S) (Nat.le_of_ble_eq_true rfl) rfl ?_
        refine s_if (not_congr (i_eq rfl (c_lit 0 0 rfl) (R26.ri (t_192 hm R26.S) (Nat.le_of_ble_eq_true rfl) rfl) ⟨by decide, by decide⟩)) hF (fun c28 hF => ?_) (fun c28 hF => ?_)
        ·
          exact SX35_condition_b300 (N := N) (sE := sE) (SE := SE) (sN := sN) (SN := SN) hm @hsE @hsN R26 rfl rl1 rfl rl2 (c_lit 0 0 rfl) ⟨by decide, by decide⟩ hF
        ·
          refine s_kok R26 (t_192 hm R26.S) (Nat.le_of_ble_eq_true rfl) ?_
          refine s_call R26 (Nat.zero_le _) (fun _ hq => SX35_meaning (b := 0) hm (R26.rf) e24.1 e24.2 hq) hF (fun f30 rv30 h30 q38 R30 e30 E30 hF => ?_)
          refine s_kok R30 (t_192 hm R30.S) (Nat.le_of_ble_eq_true rfl) ?_
          refine s_call R30 (Nat.zero_le _) (fun _ hq => SX35_meaning (b := 0) hm (R30.rf) e26.1 e26.2 hq) hF (fun f32 rv32 h32 q40 R32 e32 E32 hF => ?_)
          refine s_kok R32 (t_192 hm R32.S) (Nat.le_of_ble_eq_true rfl) ?_
          refine s_call R32 (Nat.zero_le _) (fun _ hq => SX35_meanSame (b := 0) (N := N) hm (R32.rf) e30.1 e30.2 e32.1 e32.2 hq) hF (fun f34 rv34 h34 q42 R34 e34 E34 hF => ?_)
          refine s_if (i_eq e34.1 (c_lit 0 0 rfl) e34.2 ⟨by decide, by decide⟩) hF (fun c35 hF => ?_) (fun c35 hF => ?_)
          ·
            exact SX35_condition_b300 (N := N) (sE := sE) (SE := SE) (sN := sN) (SN := SN) hm @hsE @hsN R34 rfl rl1 rfl rl2 (c_lit 0 0 rfl) ⟨by decide, by decide⟩ hF
          ·
            exact SX35_condition_b301 (N := N) (sE := sE) (SE := SE) (sN := sN) (SN := SN) hm @hsE @hsN R34 rfl rl1 rfl rl2 (c_lit 0 0 rfl) ⟨by decide, by decide⟩ (c_lit 1 1 rfl) ⟨by decide, by decide⟩ hF
      ·
        refine s_if (i_eq rfl (c_lit 10 10 rfl) rl1 ⟨by decide, by decide⟩) hF (fun c36 hF => ?_) (fun c36 hF => ?_)
        ·
          refine s_kok R5 (t_192 hm R5.S) (Nat.le_of_ble_eq_true rfl) ?_
          refine s_call R5 hb (fun _ hq => SX35_compare (b := 1) (N := N) (sE := sE) (SE := SE) (sN := sN) (SN := SN) hm (Nat.le_of_ble_eq_true rfl) @hsE @hsN (R5.rf) hq) hF (fun f38 rv38 h38 q46 R38 e38 E38 hF => ?_)
          exact SX35_condition_b363 (N := N) (sE := sE) (SE := SE) (sN := sN) (SN := SN) hm @hsE @hsN R38 rfl rl1 rfl rl2 e38.1 e38.2 (c_lit 0 0 rfl) ⟨by decide, by decide⟩ hF
        ·
          refine s_if (i_eq rfl (c_lit 11 11 rfl) rl1 ⟨by decide, by decide⟩) hF (fun c39 hF => ?_) (fun c39 hF => ?_)
          ·
            refine s_kok R5 (t_192 hm R5.S) (Nat.le_of_ble_eq_true rfl) ?_
            refine s_call R5 hb (fun _ hq => SX35_compareSizes (b := 1) (N := N) (sE := sE) (SE := SE) (sN := sN) (SN := SN) hm (Nat.le_of_ble_eq_true rfl) @hsE @hsN (R5.rf) hq) hF (fun f41 rv41 h41 q49 R41 e41 E41 hF => ?_)
            exact SX35_condition_b363 (N := N) (sE := sE) (SE := SE) (sN := sN) (SN := SN) hm @hsE @hsN R41 rfl rl1 rfl rl2 e41.1 e41.2 (c_lit 0 0 rfl) ⟨by decide, by decide⟩ hF
          ·
            refine s_if (i_eq rfl (c_lit 12 12 rfl) rl1 ⟨by decide, by decide⟩) hF (fun c42 hF => ?_) (fun c42 hF => ?_)
            ·
              refine s_kok R5 (t_192 hm R5.S) (Nat.le_of_ble_eq_true rfl) ?_
              refine s_call R5 hb (fun _ hq => hsN (R5.rf)  hq) hF (fun f44 rv44 h44 q52 R44 e44 E44 hF => ?_)
              refine s_if (i_eq (c_rem e44.1 (c_lit 2 2 rfl)) (c_lit 0 0 rfl) (rr_I _) ⟨by decide, by decide⟩) hF (fun c45 hF => ?_) (fun c45 hF => ?_)
              ·
                exact SX35_condition_b327 (N := N) (sE := sE) (SE := SE) (sN := sN) (SN := SN) hm @hsE @hsN R44 rfl rl1 rfl rl2 (c_lit 0 0 rfl) ⟨by decide, by decide⟩ (c_lit 0 0 rfl) ⟨by decide, by decide⟩ hF
              ·
                exact SX35_condition_b327 (N := N) (sE := sE) (SE := SE) (sN := sN) (SN := SN) hm @hsE @hsN R44 rfl rl1 rfl rl2 (c_lit 0 0 rfl) ⟨by decide, by decide⟩ (c_lit 1 1 rfl) ⟨by decide, by decide⟩ hF
            ·
              refine s_if (i_eq rfl (c_lit 13 13 rfl) rl1 ⟨by decide, by decide⟩) hF (fun c46 hF => ?_) (fun c46 hF => ?_)
              ·
                refine s_kok R5 (t_192 hm R5.S) (Nat.le_of_ble_eq_true rfl) ?_
                refine s_call R5 (Nat.zero_le _) (fun _ hq => SX35_mode (b := 0) hm (R5.rf) hq) hF (fun f48 rv48 h48 q56 R48 e48 E48 hF => ?_)
                refine s_if (i_le (c_lit 2 2 rfl) e48.1 ⟨by decide, by decide⟩ e48.2) hF (fun c49 hF => ?_) (fun c49 hF => ?_)
                ·
                  exact SX35_condition_b145 (N := N) (sE := sE) (SE := SE) (sN := sN) (SN := SN) hm @hsE @hsN R48 rfl rl1 rfl rl2 (c_lit 0 0 rfl) ⟨by decide, by decide⟩ (c_lit 0 0 rfl) ⟨by decide, by decide⟩ hF
                ·
                  exact SX35_condition_b145 (N := N) (sE := sE) (SE := SE) (sN := sN) (SN := SN) hm @hsE @hsN R48 rfl rl1 rfl rl2 (c_lit 0 0 rfl) ⟨by decide, by decide⟩ (c_lit 1 1 rfl) ⟨by decide, by decide⟩ hF
              ·
                refine s_if (i_eq rfl (c_lit 14 14 rfl) rl1 ⟨by decide, by decide⟩) hF (fun c50 hF => ?_) (fun c50 hF => ?_)
                ·
                  refine s_kok R5 (t_192 hm R5.S) (Nat.le_of_ble_eq_true rfl) ?_
                  refine s_call R5 (Nat.zero_le _) (fun _ hq => SX35_mode (b := 0) hm (R5.rf) hq) hF (fun f52 rv52 h52 q60 R52 e52 E52 hF => ?_)
                  refine s_if (i_lt e52.1 (c_lit 2 2 rfl) e52.2 ⟨by decide, by decide⟩) hF (fun c53 hF => ?_) (fun c53 hF => ?_)
                  ·
                    exact SX35_condition_b162 (N := N) (sE := sE) (SE := SE) (sN := sN) (SN := SN) hm @hsE @hsN R52 rfl rl1 rfl rl2 (c_lit 0 0 rfl) ⟨by decide, by decide⟩ (c_lit 0 0 rfl) ⟨by decide, by decide⟩ hF
                  ·
                    exact SX35_condition_b162 (N := N) (sE := sE) (SE := SE) (sN := sN) (SN := SN) hm @hsE @hsN R52 rfl rl1 rfl rl2 (c_lit 0 0 rfl) ⟨by decide, by decide⟩ (c_lit 1 1 rfl) ⟨by decide, by decide⟩ hF
                ·
                  refine s_if (i_eq rfl (c_lit 15 15 rfl) rl1 ⟨by decide, by decide⟩) hF (fun c54 hF => ?_) (fun c54 hF => ?_)
                  ·
                    refine s_kok R5 (t_192 hm R5.S) (Nat.le_of_ble_eq_true rfl) ?_
                    refine s_call R5 hb (fun _ hq => SX35_small (b := 1) (sN := sN) (SN := SN) hm (Nat.le_of_ble_eq_true rfl) @hsN (R5.rf) (c_lit 255 255 rfl) ⟨by decide, by decide⟩ hq) hF (fun f56 rv56 h56 q64 R56 e56 E56 hF => ?_)
                    refine s_kok R56 (t_192 hm R56.S) (Nat.le_of_ble_eq_true rfl) ?_
                    refine s_call R56 (Nat.zero_le _) (fun _ hq => SX35_now (b := 0) hm (R56.rf) (c_add (c_lit 3299 3299 rfl) e56.1) (rr_I _) hq) hF (fun f58 rv58 h58 q66 R58 e58 E58 hF => ?_)
                    refine s_if (i_le (c_lit 0 0 rfl) e58.1 ⟨by decide, by decide⟩ e58.2) hF (fun c59 hF => ?_) (fun c59 hF => ?_)
                    ·
                      exact SX35_condition_b189 (N := N) (sE := sE) (SE := SE) (sN := sN) (SN := SN) hm @hsE @hsN R58 rfl rl1 rfl rl2 (c_lit 0 0 rfl) ⟨by decide, by decide⟩ (c_lit 0 0 rfl) ⟨by decide, by decide⟩ hF
                    ·
                      exact SX35_condition_b189 (N := N) (sE := sE) (SE := SE) (sN := sN) (SN := SN) hm @hsE @hsN R58 rfl rl1 rfl rl2 (c_lit 0 0 rfl) ⟨by decide, by decide⟩ (c_lit 1 1 rfl) ⟨by decide, by decide⟩ hF
                  ·
                    refine s_if (i_eq rfl (c_lit 16 16 rfl) rl1 ⟨by decide, by decide⟩) hF (fun c60 hF => ?_) (fun c60 hF => ?_)
                    ·
                      refine s_if (not_congr (i_eq rfl (c_lit 16 16 rfl) rl1 ⟨by decide, by decide⟩)) hF (fun c61 hF => ?_) (fun c61 hF => ?_)
                      ·
                        exact SX35_condition_b362 (N := N) (sE := sE) (SE := SE) (sN := sN) (SN := SN) hm @hsE @hsN R5 rfl rl1 rfl rl2 (c_lit 0 0 rfl) ⟨by decide, by decide⟩ (c_lit 0 0 rfl) ⟨by decide, by decide⟩ hF
                      ·
                        exact SX35_condition_b362 (N := N) (sE := sE) (SE := SE) (sN := sN) (SN := SN) hm @hsE @hsN R5 rfl rl1 rfl rl2 (c_lit 0 0 rfl) ⟨by decide, by decide⟩ (c_lit 1 1 rfl) ⟨by decide, by decide⟩ hF
                    ·
                      refine s_if (i_eq rfl (c_lit 17 17 rfl) rl1 ⟨by decide, by decide⟩) hF (fun c62 hF => ?_) (fun c62 hF => ?_)
                      ·
                        refine s_if (not_congr (i_eq rfl (c_lit 16 16 rfl) rl1 ⟨by decide, by decide⟩)) hF (fun c63 hF => ?_) (fun c63 hF => ?_)
                        ·
                          exact SX35_condition_b362 (N := N) (sE := sE) (SE := SE) (sN := sN) (SN := SN) hm @hsE @hsN R5 rfl rl1 rfl rl2 (c_lit 0 0 rfl) ⟨by decide, by decide⟩ (c_lit 0 0 rfl) ⟨by decide, by decide⟩ hF
                        ·
                          exact SX35_condition_b362 (N := N) (sE := sE) (SE := SE) (sN := sN) (SN := SN) hm @hsE @hsN R5 rfl rl1 rfl rl2 (c_lit 0 0 rfl) ⟨by decide, by decide⟩ (c_lit 1 1 rfl) ⟨by decide, by decide⟩ hF
                      ·
                        refine s_if (i_eq rfl (c_lit 18 18 rfl) rl1 ⟨by decide, by decide⟩) hF (fun c64 hF => ?_) (fun c64 hF => ?_)
                        ·
                          refine s_kok R5 (t_192 hm R5.S) (Nat.le_of_ble_eq_true rfl) ?_
                          refine s_call R5 hb (fun _ hq => hsN (R5.rf)  hq) hF (fun f66 rv66 h66 q74 R66 e66 E66 hF => ?_)
                          refine s_if (not_congr (i_eq e66.1 (c_lit 0 0 rfl) e66.2 ⟨by decide, by decide⟩)) hF (fun c67 hF => ?_) (fun c67 hF => ?_)
                          ·
                            exact SX35_condition_b347 (N := N) (sE := sE) (SE := SE) (sN := sN) (SN := SN) hm @hsE @hsN R66 rfl rl1 rfl rl2 e66.1 e66.2 (c_lit 0 0 rfl) ⟨by decide, by decide⟩ hF
                          ·
                            exact SX35_condition_b347 (N := N) (sE := sE) (SE := SE) (sN := sN) (SN := SN) hm @hsE @hsN R66 rfl rl1 rfl rl2 e66.1 e66.2 (c_lit 1 1 rfl) ⟨by decide, by decide⟩ hF
                        ·
                          refine s_if (not_congr (i_eq rfl (c_lit 16 16 rfl) rl1 ⟨by decide, by decide⟩)) hF (fun c68 hF => ?_) (fun c68 hF => ?_)
                          ·
                            exact SX35_condition_b362 (N := N) (sE := sE) (SE := SE) (sN := sN) (SN := SN) hm @hsE @hsN R5 rfl rl1 rfl rl2 (c_lit 0 0 rfl) ⟨by decide, by decide⟩ (c_lit 0 0 rfl) ⟨by decide, by decide⟩ hF
                          ·
                            exact SX35_condition_b362 (N := N) (sE := sE) (SE := SE) (sN := sN) (SN := SN) hm @hsE @hsN R5 rfl rl1 rfl rl2 (c_lit 0 0 rfl) ⟨by decide, by decide⟩ (c_lit 1 1 rfl) ⟨by decide, by decide⟩ hF
def FX35_condition (N : Nat) (SE : Int → fS → Option (Unit × fS)) (SN : fS → Option (Int × fS)) (p0 : Int) (s : fS) : Option (Unit × fS) :=
  if ¬ ((s.i 192 41) = 100) then
    if ¬ (p0 = 18) then
      FX35_condition_b36 N SE SN p0 (s.i 192 41) (s.i 192 41) 0 s
    else
      FX35_condition_b36 N SE SN p0 (s.i 192 41) (s.i 192 41) 1 s
  else
    (FX35_fail 2 s).bind fun q10 =>
    some ((), q10.2)
theorem SX35_condition {m b : Nat} {φ0 : Nat → Nat} {σo : fS} (hm : 1 ≤ m) (hb : 1 ≤ b) {N : Nat} {sE : Nat → Int32 → eH → Option (Unit × eH)} {SE : Int → fS → Option (Unit × fS)} {sN : Nat → eH → Option (Int32 × eH)} {SN : fS → Option (Int × fS)} {q : Unit × fS} (hsE : ∀ {φ : Nat → Nat} {h : eH} {s : fS} {x1' : Int32} {x1 : Int} {q}, fC m 1 φ s φ h s → x1' = iI x1 → r32 x1 → SE x1 s = some q → gG m 1 φ s lU q (sE 192 x1' h)) (hsN : ∀ {φ : Nat → Nat} {h : eH} {s : fS} {q}, fC m 1 φ s φ h s → SN s = some q → gG m 1 φ s lI q (sN 192 h)) {φ : Nat → Nat} {h : eH} {s : fS} {p0' : Int32} {p0 : Int} (R : fC m b φ0 σo φ h s) (ep0 : p0' = iI p0) (rp0 : r32 p0) (hF : FX35_condition N SE SN p0 s = some q) : gG m b φ0 σo lU q (fX35_condition N sE sN 192 p0' h) := by
  subst ep0
  unfold FX35_condition at hF
  unfold fX35_condition
  refine s_gI R (t_192 hm R.S) (Nat.le_of_ble_eq_true rfl) rfl ?_
  refine s_if (not_congr (i_eq rfl (c_lit 100 100 rfl) (R.ri (t_192 hm R.S) (Nat.le_of_ble_eq_true rfl) rfl) ⟨by decide, by decide⟩)) hF (fun c2 hF => ?_) (fun c2 hF => ?_)
  ·
    refine s_gI R (t_192 hm R.S) (Nat.le_of_ble_eq_true rfl) rfl ?_
    refine s_gAs R (t_192 hm R.S) (Nat.le_of_ble_eq_true rfl) rfl (o_192_42 hm R.S) (a_281 hm R) ?_
    refine s_if (not_congr (i_eq rfl (c_lit 18 18 rfl) rp0 ⟨by decide, by decide⟩)) hF (fun c5 hF => ?_) (fun c5 hF => ?_)
    ·
      exact SX35_condition_b36 (N := N) (sE := sE) (SE := SE) (sN := sN) (SN := SN) hm hb @hsE @hsN R rfl rp0 rfl (R.ri (t_192 hm R.S) (Nat.le_of_ble_eq_true rfl) rfl) rfl (R.ri (t_192 hm R.S) (Nat.le_of_ble_eq_true rfl) rfl) (c_lit 0 0 rfl) ⟨by decide, by decide⟩ hF
    ·
      exact SX35_condition_b36 (N := N) (sE := sE) (SE := SE) (sN := sN) (SN := SN) hm hb @hsE @hsN R rfl rp0 rfl (R.ri (t_192 hm R.S) (Nat.le_of_ble_eq_true rfl) rfl) rfl (R.ri (t_192 hm R.S) (Nat.le_of_ble_eq_true rfl) rfl) (c_lit 1 1 rfl) ⟨by decide, by decide⟩ hF
  ·
    refine s_kok R (t_192 hm R.S) (Nat.le_of_ble_eq_true rfl) ?_
    refine s_call R (Nat.zero_le _) (fun _ hq => SX35_fail (b := 0) hm (R.rf) (c_lit 2 2 rfl) ⟨by decide, by decide⟩ hq) hF (fun f7 rv7 h7 q10 R7 e7 E7 hF => ?_)
    exact g_ret R7 hF trivial
def FX35_count_b41 (s0 : Int) (s : fS) : Option (Int × fS) :=
  some (s0, s)
theorem SX35_count_b41 {m b : Nat} {φ0 : Nat → Nat} {σo : fS} (hm : 1 ≤ m) {q : Int × fS} {φ : Nat → Nat} {h : eH} {s : fS} {s0' : Int32} {s0 : Int} (R : fC m b φ0 σo φ h s) (es0 : s0' = iI s0) (rs0 : r32 s0) (hF : FX35_count_b41 s0 s = some q) : gG m b φ0 σo lI q (fX35_count_b41 s0' h) := by
  subst es0
  unfold FX35_count_b41 at hF
  unfold fX35_count_b41
  exact g_ret R hF ⟨rfl, rs0⟩
def FX35_count_b17 (l1 : Int) (s1 : Int) (s : fS) : Option (Int × fS) :=
  (uPI s 192 0 s1).bind fun σ1 =>
  if (σ1.i 192 0) ≤ 0 then
    (uRI σ1 265 (iadd 1716 l1)).bind fun x8 =>
    FX35_count_b41 x8 σ1
  else
    FX35_count_b41 0 σ1
theorem SX35_count_b17 {m b : Nat} {φ0 : Nat → Nat} {σo : fS} (hm : 1 ≤ m) {q : Int × fS} {φ : Nat → Nat} {h : eH} {s : fS} {l1' : Int32} {l1 : Int} {s1' : Int32} {s1 : Int} (R : fC m b φ0 σo φ h s) (el1 : l1' = iI l1) (rl1 : r32 l1) (es1 : s1' = iI s1) (rs1 : r32 s1) (hF : FX35_count_b17 l1 s1 s = some q) : gG m b φ0 σo lI q (fX35_count_b17 192 l1' 192 s1' h) := by
  subst el1; subst es1
  unfold FX35_count_b17 at hF
  unfold fX35_count_b17
  refine s_pI R (t_192 hm R.S) (Nat.le_of_ble_eq_true rfl) rfl rfl rs1 hF (fun h1 σ1 R1 T1 hF => ?_)
  refine s_gI R1 (t_192 hm R1.S) (Nat.le_of_ble_eq_true rfl) rfl ?_
  refine s_if (i_le rfl (c_lit 0 0 rfl) (R1.ri (t_192 hm R1.S) (Nat.le_of_ble_eq_true rfl) rfl) ⟨by decide, by decide⟩) hF (fun c3 hF => ?_) (fun c3 hF => ?_)
  ·
    refine s_gAs R1 (t_192 hm R1.S) (Nat.le_of_ble_eq_true rfl) rfl (o_192_22 hm R1.S) (a_265 hm R1) ?_
    refine s_rI R1 (u_265 hm R1.S).1 (u_265 hm R1.S).2 (by decide) (a_265 hm R1) (c_add (c_lit 1716 1716 rfl) rfl) (rr_I _) hF (fun x8 ra5 hF => ?_)
    exact SX35_count_b41 hm R1 rfl ra5 hF
  ·
    exact SX35_count_b41 hm R1 (c_lit 0 0 rfl) ⟨by decide, by decide⟩ hF
def FX35_count_b12 (l1 : Int) (s : fS) : Option (Int × fS) :=
  FX35_count_b17 l1 1 s
theorem SX35_count_b12 {m b : Nat} {φ0 : Nat → Nat} {σo : fS} (hm : 1 ≤ m) {q : Int × fS} {φ : Nat → Nat} {h : eH} {s : fS} {l1' : Int32} {l1 : Int} (R : fC m b φ0 σo φ h s) (el1 : l1' = iI l1) (rl1 : r32 l1) (hF : FX35_count_b12 l1 s = some q) : gG m b φ0 σo lI q (fX35_count_b12 192 l1' 192 h) := by
  subst el1
  unfold FX35_count_b12 at hF
  unfold fX35_count_b12
  exact SX35_count_b17 hm R rfl rl1 (c_lit 1 1 rfl) ⟨by decide, by decide⟩ hF
def FX35_count (p0 : Int) (s : fS) : Option (Int × fS) :=
  if p0 < 0 then
    FX35_count_b12 p0 s
  else
    if p0 ≤ 255 then
      FX35_count_b17 p0 0 s
    else
      FX35_count_b12 p0 s
theorem SX35_count {m b : Nat} {φ0 : Nat → Nat} {σo : fS} (hm : 1 ≤ m) {q : Int × fS} {φ : Nat → Nat} {h : eH} {s : fS} {p0' : Int32} {p0 : Int} (R : fC m b φ0 σo φ h s) (ep0 : p0' = iI p0) (rp0 : r32 p0) (hF : FX35_count p0 s = some q) : gG m b φ0 σo lI q (fX35_count 192 p0' h) := by
  subst ep0
  unfold FX35_count at hF
  unfold fX35_count
  refine s_if (i_lt rfl (c_lit 0 0 rfl) rp0 ⟨by decide, by decide⟩) hF (fun c1 hF => ?_) (fun c1 hF => ?_)
  ·
    exact SX35_count_b12 hm R rfl rp0 hF
  ·
    refine s_if (i_le rfl (c_lit 255 255 rfl) rp0 ⟨by decide, by decide⟩) hF (fun c2 hF => ?_) (fun c2 hF => ?_)
    ·
      exact SX35_count_b17 hm R rfl rp0 (c_lit 0 0 rfl) ⟨by decide, by decide⟩ hF
    ·
      exact SX35_count_b12 hm R rfl rp0 hF
def FX35_target_b58 (N : Nat) (s0 : Int) (s : fS) : Option (Int × fS) :=
  some (s0, s)
theorem SX35_target_b58 {m b : Nat} {φ0 : Nat → Nat} {σo : fS} (hm : 1 ≤ m) {N : Nat} {q : Int × fS} {φ : Nat → Nat} {h : eH} {s : fS} {s0' : Int32} {s0 : Int} (R : fC m b φ0 σo φ h s) (es0 : s0' = iI s0) (rs0 : r32 s0) (hF : FX35_target_b58 N s0 s = some q) : gG m b φ0 σo lI q (fX35_target_b58 N s0' h) := by
  subst es0
  unfold FX35_target_b58 at hF
  unfold fX35_target_b58
  exact g_ret R hF ⟨rfl, rs0⟩
def FX35_target_b42 (N : Nat) (l1 : Int) (s : fS) : Option (Int × fS) :=
  if (s.i 192 46) ≤ 0 then
    (FX35_bare l1 s).bind fun q4 =>
    FX35_target_b58 N q4.1 q4.2
  else
    FX35_target_b58 N 65536 s
theorem SX35_target_b42 {m b : Nat} {φ0 : Nat → Nat} {σo : fS} (hm : 1 ≤ m) {N : Nat} {q : Int × fS} {φ : Nat → Nat} {h : eH} {s : fS} {l1' : Int32} {l1 : Int} (R : fC m b φ0 σo φ h s) (el1 : l1' = iI l1) (rl1 : r32 l1) (hF : FX35_target_b42 N l1 s = some q) : gG m b φ0 σo lI q (fX35_target_b42 N 192 l1' h) := by
  subst el1
  unfold FX35_target_b42 at hF
  unfold fX35_target_b42
  refine s_gI R (t_192 hm R.S) (Nat.le_of_ble_eq_true rfl) rfl ?_
  refine s_if (i_le rfl (c_lit 0 0 rfl) (R.ri (t_192 hm R.S) (Nat.le_of_ble_eq_true rfl) rfl) ⟨by decide, by decide⟩) hF (fun c2 hF => ?_) (fun c2 hF => ?_)
  ·
    refine s_call R (Nat.zero_le _) (fun _ hq => SX35_bare (b := 0) hm (R.rf) rfl rl1 hq) hF (fun f3 rv3 h3 q4 R3 e3 E3 hF => ?_)
    exact SX35_target_b58 (N := N) hm R3 e3.1 e3.2 hF
  ·
    exact SX35_target_b58 (N := N) hm R (c_lit 65536 65536 rfl) ⟨by decide, by decide⟩ hF
def FX35_target_b5 (N : Nat) : Nat → Int → fS → Option (Int × fS)
  | 0, _, _ => none
  | n + 1, l1, s =>
    (FX35_isOf l1 10 s).bind fun q1 =>
    if q1.1 = 0 then
      if ¬ ((q1.2.i 192 46) = 0) then
        FX35_target_b42 N l1 q1.2
      else
        (FX35_isCharacter l1 q1.2).bind fun q6 =>
        if q6.1 = 0 then
          FX35_target_b42 N l1 q6.2
        else
          (FX35_fail 6 q6.2).bind fun q9 =>
          FX35_target_b42 N l1 q9.2
    else
      (FX35_need N q1.2).bind fun q11 =>
      FX35_target_b5 N n q11.1 q11.2
theorem SX35_target_b5 {m b : Nat} {φ0 : Nat → Nat} {σo : fS} (hm : 1 ≤ m) {N : Nat} {q : Int × fS} : ∀ {n : Nat} {φ : Nat → Nat} {h : eH} {s : fS} {l1' : Int32} {l1 : Int}, fC m b φ0 σo φ h s → l1' = iI l1 → r32 l1 → FX35_target_b5 N n l1 s = some q → gG m b φ0 σo lI q (fX35_target_b5 N n 192 l1' h) := by
  intro n
  induction n with
 | zero => intro φ h s l1' l1 R el1 rl1 hF; simp [FX35_target_b5] at hF
  | succ n ih =>
    intro φ h s l1' l1 R el1 rl1 hF
    subst el1
    rw [FX35_target_b5] at hF
    rw [fX35_target_b5]
    refine s_call R (Nat.zero_le _) (fun _ hq => SX35_isOf (b := 0) hm (R.rf) rfl rl1 (c_lit 10 10 rfl) ⟨by decide, by decide⟩ hq) hF (fun f1 rv1 h1 q1 R1 e1 E1 hF => ?_)
    refine s_if (i_eq e1.1 (c_lit 0 0 rfl) e1.2 ⟨by decide, by decide⟩) hF (fun c2 hF => ?_) (fun c2 hF => ?_)
    ·
      refine s_gI R1 (t_192 hm R1.S) (Nat.le_of_ble_eq_true rfl) rfl ?_
      refine s_if (not_congr (i_eq rfl (c_lit 0 0 rfl) (R1.ri (t_192 hm R1.S) (Nat.le_of_ble_eq_true rfl) rfl) ⟨by decide, by decide⟩)) hF (fun c4 hF => ?_) (fun c4 hF => ?_)
      ·
        exact SX35_target_b42 (N := N) hm R1 rfl rl1 hF
      ·
        refine s_call R1 (Nat.zero_le _) (fun _ hq => SX35_isCharacter (b := 0) hm (R1.rf) rfl rl1 hq) hF (fun f5 rv5 h5 q6 R5 e5 E5 hF => ?_)
        refine s_if (i_eq e5.1 (c_lit 0 0 rfl) e5.2 ⟨by decide, by decide⟩) hF (fun c6 hF => ?_) (fun c6 hF => ?_)
        ·
          exact SX35_target_b42 (N := N) hm R5 rfl rl1 hF
        ·
          refine s_kok R5 (t_192 hm R5.S) (Nat.le_of_ble_eq_true rfl) ?_
          refine s_call R5 (Nat.zero_le _) (fun _ hq => SX35_fail (b := 0) hm (R5.rf) (c_lit 6 6 rfl) ⟨by decide, by decide⟩ hq) hF (fun f8 rv8 h8 q9 R8 e8 E8 hF => ?_)
          exact SX35_target_b42 (N := N) hm R8 rfl rl1 hF
    ·
      refine s_kok R1 (t_192 hm R1.S) (Nat.le_of_ble_eq_true rfl) ?_
      refine s_call R1 (Nat.zero_le _) (fun _ hq => SX35_need (b := 0) (N := N) hm (R1.rf) hq) hF (fun f10 rv10 h10 q11 R10 e10 E10 hF => ?_)
      exact ih R10 e10.1 e10.2 hF
def FX35_target (N : Nat) (s : fS) : Option (Int × fS) :=
  (FX35_need N s).bind fun q2 =>
  FX35_target_b5 N N q2.1 q2.2
theorem SX35_target {m b : Nat} {φ0 : Nat → Nat} {σo : fS} (hm : 1 ≤ m) {N : Nat} {q : Int × fS} {φ : Nat → Nat} {h : eH} {s : fS} (R : fC m b φ0 σo φ h s) (hF : FX35_target N s = some q) : gG m b φ0 σo lI q (fX35_target N 192 h) := by
  unfold FX35_target at hF
  unfold fX35_target
  refine s_kok R (t_192 hm R.S) (Nat.le_of_ble_eq_true rfl) ?_
  refine s_call R (Nat.zero_le _) (fun _ hq => SX35_need (b := 0) (N := N) hm (R.rf) hq) hF (fun f2 rv2 h2 q2 R2 e2 E2 hF => ?_)
  exact SX35_target_b5 (N := N) hm R2 e2.1 e2.2 hF
def FX35_keep_b55 (s : fS) : Option (Unit × fS) :=
  some ((), s)
theorem SX35_keep_b55 {m b : Nat} {φ0 : Nat → Nat} {σo : fS} (hm : 1 ≤ m) {q : Unit × fS} {φ : Nat → Nat} {h : eH} {s : fS} (R : fC m b φ0 σo φ h s) (hF : FX35_keep_b55 s = some q) : gG m b φ0 σo lU q (fX35_keep_b55 h) := by
  unfold FX35_keep_b55 at hF
  unfold fX35_keep_b55
  exact g_ret R hF trivial
def FX35_keep (p0 : Int) (s : fS) : Option (Unit × fS) :=
  if (iadd (iadd (s.i 192 35) (s.i 192 30)) 1) < 10000 then
    if ¬ ((s.i 192 46) = 0) then
      FX35_keep_b55 s
    else
      (FX35_bare p0 s).bind fun q13 =>
      (uQI q13.2 277 (s.i 192 35) q13.1).bind fun σ14 =>
      (uPI σ14 192 35 (iadd (σ14.i 192 35) 1)).bind fun σ18 =>
      FX35_keep_b55 σ18
  else
    (FX35_fail 2 s).bind fun q21 =>
    FX35_keep_b55 q21.2
theorem SX35_keep {m b : Nat} {φ0 : Nat → Nat} {σo : fS} (hm : 1 ≤ m) {q : Unit × fS} {φ : Nat → Nat} {h : eH} {s : fS} {p0' : Int32} {p0 : Int} (R : fC m b φ0 σo φ h s) (ep0 : p0' = iI p0) (rp0 : r32 p0) (hF : FX35_keep p0 s = some q) : gG m b φ0 σo lU q (fX35_keep 192 p0' h) := by
  subst ep0
  unfold FX35_keep at hF
  unfold fX35_keep
  refine s_gI R (t_192 hm R.S) (Nat.le_of_ble_eq_true rfl) rfl ?_
  refine s_gI R (t_192 hm R.S) (Nat.le_of_ble_eq_true rfl) rfl ?_
  refine s_if (i_lt (c_add (c_add rfl rfl) (c_lit 1 1 rfl)) (c_lit 10000 10000 rfl) (rr_I _) ⟨by decide, by decide⟩) hF (fun c3 hF => ?_) (fun c3 hF => ?_)
  ·
    refine s_gI R (t_192 hm R.S) (Nat.le_of_ble_eq_true rfl) rfl ?_
    refine s_if (not_congr (i_eq rfl (c_lit 0 0 rfl) (R.ri (t_192 hm R.S) (Nat.le_of_ble_eq_true rfl) rfl) ⟨by decide, by decide⟩)) hF (fun c5 hF => ?_) (fun c5 hF => ?_)
    ·
      exact SX35_keep_b55 hm R hF
    ·
      refine s_gAs R (t_192 hm R.S) (Nat.le_of_ble_eq_true rfl) rfl (o_192_36 hm R.S) (a_277 hm R) ?_
      refine s_gI R (t_192 hm R.S) (Nat.le_of_ble_eq_true rfl) rfl ?_
      refine s_call R (Nat.zero_le _) (fun _ hq => SX35_bare (b := 0) hm (R.rf) rfl rp0 hq) hF (fun f8 rv8 h8 q13 R8 e8 E8 hF => ?_)
      refine s_qI R8 (u_277 hm R8.S).1 (u_277 hm R8.S).2 (by decide) (a_277 hm R8) rfl (R.ri (t_192 hm R.S) (Nat.le_of_ble_eq_true rfl) rfl) e8.1 e8.2 hF (fun h9 σ14 R9 T9 hF => ?_)
      refine s_gI R9 (t_192 hm R9.S) (Nat.le_of_ble_eq_true rfl) rfl ?_
      refine s_pI R9 (t_192 hm R9.S) (Nat.le_of_ble_eq_true rfl) rfl (c_add rfl (c_lit 1 1 rfl)) (rr_I _) hF (fun h11 σ18 R11 T11 hF => ?_)
      exact SX35_keep_b55 hm R11 hF
  ·
    refine s_kok R (t_192 hm R.S) (Nat.le_of_ble_eq_true rfl) ?_
    refine s_call R (Nat.zero_le _) (fun _ hq => SX35_fail (b := 0) hm (R.rf) (c_lit 2 2 rfl) ⟨by decide, by decide⟩ hq) hF (fun f13 rv13 h13 q21 R13 e13 E13 hF => ?_)
    exact SX35_keep_b55 hm R13 hF
def FX35_mean (N : Nat) (p0 : Int) (p1 : Int) (p2 : Int) (s : fS) : Option (Unit × fS) :=
  (FX35_idOf p0 s).bind fun q2 =>
  (FX35_setAt N q2.1 p1 p2 q2.2).bind fun q4 =>
  some ((), q4.2)
theorem SX35_mean {m b : Nat} {φ0 : Nat → Nat} {σo : fS} (hm : 1 ≤ m) {N : Nat} {q : Unit × fS} {φ : Nat → Nat} {h : eH} {s : fS} {p0' : Int32} {p0 : Int} {p1' : Int32} {p1 : Int} {p2' : Int32} {p2 : Int} (R : fC m b φ0 σo φ h s) (ep0 : p0' = iI p0) (rp0 : r32 p0) (ep1 : p1' = iI p1) (rp1 : r32 p1) (ep2 : p2' = iI p2) (rp2 : r32 p2) (hF : FX35_mean N p0 p1 p2 s = some q) : gG m b φ0 σo lU q (fX35_mean N 192 p0' p1' p2' h) := by
  subst ep0; subst ep1; subst ep2
  unfold FX35_mean at hF
  unfold fX35_mean
  refine s_kok R (t_192 hm R.S) (Nat.le_of_ble_eq_true rfl) ?_
  refine s_call R (Nat.zero_le _) (fun _ hq => SX35_idOf (b := 0) hm (R.rf) rfl rp0 hq) hF (fun f2 rv2 h2 q2 R2 e2 E2 hF => ?_)
  refine s_kok R2 (t_192 hm R2.S) (Nat.le_of_ble_eq_true rfl) ?_
  refine s_call R2 (Nat.zero_le _) (fun _ hq => SX35_setAt (b := 0) (N := N) hm (R2.rf) e2.1 e2.2 rfl rp1 rfl rp2 hq) hF (fun f4 rv4 h4 q4 R4 e4 E4 hF => ?_)
  exact g_ret R4 hF trivial
def FX35_define_b153 (N : Nat) (SE : Int → fS → Option (Unit × fS)) (K47 : Int → Int → Int → Int → Int → Int → fS → Option (Unit × fS)) (l1 : Int) (l2 : Int) (l3 : Int) (l4 : Int) (l5 : Int) (s : fS) : Option (Unit × fS) :=
  (FX35_need N s).bind fun q2 =>
  K47 l1 l2 l3 l4 l5 q2.1 q2.2
theorem SX35_define_b153 {m b : Nat} {φ0 : Nat → Nat} {σo : fS} (hm : 1 ≤ m) (hb : 1 ≤ b) {N : Nat} {sE : Nat → Int32 → eH → Option (Unit × eH)} {SE : Int → fS → Option (Unit × fS)} {k47 : Nat → Int32 → Int32 → Int32 → Int32 → Int32 → Int32 → eH → Option (Unit × eH)} {K47 : Int → Int → Int → Int → Int → Int → fS → Option (Unit × fS)} {q : Unit × fS} (hsE : ∀ {φ : Nat → Nat} {h : eH} {s : fS} {x1' : Int32} {x1 : Int} {q}, fC m 1 φ s φ h s → x1' = iI x1 → r32 x1 → SE x1 s = some q → gG m 1 φ s lU q (sE 192 x1' h)) (hk47 : ∀ {φ : Nat → Nat} {h : eH} {s : fS} {l1' : Int32} {l1 : Int} {l2' : Int32} {l2 : Int} {l3' : Int32} {l3 : Int} {l4' : Int32} {l4 : Int} {l5' : Int32} {l5 : Int} {l6' : Int32} {l6 : Int}, fC m b φ0 σo φ h s → l1' = iI l1 → r32 l1 → l2' = iI l2 → r32 l2 → l3' = iI l3 → r32 l3 → l4' = iI l4 → r32 l4 → l5' = iI l5 → r32 l5 → l6' = iI l6 → r32 l6 → K47 l1 l2 l3 l4 l5 l6 s = some q → gG m b φ0 σo lU q (k47 192 l1' l2' l3' l4' l5' l6' h)) {φ : Nat → Nat} {h : eH} {s : fS} {l1' : Int32} {l1 : Int} {l2' : Int32} {l2 : Int} {l3' : Int32} {l3 : Int} {l4' : Int32} {l4 : Int} {l5' : Int32} {l5 : Int} (R : fC m b φ0 σo φ h s) (el1 : l1' = iI l1) (rl1 : r32 l1) (el2 : l2' = iI l2) (rl2 : r32 l2) (el3 : l3' = iI l3) (rl3 : r32 l3) (el4 : l4' = iI l4) (rl4 : r32 l4) (el5 : l5' = iI l5) (rl5 : r32 l5) (hF : FX35_define_b153 N SE K47 l1 l2 l3 l4 l5 s = some q) : gG m b φ0 σo lU q (fX35_define_b153 N sE k47 192 l1' l2' l3' l4' l5' h) := by
  subst el1; subst el2; subst el3; subst el4; subst el5
  unfold FX35_define_b153 at hF
  unfold fX35_define_b153
  refine s_kok R (t_192 hm R.S) (Nat.le_of_ble_eq_true rfl) ?_
  refine s_call R (Nat.zero_le _) (fun _ hq => SX35_need (b := 0) (N := N) hm (R.rf) hq) hF (fun f2 rv2 h2 q2 R2 e2 E2 hF => ?_)
  exact hk47 R2 rfl rl1 rfl rl2 rfl rl3 rfl rl4 rfl rl5 e2.1 e2.2 hF
def FX35_define_b134 (N : Nat) (SE : Int → fS → Option (Unit × fS)) (K47 : Int → Int → Int → Int → Int → Int → fS → Option (Unit × fS)) (l1 : Int) (l2 : Int) (l3 : Int) (l4 : Int) (l5 : Int) (s : fS) : Option (Unit × fS) :=
  (FX35_keep (iadd 262144 l5) s).bind fun q2 =>
  FX35_define_b153 N SE K47 l1 l2 l3 l4 l5 q2.2
theorem SX35_define_b134 {m b : Nat} {φ0 : Nat → Nat} {σo : fS} (hm : 1 ≤ m) (hb : 1 ≤ b) {N : Nat} {sE : Nat → Int32 → eH → Option (Unit × eH)} {SE : Int → fS → Option (Unit × fS)} {k47 : Nat → Int32 → Int32 → Int32 → Int32 → Int32 → Int32 → eH → Option (Unit × eH)} {K47 : Int → Int → Int → Int → Int → Int → fS → Option (Unit × fS)} {q : Unit × fS} (hsE : ∀ {φ : Nat → Nat} {h : eH} {s : fS} {x1' : Int32} {x1 : Int} {q}, fC m 1 φ s φ h s → x1' = iI x1 → r32 x1 → SE x1 s = some q → gG m 1 φ s lU q (sE 192 x1' h)) (hk47 : ∀ {φ : Nat → Nat} {h : eH} {s : fS} {l1' : Int32} {l1 : Int} {l2' : Int32} {l2 : Int} {l3' : Int32} {l3 : Int} {l4' : Int32} {l4 : Int} {l5' : Int32} {l5 : Int} {l6' : Int32} {l6 : Int}, fC m b φ0 σo φ h s → l1' = iI l1 → r32 l1 → l2' = iI l2 → r32 l2 → l3' = iI l3 → r32 l3 → l4' = iI l4 → r32 l4 → l5' = iI l5 → r32 l5 → l6' = iI l6 → r32 l6 → K47 l1 l2 l3 l4 l5 l6 s = some q → gG m b φ0 σo lU q (k47 192 l1' l2' l3' l4' l5' l6' h)) {φ : Nat → Nat} {h : eH} {s : fS} {l1' : Int32} {l1 : Int} {l2' : Int32} {l2 : Int} {l3' : Int32} {l3 : Int} {l4' : Int32} {l4 : Int} {l5' : Int32} {l5 : Int} (R : fC m b φ0 σo φ h s) (el1 : l1' = iI l1) (rl1 : r32 l1) (el2 : l2' = iI l2) (rl2 : r32 l2) (el3 : l3' = iI l3) (rl3 : r32 l3) (el4 : l4' = iI l4) (rl4 : r32 l4) (el5 : l5' = iI l5) (rl5 : r32 l5) (hF : FX35_define_b134 N SE K47 l1 l2 l3 l4 l5 s = some q) : gG m b φ0 σo lU q (fX35_define_b134 N sE k47 192 l1' l2' l3' l4' l5' h) := by
  subst el1; subst el2; subst el3; subst el4; subst el5
  unfold FX35_define_b134 at hF
  unfold fX35_define_b134
  refine s_kok R (t_192 hm R.S) (Nat.le_of_ble_eq_true rfl) ?_
  refine s_call R (Nat.zero_le _) (fun _ hq => SX35_keep (b := 0) hm (R.rf) (c_add (c_lit 262144 262144 rfl) rfl) (rr_I _) hq) hF (fun f2 rv2 h2 q2 R2 e2 E2 hF => ?_)
  exact SX35_define_b153 (N := N) (sE := sE) (SE := SE) (k47 := k47) (K47 := K47) hm hb @hsE @hk47 R2 rfl rl1 rfl rl2 rfl rl3 rfl rl4 rfl rl5 hF
def FX35_define_b128 (N : Nat) (SE : Int → fS → Option (Unit × fS)) (K47 : Int → Int → Int → Int → Int → Int → fS → Option (Unit × fS)) (l1 : Int) (l2 : Int) (l3 : Int) (l4 : Int) (l5 : Int) (s : fS) : Option (Unit × fS) :=
  (FX35_fail 12 s).bind fun q2 =>
  FX35_define_b134 N SE K47 l1 l2 l3 l4 l5 q2.2
theorem SX35_define_b128 {m b : Nat} {φ0 : Nat → Nat} {σo : fS} (hm : 1 ≤ m) (hb : 1 ≤ b) {N : Nat} {sE : Nat → Int32 → eH → Option (Unit × eH)} {SE : Int → fS → Option (Unit × fS)} {k47 : Nat → Int32 → Int32 → Int32 → Int32 → Int32 → Int32 → eH → Option (Unit × eH)} {K47 : Int → Int → Int → Int → Int → Int → fS → Option (Unit × fS)} {q : Unit × fS} (hsE : ∀ {φ : Nat → Nat} {h : eH} {s : fS} {x1' : Int32} {x1 : Int} {q}, fC m 1 φ s φ h s → x1' = iI x1 → r32 x1 → SE x1 s = some q → gG m 1 φ s lU q (sE 192 x1' h)) (hk47 : ∀ {φ : Nat → Nat} {h : eH} {s : fS} {l1' : Int32} {l1 : Int} {l2' : Int32} {l2 : Int} {l3' : Int32} {l3 : Int} {l4' : Int32} {l4 : Int} {l5' : Int32} {l5 : Int} {l6' : Int32} {l6 : Int}, fC m b φ0 σo φ h s → l1' = iI l1 → r32 l1 → l2' = iI l2 → r32 l2 → l3' = iI l3 → r32 l3 → l4' = iI l4 → r32 l4 → l5' = iI l5 → r32 l5 → l6' = iI l6 → r32 l6 → K47 l1 l2 l3 l4 l5 l6 s = some q → gG m b φ0 σo lU q (k47 192 l1' l2' l3' l4' l5' l6' h)) {φ : Nat → Nat} {h : eH} {s : fS} {l1' : Int32} {l1 : Int} {l2' : Int32} {l2 : Int} {l3' : Int32} {l3 : Int} {l4' : Int32} {l4 : Int} {l5' : Int32} {l5 : Int} (R : fC m b φ0 σo φ h s) (el1 : l1' = iI l1) (rl1 : r32 l1) (el2 : l2' = iI l2) (rl2 : r32 l2) (el3 : l3' = iI l3) (rl3 : r32 l3) (el4 : l4' = iI l4) (rl4 : r32 l4) (el5 : l5' = iI l5) (rl5 : r32 l5) (hF : FX35_define_b128 N SE K47 l1 l2 l3 l4 l5 s = some q) : gG m b φ0 σo lU q (fX35_define_b128 N sE k47 192 l1' l2' l3' l4' l5' h) := by
  subst el1; subst el2; subst el3; subst el4; subst el5
  unfold FX35_define_b128 at hF
  unfold fX35_define_b128
  refine s_kok R (t_192 hm R.S) (Nat.le_of_ble_eq_true rfl) ?_
  refine s_call R (Nat.zero_le _) (fun _ hq => SX35_fail (b := 0) hm (R.rf) (c_lit 12 12 rfl) ⟨by decide, by decide⟩ hq) hF (fun f2 rv2 h2 q2 R2 e2 E2 hF => ?_)
  exact SX35_define_b134 (N := N) (sE := sE) (SE := SE) (k47 := k47) (K47 := K47) hm hb @hsE @hk47 R2 rfl rl1 rfl rl2 rfl rl3 rfl rl4 rfl rl5 hF
def FX35_define_b347 (N : Nat) (SE : Int → fS → Option (Unit × fS)) (K171 : Int → Int → Int → Int → Int → Int → Int → fS → Option (Unit × fS)) (l1 : Int) (l2 : Int) (l3 : Int) (l4 : Int) (l5 : Int) (l6 : Int) (l7 : Int) (l8 : Int) (s : fS) : Option (Unit × fS) :=
  if l8 ≤ 0 then
    K171 l1 l2 l3 l4 l5 l7 l8 s
  else
    (FX35_keep l6 s).bind fun q3 =>
    K171 l1 l2 l3 l4 l5 l7 l8 q3.2
theorem SX35_define_b347 {m b : Nat} {φ0 : Nat → Nat} {σo : fS} (hm : 1 ≤ m) (hb : 1 ≤ b) {N : Nat} {sE : Nat → Int32 → eH → Option (Unit × eH)} {SE : Int → fS → Option (Unit × fS)} {k171 : Nat → Int32 → Int32 → Int32 → Int32 → Int32 → Int32 → Int32 → eH → Option (Unit × eH)} {K171 : Int → Int → Int → Int → Int → Int → Int → fS → Option (Unit × fS)} {q : Unit × fS} (hsE : ∀ {φ : Nat → Nat} {h : eH} {s : fS} {x1' : Int32} {x1 : Int} {q}, fC m 1 φ s φ h s → x1' = iI x1 → r32 x1 → SE x1 s = some q → gG m 1 φ s lU q (sE 192 x1' h)) (hk171 : ∀ {φ : Nat → Nat} {h : eH} {s : fS} {l1' : Int32} {l1 : Int} {l2' : Int32} {l2 : Int} {l3' : Int32} {l3 : Int} {l4' : Int32} {l4 : Int} {l5' : Int32} {l5 : Int} {l7' : Int32} {l7 : Int} {l8' : Int32} {l8 : Int}, fC m b φ0 σo φ h s → l1' = iI l1 → r32 l1 → l2' = iI l2 → r32 l2 → l3' = iI l3 → r32 l3 → l4' = iI l4 → r32 l4 → l5' = iI l5 → r32 l5 → l7' = iI l7 → r32 l7 → l8' = iI l8 → r32 l8 → K171 l1 l2 l3 l4 l5 l7 l8 s = some q → gG m b φ0 σo lU q (k171 192 l1' l2' l3' l4' l5' l7' l8' h)) {φ : Nat → Nat} {h : eH} {s : fS} {l1' : Int32} {l1 : Int} {l2' : Int32} {l2 : Int} {l3' : Int32} {l3 : Int} {l4' : Int32} {l4 : Int} {l5' : Int32} {l5 : Int} {l6' : Int32} {l6 : Int} {l7' : Int32} {l7 : Int} {l8' : Int32} {l8 : Int} (R : fC m b φ0 σo φ h s) (el1 : l1' = iI l1) (rl1 : r32 l1) (el2 : l2' = iI l2) (rl2 : r32 l2) (el3 : l3' = iI l3) (rl3 : r32 l3) (el4 : l4' = iI l4) (rl4 : r32 l4) (el5 : l5' = iI l5) (rl5 : r32 l5) (el6 : l6' = iI l6) (rl6 : r32 l6) (el7 : l7' = iI l7) (rl7 : r32 l7) (el8 : l8' = iI l8) (rl8 : r32 l8) (hF : FX35_define_b347 N SE K171 l1 l2 l3 l4 l5 l6 l7 l8 s = some q) : gG m b φ0 σo lU q (fX35_define_b347 N sE k171 192 l1' l2' l3' l4' l5' l6' l7' l8' h) := by
  subst el1; subst el2; subst el3; subst el4; subst el5; subst el6; subst el7; subst el8
  unfold FX35_define_b347 at hF
  unfold fX35_define_b347
  refine s_if (i_le rfl (c_lit 0 0 rfl) rl8 ⟨by decide, by decide⟩) hF (fun c1 hF => ?_) (fun c1 hF => ?_)
  ·
    exact hk171 R rfl rl1 rfl rl2 rfl rl3 rfl rl4 rfl rl5 rfl rl7 rfl rl8 hF
  ·
    refine s_kok R (t_192 hm R.S) (Nat.le_of_ble_eq_true rfl) ?_
    refine s_call R (Nat.zero_le _) (fun _ hq => SX35_keep (b := 0) hm (R.rf) rfl rl6 hq) hF (fun f3 rv3 h3 q3 R3 e3 E3 hF => ?_)
    exact hk171 R3 rfl rl1 rfl rl2 rfl rl3 rfl rl4 rfl rl5 rfl rl7 rfl rl8 hF
def FX35_define_b345 (N : Nat) (SE : Int → fS → Option (Unit × fS)) (K171 : Int → Int → Int → Int → Int → Int → Int → fS → Option (Unit × fS)) (l1 : Int) (l2 : Int) (l3 : Int) (l4 : Int) (l5 : Int) (l7 : Int) (l8 : Int) (s0 : Int) (s : fS) : Option (Unit × fS) :=
  FX35_define_b347 N SE K171 l1 l2 l3 l4 l5 s0 l7 l8 s
theorem SX35_define_b345 {m b : Nat} {φ0 : Nat → Nat} {σo : fS} (hm : 1 ≤ m) (hb : 1 ≤ b) {N : Nat} {sE : Nat → Int32 → eH → Option (Unit × eH)} {SE : Int → fS → Option (Unit × fS)} {k171 : Nat → Int32 → Int32 → Int32 → Int32 → Int32 → Int32 → Int32 → eH → Option (Unit × eH)} {K171 : Int → Int → Int → Int → Int → Int → Int → fS → Option (Unit × fS)} {q : Unit × fS} (hsE : ∀ {φ : Nat → Nat} {h : eH} {s : fS} {x1' : Int32} {x1 : Int} {q}, fC m 1 φ s φ h s → x1' = iI x1 → r32 x1 → SE x1 s = some q → gG m 1 φ s lU q (sE 192 x1' h)) (hk171 : ∀ {φ : Nat → Nat} {h : eH} {s : fS} {l1' : Int32} {l1 : Int} {l2' : Int32} {l2 : Int} {l3' : Int32} {l3 : Int} {l4' : Int32} {l4 : Int} {l5' : Int32} {l5 : Int} {l7' : Int32} {l7 : Int} {l8' : Int32} {l8 : Int}, fC m b φ0 σo φ h s → l1' = iI l1 → r32 l1 → l2' = iI l2 → r32 l2 → l3' = iI l3 → r32 l3 → l4' = iI l4 → r32 l4 → l5' = iI l5 → r32 l5 → l7' = iI l7 → r32 l7 → l8' = iI l8 → r32 l8 → K171 l1 l2 l3 l4 l5 l7 l8 s = some q → gG m b φ0 σo lU q (k171 192 l1' l2' l3' l4' l5' l7' l8' h)) {φ : Nat → Nat} {h : eH} {s : fS} {l1' : Int32} {l1 : Int} {l2' : Int32} {l2 : Int} {l3' : Int32} {l3 : Int} {l4' : Int32} {l4 : Int} {l5' : Int32} {l5 : Int} {l7' : Int32} {l7 : Int} {l8' : Int32} {l8 : Int} {s0' : Int32} {s0 : Int} (R : fC m b φ0 σo φ h s) (el1 : l1' = iI l1) (rl1 : r32 l1) (el2 : l2' = iI l2) (rl2 : r32 l2) (el3 : l3' = iI l3) (rl3 : r32 l3) (el4 : l4' = iI l4) (rl4 : r32 l4) (el5 : l5' = iI l5) (rl5 : r32 l5) (el7 : l7' = iI l7) (rl7 : r32 l7) (el8 : l8' = iI l8) (rl8 : r32 l8) (es0 : s0' = iI s0) (rs0 : r32 s0) (hF : FX35_define_b345 N SE K171 l1 l2 l3 l4 l5 l7 l8 s0 s = some q) : gG m b φ0 σo lU q (fX35_define_b345 N sE k171 192 l1' l2' l3' l4' l5' l7' l8' s0' h) := by
  subst el1; subst el2; subst el3; subst el4; subst el5; subst el7; subst el8; subst es0
  unfold FX35_define_b345 at hF
  unfold fX35_define_b345
  exact SX35_define_b347 (N := N) (sE := sE) (SE := SE) (k171 := k171) (K171 := K171) hm hb @hsE @hk171 R rfl rl1 rfl rl2 rfl rl3 rfl rl4 rfl rl5 rfl rs0 rfl rl7 rfl rl8 hF
def FX35_define_b329 (N : Nat) (SE : Int → fS → Option (Unit × fS)) (K171 : Int → Int → Int → Int → Int → Int → Int → fS → Option (Unit × fS)) (l1 : Int) (l2 : Int) (l3 : Int) (l4 : Int) (l5 : Int) (l6 : Int) (l7 : Int) (l8 : Int) (l9 : Int) (s : fS) : Option (Unit × fS) :=
  if l9 ≤ 0 then
    FX35_define_b345 N SE K171 l1 l2 l3 l4 l5 l7 l8 l6 s
  else
    FX35_define_b345 N SE K171 l1 l2 l3 l4 l5 l7 l8 (iadd 262144 l9) s
theorem SX35_define_b329 {m b : Nat} {φ0 : Nat → Nat} {σo : fS} (hm : 1 ≤ m) (hb : 1 ≤ b) {N : Nat} {sE : Nat → Int32 → eH → Option (Unit × eH)} {SE : Int → fS → Option (Unit × fS)} {k171 : Nat → Int32 → Int32 → Int32 → Int32 → Int32 → Int32 → Int32 → eH → Option (Unit × eH)} {K171 : Int → Int → Int → Int → Int → Int → Int → fS → Option (Unit × fS)} {q : Unit × fS} (hsE : ∀ {φ : Nat → Nat} {h : eH} {s : fS} {x1' : Int32} {x1 : Int} {q}, fC m 1 φ s φ h s → x1' = iI x1 → r32 x1 → SE x1 s = some q → gG m 1 φ s lU q (sE 192 x1' h)) (hk171 : ∀ {φ : Nat → Nat} {h : eH} {s : fS} {l1' : Int32} {l1 : Int} {l2' : Int32} {l2 : Int} {l3' : Int32} {l3 : Int} {l4' : Int32} {l4 : Int} {l5' : Int32} {l5 : Int} {l7' : Int32} {l7 : Int} {l8' : Int32} {l8 : Int}, fC m b φ0 σo φ h s → l1' = iI l1 → r32 l1 → l2' = iI l2 → r32 l2 → l3' = iI l3 → r32 l3 → l4' = iI l4 → r32 l4 → l5' = iI l5 → r32 l5 → l7' = iI l7 → r32 l7 → l8' = iI l8 → r32 l8 → K171 l1 l2 l3 l4 l5 l7 l8 s = some q → gG m b φ0 σo lU q (k171 192 l1' l2' l3' l4' l5' l7' l8' h)) {φ : Nat → Nat} {h : eH} {s : fS} {l1' : Int32} {l1 : Int} {l2' : Int32} {l2 : Int} {l3' : Int32} {l3 : Int} {l4' : Int32} {l4 : Int} {l5' : Int32} {l5 : Int} {l6' : Int32} {l6 : Int} {l7' : Int32} {l7 : Int} {l8' : Int32} {l8 : Int} {l9' : Int32} {l9 : Int} (R : fC m b φ0 σo φ h s) (el1 : l1' = iI l1) (rl1 : r32 l1) (el2 : l2' = iI l2) (rl2 : r32 l2) (el3 : l3' = iI l3) (rl3 : r32 l3) (el4 : l4' = iI l4) (rl4 : r32 l4) (el5 : l5' = iI l5) (rl5 : r32 l5) (el6 : l6' = iI l6) (rl6 : r32 l6) (el7 : l7' = iI l7) (rl7 : r32 l7) (el8 : l8' = iI l8) (rl8 : r32 l8) (el9 : l9' = iI l9) (rl9 : r32 l9) (hF : FX35_define_b329 N SE K171 l1 l2 l3 l4 l5 l6 l7 l8 l9 s = some q) : gG m b φ0 σo lU q (fX35_define_b329 N sE k171 192 l1' l2' l3' l4' l5' l6' l7' l8' l9' h) := by
  subst el1; subst el2; subst el3; subst el4; subst el5; subst el6; subst el7; subst el8; subst el9
  unfold FX35_define_b329 at hF
  unfold fX35_define_b329
  refine s_if (i_le rfl (c_lit 0 0 rfl) rl9 ⟨by decide, by decide⟩) hF (fun c1 hF => ?_) (fun c1 hF => ?_)
  ·
    exact SX35_define_b345 (N := N) (sE := sE) (SE := SE) (k171 := k171) (K171 := K171) hm hb @hsE @hk171 R rfl rl1 rfl rl2 rfl rl3 rfl rl4 rfl rl5 rfl rl7 rfl rl8 rfl rl6 hF
  ·
    exact SX35_define_b345 (N := N) (sE := sE) (SE := SE) (k171 := k171) (K171 := K171) hm hb @hsE @hk171 R rfl rl1 rfl rl2 rfl rl3 rfl rl4 rfl rl5 rfl rl7 rfl rl8 (c_add (c_lit 262144 262144 rfl) rfl) (rr_I _) hF
def FX35_define_b323 (N : Nat) (SE : Int → fS → Option (Unit × fS)) (K171 : Int → Int → Int → Int → Int → Int → Int → fS → Option (Unit × fS)) (l1 : Int) (l2 : Int) (l3 : Int) (l4 : Int) (l5 : Int) (l6 : Int) (l7 : Int) (l8 : Int) (l9 : Int) (s : fS) : Option (Unit × fS) :=
  (FX35_fail 12 s).bind fun q2 =>
  FX35_define_b329 N SE K171 l1 l2 l3 l4 l5 l6 l7 l8 l9 q2.2
theorem SX35_define_b323 {m b : Nat} {φ0 : Nat → Nat} {σo : fS} (hm : 1 ≤ m) (hb : 1 ≤ b) {N : Nat} {sE : Nat → Int32 → eH → Option (Unit × eH)} {SE : Int → fS → Option (Unit × fS)} {k171 : Nat → Int32 → Int32 → Int32 → Int32 → Int32 → Int32 → Int32 → eH → Option (Unit × eH)} {K171 : Int → Int → Int → Int → Int → Int → Int → fS → Option (Unit × fS)} {q : Unit × fS} (hsE : ∀ {φ : Nat → Nat} {h : eH} {s : fS} {x1' : Int32} {x1 : Int} {q}, fC m 1 φ s φ h s → x1' = iI x1 → r32 x1 → SE x1 s = some q → gG m 1 φ s lU q (sE 192 x1' h)) (hk171 : ∀ {φ : Nat → Nat} {h : eH} {s : fS} {l1' : Int32} {l1 : Int} {l2' : Int32} {l2 : Int} {l3' : Int32} {l3 : Int} {l4' : Int32} {l4 : Int} {l5' : Int32} {l5 : Int} {l7' : Int32} {l7 : Int} {l8' : Int32} {l8 : Int}, fC m b φ0 σo φ h s → l1' = iI l1 → r32 l1 → l2' = iI l2 → r32 l2 → l3' = iI l3 → r32 l3 → l4' = iI l4 → r32 l4 → l5' = iI l5 → r32 l5 → l7' = iI l7 → r32 l7 → l8' = iI l8 → r32 l8 → K171 l1 l2 l3 l4 l5 l7 l8 s = some q → gG m b φ0 σo lU q (k171 192 l1' l2' l3' l4' l5' l7' l8' h)) {φ : Nat → Nat} {h : eH} {s : fS} {l1' : Int32} {l1 : Int} {l2' : Int32} {l2 : Int} {l3' : Int32} {l3 : Int} {l4' : Int32} {l4 : Int} {l5' : Int32} {l5 : Int} {l6' : Int32} {l6 : Int} {l7' : Int32} {l7 : Int} {l8' : Int32} {l8 : Int} {l9' : Int32} {l9 : Int} (R : fC m b φ0 σo φ h s) (el1 : l1' = iI l1) (rl1 : r32 l1) (el2 : l2' = iI l2) (rl2 : r32 l2) (el3 : l3' = iI l3) (rl3 : r32 l3) (el4 : l4' = iI l4) (rl4 : r32 l4) (el5 : l5' = iI l5) (rl5 : r32 l5) (el6 : l6' = iI l6) (rl6 : r32 l6) (el7 : l7' = iI l7) (rl7 : r32 l7) (el8 : l8' = iI l8) (rl8 : r32 l8) (el9 : l9' = iI l9) (rl9 : r32 l9) (hF : FX35_define_b323 N SE K171 l1 l2 l3 l4 l5 l6 l7 l8 l9 s = some q) : gG m b φ0 σo lU q (fX35_define_b323 N sE k171 192 l1' l2' l3' l4' l5' l6' l7' l8' l9' h) := by
  subst el1; subst el2; subst el3; subst el4; subst el5; subst el6; subst el7; subst el8; subst el9
  unfold FX35_define_b323 at hF
  unfold fX35_define_b323
  refine s_kok R (t_192 hm R.S) (Nat.le_of_ble_eq_true rfl) ?_
  refine s_call R (Nat.zero_le _) (fun _ hq => SX35_fail (b := 0) hm (R.rf) (c_lit 12 12 rfl) ⟨by decide, by decide⟩ hq) hF (fun f2 rv2 h2 q2 R2 e2 E2 hF => ?_)
  exact SX35_define_b329 (N := N) (sE := sE) (SE := SE) (k171 := k171) (K171 := K171) hm hb @hsE @hk171 R2 rfl rl1 rfl rl2 rfl rl3 rfl rl4 rfl rl5 rfl rl6 rfl rl7 rfl rl8 rfl rl9 hF
def FX35_define_b292 (N : Nat) (SE : Int → fS → Option (Unit × fS)) (K171 : Int → Int → Int → Int → Int → Int → Int → fS → Option (Unit × fS)) (l1 : Int) (l2 : Int) (l3 : Int) (l4 : Int) (l5 : Int) (l6 : Int) (l7 : Int) (l8 : Int) (s0 : Int) (s : fS) : Option (Unit × fS) :=
  if ¬ ((s.i 192 46) = 0) then
    FX35_define_b329 N SE K171 l1 l2 l3 l4 l5 l6 l7 l8 s0 s
  else
    (FX35_isOf l6 6 s).bind fun q4 =>
    if ¬ (q4.1 = 0) then
      FX35_define_b329 N SE K171 l1 l2 l3 l4 l5 l6 l7 l8 s0 q4.2
    else
      if s0 = 0 then
        FX35_define_b323 N SE K171 l1 l2 l3 l4 l5 l6 l7 l8 s0 q4.2
      else
        if s0 ≤ l5 then
          FX35_define_b329 N SE K171 l1 l2 l3 l4 l5 l6 l7 l8 s0 q4.2
        else
          FX35_define_b323 N SE K171 l1 l2 l3 l4 l5 l6 l7 l8 s0 q4.2
theorem SX35_define_b292 {m b : Nat} {φ0 : Nat → Nat} {σo : fS} (hm : 1 ≤ m) (hb : 1 ≤ b) {N : Nat} {sE : Nat → Int32 → eH → Option (Unit × eH)} {SE : Int → fS → Option (Unit × fS)} {k171 : Nat → Int32 → Int32 → Int32 → Int32 → Int32 → Int32 → Int32 → eH → Option (Unit × eH)} {K171 : Int → Int → Int → Int → Int → Int → Int → fS → Option (Unit × fS)} {q : Unit × fS} (hsE : ∀ {φ : Nat → Nat} {h : eH} {s : fS} {x1' : Int32} {x1 : Int} {q}, fC m 1 φ s φ h s → x1' = iI x1 → r32 x1 → SE x1 s = some q → gG m 1 φ s lU q (sE 192 x1' h)) (hk171 : ∀ {φ : Nat → Nat} {h : eH} {s : fS} {l1' : Int32} {l1 : Int} {l2' : Int32} {l2 : Int} {l3' : Int32} {l3 : Int} {l4' : Int32} {l4 : Int} {l5' : Int32} {l5 : Int} {l7' : Int32} {l7 : Int} {l8' : Int32} {l8 : Int}, fC m b φ0 σo φ h s → l1' = iI l1 → r32 l1 → l2' = iI l2 → r32 l2 → l3' = iI l3 → r32 l3 → l4' = iI l4 → r32 l4 → l5' = iI l5 → r32 l5 → l7' = iI l7 → r32 l7 → l8' = iI l8 → r32 l8 → K171 l1 l2 l3 l4 l5 l7 l8 s = some q → gG m b φ0 σo lU q (k171 192 l1' l2' l3' l4' l5' l7' l8' h)) {φ : Nat → Nat} {h : eH} {s : fS} {l1' : Int32} {l1 : Int} {l2' : Int32} {l2 : Int} {l3' : Int32} {l3 : Int} {l4' : Int32} {l4 : Int} {l5' : Int32} {l5 : Int} {l6' : Int32} {l6 : Int} {l7' : Int32} {l7 : Int} {l8' : Int32} {l8 : Int} {s0' : Int32} {s0 : Int} (R : fC m b φ0 σo φ h s) (el1 : l1' = iI l1) (rl1 : r32 l1) (el2 : l2' = iI l2) (rl2 : r32 l2) (el3 : l3' = iI l3) (rl3 : r32 l3) (el4 : l4' = iI l4) (rl4 : r32 l4) (el5 : l5' = iI l5) (rl5 : r32 l5) (el6 : l6' = iI l6) (rl6 : r32 l6) (el7 : l7' = iI l7) (rl7 : r32 l7) (el8 : l8' = iI l8) (rl8 : r32 l8) (es0 : s0' = iI s0) (rs0 : r32 s0) (hF : FX35_define_b292 N SE K171 l1 l2 l3 l4 l5 l6 l7 l8 s0 s = some q) : gG m b φ0 σo lU q (fX35_define_b292 N sE k171 192 l1' l2' l3' l4' l5' l6' l7' l8' s0' h) := by
  subst el1; subst el2; subst el3; subst el4; subst el5; subst el6; subst el7; subst el8; subst es0
  unfold FX35_define_b292 at hF
  unfold fX35_define_b292
  refine s_gI R (t_192 hm R.S) (Nat.le_of_ble_eq_true rfl) rfl ?_
  refine s_if (not_congr (i_eq rfl (c_lit 0 0 rfl) (R.ri (t_192 hm R.S) (Nat.le_of_ble_eq_true rfl) rfl) ⟨by decide, by decide⟩)) hF (fun c2 hF => ?_) (fun c2 hF => ?_)
  ·
    exact SX35_define_b329 (N := N) (sE := sE) (SE := SE) (k171 := k171) (K171 := K171) hm hb @hsE @hk171 R rfl rl1 rfl rl2 rfl rl3 rfl rl4 rfl rl5 rfl rl6 rfl rl7 rfl rl8 rfl rs0 hF
  ·
    refine s_call R (Nat.zero_le _) (fun _ hq => SX35_isOf (b := 0) hm (R.rf) rfl rl6 (c_lit 6 6 rfl) ⟨by decide, by decide⟩ hq) hF (fun f3 rv3 h3 q4 R3 e3 E3 hF => ?_)
    refine s_if (not_congr (i_eq e3.1 (c_lit 0 0 rfl) e3.2 ⟨by decide, by decide⟩)) hF (fun c4 hF => ?_) (fun c4 hF => ?_)
    ·
      exact SX35_define_b329 (N := N) (sE := sE) (SE := SE) (k171 := k171) (K171 := K171) hm hb @hsE @hk171 R3 rfl rl1 rfl rl2 rfl rl3 rfl rl4 rfl rl5 rfl rl6 rfl rl7 rfl rl8 rfl rs0 hF
    ·
      refine s_if (i_eq rfl (c_lit 0 0 rfl) rs0 ⟨by decide, by decide⟩) hF (fun c5 hF => ?_) (fun c5 hF => ?_)
      ·
        exact SX35_define_b323 (N := N) (sE := sE) (SE := SE) (k171 := k171) (K171 := K171) hm hb @hsE @hk171 R3 rfl rl1 rfl rl2 rfl rl3 rfl rl4 rfl rl5 rfl rl6 rfl rl7 rfl rl8 rfl rs0 hF
      ·
        refine s_if (i_le rfl rfl rs0 rl5) hF (fun c6 hF => ?_) (fun c6 hF => ?_)
        ·
          exact SX35_define_b329 (N := N) (sE := sE) (SE := SE) (k171 := k171) (K171 := K171) hm hb @hsE @hk171 R3 rfl rl1 rfl rl2 rfl rl3 rfl rl4 rfl rl5 rfl rl6 rfl rl7 rfl rl8 rfl rs0 hF
        ·
          exact SX35_define_b323 (N := N) (sE := sE) (SE := SE) (k171 := k171) (K171 := K171) hm hb @hsE @hk171 R3 rfl rl1 rfl rl2 rfl rl3 rfl rl4 rfl rl5 rfl rl6 rfl rl7 rfl rl8 rfl rs0 hF
def FX35_define_b269 (N : Nat) (SE : Int → fS → Option (Unit × fS)) (K171 : Int → Int → Int → Int → Int → Int → Int → fS → Option (Unit × fS)) (l1 : Int) (l2 : Int) (l3 : Int) (l4 : Int) (l5 : Int) (l7 : Int) (l8 : Int) (s0 : Int) (s : fS) : Option (Unit × fS) :=
  (FX35_isDigit s0 s).bind fun q1 =>
  if q1.1 = 0 then
    FX35_define_b292 N SE K171 l1 l2 l3 l4 l5 s0 l7 l8 0 q1.2
  else
    FX35_define_b292 N SE K171 l1 l2 l3 l4 l5 s0 l7 l8 (isub (irem s0 256) 48) q1.2
theorem SX35_define_b269 {m b : Nat} {φ0 : Nat → Nat} {σo : fS} (hm : 1 ≤ m) (hb : 1 ≤ b) {N : Nat} {sE : Nat → Int32 → eH → Option (Unit × eH)} {SE : Int → fS → Option (Unit × fS)} {k171 : Nat → Int32 → Int32 → Int32 → Int32 → Int32 → Int32 → Int32 → eH → Option (Unit × eH)} {K171 : Int → Int → Int → Int → Int → Int → Int → fS → Option (Unit × fS)} {q : Unit × fS} (hsE : ∀ {φ : Nat → Nat} {h : eH} {s : fS} {x1' : Int32} {x1 : Int} {q}, fC m 1 φ s φ h s → x1' = iI x1 → r32 x1 → SE x1 s = some q → gG m 1 φ s lU q (sE 192 x1' h)) (hk171 : ∀ {φ : Nat → Nat} {h : eH} {s : fS} {l1' : Int32} {l1 : Int} {l2' : Int32} {l2 : Int} {l3' : Int32} {l3 : Int} {l4' : Int32} {l4 : Int} {l5' : Int32} {l5 : Int} {l7' : Int32} {l7 : Int} {l8' : Int32} {l8 : Int}, fC m b φ0 σo φ h s → l1' = iI l1 → r32 l1 → l2' = iI l2 → r32 l2 → l3' = iI l3 → r32 l3 → l4' = iI l4 → r32 l4 → l5' = iI l5 → r32 l5 → l7' = iI l7 → r32 l7 → l8' = iI l8 → r32 l8 → K171 l1 l2 l3 l4 l5 l7 l8 s = some q → gG m b φ0 σo lU q (k171 192 l1' l2' l3' l4' l5' l7' l8' h)) {φ : Nat → Nat} {h : eH} {s : fS} {l1' : Int32} {l1 : Int} {l2' : Int32} {l2 : Int} {l3' : Int32} {l3 : Int} {l4' : Int32} {l4 : Int} {l5' : Int32} {l5 : Int} {l7' : Int32} {l7 : Int} {l8' : Int32} {l8 : Int} {s0' : Int32} {s0 : Int} (R : fC m b φ0 σo φ h s) (el1 : l1' = iI l1) (rl1 : r32 l1) (el2 : l2' = iI l2) (rl2 : r32 l2) (el3 : l3' = iI l3) (rl3 : r32 l3) (el4 : l4' = iI l4) (rl4 : r32 l4) (el5 : l5' = iI l5) (rl5 : r32 l5) (el7 : l7' = iI l7) (rl7 : r32 l7) (el8 : l8' = iI l8) (rl8 : r32 l8) (es0 : s0' = iI s0) (rs0 : r32 s0) (hF : FX35_define_b269 N SE K171 l1 l2 l3 l4 l5 l7 l8 s0 s = some q) : gG m b φ0 σo lU q (fX35_define_b269 N sE k171 192 l1' l2' l3' l4' l5' l7' l8' s0' h) := by
  subst el1; subst el2; subst el3; subst el4; subst el5; subst el7; subst el8; subst es0
  unfold FX35_define_b269 at hF
  unfold fX35_define_b269
  refine s_call R (Nat.zero_le _) (fun _ hq => SX35_isDigit (b := 0) hm (R.rf) rfl rs0 hq) hF (fun f1 rv1 h1 q1 R1 e1 E1 hF => ?_)
  refine s_if (i_eq e1.1 (c_lit 0 0 rfl) e1.2 ⟨by decide, by decide⟩) hF (fun c2 hF => ?_) (fun c2 hF => ?_)
  ·
    exact SX35_define_b292 (N := N) (sE := sE) (SE := SE) (k171 := k171) (K171 := K171) hm hb @hsE @hk171 R1 rfl rl1 rfl rl2 rfl rl3 rfl rl4 rfl rl5 rfl rs0 rfl rl7 rfl rl8 (c_lit 0 0 rfl) ⟨by decide, by decide⟩ hF
  ·
    exact SX35_define_b292 (N := N) (sE := sE) (SE := SE) (k171 := k171) (K171 := K171) hm hb @hsE @hk171 R1 rfl rl1 rfl rl2 rfl rl3 rfl rl4 rfl rl5 rfl rs0 rfl rl7 rfl rl8 (c_sub (c_rem rfl (c_lit 256 256 rfl)) (c_lit 48 48 rfl)) (rr_I _) hF
def FX35_define_b242 (N : Nat) (SE : Int → fS → Option (Unit × fS)) (K171 : Int → Int → Int → Int → Int → Int → Int → fS → Option (Unit × fS)) (l1 : Int) (l2 : Int) (l3 : Int) (l4 : Int) (l5 : Int) (l6 : Int) (l7 : Int) (s0 : Int) (s : fS) : Option (Unit × fS) :=
  (FX35_isOf l6 6 s).bind fun q1 =>
  if q1.1 = 0 then
    FX35_define_b347 N SE K171 l1 l2 l3 l4 l5 l6 l7 s0 q1.2
  else
    if l1 = 0 then
      (FX35_need N q1.2).bind fun q5 =>
      FX35_define_b269 N SE K171 l1 l2 l3 l4 l5 l7 s0 q5.1 q5.2
    else
      (FX35_needExpanded N SE q1.2).bind fun q7 =>
      FX35_define_b269 N SE K171 l1 l2 l3 l4 l5 l7 s0 q7.1 q7.2
theorem SX35_define_b242 {m b : Nat} {φ0 : Nat → Nat} {σo : fS} (hm : 1 ≤ m) (hb : 1 ≤ b) {N : Nat} {sE : Nat → Int32 → eH → Option (Unit × eH)} {SE : Int → fS → Option (Unit × fS)} {k171 : Nat → Int32 → Int32 → Int32 → Int32 → Int32 → Int32 → Int32 → eH → Option (Unit × eH)} {K171 : Int → Int → Int → Int → Int → Int → Int → fS → Option (Unit × fS)} {q : Unit × fS} (hsE : ∀ {φ : Nat → Nat} {h : eH} {s : fS} {x1' : Int32} {x1 : Int} {q}, fC m 1 φ s φ h s → x1' = iI x1 → r32 x1 → SE x1 s = some q → gG m 1 φ s lU q (sE 192 x1' h)) (hk171 : ∀ {φ : Nat → Nat} {h : eH} {s : fS} {l1' : Int32} {l1 : Int} {l2' : Int32} {l2 : Int} {l3' : Int32} {l3 : Int} {l4' : Int32} {l4 : Int} {l5' : Int32} {l5 : Int} {l7' : Int32} {l7 : Int} {l8' : Int32} {l8 : Int}, fC m b φ0 σo φ h s → l1' = iI l1 → r32 l1 → l2' = iI l2 → r32 l2 → l3' = iI l3 → r32 l3 → l4' = iI l4 → r32 l4 → l5' = iI l5 → r32 l5 → l7' = iI l7 → r32 l7 → l8' = iI l8 → r32 l8 → K171 l1 l2 l3 l4 l5 l7 l8 s = some q → gG m b φ0 σo lU q (k171 192 l1' l2' l3' l4' l5' l7' l8' h)) {φ : Nat → Nat} {h : eH} {s : fS} {l1' : Int32} {l1 : Int} {l2' : Int32} {l2 : Int} {l3' : Int32} {l3 : Int} {l4' : Int32} {l4 : Int} {l5' : Int32} {l5 : Int} {l6' : Int32} {l6 : Int} {l7' : Int32} {l7 : Int} {s0' : Int32} {s0 : Int} (R : fC m b φ0 σo φ h s) (el1 : l1' = iI l1) (rl1 : r32 l1) (el2 : l2' = iI l2) (rl2 : r32 l2) (el3 : l3' = iI l3) (rl3 : r32 l3) (el4 : l4' = iI l4) (rl4 : r32 l4) (el5 : l5' = iI l5) (rl5 : r32 l5) (el6 : l6' = iI l6) (rl6 : r32 l6) (el7 : l7' = iI l7) (rl7 : r32 l7) (es0 : s0' = iI s0) (rs0 : r32 s0) (hF : FX35_define_b242 N SE K171 l1 l2 l3 l4 l5 l6 l7 s0 s = some q) : gG m b φ0 σo lU q (fX35_define_b242 N sE k171 192 l1' l2' l3' l4' l5' l6' l7' s0' h) := by
  subst el1; subst el2; subst el3; subst el4; subst el5; subst el6; subst el7; subst es0
  unfold FX35_define_b242 at hF
  unfold fX35_define_b242
  refine s_call R (Nat.zero_le _) (fun _ hq => SX35_isOf (b := 0) hm (R.rf) rfl rl6 (c_lit 6 6 rfl) ⟨by decide, by decide⟩ hq) hF (fun f1 rv1 h1 q1 R1 e1 E1 hF => ?_)
  refine s_if (i_eq e1.1 (c_lit 0 0 rfl) e1.2 ⟨by decide, by decide⟩) hF (fun c2 hF => ?_) (fun c2 hF => ?_)
  ·
    exact SX35_define_b347 (N := N) (sE := sE) (SE := SE) (k171 := k171) (K171 := K171) hm hb @hsE @hk171 R1 rfl rl1 rfl rl2 rfl rl3 rfl rl4 rfl rl5 rfl rl6 rfl rl7 rfl rs0 hF
  ·
    refine s_if (i_eq rfl (c_lit 0 0 rfl) rl1 ⟨by decide, by decide⟩) hF (fun c3 hF => ?_) (fun c3 hF => ?_)
    ·
      refine s_kok R1 (t_192 hm R1.S) (Nat.le_of_ble_eq_true rfl) ?_
      refine s_call R1 (Nat.zero_le _) (fun _ hq => SX35_need (b := 0) (N := N) hm (R1.rf) hq) hF (fun f5 rv5 h5 q5 R5 e5 E5 hF => ?_)
      exact SX35_define_b269 (N := N) (sE := sE) (SE := SE) (k171 := k171) (K171 := K171) hm hb @hsE @hk171 R5 rfl rl1 rfl rl2 rfl rl3 rfl rl4 rfl rl5 rfl rl7 rfl rs0 e5.1 e5.2 hF
    ·
      refine s_kok R1 (t_192 hm R1.S) (Nat.le_of_ble_eq_true rfl) ?_
      refine s_call R1 hb (fun _ hq => SX35_needExpanded (b := 1) (N := N) (sE := sE) (SE := SE) hm (Nat.le_of_ble_eq_true rfl) @hsE (R1.rf) hq) hF (fun f7 rv7 h7 q7 R7 e7 E7 hF => ?_)
      exact SX35_define_b269 (N := N) (sE := sE) (SE := SE) (k171 := k171) (K171 := K171) hm hb @hsE @hk171 R7 rfl rl1 rfl rl2 rfl rl3 rfl rl4 rfl rl5 rfl rl7 rfl rs0 e7.1 e7.2 hF
def FX35_define_b198 (N : Nat) (SE : Int → fS → Option (Unit × fS)) (K171 : Int → Int → Int → Int → Int → Int → Int → fS → Option (Unit × fS)) (l1 : Int) (l2 : Int) (l3 : Int) (l4 : Int) (l5 : Int) (l7 : Int) (l8 : Int) (s0 : Int) (s : fS) : Option (Unit × fS) :=
  if (s.i 192 46) ≤ 0 then
    (FX35_isOf s0 1 s).bind fun q4 =>
    if q4.1 = 0 then
      (FX35_isOf s0 2 q4.2).bind fun q6 =>
      if q6.1 = 0 then
        FX35_define_b242 N SE K171 l1 l2 l3 l4 l5 s0 l7 l8 q6.2
      else
        FX35_define_b242 N SE K171 l1 l2 l3 l4 l5 s0 l7 (isub l8 1) q6.2
    else
      FX35_define_b242 N SE K171 l1 l2 l3 l4 l5 s0 l7 (iadd l8 1) q4.2
  else
    some ((), s)
theorem SX35_define_b198 {m b : Nat} {φ0 : Nat → Nat} {σo : fS} (hm : 1 ≤ m) (hb : 1 ≤ b) {N : Nat} {sE : Nat → Int32 → eH → Option (Unit × eH)} {SE : Int → fS → Option (Unit × fS)} {k171 : Nat → Int32 → Int32 → Int32 → Int32 → Int32 → Int32 → Int32 → eH → Option (Unit × eH)} {K171 : Int → Int → Int → Int → Int → Int → Int → fS → Option (Unit × fS)} {q : Unit × fS} (hsE : ∀ {φ : Nat → Nat} {h : eH} {s : fS} {x1' : Int32} {x1 : Int} {q}, fC m 1 φ s φ h s → x1' = iI x1 → r32 x1 → SE x1 s = some q → gG m 1 φ s lU q (sE 192 x1' h)) (hk171 : ∀ {φ : Nat → Nat} {h : eH} {s : fS} {l1' : Int32} {l1 : Int} {l2' : Int32} {l2 : Int} {l3' : Int32} {l3 : Int} {l4' : Int32} {l4 : Int} {l5' : Int32} {l5 : Int} {l7' : Int32} {l7 : Int} {l8' : Int32} {l8 : Int}, fC m b φ0 σo φ h s → l1' = iI l1 → r32 l1 → l2' = iI l2 → r32 l2 → l3' = iI l3 → r32 l3 → l4' = iI l4 → r32 l4 → l5' = iI l5 → r32 l5 → l7' = iI l7 → r32 l7 → l8' = iI l8 → r32 l8 → K171 l1 l2 l3 l4 l5 l7 l8 s = some q → gG m b φ0 σo lU q (k171 192 l1' l2' l3' l4' l5' l7' l8' h)) {φ : Nat → Nat} {h : eH} {s : fS} {l1' : Int32} {l1 : Int} {l2' : Int32} {l2 : Int} {l3' : Int32} {l3 : Int} {l4' : Int32} {l4 : Int} {l5' : Int32} {l5 : Int} {l7' : Int32} {l7 : Int} {l8' : Int32} {l8 : Int} {s0' : Int32} {s0 : Int} (R : fC m b φ0 σo φ h s) (el1 : l1' = iI l1) (rl1 : r32 l1) (el2 : l2' = iI l2) (rl2 : r32 l2) (el3 : l3' = iI l3) (rl3 : r32 l3) (el4 : l4' = iI l4) (rl4 : r32 l4) (el5 : l5' = iI l5) (rl5 : r32 l5) (el7 : l7' = iI l7) (rl7 : r32 l7) (el8 : l8' = iI l8) (rl8 : r32 l8) (es0 : s0' = iI s0) (rs0 : r32 s0) (hF : FX35_define_b198 N SE K171 l1 l2 l3 l4 l5 l7 l8 s0 s = some q) : gG m b φ0 σo lU q (fX35_define_b198 N sE k171 192 l1' l2' l3' l4' l5' l7' l8' s0' h) := by
  subst el1; subst el2; subst el3; subst el4; subst el5; subst el7; subst el8; subst es0
  unfold FX35_define_b198 at hF
  unfold fX35_define_b198
  refine s_gI R (t_192 hm R.S) (Nat.le_of_ble_eq_true rfl) rfl ?_
  refine s_if (i_le rfl (c_lit 0 0 rfl) (R.ri (t_192 hm R.S) (Nat.le_of_ble_eq_true rfl) rfl) ⟨by decide, by decide⟩) hF (fun c2 hF => ?_) (fun c2 hF => ?_)
  ·
    refine s_call R (Nat.zero_le _) (fun _ hq => SX35_isOf (b := 0) hm (R.rf) rfl rs0 (c_lit 1 1 rfl) ⟨by decide, by decide⟩ hq) hF (fun f3 rv3 h3 q4 R3 e3 E3 hF => ?_)
    refine s_if (i_eq e3.1 (c_lit 0 0 rfl) e3.2 ⟨by decide, by decide⟩) hF (fun c4 hF => ?_) (fun c4 hF => ?_)
    ·
      refine s_call R3 (Nat.zero_le _) (fun _ hq => SX35_isOf (b := 0) hm (R3.rf) rfl rs0 (c_lit 2 2 rfl) ⟨by decide, by decide⟩ hq) hF (fun f5 rv5 h5 q6 R5 e5 E5 hF => ?_)
      refine s_if (i_eq e5.1 (c_lit 0 0 rfl) e5.2 ⟨by decide, by decide⟩) hF (fun c6 hF => ?_) (fun c6 hF => ?_)
      ·
        exact SX35_define_b242 (N := N) (sE := sE) (SE := SE) (k171 := k171) (K171 := K171) hm hb @hsE @hk171 R5 rfl rl1 rfl rl2 rfl rl3 rfl rl4 rfl rl5 rfl rs0 rfl rl7 rfl rl8 hF
      ·
        exact SX35_define_b242 (N := N) (sE := sE) (SE := SE) (k171 := k171) (K171 := K171) hm hb @hsE @hk171 R5 rfl rl1 rfl rl2 rfl rl3 rfl rl4 rfl rl5 rfl rs0 rfl rl7 (c_sub rfl (c_lit 1 1 rfl)) (rr_I _) hF
    ·
      exact SX35_define_b242 (N := N) (sE := sE) (SE := SE) (k171 := k171) (K171 := K171) hm hb @hsE @hk171 R3 rfl rl1 rfl rl2 rfl rl3 rfl rl4 rfl rl5 rfl rs0 rfl rl7 (c_add rfl (c_lit 1 1 rfl)) (rr_I _) hF
  ·
    exact g_ret R hF trivial
def FX35_define_b437 (N : Nat) (SE : Int → fS → Option (Unit × fS)) (s : fS) : Option (Unit × fS) :=
  some ((), s)
theorem SX35_define_b437 {m b : Nat} {φ0 : Nat → Nat} {σo : fS} (hm : 1 ≤ m) {N : Nat} {sE : Nat → Int32 → eH → Option (Unit × eH)} {SE : Int → fS → Option (Unit × fS)} {q : Unit × fS} (hsE : ∀ {φ : Nat → Nat} {h : eH} {s : fS} {x1' : Int32} {x1 : Int} {q}, fC m 1 φ s φ h s → x1' = iI x1 → r32 x1 → SE x1 s = some q → gG m 1 φ s lU q (sE 192 x1' h)) {φ : Nat → Nat} {h : eH} {s : fS} (R : fC m b φ0 σo φ h s) (hF : FX35_define_b437 N SE s = some q) : gG m b φ0 σo lU q (fX35_define_b437 N sE h) := by
  unfold FX35_define_b437 at hF
  unfold fX35_define_b437
  exact g_ret R hF trivial
def FX35_define_b361 (N : Nat) (SE : Int → fS → Option (Unit × fS)) (l2 : Int) (l3 : Int) (l4 : Int) (l5 : Int) (l7 : Int) (s : fS) : Option (Unit × fS) :=
  if ¬ ((s.i 192 46) = 0) then
    FX35_define_b437 N SE s
  else
    (uQI s 273 (s.i 192 30) l5).bind fun σ8 =>
    (uQI σ8 274 (σ8.i 192 30) l4).bind fun σ14 =>
    (uQI σ14 275 (σ14.i 192 30) l7).bind fun σ20 =>
    (uQI σ20 276 (σ20.i 192 30) (σ20.i 192 35)).bind fun σ28 =>
    (FX35_mean N l3 (iadd 100000 (σ28.i 192 30)) l2 σ28).bind fun q33 =>
    (uPI q33.2 192 30 (iadd (q33.2.i 192 30) 1)).bind fun σ36 =>
    FX35_define_b437 N SE σ36
theorem SX35_define_b361 {m b : Nat} {φ0 : Nat → Nat} {σo : fS} (hm : 1 ≤ m) {N : Nat} {sE : Nat → Int32 → eH → Option (Unit × eH)} {SE : Int → fS → Option (Unit × fS)} {q : Unit × fS} (hsE : ∀ {φ : Nat → Nat} {h : eH} {s : fS} {x1' : Int32} {x1 : Int} {q}, fC m 1 φ s φ h s → x1' = iI x1 → r32 x1 → SE x1 s = some q → gG m 1 φ s lU q (sE 192 x1' h)) {φ : Nat → Nat} {h : eH} {s : fS} {l2' : Int32} {l2 : Int} {l3' : Int32} {l3 : Int} {l4' : Int32} {l4 : Int} {l5' : Int32} {l5 : Int} {l7' : Int32} {l7 : Int} (R : fC m b φ0 σo φ h s) (el2 : l2' = iI l2) (rl2 : r32 l2) (el3 : l3' = iI l3) (rl3 : r32 l3) (el4 : l4' = iI l4) (rl4 : r32 l4) (el5 : l5' = iI l5) (rl5 : r32 l5) (el7 : l7' = iI l7) (rl7 : r32 l7) (hF : FX35_define_b361 N SE l2 l3 l4 l5 l7 s = some q) : gG m b φ0 σo lU q (fX35_define_b361 N sE 192 l2' l3' l4' l5' l7' h) := by
  subst el2; subst el3; subst el4; subst el5; subst el7
  unfold FX35_define_b361 at hF
  unfold fX35_define_b361
  refine s_gI R (t_192 hm R.S) (Nat.le_of_ble_eq_true rfl) rfl ?_
  refine s_if (not_congr (i_eq rfl (c_lit 0 0 rfl) (R.ri (t_192 hm R.S) (Nat.le_of_ble_eq_true rfl) rfl) ⟨by decide, by decide⟩)) hF (fun c2 hF => ?_) (fun c2 hF => ?_)
  ·
    exact SX35_define_b437 (N := N) (sE := sE) (SE := SE) hm @hsE R hF
  ·
    refine s_gAs R (t_192 hm R.S) (Nat.le_of_ble_eq_true rfl) rfl (o_192_31 hm R.S) (a_273 hm R) ?_
    refine s_gI R (t_192 hm R.S) (Nat.le_of_ble_eq_true rfl) rfl ?_
    refine s_qI R (u_273 hm R.S).1 (u_273 hm R.S).2 (by decide) (a_273 hm R) rfl (R.ri (t_192 hm R.S) (Nat.le_of_ble_eq_true rfl) rfl) rfl rl5 hF (fun h5 σ8 R5 T5 hF => ?_)
    refine s_gAs R5 (t_192 hm R5.S) (Nat.le_of_ble_eq_true rfl) rfl (o_192_32 hm R5.S) (a_274 hm R5) ?_
    refine s_gI R5 (t_192 hm R5.S) (Nat.le_of_ble_eq_true rfl) rfl ?_
    refine s_qI R5 (u_274 hm R5.S).1 (u_274 hm R5.S).2 (by decide) (a_274 hm R5) rfl (R5.ri (t_192 hm R5.S) (Nat.le_of_ble_eq_true rfl) rfl) rfl rl4 hF (fun h8 σ14 R8 T8 hF => ?_)
    refine s_gAs R8 (t_192 hm R8.S) (Nat.le_of_ble_eq_true rfl) rfl (o_192_33 hm R8.S) (a_275 hm R8) ?_
    refine s_gI R8 (t_192 hm R8.S) (Nat.le_of_ble_eq_true rfl) rfl ?_
    refine s_qI R8 (u_275 hm R8.S).1 (u_275 hm R8.S).2 (by decide) (a_275 hm R8) rfl (R8.ri (t_192 hm R8.S) (Nat.le_of_ble_eq_true rfl) rfl) rfl rl7 hF (fun h11 σ20 R11 T11 hF => ?_)
    refine s_gAs R11 (t_192 hm R11.S) (Nat.le_of_ble_eq_true rfl) rfl (o_192_34 hm R11.S) (a_276 hm R11) ?_
    refine s_gI R11 (t_192 hm R11.S) (Nat.le_of_ble_eq_true rfl) rfl ?_
    refine s_gI R11 (t_192 hm R11.S) (Nat.le_of_ble_eq_true rfl) rfl ?_
    refine s_qI R11 (u_276 hm R11.S).1 (u_276 hm R11.S).2 (by decide) (a_276 hm R11) rfl (R11.ri (t_192 hm R11.S) (Nat.le_of_ble_eq_true rfl) rfl) rfl (R11.ri (t_192 hm R11.S) (Nat.le_of_ble_eq_true rfl) rfl) hF (fun h15 σ28 R15 T15 hF => ?_)
    refine s_gI R15 (t_192 hm R15.S) (Nat.le_of_ble_eq_true rfl) rfl ?_
    refine s_kok R15 (t_192 hm R15.S) (Nat.le_of_ble_eq_true rfl) ?_
    refine s_call R15 (Nat.zero_le _) (fun _ hq => SX35_mean (b := 0) (N := N) hm (R15.rf) rfl rl3 (c_add (c_lit 100000 100000 rfl) rfl) (rr_I _) rfl rl2 hq) hF (fun f18 rv18 h18 q33 R18 e18 E18 hF => ?_)
    refine s_gI R18 (t_192 hm R18.S) (Nat.le_of_ble_eq_true rfl) rfl ?_
    refine s_pI R18 (t_192 hm R18.S) (Nat.le_of_ble_eq_true rfl) rfl (c_add rfl (c_lit 1 1 rfl)) (rr_I _) hF (fun h20 σ36 R20 T20 hF => ?_)
    exact SX35_define_b437 (N := N) (sE := sE) (SE := SE) hm @hsE R20 hF
def FX35_define_b171 (N : Nat) (SE : Int → fS → Option (Unit × fS)) : Nat → Int → Int → Int → Int → Int → Int → Int → fS → Option (Unit × fS)
  | 0, _, _, _, _, _, _, _, _ => none
  | n + 1, l1, l2, l3, l4, l5, l7, l8, s =>
    if ¬ ((s.i 192 46) = 0) then
      FX35_define_b361 N SE l2 l3 l4 l5 l7 s
    else
      if l8 ≤ 0 then
        FX35_define_b361 N SE l2 l3 l4 l5 l7 s
      else
        if l1 = 0 then
          (FX35_need N s).bind fun q7 =>
          FX35_define_b198 N SE (FX35_define_b171 N SE n) l1 l2 l3 l4 l5 l7 l8 q7.1 q7.2
        else
          (FX35_needExpanded N SE s).bind fun q9 =>
          FX35_define_b198 N SE (FX35_define_b171 N SE n) l1 l2 l3 l4 l5 l7 l8 q9.1 q9.2
theorem SX35_define_b171 {m b : Nat} {φ0 : Nat → Nat} {σo : fS} (hm : 1 ≤ m) (hb : 1 ≤ b) {N : Nat} {sE : Nat → Int32 → eH → Option (Unit × eH)} {SE : Int → fS → Option (Unit × fS)} {q : Unit × fS} (hsE : ∀ {φ : Nat → Nat} {h : eH} {s : fS} {x1' : Int32} {x1 : Int} {q}, fC m 1 φ s φ h s → x1' = iI x1 → r32 x1 → SE x1 s = some q → gG m 1 φ s lU q (sE 192 x1' h)) : ∀ {n : Nat} {φ : Nat → Nat} {h : eH} {s : fS} {l1' : Int32} {l1 : Int} {l2' : Int32} {l2 : Int} {l3' : Int32} {l3 : Int} {l4' : Int32} {l4 : Int} {l5' : Int32} {l5 : Int} {l7' : Int32} {l7 : Int} {l8' : Int32} {l8 : Int}, fC m b φ0 σo φ h s → l1' = iI l1 → r32 l1 → l2' = iI l2 → r32 l2 → l3' = iI l3 → r32 l3 → l4' = iI l4 → r32 l4 → l5' = iI l5 → r32 l5 → l7' = iI l7 → r32 l7 → l8' = iI l8 → r32 l8 → FX35_define_b171 N SE n l1 l2 l3 l4 l5 l7 l8 s = some q → gG m b φ0 σo lU q (fX35_define_b171 N sE n 192 l1' l2' l3' l4' l5' l7' l8' h) := by
  intro n
  induction n with
 | zero => intro φ h s l1' l1 l2' l2 l3' l3 l4' l4 l5' l5 l7' l7 l8' l8 R el1 rl1 el2 rl2 el3 rl3 el4 rl4 el5 rl5 el7 rl7 el8 rl8 hF; simp [FX35_define_b171] at hF
  | succ n ih =>
    intro φ h s l1' l1 l2' l2 l3' l3 l4' l4 l5' l5 l7' l7 l8' l8 R el1 rl1 el2 rl2 el3 rl3 el4 rl4 el5 rl5 el7 rl7 el8 rl8 hF
    subst el1; subst el2; subst el3; subst el4; subst el5; subst el7; subst el8
    rw [FX35_define_b171] at hF
    rw [fX35_define_b171]
    refine s_gI R (t_192 hm R.S) (Nat.le_of_ble_eq_true rfl) rfl ?_
    refine s_if (not_congr (i_eq rfl (c_lit 0 0 rfl) (R.ri (t_192 hm R.S) (Nat.le_of_ble_eq_true rfl) rfl) ⟨by decide, by decide⟩)) hF (fun c2 hF => ?_) (fun c2 hF => ?_)
    ·
      exact SX35_define_b361 (N := N) (sE := sE) (SE := SE) hm @hsE R rfl rl2 rfl rl3 rfl rl4 rfl rl5 rfl rl7 hF
    ·
      refine s_if (i_le rfl (c_lit 0 0 rfl) rl8 ⟨by decide, by decide⟩) hF (fun c3 hF => ?_) (fun c3 hF => ?_)
      ·
        exact SX35_define_b361 (N := N) (sE := sE) (SE := SE) hm @hsE R rfl rl2 rfl rl3 rfl rl4 rfl rl5 rfl rl7 hF
      ·
        refine s_if (i_eq rfl (c_lit 0 0 rfl) rl1 ⟨by decide, by decide⟩) hF (fun c4 hF => ?_) (fun c4 hF => ?_)
        ·
          refine s_kok R (t_192 hm R.S) (Nat.le_of_ble_eq_true rfl) ?_
          refine s_call R (Nat.zero_le _) (fun _ hq => SX35_need (b := 0) (N := N) hm (R.rf) hq) hF (fun f6 rv6 h6 q7 R6 e6 E6 hF => ?_)
          exact SX35_define_b198 (N := N) (sE := sE) (SE := SE) (k171 := fX35_define_b171 N sE n) (K171 := FX35_define_b171 N SE n) hm hb @hsE @ih R6 rfl rl1 rfl rl2 rfl rl3 rfl rl4 rfl rl5 rfl rl7 rfl rl8 e6.1 e6.2 hF
        ·
          refine s_kok R (t_192 hm R.S) (Nat.le_of_ble_eq_true rfl) ?_
          refine s_call R hb (fun _ hq => SX35_needExpanded (b := 1) (N := N) (sE := sE) (SE := SE) hm (Nat.le_of_ble_eq_true rfl) @hsE (R.rf) hq) hF (fun f8 rv8 h8 q9 R8 e8 E8 hF => ?_)
          exact SX35_define_b198 (N := N) (sE := sE) (SE := SE) (k171 := fX35_define_b171 N sE n) (K171 := FX35_define_b171 N SE n) hm hb @hsE @ih R8 rfl rl1 rfl rl2 rfl rl3 rfl rl4 rfl rl5 rfl rl7 rfl rl8 e8.1 e8.2 hF
def FX35_define_b162 (N : Nat) (SE : Int → fS → Option (Unit × fS)) (l1 : Int) (l2 : Int) (l3 : Int) (l4 : Int) (l5 : Int) (s : fS) : Option (Unit × fS) :=
  FX35_define_b171 N SE N l1 l2 l3 l4 l5 (s.i 192 35) 1 s
theorem SX35_define_b162 {m b : Nat} {φ0 : Nat → Nat} {σo : fS} (hm : 1 ≤ m) (hb : 1 ≤ b) {N : Nat} {sE : Nat → Int32 → eH → Option (Unit × eH)} {SE : Int → fS → Option (Unit × fS)} {q : Unit × fS} (hsE : ∀ {φ : Nat → Nat} {h : eH} {s : fS} {x1' : Int32} {x1 : Int} {q}, fC m 1 φ s φ h s → x1' = iI x1 → r32 x1 → SE x1 s = some q → gG m 1 φ s lU q (sE 192 x1' h)) {φ : Nat → Nat} {h : eH} {s : fS} {l1' : Int32} {l1 : Int} {l2' : Int32} {l2 : Int} {l3' : Int32} {l3 : Int} {l4' : Int32} {l4 : Int} {l5' : Int32} {l5 : Int} (R : fC m b φ0 σo φ h s) (el1 : l1' = iI l1) (rl1 : r32 l1) (el2 : l2' = iI l2) (rl2 : r32 l2) (el3 : l3' = iI l3) (rl3 : r32 l3) (el4 : l4' = iI l4) (rl4 : r32 l4) (el5 : l5' = iI l5) (rl5 : r32 l5) (hF : FX35_define_b162 N SE l1 l2 l3 l4 l5 s = some q) : gG m b φ0 σo lU q (fX35_define_b162 N sE 192 l1' l2' l3' l4' l5' h) := by
  subst el1; subst el2; subst el3; subst el4; subst el5
  unfold FX35_define_b162 at hF
  unfold fX35_define_b162
  refine s_gI R (t_192 hm R.S) (Nat.le_of_ble_eq_true rfl) rfl ?_
  exact SX35_define_b171 (N := N) (sE := sE) (SE := SE) hm hb @hsE R rfl rl1 rfl rl2 rfl rl3 rfl rl4 rfl rl5 rfl (R.ri (t_192 hm R.S) (Nat.le_of_ble_eq_true rfl) rfl) (c_lit 1 1 rfl) ⟨by decide, by decide⟩ hF
def FX35_define_b47 (N : Nat) (SE : Int → fS → Option (Unit × fS)) : Nat → Int → Int → Int → Int → Int → Int → fS → Option (Unit × fS)
  | 0, _, _, _, _, _, _, _ => none
  | n + 1, l1, l2, l3, l4, l5, l6, s =>
    if ¬ ((s.i 192 46) = 0) then
      FX35_define_b162 N SE l1 l2 l3 l4 l5 s
    else
      (FX35_isOf l6 1 s).bind fun q4 =>
      if ¬ (q4.1 = 0) then
        FX35_define_b162 N SE l1 l2 l3 l4 l5 q4.2
      else
        (FX35_isOf l6 2 q4.2).bind fun q6 =>
        if q6.1 = 0 then
          (FX35_isOf l6 6 q6.2).bind fun q8 =>
          if q8.1 = 0 then
            (FX35_keep l6 q8.2).bind fun q11 =>
            FX35_define_b153 N SE (FX35_define_b47 N SE n) l1 l2 l3 l4 l5 q11.2
          else
            (FX35_need N q8.2).bind fun q13 =>
            if ¬ ((q13.2.i 192 46) = 0) then
              FX35_define_b134 N SE (FX35_define_b47 N SE n) l1 l2 l3 l4 (iadd l5 1) q13.2
            else
              (FX35_isDigit q13.1 q13.2).bind fun q17 =>
              if q17.1 = 0 then
                FX35_define_b128 N SE (FX35_define_b47 N SE n) l1 l2 l3 l4 (iadd l5 1) q17.2
              else
                if (irem q13.1 256) = (iadd 48 (iadd l5 1)) then
                  FX35_define_b134 N SE (FX35_define_b47 N SE n) l1 l2 l3 l4 (iadd l5 1) q17.2
                else
                  FX35_define_b128 N SE (FX35_define_b47 N SE n) l1 l2 l3 l4 (iadd l5 1) q17.2
        else
          (FX35_fail 5 q6.2).bind fun q21 =>
          FX35_define_b153 N SE (FX35_define_b47 N SE n) l1 l2 l3 l4 l5 q21.2
theorem SX35_define_b47 {m b : Nat} {φ0 : Nat → Nat} {σo : fS} (hm : 1 ≤ m) (hb : 1 ≤ b) {N : Nat} {sE : Nat → Int32 → eH → Option (Unit × eH)} {SE : Int → fS → Option (Unit × fS)} {q : Unit × fS} (hsE : ∀ {φ : Nat → Nat} {h : eH} {s : fS} {x1' : Int32} {x1 : Int} {q}, fC m 1 φ s φ h s → x1' = iI x1 → r32 x1 → SE x1 s = some q → gG m 1 φ s lU q (sE 192 x1' h)) : ∀ {n : Nat} {φ : Nat → Nat} {h : eH} {s : fS} {l1' : Int32} {l1 : Int} {l2' : Int32} {l2 : Int} {l3' : Int32} {l3 : Int} {l4' : Int32} {l4 : Int} {l5' : Int32} {l5 : Int} {l6' : Int32} {l6 : Int}, fC m b φ0 σo φ h s → l1' = iI l1 → r32 l1 → l2' = iI l2 → r32 l2 → l3' = iI l3 → r32 l3 → l4' = iI l4 → r32 l4 → l5' = iI l5 → r32 l5 → l6' = iI l6 → r32 l6 → FX35_define_b47 N SE n l1 l2 l3 l4 l5 l6 s = some q → gG m b φ0 σo lU q (fX35_define_b47 N sE n 192 l1' l2' l3' l4' l5' l6' h) := by
  intro n
  induction n with
 | zero => intro φ h s l1' l1 l2' l2 l3' l3 l4' l4 l5' l5 l6' l6 R el1 rl1 el2 rl2 el3 rl3 el4 rl4 el5 rl5 el6 rl6 hF; simp [FX35_define_b47] at hF
  | succ n ih =>
    intro φ h s l1' l1 l2' l2 l3' l3 l4' l4 l5' l5 l6' l6 R el1 rl1 el2 rl2 el3 rl3 el4 rl4 el5 rl5 el6 rl6 hF
    subst el1; subst el2; subst el3; subst el4; subst el5; subst el6
    rw [FX35_define_b47] at hF
    rw [fX35_define_b47]
    refine s_gI R (t_192 hm R.S) (Nat.le_of_ble_eq_true rfl) rfl ?_
    refine s_if (not_congr (i_eq rfl (c_lit 0 0 rfl) (R.ri (t_192 hm R.S) (Nat.le_of_ble_eq_true rfl) rfl) ⟨by decide, by decide⟩)) hF (fun c2 hF => ?_) (fun c2 hF => ?_)
    ·
      exact SX35_define_b162 (N := N) (sE := sE) (SE := SE) hm hb @hsE R rfl rl1 rfl rl2 rfl rl3 rfl rl4 rfl rl5 hF
    ·
      refine s_call R (Nat.zero_le _) (fun _ hq => SX35_isOf (b := 0) hm (R.rf) rfl rl6 (c_lit 1 1 rfl) ⟨by decide, by decide⟩ hq) hF (fun f3 rv3 h3 q4 R3 e3 E3 hF => ?_)
      refine s_if (not_congr (i_eq e3.1 (c_lit 0 0 rfl) e3.2 ⟨by decide, by decide⟩)) hF (fun c4 hF => ?_) (fun c4 hF => ?_)
      ·
        exact SX35_define_b162 (N := N) (sE := sE) (SE := SE) hm hb @hsE R3 rfl rl1 rfl rl2 rfl rl3 rfl rl4 rfl rl5 hF
      ·
        refine s_call R3 (Nat.zero_le _) (fun _ hq => SX35_isOf (b := 0) hm (R3.rf) rfl rl6 (c_lit 2 2 rfl) ⟨by decide, by decide⟩ hq) hF (fun f5 rv5 h5 q6 R5 e5 E5 hF => ?_)
        refine s_if (i_eq e5.1 (c_lit 0 0 rfl) e5.2 ⟨by decide, by decide⟩) hF (fun c6 hF => ?_) (fun c6 hF => ?_)
        ·
          refine s_call R5 (Nat.zero_le _) (fun _ hq => SX35_isOf (b := 0) hm (R5.rf) rfl rl6 (c_lit 6 6 rfl) ⟨by decide, by decide⟩ hq) hF (fun f7 rv7 h7 q8 R7 e7 E7 hF => ?_)
          refine s_if (i_eq e7.1 (c_lit 0 0 rfl) e7.2 ⟨by decide, by decide⟩) hF (fun c8 hF => ?_) (fun c8 hF => ?_)
          ·
            refine s_kok R7 (t_192 hm R7.S) (Nat.le_of_ble_eq_true rfl) ?_
            refine s_call R7 (Nat.zero_le _) (fun _ hq => SX35_keep (b := 0) hm (R7.rf) rfl rl6 hq) hF (fun f10 rv10 h10 q11 R10 e10 E10 hF => ?_)
            exact SX35_define_b153 (N := N) (sE := sE) (SE := SE) (k47 := fX35_define_b47 N sE n) (K47 := FX35_define_b47 N SE n) hm hb @hsE @ih R10 rfl rl1 rfl rl2 rfl rl3 rfl rl4 rfl rl5 hF
          ·
            refine s_kok R7 (t_192 hm R7.S) (Nat.le_of_ble_eq_true rfl) ?_
            refine s_call R7 (Nat.zero_le _) (fun _ hq => SX35_need (b := 0) (N := N) hm (R7.rf) hq) hF (fun f12 rv12 h12 q13 R12 e12 E12 hF => ?_)
            refine s_gI R12 (t_192 hm R12.S) (Nat.le_of_ble_eq_true rfl) rfl ?_
            refine s_if (not_congr (i_eq rfl (c_lit 0 0 rfl) (R12.ri (t_192 hm R12.S) (Nat.le_of_ble_eq_true rfl) rfl) ⟨by decide, by decide⟩)) hF (fun c14 hF => ?_) (fun c14 hF => ?_)
            ·
              exact SX35_define_b134 (N := N) (sE := sE) (SE := SE) (k47 := fX35_define_b47 N sE n) (K47 := FX35_define_b47 N SE n) hm hb @hsE @ih R12 rfl rl1 rfl rl2 rfl rl3 rfl rl4 (c_add rfl (c_lit 1 1 rfl)) (rr_I _) hF
            ·
              refine s_call R12 (Nat.zero_le _) (fun _ hq => SX35_isDigit (b := 0) hm (R12.rf) e12.1 e12.2 hq) hF (fun f15 rv15 h15 q17 R15 e15 E15 hF => ?_)
              refine s_if (i_eq e15.1 (c_lit 0 0 rfl) e15.2 ⟨by decide, by decide⟩) hF (fun c16 hF => ?_) (fun c16 hF => ?_)
              ·
                exact SX35_define_b128 (N := N) (sE := sE) (SE := SE) (k47 := fX35_define_b47 N sE n) (K47 := FX35_define_b47 N SE n) hm hb @hsE @ih R15 rfl rl1 rfl rl2 rfl rl3 rfl rl4 (c_add rfl (c_lit 1 1 rfl)) (rr_I _) hF
              ·
                refine s_if (i_eq (c_rem e12.1 (c_lit 256 256 rfl)) (c_add (c_lit 48 48 rfl) (c_add rfl (c_lit 1 1 rfl))) (rr_I _) (rr_I _)) hF (fun c17 hF => ?_) (fun c17 hF => ?_)
                ·
                  exact SX35_define_b134 (N := N) (sE := sE) (SE := SE) (k47 := fX35_define_b47 N sE n) (K47 := FX35_define_b47 N SE n) hm hb @hsE @ih R15 rfl rl1 rfl rl2 rfl rl3 rfl rl4 (c_add rfl (c_lit 1 1 rfl)) (rr_I _) hF
                ·
                  exact SX35_define_b128 (N := N) (sE := sE) (SE := SE) (k47 := fX35_define_b47 N sE n) (K47 := FX35_define_b47 N SE n) hm hb @hsE @ih R15 rfl rl1 rfl rl2 rfl rl3 rfl rl4 (c_add rfl (c_lit 1 1 rfl)) (rr_I _) hF
        ·
          refine s_kok R5 (t_192 hm R5.S) (Nat.le_of_ble_eq_true rfl) ?_
          refine s_call R5 (Nat.zero_le _) (fun _ hq => SX35_fail (b := 0) hm (R5.rf) (c_lit 5 5 rfl) ⟨by decide, by decide⟩ hq) hF (fun f19 rv19 h19 q21 R19 e19 E19 hF => ?_)
          exact SX35_define_b153 (N := N) (sE := sE) (SE := SE) (k47 := fX35_define_b47 N sE n) (K47 := FX35_define_b47 N SE n) hm hb @hsE @ih R19 rfl rl1 rfl rl2 rfl rl3 rfl rl4 rfl rl5 hF
def FX35_define_b32 (N : Nat) (SE : Int → fS → Option (Unit × fS)) (l1 : Int) (l2 : Int) (l3 : Int) (s : fS) : Option (Unit × fS) :=
  (FX35_need N s).bind fun q4 =>
  FX35_define_b47 N SE N l1 l2 l3 (s.i 192 35) 0 q4.1 q4.2
theorem SX35_define_b32 {m b : Nat} {φ0 : Nat → Nat} {σo : fS} (hm : 1 ≤ m) (hb : 1 ≤ b) {N : Nat} {sE : Nat → Int32 → eH → Option (Unit × eH)} {SE : Int → fS → Option (Unit × fS)} {q : Unit × fS} (hsE : ∀ {φ : Nat → Nat} {h : eH} {s : fS} {x1' : Int32} {x1 : Int} {q}, fC m 1 φ s φ h s → x1' = iI x1 → r32 x1 → SE x1 s = some q → gG m 1 φ s lU q (sE 192 x1' h)) {φ : Nat → Nat} {h : eH} {s : fS} {l1' : Int32} {l1 : Int} {l2' : Int32} {l2 : Int} {l3' : Int32} {l3 : Int} (R : fC m b φ0 σo φ h s) (el1 : l1' = iI l1) (rl1 : r32 l1) (el2 : l2' = iI l2) (rl2 : r32 l2) (el3 : l3' = iI l3) (rl3 : r32 l3) (hF : FX35_define_b32 N SE l1 l2 l3 s = some q) : gG m b φ0 σo lU q (fX35_define_b32 N sE 192 l1' l2' l3' h) := by
  subst el1; subst el2; subst el3
  unfold FX35_define_b32 at hF
  unfold fX35_define_b32
  refine s_gI R (t_192 hm R.S) (Nat.le_of_ble_eq_true rfl) rfl ?_
  refine s_kok R (t_192 hm R.S) (Nat.le_of_ble_eq_true rfl) ?_
  refine s_call R (Nat.zero_le _) (fun _ hq => SX35_need (b := 0) (N := N) hm (R.rf) hq) hF (fun f3 rv3 h3 q4 R3 e3 E3 hF => ?_)
  exact SX35_define_b47 (N := N) (sE := sE) (SE := SE) hm hb @hsE R3 rfl rl1 rfl rl2 rfl rl3 rfl (R.ri (t_192 hm R.S) (Nat.le_of_ble_eq_true rfl) rfl) (c_lit 0 0 rfl) ⟨by decide, by decide⟩ e3.1 e3.2 hF
def FX35_define (N : Nat) (SE : Int → fS → Option (Unit × fS)) (p0 : Int) (p1 : Int) (s : fS) : Option (Unit × fS) :=
  (FX35_target N s).bind fun q2 =>
  if ¬ ((q2.2.i 192 46) = 0) then
    FX35_define_b32 N SE p0 p1 q2.1 q2.2
  else
    if (iadd (q2.2.i 192 35) (q2.2.i 192 30)) < 10000 then
      FX35_define_b32 N SE p0 p1 q2.1 q2.2
    else
      (FX35_fail 2 q2.2).bind fun q12 =>
      FX35_define_b32 N SE p0 p1 q2.1 q12.2
theorem SX35_define {m b : Nat} {φ0 : Nat → Nat} {σo : fS} (hm : 1 ≤ m) (hb : 1 ≤ b) {N : Nat} {sE : Nat → Int32 → eH → Option (Unit × eH)} {SE : Int → fS → Option (Unit × fS)} {q : Unit × fS} (hsE : ∀ {φ : Nat → Nat} {h : eH} {s : fS} {x1' : Int32} {x1 : Int} {q}, fC m 1 φ s φ h s → x1' = iI x1 → r32 x1 → SE x1 s = some q → gG m 1 φ s lU q (sE 192 x1' h)) {φ : Nat → Nat} {h : eH} {s : fS} {p0' : Int32} {p0 : Int} {p1' : Int32} {p1 : Int} (R : fC m b φ0 σo φ h s) (ep0 : p0' = iI p0) (rp0 : r32 p0) (ep1 : p1' = iI p1) (rp1 : r32 p1) (hF : FX35_define N SE p0 p1 s = some q) : gG m b φ0 σo lU q (fX35_define N sE 192 p0' p1' h) := by
  subst ep0; subst ep1
  unfold FX35_define at hF
  unfold fX35_define
  refine s_kok R (t_192 hm R.S) (Nat.le_of_ble_eq_true rfl) ?_
  refine s_call R (Nat.zero_le _) (fun _ hq => SX35_target (b := 0) (N := N) hm (R.rf) hq) hF (fun f2 rv2 h2 q2 R2 e2 E2 hF => ?_)
  refine s_gI R2 (t_192 hm R2.S) (Nat.le_of_ble_eq_true rfl) rfl ?_
  refine s_if (not_congr (i_eq rfl (c_lit 0 0 rfl) (R2.ri (t_192 hm R2.S) (Nat.le_of_ble_eq_true rfl) rfl) ⟨by decide, by decide⟩)) hF (fun c4 hF => ?_) (fun c4 hF => ?_)
  ·
    exact SX35_define_b32 (N := N) (sE := sE) (SE := SE) hm hb @hsE R2 rfl rp0 rfl rp1 e2.1 e2.2 hF
  ·
    refine s_gI R2 (t_192 hm R2.S) (Nat.le_of_ble_eq_true rfl) rfl ?_
    refine s_gI R2 (t_192 hm R2.S) (Nat.le_of_ble_eq_true rfl) rfl ?_
    refine s_if (i_lt (c_add rfl rfl) (c_lit 10000 10000 rfl) (rr_I _) ⟨by decide, by decide⟩) hF (fun c7 hF => ?_) (fun c7 hF => ?_)
    ·
      exact SX35_define_b32 (N := N) (sE := sE) (SE := SE) hm hb @hsE R2 rfl rp0 rfl rp1 e2.1 e2.2 hF
    ·
      refine s_kok R2 (t_192 hm R2.S) (Nat.le_of_ble_eq_true rfl) ?_
      refine s_call R2 (Nat.zero_le _) (fun _ hq => SX35_fail (b := 0) hm (R2.rf) (c_lit 2 2 rfl) ⟨by decide, by decide⟩ hq) hF (fun f9 rv9 h9 q12 R9 e9 E9 hF => ?_)
      exact SX35_define_b32 (N := N) (sE := sE) (SE := SE) hm hb @hsE R9 rfl rp0 rfl rp1 e2.1 e2.2 hF
