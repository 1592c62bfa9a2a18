set_option maxRecDepth 100000
set_option maxHeartbeats 4000000
def FX37_isSize_b21 (s0 : Int) (s : fS) : Option (Int × fS) :=
  uZ s0 (s0, s)
theorem SX37_isSize_b21 {m b : Nat} {φ0 : Nat → Nat} {σo : fS} (hm : 1 ≤ m) {q : Int × fS} {φ : Nat → Nat} {h : eH} {s : fS} {s0' : Int32} {s0 : Int} (R : fC m b φ0 σo φ h s) (es0 : s0' = iI s0) (rs0 : r32 s0) (hF : FX37_isSize_b21 s0 s = some q) : gG m b φ0 σo lI q (fX37_isSize_b21 s0' h) := by
  subst es0
  unfold FX37_isSize_b21 at hF
  unfold fX37_isSize_b21
  exact g_z R rfl hF ⟨rfl, rs0⟩
def FX37_isSize_b20 (s : fS) : Option (Int × fS) :=
  FX37_isSize_b21 0 s
theorem SX37_isSize_b20 {m b : Nat} {φ0 : Nat → Nat} {σo : fS} (hm : 1 ≤ m) {q : Int × fS} {φ : Nat → Nat} {h : eH} {s : fS} (R : fC m b φ0 σo φ h s) (hF : FX37_isSize_b20 s = some q) : gG m b φ0 σo lI q (fX37_isSize_b20 h) := by
  unfold FX37_isSize_b20 at hF
  unfold fX37_isSize_b20
  exact SX37_isSize_b21 hm R (c_lit 0 0 rfl) ⟨by decide, by decide⟩ hF
def FX37_isSize (p0 : Int) (s : fS) : Option (Int × fS) :=
  if p0 < (-1073741823) then
    FX37_isSize_b20 s
  else
    if 1073741823 < p0 then
      FX37_isSize_b20 s
    else
      FX37_isSize_b21 1 s
theorem SX37_isSize {m b : Nat} {φ0 : Nat → Nat} {σo : fS} (hm : 1 ≤ m) {q : Int × fS} {φ : Nat → Nat} {h : eH} {s : fS} {p0' : Int64} {p0 : Int} (R : fC m b φ0 σo φ h s) (ep0 : p0' = iJ p0) (rp0 : r64 p0) (hF : FX37_isSize p0 s = some q) : gG m b φ0 σo lI q (fX37_isSize p0' h) := by
  subst ep0
  unfold FX37_isSize at hF
  unfold fX37_isSize
  refine s_if (lg_lt.trans (j_lt rfl (d_lit (-1073741823) (-1073741823) rfl) rp0 ⟨by decide, by decide⟩)) hF (fun c1 hF => ?_) (fun c1 hF => ?_)
  ·
    exact SX37_isSize_b20 hm R hF
  ·
    refine s_if ((lg_cmp_gt _ _).trans (j_lt (d_lit 1073741823 1073741823 rfl) rfl ⟨by decide, by decide⟩ rp0)) hF (fun c2 hF => ?_) (fun c2 hF => ?_)
    ·
      exact SX37_isSize_b20 hm R hF
    ·
      exact SX37_isSize_b21 hm R (c_lit 1 1 rfl) ⟨by decide, by decide⟩ hF
def FX37_fitsInSizes_b81 (N : Nat) (K17 : Int → Int → Int → Int → fS → Option (Int × fS)) (l3 : Int) (l5 : Int) (l7 : Int) (s0 : Int) (s : fS) : Option (Int × fS) :=
  (uRI s 216 l7).bind fun x3 =>
  (uRI s 218 l7).bind fun x7 =>
  K17 s0 (ladd l3 x3) (ladd l5 x7) (iadd l7 1) s
theorem SX37_fitsInSizes_b81 {m b : Nat} {φ0 : Nat → Nat} {σo : fS} (hm : 1 ≤ m) {N : Nat} {k17 : Nat → Int64 → Int64 → Int64 → Int32 → eH → Option (Int32 × eH)} {K17 : Int → Int → Int → Int → fS → Option (Int × fS)} {q : Int × fS} (hk17 : ∀ {φ : Nat → Nat} {h : eH} {s : fS} {l1' : Int64} {l1 : Int} {l3' : Int64} {l3 : Int} {l5' : Int64} {l5 : Int} {l7' : Int32} {l7 : Int}, fC m b φ0 σo φ h s → l1' = iJ l1 → r64 l1 → l3' = iJ l3 → r64 l3 → l5' = iJ l5 → r64 l5 → l7' = iI l7 → r32 l7 → K17 l1 l3 l5 l7 s = some q → gG m b φ0 σo lI q (k17 213 l1' l3' l5' l7' h)) {φ : Nat → Nat} {h : eH} {s : fS} {l3' : Int64} {l3 : Int} {l5' : Int64} {l5 : Int} {l7' : Int32} {l7 : Int} {s0' : Int64} {s0 : Int} (R : fC m b φ0 σo φ h s) (el3 : l3' = iJ l3) (rl3 : r64 l3) (el5 : l5' = iJ l5) (rl5 : r64 l5) (el7 : l7' = iI l7) (rl7 : r32 l7) (es0 : s0' = iJ s0) (rs0 : r64 s0) (hF : FX37_fitsInSizes_b81 N K17 l3 l5 l7 s0 s = some q) : gG m b φ0 σo lI q (fX37_fitsInSizes_b81 N k17 213 l3' l5' l7' s0' h) := by
  subst el3; subst el5; subst el7; subst es0
  unfold FX37_fitsInSizes_b81 at hF
  unfold fX37_fitsInSizes_b81
  refine s_gAs R (t_213 hm R.S) (Nat.le_of_ble_eq_true rfl) rfl (o_213_4 hm R.S) (a_216 hm R) ?_
  refine s_rI R (u_216 hm R.S).1 (u_216 hm R.S).2 (by decide) (a_216 hm R) rfl rl7 hF (fun x3 ra2 hF => ?_)
  refine s_gAs R (t_213 hm R.S) (Nat.le_of_ble_eq_true rfl) rfl (o_213_6 hm R.S) (a_218 hm R) ?_
  refine s_rI R (u_218 hm R.S).1 (u_218 hm R.S).2 (by decide) (a_218 hm R) rfl rl7 hF (fun x7 ra4 hF => ?_)
  exact hk17 R rfl rs0 (d_add rfl (c_2l rfl ra2)) (rr_J _) (d_add rfl (c_2l rfl ra4)) (rr_J _) (c_add rfl (c_lit 1 1 rfl)) (rr_I _) hF
def FX37_fitsInSizes_b53 (N : Nat) (K17 : Int → Int → Int → Int → fS → Option (Int × fS)) (l3 : Int) (l5 : Int) (l7 : Int) (s0 : Int) (s : fS) : Option (Int × fS) :=
  (uRI s 214 l7).bind fun x3 =>
  if ¬ (x3 = 5) then
    FX37_fitsInSizes_b81 N K17 l3 l5 l7 s0 s
  else
    (uRI s 220 l7).bind fun x8 =>
    (FX37_without x8 s).bind fun q10 =>
    FX37_fitsInSizes_b81 N K17 l3 l5 l7 (ladd s0 q10.1) q10.2
theorem SX37_fitsInSizes_b53 {m b : Nat} {φ0 : Nat → Nat} {σo : fS} (hm : 1 ≤ m) {N : Nat} {k17 : Nat → Int64 → Int64 → Int64 → Int32 → eH → Option (Int32 × eH)} {K17 : Int → Int → Int → Int → fS → Option (Int × fS)} {q : Int × fS} (hk17 : ∀ {φ : Nat → Nat} {h : eH} {s : fS} {l1' : Int64} {l1 : Int} {l3' : Int64} {l3 : Int} {l5' : Int64} {l5 : Int} {l7' : Int32} {l7 : Int}, fC m b φ0 σo φ h s → l1' = iJ l1 → r64 l1 → l3' = iJ l3 → r64 l3 → l5' = iJ l5 → r64 l5 → l7' = iI l7 → r32 l7 → K17 l1 l3 l5 l7 s = some q → gG m b φ0 σo lI q (k17 213 l1' l3' l5' l7' h)) {φ : Nat → Nat} {h : eH} {s : fS} {l3' : Int64} {l3 : Int} {l5' : Int64} {l5 : Int} {l7' : Int32} {l7 : Int} {s0' : Int64} {s0 : Int} (R : fC m b φ0 σo φ h s) (el3 : l3' = iJ l3) (rl3 : r64 l3) (el5 : l5' = iJ l5) (rl5 : r64 l5) (el7 : l7' = iI l7) (rl7 : r32 l7) (es0 : s0' = iJ s0) (rs0 : r64 s0) (hF : FX37_fitsInSizes_b53 N K17 l3 l5 l7 s0 s = some q) : gG m b φ0 σo lI q (fX37_fitsInSizes_b53 N k17 213 l3' l5' l7' s0' h) := by
  subst el3; subst el5; subst el7; subst es0
  unfold FX37_fitsInSizes_b53 at hF
  unfold fX37_fitsInSizes_b53
  refine s_gAs R (t_213 hm R.S) (Nat.le_of_ble_eq_true rfl) rfl (o_213_2 hm R.S) (a_214 hm R) ?_
  refine s_rI R (u_214 hm R.S).1 (u_214 hm R.S).2 (by decide) (a_214 hm R) rfl rl7 hF (fun x3 ra2 hF => ?_)
  refine s_if (not_congr (i_eq rfl (c_lit 5 5 rfl) ra2 ⟨by decide, by decide⟩)) hF (fun c3 hF => ?_) (fun c3 hF => ?_)
  ·
    exact SX37_fitsInSizes_b81 (N := N) (k17 := k17) (K17 := K17) hm @hk17 R rfl rl3 rfl rl5 rfl rl7 rfl rs0 hF
  ·
    refine s_gAs R (t_213 hm R.S) (Nat.le_of_ble_eq_true rfl) rfl (o_213_8 hm R.S) (a_220 hm R) ?_
    refine s_rI R (u_220 hm R.S).1 (u_220 hm R.S).2 (by decide) (a_220 hm R) rfl rl7 hF (fun x8 ra5 hF => ?_)
    refine s_call R (Nat.zero_le _) (fun _ hq => SX37_without (b := 0) hm (R.rf) rfl ra5 hq) hF (fun f6 rv6 h6 q10 R6 e6 E6 hF => ?_)
    exact SX37_fitsInSizes_b81 (N := N) (k17 := k17) (K17 := K17) hm @hk17 R6 rfl rl3 rfl rl5 rfl rl7 (d_add rfl e6.1) (rr_J _) hF
def FX37_fitsInSizes_b191 (N : Nat) (s0 : Int) (s : fS) : Option (Int × fS) :=
  uZ s0 (s0, s)
theorem SX37_fitsInSizes_b191 {m b : Nat} {φ0 : Nat → Nat} {σo : fS} (hm : 1 ≤ m) {N : Nat} {q : Int × fS} {φ : Nat → Nat} {h : eH} {s : fS} {s0' : Int32} {s0 : Int} (R : fC m b φ0 σo φ h s) (es0 : s0' = iI s0) (rs0 : r32 s0) (hF : FX37_fitsInSizes_b191 N s0 s = some q) : gG m b φ0 σo lI q (fX37_fitsInSizes_b191 N s0' h) := by
  subst es0
  unfold FX37_fitsInSizes_b191 at hF
  unfold fX37_fitsInSizes_b191
  exact g_z R rfl hF ⟨rfl, rs0⟩
def FX37_fitsInSizes_b190 (N : Nat) (s : fS) : Option (Int × fS) :=
  FX37_fitsInSizes_b191 N 0 s
theorem SX37_fitsInSizes_b190 {m b : Nat} {φ0 : Nat → Nat} {σo : fS} (hm : 1 ≤ m) {N : Nat} {q : Int × fS} {φ : Nat → Nat} {h : eH} {s : fS} (R : fC m b φ0 σo φ h s) (hF : FX37_fitsInSizes_b190 N s = some q) : gG m b φ0 σo lI q (fX37_fitsInSizes_b190 N h) := by
  unfold FX37_fitsInSizes_b190 at hF
  unfold fX37_fitsInSizes_b190
  exact SX37_fitsInSizes_b191 (N := N) hm R (c_lit 0 0 rfl) ⟨by decide, by decide⟩ hF
def FX37_fitsInSizes_b115 (N : Nat) : Nat → Int → Int → Int → Int → fS → Option (Int × fS)
  | 0, _, _, _, _, _ => none
  | n + 1, l1, l3, l5, l7, s =>
    if 3 ≤ l7 then
      (FX37_isSize l1 s).bind fun q2 =>
      if q2.1 = 0 then
        FX37_fitsInSizes_b190 N q2.2
      else
        (FX37_isSize l3 q2.2).bind fun q4 =>
        if q4.1 = 0 then
          FX37_fitsInSizes_b190 N q4.2
        else
          (FX37_isSize l5 q4.2).bind fun q6 =>
          if q6.1 = 0 then
            FX37_fitsInSizes_b190 N q6.2
          else
            FX37_fitsInSizes_b191 N 1 q6.2
    else
      (uRI s 223 l7).bind fun x10 =>
      (FX37_without x10 s).bind fun q12 =>
      (uRI q12.2 224 l7).bind fun x15 =>
      (uRI q12.2 226 l7).bind fun x19 =>
      FX37_fitsInSizes_b115 N n (ladd l1 q12.1) (ladd l3 x15) (ladd l5 x19) (iadd l7 1) q12.2
theorem SX37_fitsInSizes_b115 {m b : Nat} {φ0 : Nat → Nat} {σo : fS} (hm : 1 ≤ m) {N : Nat} {q : Int × fS} : ∀ {n : Nat} {φ : Nat → Nat} {h : eH} {s : fS} {l1' : Int64} {l1 : Int} {l3' : Int64} {l3 : Int} {l5' : Int64} {l5 : Int} {l7' : Int32} {l7 : Int}, fC m b φ0 σo φ h s → l1' = iJ l1 → r64 l1 → l3' = iJ l3 → r64 l3 → l5' = iJ l5 → r64 l5 → l7' = iI l7 → r32 l7 → FX37_fitsInSizes_b115 N n l1 l3 l5 l7 s = some q → gG m b φ0 σo lI q (fX37_fitsInSizes_b115 N n 213 l1' l3' l5' l7' h) := by
  intro n
  induction n with
 | zero => intro φ h s l1' l1 l3' l3 l5' l5 l7' l7 R el1 rl1 el3 rl3 el5 rl5 el7 rl7 hF; simp [FX37_fitsInSizes_b115] at hF
  | succ n ih =>
    intro φ h s l1' l1 l3' l3 l5' l5 l7' l7 R el1 rl1 el3 rl3 el5 rl5 el7 rl7 hF
    subst el1; subst el3; subst el5; subst el7
    rw [FX37_fitsInSizes_b115] at hF
    rw [fX37_fitsInSizes_b115]
    refine s_if (i_le (c_lit 3 3 rfl) rfl ⟨by decide, by decide⟩ rl7) hF (fun c1 hF => ?_) (fun c1 hF => ?_)
    ·
      refine s_call R (Nat.zero_le _) (fun _ hq => SX37_isSize (b := 0) hm (R.rf) rfl rl1 hq) hF (fun f2 rv2 h2 q2 R2 e2 E2 hF => ?_)
      refine s_if (i_eq e2.1 (c_lit 0 0 rfl) e2.2 ⟨by decide, by decide⟩) hF (fun c3 hF => ?_) (fun c3 hF => ?_)
      ·
        exact SX37_fitsInSizes_b190 (N := N) hm R2 hF
      ·
        refine s_call R2 (Nat.zero_le _) (fun _ hq => SX37_isSize (b := 0) hm (R2.rf) rfl rl3 hq) hF (fun f4 rv4 h4 q4 R4 e4 E4 hF => ?_)
        refine s_if (i_eq e4.1 (c_lit 0 0 rfl) e4.2 ⟨by decide, by decide⟩) hF (fun c5 hF => ?_) (fun c5 hF => ?_)
        ·
          exact SX37_fitsInSizes_b190 (N := N) hm R4 hF
        ·
          refine s_call R4 (Nat.zero_le _) (fun _ hq => SX37_isSize (b := 0) hm (R4.rf) rfl rl5 hq) hF (fun f6 rv6 h6 q6 R6 e6 E6 hF => ?_)
          refine s_if (i_eq e6.1 (c_lit 0 0 rfl) e6.2 ⟨by decide, by decide⟩) hF (fun c7 hF => ?_) (fun c7 hF => ?_)
          ·
            exact SX37_fitsInSizes_b190 (N := N) hm R6 hF
          ·
            exact SX37_fitsInSizes_b191 (N := N) hm R6 (c_lit 1 1 rfl) ⟨by decide, by decide⟩ hF
    ·
      refine s_gAs R (t_213 hm R.S) (Nat.le_of_ble_eq_true rfl) rfl (o_213_12 hm R.S) (a_223 hm R) ?_
      refine s_rI R (u_223 hm R.S).1 (u_223 hm R.S).2 (by decide) (a_223 hm R) rfl rl7 hF (fun x10 ra9 hF => ?_)
      refine s_call R (Nat.zero_le _) (fun _ hq => SX37_without (b := 0) hm (R.rf) rfl ra9 hq) hF (fun f10 rv10 h10 q12 R10 e10 E10 hF => ?_)
      refine s_gAs R10 (t_213 hm R10.S) (Nat.le_of_ble_eq_true rfl) rfl (o_213_13 hm R10.S) (a_224 hm R10) ?_
      refine s_rI R10 (u_224 hm R10.S).1 (u_224 hm R10.S).2 (by decide) (a_224 hm R10) rfl rl7 hF (fun x15 ra12 hF => ?_)
      refine s_gAs R10 (t_213 hm R10.S) (Nat.le_of_ble_eq_true rfl) rfl (o_213_15 hm R10.S) (a_226 hm R10) ?_
      refine s_rI R10 (u_226 hm R10.S).1 (u_226 hm R10.S).2 (by decide) (a_226 hm R10) rfl rl7 hF (fun x19 ra14 hF => ?_)
      exact ih R10 (d_add rfl e10.1) (rr_J _) (d_add rfl (c_2l rfl ra12)) (rr_J _) (d_add rfl (c_2l rfl ra14)) (rr_J _) (c_add rfl (c_lit 1 1 rfl)) (rr_I _) hF
def FX37_fitsInSizes_b17 (N : Nat) : Nat → Int → Int → Int → Int → fS → Option (Int × fS)
  | 0, _, _, _, _, _ => none
  | n + 1, l1, l3, l5, l7, s =>
    if (s.i 213 1) ≤ l7 then
      FX37_fitsInSizes_b115 N N l1 l3 l5 0 s
    else
      (uRI s 214 l7).bind fun x6 =>
      if ¬ (x6 = 4) then
        (uRI s 215 l7).bind fun x11 =>
        (FX37_without x11 s).bind fun q13 =>
        FX37_fitsInSizes_b53 N (FX37_fitsInSizes_b17 N n) l3 l5 l7 (ladd l1 q13.1) q13.2
      else
        FX37_fitsInSizes_b53 N (FX37_fitsInSizes_b17 N n) l3 l5 l7 l1 s
theorem SX37_fitsInSizes_b17 {m b : Nat} {φ0 : Nat → Nat} {σo : fS} (hm : 1 ≤ m) {N : Nat} {q : Int × fS} : ∀ {n : Nat} {φ : Nat → Nat} {h : eH} {s : fS} {l1' : Int64} {l1 : Int} {l3' : Int64} {l3 : Int} {l5' : Int64} {l5 : Int} {l7' : Int32} {l7 : Int}, fC m b φ0 σo φ h s → l1' = iJ l1 → r64 l1 → l3' = iJ l3 → r64 l3 → l5' = iJ l5 → r64 l5 → l7' = iI l7 → r32 l7 → FX37_fitsInSizes_b17 N n l1 l3 l5 l7 s = some q → gG m b φ0 σo lI q (fX37_fitsInSizes_b17 N n 213 l1' l3' l5' l7' h) := by
  intro n
  induction n with
 | zero => intro φ h s l1' l1 l3' l3 l5' l5 l7' l7 R el1 rl1 el3 rl3 el5 rl5 el7 rl7 hF; simp [FX37_fitsInSizes_b17] at hF
  | succ n ih =>
    intro φ h s l1' l1 l3' l3 l5' l5 l7' l7 R el1 rl1 el3 rl3 el5 rl5 el7 rl7 hF
    subst el1; subst el3; subst el5; subst el7
    rw [FX37_fitsInSizes_b17] at hF
    rw [fX37_fitsInSizes_b17]
    refine s_gI R (t_213 hm R.S) (Nat.le_of_ble_eq_true rfl) rfl ?_
    refine s_if (i_le rfl rfl (R.ri (t_213 hm R.S) (Nat.le_of_ble_eq_true rfl) rfl) rl7) hF (fun c2 hF => ?_) (fun c2 hF => ?_)
    ·
      exact SX37_fitsInSizes_b115 (N := N) hm R rfl rl1 rfl rl3 rfl rl5 (c_lit 0 0 rfl) ⟨by decide, by decide⟩ hF
    ·
      refine s_gAs R (t_213 hm R.S) (Nat.le_of_ble_eq_true rfl) rfl (o_213_2 hm R.S) (a_214 hm R) ?_
      refine s_rI R (u_214 hm R.S).1 (u_214 hm R.S).2 (by decide) (a_214 hm R) rfl rl7 hF (fun x6 ra4 hF => ?_)
      refine s_if (not_congr (i_eq rfl (c_lit 4 4 rfl) ra4 ⟨by decide, by decide⟩)) hF (fun c5 hF => ?_) (fun c5 hF => ?_)
      ·
        refine s_gAs R (t_213 hm R.S) (Nat.le_of_ble_eq_true rfl) rfl (o_213_3 hm R.S) (a_215 hm R) ?_
        refine s_rI R (u_215 hm R.S).1 (u_215 hm R.S).2 (by decide) (a_215 hm R) rfl rl7 hF (fun x11 ra7 hF => ?_)
        refine s_call R (Nat.zero_le _) (fun _ hq => SX37_without (b := 0) hm (R.rf) rfl ra7 hq) hF (fun f8 rv8 h8 q13 R8 e8 E8 hF => ?_)
        exact SX37_fitsInSizes_b53 (N := N) (k17 := fX37_fitsInSizes_b17 N n) (K17 := FX37_fitsInSizes_b17 N n) hm @ih R8 rfl rl3 rfl rl5 rfl rl7 (d_add rfl e8.1) (rr_J _) hF
      ·
        exact SX37_fitsInSizes_b53 (N := N) (k17 := fX37_fitsInSizes_b17 N n) (K17 := FX37_fitsInSizes_b17 N n) hm @ih R rfl rl3 rfl rl5 rfl rl7 rfl rl1 hF
def FX37_fitsInSizes (N : Nat) (s : fS) : Option (Int × fS) :=
  (uRI s 222 8).bind fun x3 =>
  FX37_fitsInSizes_b17 N N 0 x3 0 0 s
theorem SX37_fitsInSizes {m b : Nat} {φ0 : Nat → Nat} {σo : fS} (hm : 1 ≤ m) {N : Nat} {q : Int × fS} {φ : Nat → Nat} {h : eH} {s : fS} (R : fC m b φ0 σo φ h s) (hF : FX37_fitsInSizes N s = some q) : gG m b φ0 σo lI q (fX37_fitsInSizes N 213 h) := by
  unfold FX37_fitsInSizes at hF
  unfold fX37_fitsInSizes
  refine s_gAs R (t_213 hm R.S) (Nat.le_of_ble_eq_true rfl) rfl (o_213_10 hm R.S) (a_222 hm R) ?_
  refine s_rI R (u_222 hm R.S).1 (u_222 hm R.S).2 (by decide) (a_222 hm R) (c_lit 8 8 rfl) ⟨by decide, by decide⟩ hF (fun x3 ra2 hF => ?_)
  exact SX37_fitsInSizes_b17 (N := N) hm R (d_lit 0 0 rfl) ⟨by decide, by decide⟩ (c_2l rfl ra2) (r32.w ra2) (d_lit 0 0 rfl) ⟨by decide, by decide⟩ (c_lit 0 0 rfl) ⟨by decide, by decide⟩ hF
def FX37_sumUp_b152 (N : Nat) (K102 : Int → Int → Int → fS → Option (Unit × fS)) (l1 : Int) (l2 : Int) (l3 : Int) (s1 : Int) (s2 : Int) (s3 : Int) (s : fS) : Option (Unit × fS) :=
  (uQI s 241 s1 (iadd s2 s3)).bind fun σ1 =>
  K102 l1 l2 (iadd l3 1) σ1
theorem SX37_sumUp_b152 {m b : Nat} {φ0 : Nat → Nat} {σo : fS} (hm : 1 ≤ m) {N : Nat} {k102 : Nat → Int32 → Int32 → Int32 → eH → Option (Unit × eH)} {K102 : Int → Int → Int → fS → Option (Unit × fS)} {q : Unit × fS} (hk102 : ∀ {φ : Nat → Nat} {h : eH} {s : fS} {l1' : Int32} {l1 : Int} {l2' : Int32} {l2 : Int} {l3' : Int32} {l3 : Int}, fC m b φ0 σo φ h s → l1' = iI l1 → r32 l1 → l2' = iI l2 → r32 l2 → l3' = iI l3 → r32 l3 → K102 l1 l2 l3 s = some q → gG m b φ0 σo lU q (k102 213 l1' l2' l3' h)) {φ : Nat → Nat} {h : eH} {s : fS} {l1' : Int32} {l1 : Int} {l2' : Int32} {l2 : Int} {l3' : Int32} {l3 : Int} {s1' : Int32} {s1 : Int} {s2' : Int32} {s2 : Int} {s3' : Int32} {s3 : Int} (R : fC m b φ0 σo φ h s) (el1 : l1' = iI l1) (rl1 : r32 l1) (el2 : l2' = iI l2) (rl2 : r32 l2) (el3 : l3' = iI l3) (rl3 : r32 l3) (es1 : s1' = iI s1) (rs1 : r32 s1) (es2 : s2' = iI s2) (rs2 : r32 s2) (es3 : s3' = iI s3) (rs3 : r32 s3) (hF : FX37_sumUp_b152 N K102 l1 l2 l3 s1 s2 s3 s = some q) : gG m b φ0 σo lU q (fX37_sumUp_b152 N k102 213 l1' l2' l3' 241 s1' s2' s3' h) := by
  subst el1; subst el2; subst el3; subst es1; subst es2; subst es3
  unfold FX37_sumUp_b152 at hF
  unfold fX37_sumUp_b152
  refine s_qI R (u_241 hm R.S).1 (u_241 hm R.S).2 (by decide) (a_241 hm R) rfl rs1 (c_add rfl rfl) (rr_I _) hF (fun h1 σ1 R1 T1 hF => ?_)
  exact hk102 R1 rfl rl1 rfl rl2 (c_add rfl (c_lit 1 1 rfl)) (rr_I _) hF
def FX37_sumUp_b151 (N : Nat) (K102 : Int → Int → Int → fS → Option (Unit × fS)) (l1 : Int) (l2 : Int) (l3 : Int) (s1 : Int) (s2 : Int) (s : fS) : Option (Unit × fS) :=
  FX37_sumUp_b152 N K102 l1 l2 l3 s1 s2 0 s
theorem SX37_sumUp_b151 {m b : Nat} {φ0 : Nat → Nat} {σo : fS} (hm : 1 ≤ m) {N : Nat} {k102 : Nat → Int32 → Int32 → Int32 → eH → Option (Unit × eH)} {K102 : Int → Int → Int → fS → Option (Unit × fS)} {q : Unit × fS} (hk102 : ∀ {φ : Nat → Nat} {h : eH} {s : fS} {l1' : Int32} {l1 : Int} {l2' : Int32} {l2 : Int} {l3' : Int32} {l3 : Int}, fC m b φ0 σo φ h s → l1' = iI l1 → r32 l1 → l2' = iI l2 → r32 l2 → l3' = iI l3 → r32 l3 → K102 l1 l2 l3 s = some q → gG m b φ0 σo lU q (k102 213 l1' l2' l3' h)) {φ : Nat → Nat} {h : eH} {s : fS} {l1' : Int32} {l1 : Int} {l2' : Int32} {l2 : Int} {l3' : Int32} {l3 : Int} {s1' : Int32} {s1 : Int} {s2' : Int32} {s2 : Int} (R : fC m b φ0 σo φ h s) (el1 : l1' = iI l1) (rl1 : r32 l1) (el2 : l2' = iI l2) (rl2 : r32 l2) (el3 : l3' = iI l3) (rl3 : r32 l3) (es1 : s1' = iI s1) (rs1 : r32 s1) (es2 : s2' = iI s2) (rs2 : r32 s2) (hF : FX37_sumUp_b151 N K102 l1 l2 l3 s1 s2 s = some q) : gG m b φ0 σo lU q (fX37_sumUp_b151 N k102 213 l1' l2' l3' 241 s1' s2' h) := by
  subst el1; subst el2; subst el3; subst es1; subst es2
  unfold FX37_sumUp_b151 at hF
  unfold fX37_sumUp_b151
  exact SX37_sumUp_b152 (N := N) (k102 := k102) (K102 := K102) hm @hk102 R rfl rl1 rfl rl2 rfl rl3 rfl rs1 rfl rs2 (c_lit 0 0 rfl) ⟨by decide, by decide⟩ hF
def FX37_sumUp_b102 (N : Nat) (K2 : Int → fS → Option (Unit × fS)) : Nat → Int → Int → Int → fS → Option (Unit × fS)
  | 0, _, _, _, _ => none
  | n + 1, l1, l2, l3, s =>
    if 4 ≤ l3 then
      K2 (iadd l1 1) s
    else
      (uRI s 241 (iadd (imul 4 l1) l3)).bind fun x6 =>
      if l2 = 0 then
        FX37_sumUp_b151 N (FX37_sumUp_b102 N K2 n) l1 l2 l3 (iadd (iadd (imul 4 l1) 4) l3) x6 s
      else
        (uRI s 217 l1).bind fun x11 =>
        if ¬ (x11 = l3) then
          FX37_sumUp_b151 N (FX37_sumUp_b102 N K2 n) l1 l2 l3 (iadd (iadd (imul 4 l1) 4) l3) x6 s
        else
          (uRI s 216 l1).bind fun x16 =>
          FX37_sumUp_b152 N (FX37_sumUp_b102 N K2 n) l1 l2 l3 (iadd (iadd (imul 4 l1) 4) l3) x6 x16 s
theorem SX37_sumUp_b102 {m b : Nat} {φ0 : Nat → Nat} {σo : fS} (hm : 1 ≤ m) {N : Nat} {k2 : Nat → Int32 → eH → Option (Unit × eH)} {K2 : Int → fS → Option (Unit × fS)} {q : Unit × fS} (hk2 : ∀ {φ : Nat → Nat} {h : eH} {s : fS} {l1' : Int32} {l1 : Int}, fC m b φ0 σo φ h s → l1' = iI l1 → r32 l1 → K2 l1 s = some q → gG m b φ0 σo lU q (k2 213 l1' h)) : ∀ {n : Nat} {φ : Nat → Nat} {h : eH} {s : fS} {l1' : Int32} {l1 : Int} {l2' : Int32} {l2 : Int} {l3' : Int32} {l3 : Int}, fC m b φ0 σo φ h s → l1' = iI l1 → r32 l1 → l2' = iI l2 → r32 l2 → l3' = iI l3 → r32 l3 → FX37_sumUp_b102 N K2 n l1 l2 l3 s = some q → gG m b φ0 σo lU q (fX37_sumUp_b102 N k2 n 213 l1' l2' l3' h) := by
  intro n
  induction n with
 | zero => intro φ h s l1' l1 l2' l2 l3' l3 R el1 rl1 el2 rl2 el3 rl3 hF; simp [FX37_sumUp_b102] at hF
  | succ n ih =>
    intro φ h s l1' l1 l2' l2 l3' l3 R el1 rl1 el2 rl2 el3 rl3 hF
    subst el1; subst el2; subst el3
    rw [FX37_sumUp_b102] at hF
    rw [fX37_sumUp_b102]
    refine s_if (i_le (c_lit 4 4 rfl) rfl ⟨by decide, by decide⟩ rl3) hF (fun c1 hF => ?_) (fun c1 hF => ?_)
    ·
      exact hk2 R (c_add rfl (c_lit 1 1 rfl)) (rr_I _) hF
    ·
      refine s_gAs R (t_213 hm R.S) (Nat.le_of_ble_eq_true rfl) rfl (o_213_46 hm R.S) (a_241 hm R) ?_
      refine s_gAs R (t_213 hm R.S) (Nat.le_of_ble_eq_true rfl) rfl (o_213_46 hm R.S) (a_241 hm R) ?_
      refine s_rI R (u_241 hm R.S).1 (u_241 hm R.S).2 (by decide) (a_241 hm R) (c_add (c_mul (c_lit 4 4 rfl) rfl) rfl) (rr_I _) hF (fun x6 ra4 hF => ?_)
      refine s_if (i_eq rfl (c_lit 0 0 rfl) rl2 ⟨by decide, by decide⟩) hF (fun c5 hF => ?_) (fun c5 hF => ?_)
      ·
        exact SX37_sumUp_b151 (N := N) (k102 := fX37_sumUp_b102 N k2 n) (K102 := FX37_sumUp_b102 N K2 n) hm @ih R rfl rl1 rfl rl2 rfl rl3 (c_add (c_add (c_mul (c_lit 4 4 rfl) rfl) (c_lit 4 4 rfl)) rfl) (rr_I _) rfl ra4 hF
      ·
        refine s_gAs R (t_213 hm R.S) (Nat.le_of_ble_eq_true rfl) rfl (o_213_5 hm R.S) (a_217 hm R) ?_
        refine s_rI R (u_217 hm R.S).1 (u_217 hm R.S).2 (by decide) (a_217 hm R) rfl rl1 hF (fun x11 ra7 hF => ?_)
        refine s_if (not_congr (i_eq rfl rfl ra7 rl3)) hF (fun c8 hF => ?_) (fun c8 hF => ?_)
        ·
          exact SX37_sumUp_b151 (N := N) (k102 := fX37_sumUp_b102 N k2 n) (K102 := FX37_sumUp_b102 N K2 n) hm @ih R rfl rl1 rfl rl2 rfl rl3 (c_add (c_add (c_mul (c_lit 4 4 rfl) rfl) (c_lit 4 4 rfl)) rfl) (rr_I _) rfl ra4 hF
        ·
          refine s_gAs R (t_213 hm R.S) (Nat.le_of_ble_eq_true rfl) rfl (o_213_4 hm R.S) (a_216 hm R) ?_
          refine s_rI R (u_216 hm R.S).1 (u_216 hm R.S).2 (by decide) (a_216 hm R) rfl rl1 hF (fun x16 ra10 hF => ?_)
          exact SX37_sumUp_b152 (N := N) (k102 := fX37_sumUp_b102 N k2 n) (K102 := FX37_sumUp_b102 N K2 n) hm @ih R rfl rl1 rfl rl2 rfl rl3 (c_add (c_add (c_mul (c_lit 4 4 rfl) rfl) (c_lit 4 4 rfl)) rfl) (rr_I _) rfl ra4 rfl ra10 hF
def FX37_sumUp_b98 (N : Nat) (K2 : Int → fS → Option (Unit × fS)) (l1 : Int) (l2 : Int) (s1 : Int) (s2 : Int) (s3 : Int) (s : fS) : Option (Unit × fS) :=
  (uQI s 242 s1 (iadd s2 s3)).bind fun σ1 =>
  FX37_sumUp_b102 N K2 N l1 l2 0 σ1
theorem SX37_sumUp_b98 {m b : Nat} {φ0 : Nat → Nat} {σo : fS} (hm : 1 ≤ m) {N : Nat} {k2 : Nat → Int32 → eH → Option (Unit × eH)} {K2 : Int → fS → Option (Unit × fS)} {q : Unit × fS} (hk2 : ∀ {φ : Nat → Nat} {h : eH} {s : fS} {l1' : Int32} {l1 : Int}, fC m b φ0 σo φ h s → l1' = iI l1 → r32 l1 → K2 l1 s = some q → gG m b φ0 σo lU q (k2 213 l1' h)) {φ : Nat → Nat} {h : eH} {s : fS} {l1' : Int32} {l1 : Int} {l2' : Int32} {l2 : Int} {s1' : Int32} {s1 : Int} {s2' : Int32} {s2 : Int} {s3' : Int32} {s3 : Int} (R : fC m b φ0 σo φ h s) (el1 : l1' = iI l1) (rl1 : r32 l1) (el2 : l2' = iI l2) (rl2 : r32 l2) (es1 : s1' = iI s1) (rs1 : r32 s1) (es2 : s2' = iI s2) (rs2 : r32 s2) (es3 : s3' = iI s3) (rs3 : r32 s3) (hF : FX37_sumUp_b98 N K2 l1 l2 s1 s2 s3 s = some q) : gG m b φ0 σo lU q (fX37_sumUp_b98 N k2 213 l1' l2' 242 s1' s2' s3' h) := by
  subst el1; subst el2; subst es1; subst es2; subst es3
  unfold FX37_sumUp_b98 at hF
  unfold fX37_sumUp_b98
  refine s_qI R (u_242 hm R.S).1 (u_242 hm R.S).2 (by decide) (a_242 hm R) rfl rs1 (c_add rfl rfl) (rr_I _) hF (fun h1 σ1 R1 T1 hF => ?_)
  exact SX37_sumUp_b102 (N := N) (k2 := k2) (K2 := K2) hm @hk2 R1 rfl rl1 rfl rl2 (c_lit 0 0 rfl) ⟨by decide, by decide⟩ hF
def FX37_sumUp_b69 (N : Nat) (K2 : Int → fS → Option (Unit × fS)) (l1 : Int) (l2 : Int) (s1 : Int) (s2 : Int) (s3 : Int) (s : fS) : Option (Unit × fS) :=
  (uQI s 240 s1 (iadd s2 s3)).bind fun σ1 =>
  (uRI σ1 242 l1).bind fun x7 =>
  if l2 = 0 then
    FX37_sumUp_b98 N K2 l1 l2 (iadd l1 1) x7 0 σ1
  else
    (uRI σ1 218 l1).bind fun x12 =>
    FX37_sumUp_b98 N K2 l1 l2 (iadd l1 1) x7 x12 σ1
theorem SX37_sumUp_b69 {m b : Nat} {φ0 : Nat → Nat} {σo : fS} (hm : 1 ≤ m) {N : Nat} {k2 : Nat → Int32 → eH → Option (Unit × eH)} {K2 : Int → fS → Option (Unit × fS)} {q : Unit × fS} (hk2 : ∀ {φ : Nat → Nat} {h : eH} {s : fS} {l1' : Int32} {l1 : Int}, fC m b φ0 σo φ h s → l1' = iI l1 → r32 l1 → K2 l1 s = some q → gG m b φ0 σo lU q (k2 213 l1' h)) {φ : Nat → Nat} {h : eH} {s : fS} {l1' : Int32} {l1 : Int} {l2' : Int32} {l2 : Int} {s1' : Int32} {s1 : Int} {s2' : Int32} {s2 : Int} {s3' : Int32} {s3 : Int} (R : fC m b φ0 σo φ h s) (el1 : l1' = iI l1) (rl1 : r32 l1) (el2 : l2' = iI l2) (rl2 : r32 l2) (es1 : s1' = iI s1) (rs1 : r32 s1) (es2 : s2' = iI s2) (rs2 : r32 s2) (es3 : s3' = iI s3) (rs3 : r32 s3) (hF : FX37_sumUp_b69 N K2 l1 l2 s1 s2 s3 s = some q) : gG m b φ0 σo lU q (fX37_sumUp_b69 N k2 213 l1' l2' 240 s1' s2' s3' h) := by
  subst el1; subst el2; subst es1; subst es2; subst es3
  unfold FX37_sumUp_b69 at hF
  unfold fX37_sumUp_b69
  refine s_qI R (u_240 hm R.S).1 (u_240 hm R.S).2 (by decide) (a_240 hm R) rfl rs1 (c_add rfl rfl) (rr_I _) hF (fun h1 σ1 R1 T1 hF => ?_)
  refine s_gAs R1 (t_213 hm R1.S) (Nat.le_of_ble_eq_true rfl) rfl (o_213_47 hm R1.S) (a_242 hm R1) ?_
  refine s_gAs R1 (t_213 hm R1.S) (Nat.le_of_ble_eq_true rfl) rfl (o_213_47 hm R1.S) (a_242 hm R1) ?_
  refine s_rI R1 (u_242 hm R1.S).1 (u_242 hm R1.S).2 (by decide) (a_242 hm R1) rfl rl1 hF (fun x7 ra4 hF => ?_)
  refine s_if (i_eq rfl (c_lit 0 0 rfl) rl2 ⟨by decide, by decide⟩) hF (fun c5 hF => ?_) (fun c5 hF => ?_)
  ·
    exact SX37_sumUp_b98 (N := N) (k2 := k2) (K2 := K2) hm @hk2 R1 rfl rl1 rfl rl2 (c_add rfl (c_lit 1 1 rfl)) (rr_I _) rfl ra4 (c_lit 0 0 rfl) ⟨by decide, by decide⟩ hF
  ·
    refine s_gAs R1 (t_213 hm R1.S) (Nat.le_of_ble_eq_true rfl) rfl (o_213_6 hm R1.S) (a_218 hm R1) ?_
    refine s_rI R1 (u_218 hm R1.S).1 (u_218 hm R1.S).2 (by decide) (a_218 hm R1) rfl rl1 hF (fun x12 ra7 hF => ?_)
    exact SX37_sumUp_b98 (N := N) (k2 := k2) (K2 := K2) hm @hk2 R1 rfl rl1 rfl rl2 (c_add rfl (c_lit 1 1 rfl)) (rr_I _) rfl ra4 rfl ra7 hF
def FX37_sumUp_b59 (N : Nat) (K2 : Int → fS → Option (Unit × fS)) (l1 : Int) (l2 : Int) (s1 : Int) (s2 : Int) (s : fS) : Option (Unit × fS) :=
  FX37_sumUp_b69 N K2 l1 l2 s1 s2 0 s
theorem SX37_sumUp_b59 {m b : Nat} {φ0 : Nat → Nat} {σo : fS} (hm : 1 ≤ m) {N : Nat} {k2 : Nat → Int32 → eH → Option (Unit × eH)} {K2 : Int → fS → Option (Unit × fS)} {q : Unit × fS} (hk2 : ∀ {φ : Nat → Nat} {h : eH} {s : fS} {l1' : Int32} {l1 : Int}, fC m b φ0 σo φ h s → l1' = iI l1 → r32 l1 → K2 l1 s = some q → gG m b φ0 σo lU q (k2 213 l1' h)) {φ : Nat → Nat} {h : eH} {s : fS} {l1' : Int32} {l1 : Int} {l2' : Int32} {l2 : Int} {s1' : Int32} {s1 : Int} {s2' : Int32} {s2 : Int} (R : fC m b φ0 σo φ h s) (el1 : l1' = iI l1) (rl1 : r32 l1) (el2 : l2' = iI l2) (rl2 : r32 l2) (es1 : s1' = iI s1) (rs1 : r32 s1) (es2 : s2' = iI s2) (rs2 : r32 s2) (hF : FX37_sumUp_b59 N K2 l1 l2 s1 s2 s = some q) : gG m b φ0 σo lU q (fX37_sumUp_b59 N k2 213 l1' l2' 240 s1' s2' h) := by
  subst el1; subst el2; subst es1; subst es2
  unfold FX37_sumUp_b59 at hF
  unfold fX37_sumUp_b59
  exact SX37_sumUp_b69 (N := N) (k2 := k2) (K2 := K2) hm @hk2 R rfl rl1 rfl rl2 rfl rs1 rfl rs2 (c_lit 0 0 rfl) ⟨by decide, by decide⟩ hF
def FX37_sumUp_b25 (N : Nat) (K2 : Int → fS → Option (Unit × fS)) (l1 : Int) (s0 : Int) (s : fS) : Option (Unit × fS) :=
  (uRI s 240 l1).bind fun x5 =>
  (uRI s 214 l1).bind fun x9 =>
  if x9 = 4 then
    FX37_sumUp_b59 N K2 l1 s0 (iadd l1 1) x5 s
  else
    (uRI s 214 l1).bind fun x14 =>
    if ¬ (x14 = 5) then
      (uRI s 215 l1).bind fun x19 =>
      FX37_sumUp_b69 N K2 l1 s0 (iadd l1 1) x5 x19 s
    else
      FX37_sumUp_b59 N K2 l1 s0 (iadd l1 1) x5 s
theorem SX37_sumUp_b25 {m b : Nat} {φ0 : Nat → Nat} {σo : fS} (hm : 1 ≤ m) {N : Nat} {k2 : Nat → Int32 → eH → Option (Unit × eH)} {K2 : Int → fS → Option (Unit × fS)} {q : Unit × fS} (hk2 : ∀ {φ : Nat → Nat} {h : eH} {s : fS} {l1' : Int32} {l1 : Int}, fC m b φ0 σo φ h s → l1' = iI l1 → r32 l1 → K2 l1 s = some q → gG m b φ0 σo lU q (k2 213 l1' h)) {φ : Nat → Nat} {h : eH} {s : fS} {l1' : Int32} {l1 : Int} {s0' : Int32} {s0 : Int} (R : fC m b φ0 σo φ h s) (el1 : l1' = iI l1) (rl1 : r32 l1) (es0 : s0' = iI s0) (rs0 : r32 s0) (hF : FX37_sumUp_b25 N K2 l1 s0 s = some q) : gG m b φ0 σo lU q (fX37_sumUp_b25 N k2 213 l1' s0' h) := by
  subst el1; subst es0
  unfold FX37_sumUp_b25 at hF
  unfold fX37_sumUp_b25
  refine s_gAs R (t_213 hm R.S) (Nat.le_of_ble_eq_true rfl) rfl (o_213_45 hm R.S) (a_240 hm R) ?_
  refine s_gAs R (t_213 hm R.S) (Nat.le_of_ble_eq_true rfl) rfl (o_213_45 hm R.S) (a_240 hm R) ?_
  refine s_rI R (u_240 hm R.S).1 (u_240 hm R.S).2 (by decide) (a_240 hm R) rfl rl1 hF (fun x5 ra3 hF => ?_)
  refine s_gAs R (t_213 hm R.S) (Nat.le_of_ble_eq_true rfl) rfl (o_213_2 hm R.S) (a_214 hm R) ?_
  refine s_rI R (u_214 hm R.S).1 (u_214 hm R.S).2 (by decide) (a_214 hm R) rfl rl1 hF (fun x9 ra5 hF => ?_)
  refine s_if (i_eq rfl (c_lit 4 4 rfl) ra5 ⟨by decide, by decide⟩) hF (fun c6 hF => ?_) (fun c6 hF => ?_)
  ·
    exact SX37_sumUp_b59 (N := N) (k2 := k2) (K2 := K2) hm @hk2 R rfl rl1 rfl rs0 (c_add rfl (c_lit 1 1 rfl)) (rr_I _) rfl ra3 hF
  ·
    refine s_gAs R (t_213 hm R.S) (Nat.le_of_ble_eq_true rfl) rfl (o_213_2 hm R.S) (a_214 hm R) ?_
    refine s_rI R (u_214 hm R.S).1 (u_214 hm R.S).2 (by decide) (a_214 hm R) rfl rl1 hF (fun x14 ra8 hF => ?_)
    refine s_if (not_congr (i_eq rfl (c_lit 5 5 rfl) ra8 ⟨by decide, by decide⟩)) hF (fun c9 hF => ?_) (fun c9 hF => ?_)
    ·
      refine s_gAs R (t_213 hm R.S) (Nat.le_of_ble_eq_true rfl) rfl (o_213_3 hm R.S) (a_215 hm R) ?_
      refine s_rI R (u_215 hm R.S).1 (u_215 hm R.S).2 (by decide) (a_215 hm R) rfl rl1 hF (fun x19 ra11 hF => ?_)
      exact SX37_sumUp_b69 (N := N) (k2 := k2) (K2 := K2) hm @hk2 R rfl rl1 rfl rs0 (c_add rfl (c_lit 1 1 rfl)) (rr_I _) rfl ra3 rfl ra11 hF
    ·
      exact SX37_sumUp_b59 (N := N) (k2 := k2) (K2 := K2) hm @hk2 R rfl rl1 rfl rs0 (c_add rfl (c_lit 1 1 rfl)) (rr_I _) rfl ra3 hF
def FX37_sumUp_b2 (N : Nat) : Nat → Int → fS → Option (Unit × fS)
  | 0, _, _ => none
  | n + 1, l1, s =>
    if (s.i 213 1) ≤ l1 then
      some ((), s)
    else
      (uRI s 214 l1).bind fun x6 =>
      if ¬ (x6 = 1) then
        FX37_sumUp_b25 N (FX37_sumUp_b2 N n) l1 0 s
      else
        FX37_sumUp_b25 N (FX37_sumUp_b2 N n) l1 1 s
theorem SX37_sumUp_b2 {m b : Nat} {φ0 : Nat → Nat} {σo : fS} (hm : 1 ≤ m) {N : Nat} {q : Unit × fS} : ∀ {n : Nat} {φ : Nat → Nat} {h : eH} {s : fS} {l1' : Int32} {l1 : Int}, fC m b φ0 σo φ h s → l1' = iI l1 → r32 l1 → FX37_sumUp_b2 N n l1 s = some q → gG m b φ0 σo lU q (fX37_sumUp_b2 N n 213 l1' h) := by
  intro n
  induction n with
 | zero => intro φ h s l1' l1 R el1 rl1 hF; simp [FX37_sumUp_b2] at hF
  | succ n ih =>
    intro φ h s l1' l1 R el1 rl1 hF
    subst el1
    rw [FX37_sumUp_b2] at hF
    rw [fX37_sumUp_b2]
    refine s_gI R (t_213 hm R.S) (Nat.le_of_ble_eq_true rfl) rfl ?_
    refine s_if (i_le rfl rfl (R.ri (t_213 hm R.S) (Nat.le_of_ble_eq_true rfl) rfl) rl1) hF (fun c2 hF => ?_) (fun c2 hF => ?_)
    ·
      exact g_ret R hF trivial
    ·
      refine s_gAs R (t_213 hm R.S) (Nat.le_of_ble_eq_true rfl) rfl (o_213_2 hm R.S) (a_214 hm R) ?_
      refine s_rI R (u_214 hm R.S).1 (u_214 hm R.S).2 (by decide) (a_214 hm R) rfl rl1 hF (fun x6 ra4 hF => ?_)
      refine s_if (not_congr (i_eq rfl (c_lit 1 1 rfl) ra4 ⟨by decide, by decide⟩)) hF (fun c5 hF => ?_) (fun c5 hF => ?_)
      ·
        exact SX37_sumUp_b25 (N := N) (k2 := fX37_sumUp_b2 N n) (K2 := FX37_sumUp_b2 N n) hm @ih R rfl rl1 (c_lit 0 0 rfl) ⟨by decide, by decide⟩ hF
      ·
        exact SX37_sumUp_b25 (N := N) (k2 := fX37_sumUp_b2 N n) (K2 := FX37_sumUp_b2 N n) hm @ih R rfl rl1 (c_lit 1 1 rfl) ⟨by decide, by decide⟩ hF
def FX37_sumUp (N : Nat) (s : fS) : Option (Unit × fS) :=
  FX37_sumUp_b2 N N 0 s
theorem SX37_sumUp {m b : Nat} {φ0 : Nat → Nat} {σo : fS} (hm : 1 ≤ m) {N : Nat} {q : Unit × fS} {φ : Nat → Nat} {h : eH} {s : fS} (R : fC m b φ0 σo φ h s) (hF : FX37_sumUp N s = some q) : gG m b φ0 σo lU q (fX37_sumUp N 213 h) := by
  unfold FX37_sumUp at hF
  unfold fX37_sumUp
  exact SX37_sumUp_b2 (N := N) hm R (c_lit 0 0 rfl) ⟨by decide, by decide⟩ hF
def FX37_replacer_b40 (N : Nat) (K4 : Int → Int → fS → Option (Int × fS)) (l1 : Int) (l2 : Int) (s : fS) : Option (Int × fS) :=
  K4 l1 (iadd l2 (-1)) s
theorem SX37_replacer_b40 {m b : Nat} {φ0 : Nat → Nat} {σo : fS} (hm : 1 ≤ m) {N : Nat} {k4 : Nat → Int32 → Int32 → eH → Option (Int32 × eH)} {K4 : Int → Int → fS → Option (Int × fS)} {q : Int × fS} (hk4 : ∀ {φ : Nat → Nat} {h : eH} {s : fS} {l1' : Int32} {l1 : Int} {l2' : Int32} {l2 : Int}, fC m b φ0 σo φ h s → l1' = iI l1 → r32 l1 → l2' = iI l2 → r32 l2 → K4 l1 l2 s = some q → gG m b φ0 σo lI q (k4 213 l1' l2' h)) {φ : Nat → Nat} {h : eH} {s : fS} {l1' : Int32} {l1 : Int} {l2' : Int32} {l2 : Int} (R : fC m b φ0 σo φ h s) (el1 : l1' = iI l1) (rl1 : r32 l1) (el2 : l2' = iI l2) (rl2 : r32 l2) (hF : FX37_replacer_b40 N K4 l1 l2 s = some q) : gG m b φ0 σo lI q (fX37_replacer_b40 N k4 213 l1' l2' h) := by
  subst el1; subst el2
  unfold FX37_replacer_b40 at hF
  unfold fX37_replacer_b40
  exact hk4 R rfl rl1 (c_add rfl (c_lit (-1) (-1) rfl)) (rr_I _) hF
def FX37_replacer_b46 (N : Nat) (s : fS) : Option (Int × fS) :=
  some ((-1), s)
theorem SX37_replacer_b46 {m b : Nat} {φ0 : Nat → Nat} {σo : fS} (hm : 1 ≤ m) {N : Nat} {q : Int × fS} {φ : Nat → Nat} {h : eH} {s : fS} (R : fC m b φ0 σo φ h s) (hF : FX37_replacer_b46 N s = some q) : gG m b φ0 σo lI q (fX37_replacer_b46 N h) := by
  unfold FX37_replacer_b46 at hF
  unfold fX37_replacer_b46
  exact g_ret R hF ⟨(c_lit (-1) (-1) rfl), ⟨by decide, by decide⟩⟩
def FX37_replacer_b4 (N : Nat) : Nat → Int → Int → fS → Option (Int × fS)
  | 0, _, _, _ => none
  | n + 1, l1, l2, s =>
    if l2 < 0 then
      FX37_replacer_b46 N s
    else
      if l2 < (isub l1 10) then
        FX37_replacer_b46 N s
      else
        (uRI s 214 l2).bind fun x5 =>
        if ¬ (x5 = 5) then
          FX37_replacer_b40 N (FX37_replacer_b4 N n) l1 l2 s
        else
          (uRI s 221 l2).bind fun x10 =>
          if (iadd l2 x10) < l1 then
            FX37_replacer_b40 N (FX37_replacer_b4 N n) l1 l2 s
          else
            some (l2, s)
theorem SX37_replacer_b4 {m b : Nat} {φ0 : Nat → Nat} {σo : fS} (hm : 1 ≤ m) {N : Nat} {q : Int × fS} : ∀ {n : Nat} {φ : Nat → Nat} {h : eH} {s : fS} {l1' : Int32} {l1 : Int} {l2' : Int32} {l2 : Int}, fC m b φ0 σo φ h s → l1' = iI l1 → r32 l1 → l2' = iI l2 → r32 l2 → FX37_replacer_b4 N n l1 l2 s = some q → gG m b φ0 σo lI q (fX37_replacer_b4 N n 213 l1' l2' h) := by
  intro n
  induction n with
 | zero => intro φ h s l1' l1 l2' l2 R el1 rl1 el2 rl2 hF; simp [FX37_replacer_b4] at hF
  | succ n ih =>
    intro φ h s l1' l1 l2' l2 R el1 rl1 el2 rl2 hF
    subst el1; subst el2
    rw [FX37_replacer_b4] at hF
    rw [fX37_replacer_b4]
    refine s_if (i_lt rfl (c_lit 0 0 rfl) rl2 ⟨by decide, by decide⟩) hF (fun c1 hF => ?_) (fun c1 hF => ?_)
    ·
      exact SX37_replacer_b46 (N := N) hm R hF
    ·
      refine s_if (i_lt rfl (c_sub rfl (c_lit 10 10 rfl)) rl2 (rr_I _)) hF (fun c2 hF => ?_) (fun c2 hF => ?_)
      ·
        exact SX37_replacer_b46 (N := N) hm R hF
      ·
        refine s_gAs R (t_213 hm R.S) (Nat.le_of_ble_eq_true rfl) rfl (o_213_2 hm R.S) (a_214 hm R) ?_
        refine s_rI R (u_214 hm R.S).1 (u_214 hm R.S).2 (by decide) (a_214 hm R) rfl rl2 hF (fun x5 ra4 hF => ?_)
        refine s_if (not_congr (i_eq rfl (c_lit 5 5 rfl) ra4 ⟨by decide, by decide⟩)) hF (fun c5 hF => ?_) (fun c5 hF => ?_)
        ·
          exact SX37_replacer_b40 (N := N) (k4 := fX37_replacer_b4 N n) (K4 := FX37_replacer_b4 N n) hm @ih R rfl rl1 rfl rl2 hF
        ·
          refine s_gAs R (t_213 hm R.S) (Nat.le_of_ble_eq_true rfl) rfl (o_213_9 hm R.S) (a_221 hm R) ?_
          refine s_rI R (u_221 hm R.S).1 (u_221 hm R.S).2 (by decide) (a_221 hm R) rfl rl2 hF (fun x10 ra7 hF => ?_)
          refine s_if (i_lt (c_add rfl rfl) rfl (rr_I _) rl1) hF (fun c8 hF => ?_) (fun c8 hF => ?_)
          ·
            exact SX37_replacer_b40 (N := N) (k4 := fX37_replacer_b4 N n) (K4 := FX37_replacer_b4 N n) hm @ih R rfl rl1 rfl rl2 hF
          ·
            exact g_ret R hF ⟨rfl, rl2⟩
def FX37_replacer (N : Nat) (p0 : Int) (s : fS) : Option (Int × fS) :=
  FX37_replacer_b4 N N p0 (isub p0 1) s
theorem SX37_replacer {m b : Nat} {φ0 : Nat → Nat} {σo : fS} (hm : 1 ≤ m) {N : Nat} {q : Int × fS} {φ : Nat → Nat} {h : eH} {s : fS} {p0' : Int32} {p0 : Int} (R : fC m b φ0 σo φ h s) (ep0 : p0' = iI p0) (rp0 : r32 p0) (hF : FX37_replacer N p0 s = some q) : gG m b φ0 σo lI q (fX37_replacer N 213 p0' h) := by
  subst ep0
  unfold FX37_replacer at hF
  unfold fX37_replacer
  exact SX37_replacer_b4 (N := N) hm R rfl rp0 (c_sub rfl (c_lit 1 1 rfl)) (rr_I _) hF
def FX37_fine_b52 (s0 : Int) (s : fS) : Option (Int × fS) :=
  some (s0, s)
theorem SX37_fine_b52 {m b : Nat} {φ0 : Nat → Nat} {σo : fS} (hm : 1 ≤ m) {q : Int × fS} {φ : Nat → Nat} {h : eH} {s : fS} {s0' : Int32} {s0 : Int} (R : fC m b φ0 σo φ h s) (es0 : s0' = iI s0) (rs0 : r32 s0) (hF : FX37_fine_b52 s0 s = some q) : gG m b φ0 σo lI q (fX37_fine_b52 s0' h) := by
  subst es0
  unfold FX37_fine_b52 at hF
  unfold fX37_fine_b52
  exact g_ret R hF ⟨rfl, rs0⟩
def FX37_fine_b51 (s1 : Int) (s : fS) : Option (Int × fS) :=
  (uRI s 222 s1).bind fun x1 =>
  FX37_fine_b52 x1 s
theorem SX37_fine_b51 {m b : Nat} {φ0 : Nat → Nat} {σo : fS} (hm : 1 ≤ m) {q : Int × fS} {φ : Nat → Nat} {h : eH} {s : fS} {s1' : Int32} {s1 : Int} (R : fC m b φ0 σo φ h s) (es1 : s1' = iI s1) (rs1 : r32 s1) (hF : FX37_fine_b51 s1 s = some q) : gG m b φ0 σo lI q (fX37_fine_b51 222 s1' h) := by
  subst es1
  unfold FX37_fine_b51 at hF
  unfold fX37_fine_b51
  refine s_rI R (u_222 hm R.S).1 (u_222 hm R.S).2 (by decide) (a_222 hm R) rfl rs1 hF (fun x1 ra1 hF => ?_)
  exact SX37_fine_b52 hm R rfl ra1 hF
def FX37_fine (p0 : Int) (s : fS) : Option (Int × fS) :=
  (uRI s 214 p0).bind fun x3 =>
  if ¬ (x3 = 4) then
    (uRI s 214 p0).bind fun x8 =>
    if x8 = 5 then
      (uRI s 219 p0).bind fun x15 =>
      if x15 = (-2147483648) then
        FX37_fine_b51 4 s
      else
        FX37_fine_b51 3 s
    else
      FX37_fine_b52 0 s
  else
    (uRI s 215 p0).bind fun x20 =>
    some (x20, s)
theorem SX37_fine {m b : Nat} {φ0 : Nat → Nat} {σo : fS} (hm : 1 ≤ m) {q : Int × fS} {φ : Nat → Nat} {h : eH} {s : fS} {p0' : Int32} {p0 : Int} (R : fC m b φ0 σo φ h s) (ep0 : p0' = iI p0) (rp0 : r32 p0) (hF : FX37_fine p0 s = some q) : gG m b φ0 σo lI q (fX37_fine 213 p0' h) := by
  subst ep0
  unfold FX37_fine at hF
  unfold fX37_fine
  refine s_gAs R (t_213 hm R.S) (Nat.le_of_ble_eq_true rfl) rfl (o_213_2 hm R.S) (a_214 hm R) ?_
  refine s_rI R (u_214 hm R.S).1 (u_214 hm R.S).2 (by decide) (a_214 hm R) rfl rp0 hF (fun x3 ra2 hF => ?_)
  refine s_if (not_congr (i_eq rfl (c_lit 4 4 rfl) ra2 ⟨by decide, by decide⟩)) hF (fun c3 hF => ?_) (fun c3 hF => ?_)
  ·
    refine s_gAs R (t_213 hm R.S) (Nat.le_of_ble_eq_true rfl) rfl (o_213_2 hm R.S) (a_214 hm R) ?_
    refine s_rI R (u_214 hm R.S).1 (u_214 hm R.S).2 (by decide) (a_214 hm R) rfl rp0 hF (fun x8 ra5 hF => ?_)
    refine s_if (i_eq rfl (c_lit 5 5 rfl) ra5 ⟨by decide, by decide⟩) hF (fun c6 hF => ?_) (fun c6 hF => ?_)
    ·
      refine s_gAs R (t_213 hm R.S) (Nat.le_of_ble_eq_true rfl) rfl (o_213_10 hm R.S) (a_222 hm R) ?_
      refine s_gAs R (t_213 hm R.S) (Nat.le_of_ble_eq_true rfl) rfl (o_213_7 hm R.S) (a_219 hm R) ?_
      refine s_rI R (u_219 hm R.S).1 (u_219 hm R.S).2 (by decide) (a_219 hm R) rfl rp0 hF (fun x15 ra9 hF => ?_)
      refine s_if (i_eq rfl (c_lit (-2147483648) (-2147483648) rfl) ra9 ⟨by decide, by decide⟩) hF (fun c10 hF => ?_) (fun c10 hF => ?_)
      ·
        exact SX37_fine_b51 hm R (c_lit 4 4 rfl) ⟨by decide, by decide⟩ hF
      ·
        exact SX37_fine_b51 hm R (c_lit 3 3 rfl) ⟨by decide, by decide⟩ hF
    ·
      exact SX37_fine_b52 hm R (c_lit 0 0 rfl) ⟨by decide, by decide⟩ hF
  ·
    refine s_gAs R (t_213 hm R.S) (Nat.le_of_ble_eq_true rfl) rfl (o_213_3 hm R.S) (a_215 hm R) ?_
    refine s_rI R (u_215 hm R.S).1 (u_215 hm R.S).2 (by decide) (a_215 hm R) rfl rp0 hF (fun x20 ra12 hF => ?_)
    exact g_ret R hF ⟨rfl, ra12⟩
def FX37_isPlace_b19 (N : Nat) (s : fS) : Option (Int × fS) :=
  some (0, s)
theorem SX37_isPlace_b19 {m b : Nat} {φ0 : Nat → Nat} {σo : fS} (hm : 1 ≤ m) {N : Nat} {q : Int × fS} {φ : Nat → Nat} {h : eH} {s : fS} (R : fC m b φ0 σo φ h s) (hF : FX37_isPlace_b19 N s = some q) : gG m b φ0 σo lI q (fX37_isPlace_b19 N h) := by
  unfold FX37_isPlace_b19 at hF
  unfold fX37_isPlace_b19
  exact g_ret R hF ⟨(c_lit 0 0 rfl), ⟨by decide, by decide⟩⟩
def FX37_isPlace_b112 (N : Nat) (s0 : Int) (s : fS) : Option (Int × fS) :=
  uZ s0 (s0, s)
theorem SX37_isPlace_b112 {m b : Nat} {φ0 : Nat → Nat} {σo : fS} (hm : 1 ≤ m) {N : Nat} {q : Int × fS} {φ : Nat → Nat} {h : eH} {s : fS} {s0' : Int32} {s0 : Int} (R : fC m b φ0 σo φ h s) (es0 : s0' = iI s0) (rs0 : r32 s0) (hF : FX37_isPlace_b112 N s0 s = some q) : gG m b φ0 σo lI q (fX37_isPlace_b112 N s0' h) := by
  subst es0
  unfold FX37_isPlace_b112 at hF
  unfold fX37_isPlace_b112
  exact g_z R rfl hF ⟨rfl, rs0⟩
def FX37_isPlace_b107 (N : Nat) (s : fS) : Option (Int × fS) :=
  FX37_isPlace_b112 N 1 s
theorem SX37_isPlace_b107 {m b : Nat} {φ0 : Nat → Nat} {σo : fS} (hm : 1 ≤ m) {N : Nat} {q : Int × fS} {φ : Nat → Nat} {h : eH} {s : fS} (R : fC m b φ0 σo φ h s) (hF : FX37_isPlace_b107 N s = some q) : gG m b φ0 σo lI q (fX37_isPlace_b107 N h) := by
  unfold FX37_isPlace_b107 at hF
  unfold fX37_isPlace_b107
  exact SX37_isPlace_b112 (N := N) hm R (c_lit 1 1 rfl) ⟨by decide, by decide⟩ hF
def FX37_isPlace_b138 (N : Nat) (s0 : Int) (s : fS) : Option (Int × fS) :=
  uZ s0 (s0, s)
theorem SX37_isPlace_b138 {m b : Nat} {φ0 : Nat → Nat} {σo : fS} (hm : 1 ≤ m) {N : Nat} {q : Int × fS} {φ : Nat → Nat} {h : eH} {s : fS} {s0' : Int32} {s0 : Int} (R : fC m b φ0 σo φ h s) (es0 : s0' = iI s0) (rs0 : r32 s0) (hF : FX37_isPlace_b138 N s0 s = some q) : gG m b φ0 σo lI q (fX37_isPlace_b138 N s0' h) := by
  subst es0
  unfold FX37_isPlace_b138 at hF
  unfold fX37_isPlace_b138
  exact g_z R rfl hF ⟨rfl, rs0⟩
def FX37_isPlace_b137 (N : Nat) (s : fS) : Option (Int × fS) :=
  FX37_isPlace_b138 N 0 s
theorem SX37_isPlace_b137 {m b : Nat} {φ0 : Nat → Nat} {σo : fS} (hm : 1 ≤ m) {N : Nat} {q : Int × fS} {φ : Nat → Nat} {h : eH} {s : fS} (R : fC m b φ0 σo φ h s) (hF : FX37_isPlace_b137 N s = some q) : gG m b φ0 σo lI q (fX37_isPlace_b137 N h) := by
  unfold FX37_isPlace_b137 at hF
  unfold fX37_isPlace_b137
  exact SX37_isPlace_b138 (N := N) hm R (c_lit 0 0 rfl) ⟨by decide, by decide⟩ hF
def FX37_isPlace_b154 (N : Nat) (s0 : Int) (s : fS) : Option (Int × fS) :=
  uZ s0 (s0, s)
theorem SX37_isPlace_b154 {m b : Nat} {φ0 : Nat → Nat} {σo : fS} (hm : 1 ≤ m) {N : Nat} {q : Int × fS} {φ : Nat → Nat} {h : eH} {s : fS} {s0' : Int32} {s0 : Int} (R : fC m b φ0 σo φ h s) (es0 : s0' = iI s0) (rs0 : r32 s0) (hF : FX37_isPlace_b154 N s0 s = some q) : gG m b φ0 σo lI q (fX37_isPlace_b154 N s0' h) := by
  subst es0
  unfold FX37_isPlace_b154 at hF
  unfold fX37_isPlace_b154
  exact g_z R rfl hF ⟨rfl, rs0⟩
def FX37_isPlace (N : Nat) (p0 : Int) (s : fS) : Option (Int × fS) :=
  (FX37_replacer N p0 s).bind fun q2 =>
  if 0 ≤ q2.1 then
    FX37_isPlace_b19 N q2.2
  else
    (FX37_fine p0 q2.2).bind fun q5 =>
    if ¬ (q5.1 = 10000) then
      (uRI q5.2 214 p0).bind fun x9 =>
      if x9 = 1 then
        if 0 ≤ (isub p0 1) then
          (FX37_replacer N (isub p0 1) q5.2).bind fun q14 =>
          if 0 ≤ q14.1 then
            FX37_isPlace_b107 N q14.2
          else
            (uRI q14.2 214 (isub p0 1)).bind fun x18 =>
            if x18 = 0 then
              FX37_isPlace_b107 N q14.2
            else
              (uRI q14.2 214 (isub p0 1)).bind fun x23 =>
              if x23 = 5 then
                FX37_isPlace_b107 N q14.2
              else
                (uRI q14.2 214 (isub p0 1)).bind fun x28 =>
                if ¬ (x28 = 2) then
                  FX37_isPlace_b112 N 0 q14.2
                else
                  FX37_isPlace_b107 N q14.2
        else
          some (0, q5.2)
      else
        if x9 = 2 then
          some (0, q5.2)
        else
          if x9 = 3 then
            if (q5.2.i 213 17) ≤ p0 then
              FX37_isPlace_b137 N q5.2
            else
              (uRI q5.2 214 (iadd p0 1)).bind fun x38 =>
              if ¬ (x38 = 1) then
                FX37_isPlace_b137 N q5.2
              else
                FX37_isPlace_b138 N 1 q5.2
          else
            if x9 = 4 then
              some (1, q5.2)
            else
              if x9 = 5 then
                if (q5.2.i 213 16) ≤ 1 then
                  FX37_isPlace_b154 N 0 q5.2
                else
                  FX37_isPlace_b154 N 1 q5.2
              else
                some (0, q5.2)
    else
      FX37_isPlace_b19 N q5.2
theorem SX37_isPlace {m b : Nat} {φ0 : Nat → Nat} {σo : fS} (hm : 1 ≤ m) {N : Nat} {q : Int × fS} {φ : Nat → Nat} {h : eH} {s : fS} {p0' : Int32} {p0 : Int} (R : fC m b φ0 σo φ h s) (ep0 : p0' = iI p0) (rp0 : r32 p0) (hF : FX37_isPlace N p0 s = some q) : gG m b φ0 σo lI q (fX37_isPlace N 213 p0' h) := by
  subst ep0
  unfold FX37_isPlace at hF
  unfold fX37_isPlace
  refine s_kok R (t_213 hm R.S) (Nat.le_of_ble_eq_true rfl) ?_
  refine s_call R (Nat.zero_le _) (fun _ hq => SX37_replacer (b := 0) (N := N) hm (R.rf) rfl rp0 hq) hF (fun f2 rv2 h2 q2 R2 e2 E2 hF => ?_)
  refine s_if (i_le (c_lit 0 0 rfl) e2.1 ⟨by decide, by decide⟩ e2.2) hF (fun c3 hF => ?_) (fun c3 hF => ?_)
  ·
    exact SX37_isPlace_b19 (N := N) hm R2 hF
  ·
    refine s_kok R2 (t_213 hm R2.S) (Nat.le_of_ble_eq_true rfl) ?_
    refine s_call R2 (Nat.zero_le _) (fun _ hq => SX37_fine (b := 0) hm (R2.rf) rfl rp0 hq) hF (fun f5 rv5 h5 q5 R5 e5 E5 hF => ?_)
    refine s_if (not_congr (i_eq e5.1 (c_lit 10000 10000 rfl) e5.2 ⟨by decide, by decide⟩)) hF (fun c6 hF => ?_) (fun c6 hF => ?_)
    ·
      refine s_gAs R5 (t_213 hm R5.S) (Nat.le_of_ble_eq_true rfl) rfl (o_213_2 hm R5.S) (a_214 hm R5) ?_
      refine s_rI R5 (u_214 hm R5.S).1 (u_214 hm R5.S).2 (by decide) (a_214 hm R5) rfl rp0 hF (fun x9 ra8 hF => ?_)
      refine s_if (i_eq rfl (c_lit 1 1 rfl) ra8 ⟨by decide, by decide⟩) hF (fun c9 hF => ?_) (fun c9 hF => ?_)
      ·
        refine s_if (i_le (c_lit 0 0 rfl) (c_sub rfl (c_lit 1 1 rfl)) ⟨by decide, by decide⟩ (rr_I _)) hF (fun c10 hF => ?_) (fun c10 hF => ?_)
        ·
          refine s_kok R5 (t_213 hm R5.S) (Nat.le_of_ble_eq_true rfl) ?_
          refine s_call R5 (Nat.zero_le _) (fun _ hq => SX37_replacer (b := 0) (N := N) hm (R5.rf) (c_sub rfl (c_lit 1 1 rfl)) (rr_I _) hq) hF (fun f12 rv12 h12 q14 R12 e12 E12 hF => ?_)
          refine s_if (i_le (c_lit 0 0 rfl) e12.1 ⟨by decide, by decide⟩ e12.2) hF (fun c13 hF => ?_) (fun c13 hF => ?_)
          ·
            exact SX37_isPlace_b107 (N := N) hm R12 hF
          ·
            refine s_gAs R12 (t_213 hm R12.S) (Nat.le_of_ble_eq_true rfl) rfl (o_213_2 hm R12.S) (a_214 hm R12) ?_
            refine s_rI R12 (u_214 hm R12.S).1 (u_214 hm R12.S).2 (by decide) (a_214 hm R12) (c_sub rfl (c_lit 1 1 rfl)) (rr_I _) hF (fun x18 ra15 hF => ?_)
            refine s_if (i_eq rfl (c_lit 0 0 rfl) ra15 ⟨by decide, by decide⟩) hF (fun c16 hF => ?_) (fun c16 hF => ?_)
            ·
              exact SX37_isPlace_b107 (N := N) hm R12 hF
            ·
              refine s_gAs R12 (t_213 hm R12.S) (Nat.le_of_ble_eq_true rfl) rfl (o_213_2 hm R12.S) (a_214 hm R12) ?_
              refine s_rI R12 (u_214 hm R12.S).1 (u_214 hm R12.S).2 (by decide) (a_214 hm R12) (c_sub rfl (c_lit 1 1 rfl)) (rr_I _) hF (fun x23 ra18 hF => ?_)
              refine s_if (i_eq rfl (c_lit 5 5 rfl) ra18 ⟨by decide, by decide⟩) hF (fun c19 hF => ?_) (fun c19 hF => ?_)
              ·
                exact SX37_isPlace_b107 (N := N) hm R12 hF
              ·
                refine s_gAs R12 (t_213 hm R12.S) (Nat.le_of_ble_eq_true rfl) rfl (o_213_2 hm R12.S) (a_214 hm R12) ?_
                refine s_rI R12 (u_214 hm R12.S).1 (u_214 hm R12.S).2 (by decide) (a_214 hm R12) (c_sub rfl (c_lit 1 1 rfl)) (rr_I _) hF (fun x28 ra21 hF => ?_)
                refine s_if (not_congr (i_eq rfl (c_lit 2 2 rfl) ra21 ⟨by decide, by decide⟩)) hF (fun c22 hF => ?_) (fun c22 hF => ?_)
                ·
                  exact SX37_isPlace_b112 (N := N) hm R12 (c_lit 0 0 rfl) ⟨by decide, by decide⟩ hF
                ·
                  exact SX37_isPlace_b107 (N := N) hm R12 hF
        ·
          exact g_ret R5 hF ⟨(c_lit 0 0 rfl), ⟨by decide, by decide⟩⟩
      ·
        refine s_if (i_eq rfl (c_lit 2 2 rfl) ra8 ⟨by decide, by decide⟩) hF (fun c23 hF => ?_) (fun c23 hF => ?_)
        ·
          exact g_ret R5 hF ⟨(c_lit 0 0 rfl), ⟨by decide, by decide⟩⟩
        ·
          refine s_if (i_eq rfl (c_lit 3 3 rfl) ra8 ⟨by decide, by decide⟩) hF (fun c24 hF => ?_) (fun c24 hF => ?_)
          ·
            refine s_gI R5 (t_213 hm R5.S) (Nat.le_of_ble_eq_true rfl) rfl ?_
            refine s_if (i_le rfl rfl (R5.ri (t_213 hm R5.S) (Nat.le_of_ble_eq_true rfl) rfl) rp0) hF (fun c26 hF => ?_) (fun c26 hF => ?_)
            ·
              exact SX37_isPlace_b137 (N := N) hm R5 hF
            ·
              refine s_gAs R5 (t_213 hm R5.S) (Nat.le_of_ble_eq_true rfl) rfl (o_213_2 hm R5.S) (a_214 hm R5) ?_
              refine s_rI R5 (u_214 hm R5.S).1 (u_214 hm R5.S).2 (by decide) (a_214 hm R5) (c_add rfl (c_lit 1 1 rfl)) (rr_I _) hF (fun x38 ra28 hF => ?_)
              refine s_if (not_congr (i_eq rfl (c_lit 1 1 rfl) ra28 ⟨by decide, by decide⟩)) hF (fun c29 hF => ?_) (fun c29 hF => ?_)
              ·
                exact SX37_isPlace_b137 (N := N) hm R5 hF
              ·
                exact SX37_isPlace_b138 (N := N) hm R5 (c_lit 1 1 rfl) ⟨by decide, by decide⟩ hF
          ·
            refine s_if (i_eq rfl (c_lit 4 4 rfl) ra8 ⟨by decide, by decide⟩) hF (fun c30 hF => ?_) (fun c30 hF => ?_)
            ·
              exact g_ret R5 hF ⟨(c_lit 1 1 rfl), ⟨by decide, by decide⟩⟩
            ·
              refine s_if (i_eq rfl (c_lit 5 5 rfl) ra8 ⟨by decide, by decide⟩) hF (fun c31 hF => ?_) (fun c31 hF => ?_)
              ·
                refine s_gI R5 (t_213 hm R5.S) (Nat.le_of_ble_eq_true rfl) rfl ?_
                refine s_if (i_le rfl (c_lit 1 1 rfl) (R5.ri (t_213 hm R5.S) (Nat.le_of_ble_eq_true rfl) rfl) ⟨by decide, by decide⟩) hF (fun c33 hF => ?_) (fun c33 hF => ?_)
                ·
                  exact SX37_isPlace_b154 (N := N) hm R5 (c_lit 0 0 rfl) ⟨by decide, by decide⟩ hF
                ·
                  exact SX37_isPlace_b154 (N := N) hm R5 (c_lit 1 1 rfl) ⟨by decide, by decide⟩ hF
              ·
                exact g_ret R5 hF ⟨(c_lit 0 0 rfl), ⟨by decide, by decide⟩⟩
    ·
      exact SX37_isPlace_b19 (N := N) hm R5 hF
def FX37_isHyphen_b19 (s0 : Int) (s : fS) : Option (Int × fS) :=
  uZ s0 (s0, s)
theorem SX37_isHyphen_b19 {m b : Nat} {φ0 : Nat → Nat} {σo : fS} (hm : 1 ≤ m) {q : Int × fS} {φ : Nat → Nat} {h : eH} {s : fS} {s0' : Int32} {s0 : Int} (R : fC m b φ0 σo φ h s) (es0 : s0' = iI s0) (rs0 : r32 s0) (hF : FX37_isHyphen_b19 s0 s = some q) : gG m b φ0 σo lI q (fX37_isHyphen_b19 s0' h) := by
  subst es0
  unfold FX37_isHyphen_b19 at hF
  unfold fX37_isHyphen_b19
  exact g_z R rfl hF ⟨rfl, rs0⟩
def FX37_isHyphen_b18 (s : fS) : Option (Int × fS) :=
  FX37_isHyphen_b19 0 s
theorem SX37_isHyphen_b18 {m b : Nat} {φ0 : Nat → Nat} {σo : fS} (hm : 1 ≤ m) {q : Int × fS} {φ : Nat → Nat} {h : eH} {s : fS} (R : fC m b φ0 σo φ h s) (hF : FX37_isHyphen_b18 s = some q) : gG m b φ0 σo lI q (fX37_isHyphen_b18 h) := by
  unfold FX37_isHyphen_b18 at hF
  unfold fX37_isHyphen_b18
  exact SX37_isHyphen_b19 hm R (c_lit 0 0 rfl) ⟨by decide, by decide⟩ hF
def FX37_isHyphen (p0 : Int) (s : fS) : Option (Int × fS) :=
  if p0 < 0 then
    FX37_isHyphen_b18 s
  else
    (uRI s 214 p0).bind fun x4 =>
    if ¬ (x4 = 5) then
      FX37_isHyphen_b18 s
    else
      FX37_isHyphen_b19 1 s
theorem SX37_isHyphen {m b : Nat} {φ0 : Nat → Nat} {σo : fS} (hm : 1 ≤ m) {q : Int × fS} {φ : Nat → Nat} {h : eH} {s : fS} {p0' : Int32} {p0 : Int} (R : fC m b φ0 σo φ h s) (ep0 : p0' = iI p0) (rp0 : r32 p0) (hF : FX37_isHyphen p0 s = some q) : gG m b φ0 σo lI q (fX37_isHyphen 213 p0' h) := by
  subst ep0
  unfold FX37_isHyphen at hF
  unfold fX37_isHyphen
  refine s_if (i_lt rfl (c_lit 0 0 rfl) rp0 ⟨by decide, by decide⟩) hF (fun c1 hF => ?_) (fun c1 hF => ?_)
  ·
    exact SX37_isHyphen_b18 hm R hF
  ·
    refine s_gAs R (t_213 hm R.S) (Nat.le_of_ble_eq_true rfl) rfl (o_213_2 hm R.S) (a_214 hm R) ?_
    refine s_rI R (u_214 hm R.S).1 (u_214 hm R.S).2 (by decide) (a_214 hm R) rfl rp0 hF (fun x4 ra3 hF => ?_)
    refine s_if (not_congr (i_eq rfl (c_lit 5 5 rfl) ra3 ⟨by decide, by decide⟩)) hF (fun c4 hF => ?_) (fun c4 hF => ?_)
    ·
      exact SX37_isHyphen_b18 hm R hF
    ·
      exact SX37_isHyphen_b19 hm R (c_lit 1 1 rfl) ⟨by decide, by decide⟩ hF
def FX37_isDropped_b35 (s0 : Int) (s : fS) : Option (Int × fS) :=
  uZ s0 (s0, s)
theorem SX37_isDropped_b35 {m b : Nat} {φ0 : Nat → Nat} {σo : fS} (hm : 1 ≤ m) {q : Int × fS} {φ : Nat → Nat} {h : eH} {s : fS} {s0' : Int32} {s0 : Int} (R : fC m b φ0 σo φ h s) (es0 : s0' = iI s0) (rs0 : r32 s0) (hF : FX37_isDropped_b35 s0 s = some q) : gG m b φ0 σo lI q (fX37_isDropped_b35 s0' h) := by
  subst es0
  unfold FX37_isDropped_b35 at hF
  unfold fX37_isDropped_b35
  exact g_z R rfl hF ⟨rfl, rs0⟩
def FX37_isDropped_b30 (s : fS) : Option (Int × fS) :=
  FX37_isDropped_b35 1 s
theorem SX37_isDropped_b30 {m b : Nat} {φ0 : Nat → Nat} {σo : fS} (hm : 1 ≤ m) {q : Int × fS} {φ : Nat → Nat} {h : eH} {s : fS} (R : fC m b φ0 σo φ h s) (hF : FX37_isDropped_b30 s = some q) : gG m b φ0 σo lI q (fX37_isDropped_b30 h) := by
  unfold FX37_isDropped_b30 at hF
  unfold fX37_isDropped_b30
  exact SX37_isDropped_b35 hm R (c_lit 1 1 rfl) ⟨by decide, by decide⟩ hF
def FX37_isDropped (p0 : Int) (s : fS) : Option (Int × fS) :=
  (uRI s 214 p0).bind fun x3 =>
  if x3 = 1 then
    FX37_isDropped_b30 s
  else
    (uRI s 214 p0).bind fun x8 =>
    if x8 = 3 then
      FX37_isDropped_b30 s
    else
      (uRI s 214 p0).bind fun x13 =>
      if ¬ (x13 = 4) then
        FX37_isDropped_b35 0 s
      else
        FX37_isDropped_b30 s
theorem SX37_isDropped {m b : Nat} {φ0 : Nat → Nat} {σo : fS} (hm : 1 ≤ m) {q : Int × fS} {φ : Nat → Nat} {h : eH} {s : fS} {p0' : Int32} {p0 : Int} (R : fC m b φ0 σo φ h s) (ep0 : p0' = iI p0) (rp0 : r32 p0) (hF : FX37_isDropped p0 s = some q) : gG m b φ0 σo lI q (fX37_isDropped 213 p0' h) := by
  subst ep0
  unfold FX37_isDropped at hF
  unfold fX37_isDropped
  refine s_gAs R (t_213 hm R.S) (Nat.le_of_ble_eq_true rfl) rfl (o_213_2 hm R.S) (a_214 hm R) ?_
  refine s_rI R (u_214 hm R.S).1 (u_214 hm R.S).2 (by decide) (a_214 hm R) rfl rp0 hF (fun x3 ra2 hF => ?_)
  refine s_if (i_eq rfl (c_lit 1 1 rfl) ra2 ⟨by decide, by decide⟩) hF (fun c3 hF => ?_) (fun c3 hF => ?_)
  ·
    exact SX37_isDropped_b30 hm R hF
  ·
    refine s_gAs R (t_213 hm R.S) (Nat.le_of_ble_eq_true rfl) rfl (o_213_2 hm R.S) (a_214 hm R) ?_
    refine s_rI R (u_214 hm R.S).1 (u_214 hm R.S).2 (by decide) (a_214 hm R) rfl rp0 hF (fun x8 ra5 hF => ?_)
    refine s_if (i_eq rfl (c_lit 3 3 rfl) ra5 ⟨by decide, by decide⟩) hF (fun c6 hF => ?_) (fun c6 hF => ?_)
    ·
      exact SX37_isDropped_b30 hm R hF
    ·
      refine s_gAs R (t_213 hm R.S) (Nat.le_of_ble_eq_true rfl) rfl (o_213_2 hm R.S) (a_214 hm R) ?_
      refine s_rI R (u_214 hm R.S).1 (u_214 hm R.S).2 (by decide) (a_214 hm R) rfl rp0 hF (fun x13 ra8 hF => ?_)
      refine s_if (not_congr (i_eq rfl (c_lit 4 4 rfl) ra8 ⟨by decide, by decide⟩)) hF (fun c9 hF => ?_) (fun c9 hF => ?_)
      ·
        exact SX37_isDropped_b35 hm R (c_lit 0 0 rfl) ⟨by decide, by decide⟩ hF
      ·
        exact SX37_isDropped_b30 hm R hF
def FX37_firstOf_b80 (N : Nat) (l2 : Int) (s : fS) : Option (Int × fS) :=
  some (l2, s)
theorem SX37_firstOf_b80 {m b : Nat} {φ0 : Nat → Nat} {σo : fS} (hm : 1 ≤ m) {N : Nat} {q : Int × fS} {φ : Nat → Nat} {h : eH} {s : fS} {l2' : Int32} {l2 : Int} (R : fC m b φ0 σo φ h s) (el2 : l2' = iI l2) (rl2 : r32 l2) (hF : FX37_firstOf_b80 N l2 s = some q) : gG m b φ0 σo lI q (fX37_firstOf_b80 N l2' h) := by
  subst el2
  unfold FX37_firstOf_b80 at hF
  unfold fX37_firstOf_b80
  exact g_ret R hF ⟨rfl, rl2⟩
def FX37_firstOf_b54 (N : Nat) : Nat → Int → Int → fS → Option (Int × fS)
  | 0, _, _, _ => none
  | n + 1, l2, l3, s =>
    if l3 = 0 then
      FX37_firstOf_b80 N l2 s
    else
      if (s.i 213 17) < l2 then
        FX37_firstOf_b80 N l2 s
      else
        (FX37_isDropped l2 s).bind fun q6 =>
        if q6.1 = 0 then
          FX37_firstOf_b80 N l2 q6.2
        else
          FX37_firstOf_b54 N n (iadd l2 1) l3 q6.2
theorem SX37_firstOf_b54 {m b : Nat} {φ0 : Nat → Nat} {σo : fS} (hm : 1 ≤ m) {N : Nat} {q : Int × fS} : ∀ {n : Nat} {φ : Nat → Nat} {h : eH} {s : fS} {l2' : Int32} {l2 : Int} {l3' : Int32} {l3 : Int}, fC m b φ0 σo φ h s → l2' = iI l2 → r32 l2 → l3' = iI l3 → r32 l3 → FX37_firstOf_b54 N n l2 l3 s = some q → gG m b φ0 σo lI q (fX37_firstOf_b54 N n 213 l2' l3' h) := by
  intro n
  induction n with
 | zero => intro φ h s l2' l2 l3' l3 R el2 rl2 el3 rl3 hF; simp [FX37_firstOf_b54] at hF
  | succ n ih =>
    intro φ h s l2' l2 l3' l3 R el2 rl2 el3 rl3 hF
    subst el2; subst el3
    rw [FX37_firstOf_b54] at hF
    rw [fX37_firstOf_b54]
    refine s_if (i_eq rfl (c_lit 0 0 rfl) rl3 ⟨by decide, by decide⟩) hF (fun c1 hF => ?_) (fun c1 hF => ?_)
    ·
      exact SX37_firstOf_b80 (N := N) hm R rfl rl2 hF
    ·
      refine s_gI R (t_213 hm R.S) (Nat.le_of_ble_eq_true rfl) rfl ?_
      refine s_if (i_lt rfl rfl (R.ri (t_213 hm R.S) (Nat.le_of_ble_eq_true rfl) rfl) rl2) hF (fun c3 hF => ?_) (fun c3 hF => ?_)
      ·
        exact SX37_firstOf_b80 (N := N) hm R rfl rl2 hF
      ·
        refine s_kok R (t_213 hm R.S) (Nat.le_of_ble_eq_true rfl) ?_
        refine s_call R (Nat.zero_le _) (fun _ hq => SX37_isDropped (b := 0) hm (R.rf) rfl rl2 hq) hF (fun f5 rv5 h5 q6 R5 e5 E5 hF => ?_)
        refine s_if (i_eq e5.1 (c_lit 0 0 rfl) e5.2 ⟨by decide, by decide⟩) hF (fun c6 hF => ?_) (fun c6 hF => ?_)
        ·
          exact SX37_firstOf_b80 (N := N) hm R5 rfl rl2 hF
        ·
          exact ih R5 (c_add rfl (c_lit 1 1 rfl)) (rr_I _) rfl rl3 hF
def FX37_firstOf_b53 (N : Nat) (l2 : Int) (s0 : Int) (s : fS) : Option (Int × fS) :=
  FX37_firstOf_b54 N N l2 s0 s
theorem SX37_firstOf_b53 {m b : Nat} {φ0 : Nat → Nat} {σo : fS} (hm : 1 ≤ m) {N : Nat} {q : Int × fS} {φ : Nat → Nat} {h : eH} {s : fS} {l2' : Int32} {l2 : Int} {s0' : Int32} {s0 : Int} (R : fC m b φ0 σo φ h s) (el2 : l2' = iI l2) (rl2 : r32 l2) (es0 : s0' = iI s0) (rs0 : r32 s0) (hF : FX37_firstOf_b53 N l2 s0 s = some q) : gG m b φ0 σo lI q (fX37_firstOf_b53 N 213 l2' s0' h) := by
  subst el2; subst es0
  unfold FX37_firstOf_b53 at hF
  unfold fX37_firstOf_b53
  exact SX37_firstOf_b54 (N := N) hm R rfl rl2 rfl rs0 hF
def FX37_firstOf_b48 (N : Nat) (l2 : Int) (s : fS) : Option (Int × fS) :=
  FX37_firstOf_b53 N l2 1 s
theorem SX37_firstOf_b48 {m b : Nat} {φ0 : Nat → Nat} {σo : fS} (hm : 1 ≤ m) {N : Nat} {q : Int × fS} {φ : Nat → Nat} {h : eH} {s : fS} {l2' : Int32} {l2 : Int} (R : fC m b φ0 σo φ h s) (el2 : l2' = iI l2) (rl2 : r32 l2) (hF : FX37_firstOf_b48 N l2 s = some q) : gG m b φ0 σo lI q (fX37_firstOf_b48 N 213 l2' h) := by
  subst el2
  unfold FX37_firstOf_b48 at hF
  unfold fX37_firstOf_b48
  exact SX37_firstOf_b53 (N := N) hm R rfl rl2 (c_lit 1 1 rfl) ⟨by decide, by decide⟩ hF
def FX37_firstOf_b28 (N : Nat) (l1 : Int) (s0 : Int) (s : fS) : Option (Int × fS) :=
  (FX37_isHyphen l1 s).bind fun q2 =>
  if q2.1 = 0 then
    FX37_firstOf_b48 N s0 q2.2
  else
    (uRI q2.2 220 l1).bind fun x6 =>
    if ¬ (x6 = (-2147483648)) then
      FX37_firstOf_b53 N s0 0 q2.2
    else
      FX37_firstOf_b48 N s0 q2.2
theorem SX37_firstOf_b28 {m b : Nat} {φ0 : Nat → Nat} {σo : fS} (hm : 1 ≤ m) {N : Nat} {q : Int × fS} {φ : Nat → Nat} {h : eH} {s : fS} {l1' : Int32} {l1 : Int} {s0' : Int32} {s0 : Int} (R : fC m b φ0 σo φ h s) (el1 : l1' = iI l1) (rl1 : r32 l1) (es0 : s0' = iI s0) (rs0 : r32 s0) (hF : FX37_firstOf_b28 N l1 s0 s = some q) : gG m b φ0 σo lI q (fX37_firstOf_b28 N 213 l1' s0' h) := by
  subst el1; subst es0
  unfold FX37_firstOf_b28 at hF
  unfold fX37_firstOf_b28
  refine s_kok R (t_213 hm R.S) (Nat.le_of_ble_eq_true rfl) ?_
  refine s_call R (Nat.zero_le _) (fun _ hq => SX37_isHyphen (b := 0) hm (R.rf) rfl rl1 hq) hF (fun f2 rv2 h2 q2 R2 e2 E2 hF => ?_)
  refine s_if (i_eq e2.1 (c_lit 0 0 rfl) e2.2 ⟨by decide, by decide⟩) hF (fun c3 hF => ?_) (fun c3 hF => ?_)
  ·
    exact SX37_firstOf_b48 (N := N) hm R2 rfl rs0 hF
  ·
    refine s_gAs R2 (t_213 hm R2.S) (Nat.le_of_ble_eq_true rfl) rfl (o_213_8 hm R2.S) (a_220 hm R2) ?_
    refine s_rI R2 (u_220 hm R2.S).1 (u_220 hm R2.S).2 (by decide) (a_220 hm R2) rfl rl1 hF (fun x6 ra5 hF => ?_)
    refine s_if (not_congr (i_eq rfl (c_lit (-2147483648) (-2147483648) rfl) ra5 ⟨by decide, by decide⟩)) hF (fun c6 hF => ?_) (fun c6 hF => ?_)
    ·
      exact SX37_firstOf_b53 (N := N) hm R2 rfl rs0 (c_lit 0 0 rfl) ⟨by decide, by decide⟩ hF
    ·
      exact SX37_firstOf_b48 (N := N) hm R2 rfl rs0 hF
def FX37_firstOf (N : Nat) (p0 : Int) (s : fS) : Option (Int × fS) :=
  if 0 ≤ p0 then
    (FX37_isHyphen p0 s).bind fun q3 =>
    if q3.1 = 0 then
      FX37_firstOf_b28 N p0 p0 q3.2
    else
      (uRI q3.2 221 p0).bind fun x7 =>
      FX37_firstOf_b28 N p0 (iadd (iadd p0 1) x7) q3.2
  else
    some (0, s)
theorem SX37_firstOf {m b : Nat} {φ0 : Nat → Nat} {σo : fS} (hm : 1 ≤ m) {N : Nat} {q : Int × fS} {φ : Nat → Nat} {h : eH} {s : fS} {p0' : Int32} {p0 : Int} (R : fC m b φ0 σo φ h s) (ep0 : p0' = iI p0) (rp0 : r32 p0) (hF : FX37_firstOf N p0 s = some q) : gG m b φ0 σo lI q (fX37_firstOf N 213 p0' h) := by
  subst ep0
  unfold FX37_firstOf at hF
  unfold fX37_firstOf
  refine s_if (i_le (c_lit 0 0 rfl) rfl ⟨by decide, by decide⟩ rp0) hF (fun c1 hF => ?_) (fun c1 hF => ?_)
  ·
    refine s_kok R (t_213 hm R.S) (Nat.le_of_ble_eq_true rfl) ?_
    refine s_call R (Nat.zero_le _) (fun _ hq => SX37_isHyphen (b := 0) hm (R.rf) rfl rp0 hq) hF (fun f3 rv3 h3 q3 R3 e3 E3 hF => ?_)
    refine s_if (i_eq e3.1 (c_lit 0 0 rfl) e3.2 ⟨by decide, by decide⟩) hF (fun c4 hF => ?_) (fun c4 hF => ?_)
    ·
      exact SX37_firstOf_b28 (N := N) hm R3 rfl rp0 rfl rp0 hF
    ·
      refine s_gAs R3 (t_213 hm R3.S) (Nat.le_of_ble_eq_true rfl) rfl (o_213_9 hm R3.S) (a_221 hm R3) ?_
      refine s_rI R3 (u_221 hm R3.S).1 (u_221 hm R3.S).2 (by decide) (a_221 hm R3) rfl rp0 hF (fun x7 ra6 hF => ?_)
      exact SX37_firstOf_b28 (N := N) hm R3 rfl rp0 (c_add (c_add rfl (c_lit 1 1 rfl)) rfl) (rr_I _) hF
  ·
    exact g_ret R hF ⟨(c_lit 0 0 rfl), ⟨by decide, by decide⟩⟩
def FX37_measure_b148 (N : Nat) (K97 : Int → Int → Int → Int → fS → Option (Unit × fS)) (l1 : Int) (l2 : Int) (l3 : Int) (l4 : Int) (s1 : Int) (s2 : Int) (s3 : Int) (s : fS) : Option (Unit × fS) :=
  (uQI s 233 s1 (iadd s2 s3)).bind fun σ1 =>
  K97 l1 l2 l3 (iadd l4 1) σ1
theorem SX37_measure_b148 {m b : Nat} {φ0 : Nat → Nat} {σo : fS} (hm : 1 ≤ m) {N : Nat} {k97 : Nat → Int32 → Int32 → Int32 → Int32 → eH → Option (Unit × eH)} {K97 : Int → Int → Int → Int → fS → Option (Unit × fS)} {q : Unit × fS} (hk97 : ∀ {φ : Nat → Nat} {h : eH} {s : fS} {l1' : Int32} {l1 : Int} {l2' : Int32} {l2 : Int} {l3' : Int32} {l3 : Int} {l4' : Int32} {l4 : Int}, fC m b φ0 σo φ h s → l1' = iI l1 → r32 l1 → l2' = iI l2 → r32 l2 → l3' = iI l3 → r32 l3 → l4' = iI l4 → r32 l4 → K97 l1 l2 l3 l4 s = some q → gG m b φ0 σo lU q (k97 213 l1' l2' l3' l4' h)) {φ : Nat → Nat} {h : eH} {s : fS} {l1' : Int32} {l1 : Int} {l2' : Int32} {l2 : Int} {l3' : Int32} {l3 : Int} {l4' : Int32} {l4 : Int} {s1' : Int32} {s1 : Int} {s2' : Int32} {s2 : Int} {s3' : Int32} {s3 : Int} (R : fC m b φ0 σo φ h s) (el1 : l1' = iI l1) (rl1 : r32 l1) (el2 : l2' = iI l2) (rl2 : r32 l2) (el3 : l3' = iI l3) (rl3 : r32 l3) (el4 : l4' = iI l4) (rl4 : r32 l4) (es1 : s1' = iI s1) (rs1 : r32 s1) (es2 : s2' = iI s2) (rs2 : r32 s2) (es3 : s3' = iI s3) (rs3 : r32 s3) (hF : FX37_measure_b148 N K97 l1 l2 l3 l4 s1 s2 s3 s = some q) : gG m b φ0 σo lU q (fX37_measure_b148 N k97 213 l1' l2' l3' l4' 233 s1' s2' s3' h) := by
  subst el1; subst el2; subst el3; subst el4; subst es1; subst es2; subst es3
  unfold FX37_measure_b148 at hF
  unfold fX37_measure_b148
  refine s_qI R (u_233 hm R.S).1 (u_233 hm R.S).2 (by decide) (a_233 hm R) rfl rs1 (c_add rfl rfl) (rr_I _) hF (fun h1 σ1 R1 T1 hF => ?_)
  exact hk97 R1 rfl rl1 rfl rl2 rfl rl3 (c_add rfl (c_lit 1 1 rfl)) (rr_I _) hF
def FX37_measure_b293 (N : Nat) (s1 : Int) (s : fS) : Option (Unit × fS) :=
  (uPI s 213 30 s1).bind fun σ1 =>
  some ((), σ1)
theorem SX37_measure_b293 {m b : Nat} {φ0 : Nat → Nat} {σo : fS} (hm : 1 ≤ m) {N : Nat} {q : Unit × fS} {φ : Nat → Nat} {h : eH} {s : fS} {s1' : Int32} {s1 : Int} (R : fC m b φ0 σo φ h s) (es1 : s1' = iI s1) (rs1 : r32 s1) (hF : FX37_measure_b293 N s1 s = some q) : gG m b φ0 σo lU q (fX37_measure_b293 N 213 s1' h) := by
  subst es1
  unfold FX37_measure_b293 at hF
  unfold fX37_measure_b293
  refine s_pI R (t_213 hm R.S) (Nat.le_of_ble_eq_true rfl) rfl rfl rs1 hF (fun h1 σ1 R1 T1 hF => ?_)
  exact g_ret R1 hF trivial
def FX37_measure_b289 (N : Nat) (s : fS) : Option (Unit × fS) :=
  FX37_measure_b293 N (s.i 213 30) s
theorem SX37_measure_b289 {m b : Nat} {φ0 : Nat → Nat} {σo : fS} (hm : 1 ≤ m) {N : Nat} {q : Unit × fS} {φ : Nat → Nat} {h : eH} {s : fS} (R : fC m b φ0 σo φ h s) (hF : FX37_measure_b289 N s = some q) : gG m b φ0 σo lU q (fX37_measure_b289 N 213 213 h) := by
  unfold FX37_measure_b289 at hF
  unfold fX37_measure_b289
  refine s_gI R (t_213 hm R.S) (Nat.le_of_ble_eq_true rfl) rfl ?_
  exact SX37_measure_b293 (N := N) hm R rfl (R.ri (t_213 hm R.S) (Nat.le_of_ble_eq_true rfl) rfl) hF
def FX37_measure_b252 (N : Nat) (l2 : Int) (s1 : Int) (s : fS) : Option (Unit × fS) :=
  (uPI s 213 30 s1).bind fun σ1 =>
  (FX37_isHyphen l2 σ1).bind fun q4 =>
  if q4.1 = 0 then
    FX37_measure_b289 N q4.2
  else
    (uRI q4.2 219 l2).bind fun x8 =>
    if x8 = (-2147483648) then
      FX37_measure_b289 N q4.2
    else
      (uRI q4.2 219 l2).bind fun x15 =>
      FX37_measure_b293 N (iadd (q4.2.i 213 30) x15) q4.2
theorem SX37_measure_b252 {m b : Nat} {φ0 : Nat → Nat} {σo : fS} (hm : 1 ≤ m) {N : Nat} {q : Unit × fS} {φ : Nat → Nat} {h : eH} {s : fS} {l2' : Int32} {l2 : Int} {s1' : Int32} {s1 : Int} (R : fC m b φ0 σo φ h s) (el2 : l2' = iI l2) (rl2 : r32 l2) (es1 : s1' = iI s1) (rs1 : r32 s1) (hF : FX37_measure_b252 N l2 s1 s = some q) : gG m b φ0 σo lU q (fX37_measure_b252 N 213 l2' 213 s1' h) := by
  subst el2; subst es1
  unfold FX37_measure_b252 at hF
  unfold fX37_measure_b252
  refine s_pI R (t_213 hm R.S) (Nat.le_of_ble_eq_true rfl) rfl rfl rs1 hF (fun h1 σ1 R1 T1 hF => ?_)
  refine s_kok R1 (t_213 hm R1.S) (Nat.le_of_ble_eq_true rfl) ?_
  refine s_call R1 (Nat.zero_le _) (fun _ hq => SX37_isHyphen (b := 0) hm (R1.rf) rfl rl2 hq) hF (fun f3 rv3 h3 q4 R3 e3 E3 hF => ?_)
  refine s_if (i_eq e3.1 (c_lit 0 0 rfl) e3.2 ⟨by decide, by decide⟩) hF (fun c4 hF => ?_) (fun c4 hF => ?_)
  ·
    exact SX37_measure_b289 (N := N) hm R3 hF
  ·
    refine s_gAs R3 (t_213 hm R3.S) (Nat.le_of_ble_eq_true rfl) rfl (o_213_7 hm R3.S) (a_219 hm R3) ?_
    refine s_rI R3 (u_219 hm R3.S).1 (u_219 hm R3.S).2 (by decide) (a_219 hm R3) rfl rl2 hF (fun x8 ra6 hF => ?_)
    refine s_if (i_eq rfl (c_lit (-2147483648) (-2147483648) rfl) ra6 ⟨by decide, by decide⟩) hF (fun c7 hF => ?_) (fun c7 hF => ?_)
    ·
      exact SX37_measure_b289 (N := N) hm R3 hF
    ·
      refine s_gI R3 (t_213 hm R3.S) (Nat.le_of_ble_eq_true rfl) rfl ?_
      refine s_gAs R3 (t_213 hm R3.S) (Nat.le_of_ble_eq_true rfl) rfl (o_213_7 hm R3.S) (a_219 hm R3) ?_
      refine s_rI R3 (u_219 hm R3.S).1 (u_219 hm R3.S).2 (by decide) (a_219 hm R3) rfl rl2 hF (fun x15 ra10 hF => ?_)
      exact SX37_measure_b293 (N := N) hm R3 (c_add rfl rfl) (rr_I _) hF
def FX37_measure_b248 (N : Nat) (l2 : Int) (s : fS) : Option (Unit × fS) :=
  FX37_measure_b252 N l2 (s.i 213 30) s
theorem SX37_measure_b248 {m b : Nat} {φ0 : Nat → Nat} {σo : fS} (hm : 1 ≤ m) {N : Nat} {q : Unit × fS} {φ : Nat → Nat} {h : eH} {s : fS} {l2' : Int32} {l2 : Int} (R : fC m b φ0 σo φ h s) (el2 : l2' = iI l2) (rl2 : r32 l2) (hF : FX37_measure_b248 N l2 s = some q) : gG m b φ0 σo lU q (fX37_measure_b248 N 213 l2' 213 h) := by
  subst el2
  unfold FX37_measure_b248 at hF
  unfold fX37_measure_b248
  refine s_gI R (t_213 hm R.S) (Nat.le_of_ble_eq_true rfl) rfl ?_
  exact SX37_measure_b252 (N := N) hm R rfl rl2 rfl (R.ri (t_213 hm R.S) (Nat.le_of_ble_eq_true rfl) rfl) hF
def FX37_measure_b97 (N : Nat) : Nat → Int → Int → Int → Int → fS → Option (Unit × fS)
  | 0, _, _, _, _, _ => none
  | n + 1, l1, l2, l3, l4, s =>
    if 4 ≤ l4 then
      (uRI s 225 0).bind fun x6 =>
      (uRI s 225 0).bind fun x12 =>
      (uRI s 233 x12).bind fun x14 =>
      (uRI s 224 0).bind fun x18 =>
      (uQI s 233 x6 (iadd x14 x18)).bind fun σ20 =>
      (uRI σ20 225 1).bind fun x26 =>
      (uRI σ20 225 1).bind fun x32 =>
      (uRI σ20 233 x32).bind fun x34 =>
      (uRI σ20 224 1).bind fun x38 =>
      (uQI σ20 233 x26 (iadd x34 x38)).bind fun σ40 =>
      (FX37_isHyphen l1 σ40).bind fun q43 =>
      if q43.1 = 0 then
        FX37_measure_b248 N l2 q43.2
      else
        (uRI q43.2 220 l1).bind fun x47 =>
        if x47 = (-2147483648) then
          FX37_measure_b248 N l2 q43.2
        else
          (uRI q43.2 220 l1).bind fun x54 =>
          FX37_measure_b252 N l2 (iadd (q43.2.i 213 30) x54) q43.2
    else
      (uRI s 241 (iadd (imul 4 l3) l4)).bind fun x60 =>
      (uRI s 241 (iadd (imul 4 (s.i 213 29)) l4)).bind fun x66 =>
      if ¬ (l4 = 0) then
        FX37_measure_b148 N (FX37_measure_b97 N n) l1 l2 l3 l4 l4 (isub x60 x66) 0 s
      else
        FX37_measure_b148 N (FX37_measure_b97 N n) l1 l2 l3 l4 l4 (isub x60 x66) (s.i 213 19) s
theorem SX37_measure_b97 {m b : Nat} {φ0 : Nat → Nat} {σo : fS} (hm : 1 ≤ m) {N : Nat} {q : Unit × fS} : ∀ {n : Nat} {φ : Nat → Nat} {h : eH} {s : fS} {l1' : Int32} {l1 : Int} {l2' : Int32} {l2 : Int} {l3' : Int32} {l3 : Int} {l4' : Int32} {l4 : Int}, fC m b φ0 σo φ h s → l1' = iI l1 → r32 l1 → l2' = iI l2 → r32 l2 → l3' = iI l3 → r32 l3 → l4' = iI l4 → r32 l4 → FX37_measure_b97 N n l1 l2 l3 l4 s = some q → gG m b φ0 σo lU q (fX37_measure_b97 N n 213 l1' l2' l3' l4' h) := by
  intro n
  induction n with
 | zero => intro φ h s l1' l1 l2' l2 l3' l3 l4' l4 R el1 rl1 el2 rl2 el3 rl3 el4 rl4 hF; simp [FX37_measure_b97] at hF
  | succ n ih =>
    intro φ h s l1' l1 l2' l2 l3' l3 l4' l4 R el1 rl1 el2 rl2 el3 rl3 el4 rl4 hF
    subst el1; subst el2; subst el3; subst el4
    rw [FX37_measure_b97] at hF
    rw [fX37_measure_b97]
    refine s_if (i_le (c_lit 4 4 rfl) rfl ⟨by decide, by decide⟩ rl4) hF (fun c1 hF => ?_) (fun c1 hF => ?_)
    ·
      refine s_gAs R (t_213 hm R.S) (Nat.le_of_ble_eq_true rfl) rfl (o_213_31 hm R.S) (a_233 hm R) ?_
      refine s_gAs R (t_213 hm R.S) (Nat.le_of_ble_eq_true rfl) rfl (o_213_14 hm R.S) (a_225 hm R) ?_
      refine s_rI R (u_225 hm R.S).1 (u_225 hm R.S).2 (by decide) (a_225 hm R) (c_lit 0 0 rfl) ⟨by decide, by decide⟩ hF (fun x6 ra4 hF => ?_)
      refine s_gAs R (t_213 hm R.S) (Nat.le_of_ble_eq_true rfl) rfl (o_213_31 hm R.S) (a_233 hm R) ?_
      refine s_gAs R (t_213 hm R.S) (Nat.le_of_ble_eq_true rfl) rfl (o_213_14 hm R.S) (a_225 hm R) ?_
      refine s_rI R (u_225 hm R.S).1 (u_225 hm R.S).2 (by decide) (a_225 hm R) (c_lit 0 0 rfl) ⟨by decide, by decide⟩ hF (fun x12 ra7 hF => ?_)
      refine s_rI R (u_233 hm R.S).1 (u_233 hm R.S).2 (by decide) (a_233 hm R) rfl ra7 hF (fun x14 ra8 hF => ?_)
      refine s_gAs R (t_213 hm R.S) (Nat.le_of_ble_eq_true rfl) rfl (o_213_13 hm R.S) (a_224 hm R) ?_
      refine s_rI R (u_224 hm R.S).1 (u_224 hm R.S).2 (by decide) (a_224 hm R) (c_lit 0 0 rfl) ⟨by decide, by decide⟩ hF (fun x18 ra10 hF => ?_)
      refine s_qI R (u_233 hm R.S).1 (u_233 hm R.S).2 (by decide) (a_233 hm R) rfl ra4 (c_add rfl rfl) (rr_I _) hF (fun h11 σ20 R11 T11 hF => ?_)
      refine s_gAs R11 (t_213 hm R11.S) (Nat.le_of_ble_eq_true rfl) rfl (o_213_31 hm R11.S) (a_233 hm R11) ?_
      refine s_gAs R11 (t_213 hm R11.S) (Nat.le_of_ble_eq_true rfl) rfl (o_213_14 hm R11.S) (a_225 hm R11) ?_
      refine s_rI R11 (u_225 hm R11.S).1 (u_225 hm R11.S).2 (by decide) (a_225 hm R11) (c_lit 1 1 rfl) ⟨by decide, by decide⟩ hF (fun x26 ra14 hF => ?_)
      refine s_gAs R11 (t_213 hm R11.S) (Nat.le_of_ble_eq_true rfl) rfl (o_213_31 hm R11.S) (a_233 hm R11) ?_
      refine s_gAs R11 (t_213 hm R11.S) (Nat.le_of_ble_eq_true rfl) rfl (o_213_14 hm R11.S) (a_225 hm R11) ?_
      refine s_rI R11 (u_225 hm R11.S).1 (u_225 hm R11.S).2 (by decide) (a_225 hm R11) (c_lit 1 1 rfl) ⟨by decide, by decide⟩ hF (fun x32 ra17 hF => ?_)
      refine s_rI R11 (u_233 hm R11.S).1 (u_233 hm R11.S).2 (by decide) (a_233 hm R11) rfl ra17 hF (fun x34 ra18 hF => ?_)
      refine s_gAs R11 (t_213 hm R11.S) (Nat.le_of_ble_eq_true rfl) rfl (o_213_13 hm R11.S) (a_224 hm R11) ?_
      refine s_rI R11 (u_224 hm R11.S).1 (u_224 hm R11.S).2 (by decide) (a_224 hm R11) (c_lit 1 1 rfl) ⟨by decide, by decide⟩ hF (fun x38 ra20 hF => ?_)
      refine s_qI R11 (u_233 hm R11.S).1 (u_233 hm R11.S).2 (by decide) (a_233 hm R11) rfl ra14 (c_add rfl rfl) (rr_I _) hF (fun h21 σ40 R21 T21 hF => ?_)
      refine s_kok R21 (t_213 hm R21.S) (Nat.le_of_ble_eq_true rfl) ?_
      refine s_call R21 (Nat.zero_le _) (fun _ hq => SX37_isHyphen (b := 0) hm (R21.rf) rfl rl1 hq) hF (fun f23 rv23 h23 q43 R23 e23 E23 hF => ?_)
      refine s_if (i_eq e23.1 (c_lit 0 0 rfl) e23.2 ⟨by decide, by decide⟩) hF (fun c24 hF => ?_) (fun c24 hF => ?_)
      ·
        exact SX37_measure_b248 (N := N) hm R23 rfl rl2 hF
      ·
        refine s_gAs R23 (t_213 hm R23.S) (Nat.le_of_ble_eq_true rfl) rfl (o_213_8 hm R23.S) (a_220 hm R23) ?_
        refine s_rI R23 (u_220 hm R23.S).1 (u_220 hm R23.S).2 (by decide) (a_220 hm R23) rfl rl1 hF (fun x47 ra26 hF => ?_)
        refine s_if (i_eq rfl (c_lit (-2147483648) (-2147483648) rfl) ra26 ⟨by decide, by decide⟩) hF (fun c27 hF => ?_) (fun c27 hF => ?_)
        ·
          exact SX37_measure_b248 (N := N) hm R23 rfl rl2 hF
        ·
          refine s_gI R23 (t_213 hm R23.S) (Nat.le_of_ble_eq_true rfl) rfl ?_
          refine s_gAs R23 (t_213 hm R23.S) (Nat.le_of_ble_eq_true rfl) rfl (o_213_8 hm R23.S) (a_220 hm R23) ?_
          refine s_rI R23 (u_220 hm R23.S).1 (u_220 hm R23.S).2 (by decide) (a_220 hm R23) rfl rl1 hF (fun x54 ra30 hF => ?_)
          exact SX37_measure_b252 (N := N) hm R23 rfl rl2 (c_add rfl rfl) (rr_I _) hF
    ·
      refine s_gAs R (t_213 hm R.S) (Nat.le_of_ble_eq_true rfl) rfl (o_213_31 hm R.S) (a_233 hm R) ?_
      refine s_gAs R (t_213 hm R.S) (Nat.le_of_ble_eq_true rfl) rfl (o_213_46 hm R.S) (a_241 hm R) ?_
      refine s_rI R (u_241 hm R.S).1 (u_241 hm R.S).2 (by decide) (a_241 hm R) (c_add (c_mul (c_lit 4 4 rfl) rfl) rfl) (rr_I _) hF (fun x60 ra33 hF => ?_)
      refine s_gAs R (t_213 hm R.S) (Nat.le_of_ble_eq_true rfl) rfl (o_213_46 hm R.S) (a_241 hm R) ?_
      refine s_gI R (t_213 hm R.S) (Nat.le_of_ble_eq_true rfl) rfl ?_
      refine s_rI R (u_241 hm R.S).1 (u_241 hm R.S).2 (by decide) (a_241 hm R) (c_add (c_mul (c_lit 4 4 rfl) rfl) rfl) (rr_I _) hF (fun x66 ra36 hF => ?_)
      refine s_if (not_congr (i_eq rfl (c_lit 0 0 rfl) rl4 ⟨by decide, by decide⟩)) hF (fun c37 hF => ?_) (fun c37 hF => ?_)
      ·
        exact SX37_measure_b148 (N := N) (k97 := fX37_measure_b97 N n) (K97 := FX37_measure_b97 N n) hm @ih R rfl rl1 rfl rl2 rfl rl3 rfl rl4 rfl rl4 (c_sub rfl rfl) (rr_I _) (c_lit 0 0 rfl) ⟨by decide, by decide⟩ hF
      ·
        refine s_gI R (t_213 hm R.S) (Nat.le_of_ble_eq_true rfl) rfl ?_
        exact SX37_measure_b148 (N := N) (k97 := fX37_measure_b97 N n) (K97 := FX37_measure_b97 N n) hm @ih R rfl rl1 rfl rl2 rfl rl3 rfl rl4 rfl rl4 (c_sub rfl rfl) (rr_I _) rfl (R.ri (t_213 hm R.S) (Nat.le_of_ble_eq_true rfl) rfl) hF
def FX37_measure_b25 (N : Nat) (l1 : Int) (l2 : Int) (s0 : Int) (s : fS) : Option (Unit × fS) :=
  (uRI s 223 0).bind fun x3 =>
  (uRI s 223 1).bind fun x7 =>
  (uRI s 240 s0).bind fun x11 =>
  (uRI s 240 (s.i 213 29)).bind fun x17 =>
  (uPI s 213 30 (isub (iadd (iadd x3 x7) x11) x17)).bind fun σ19 =>
  (uRI σ19 226 0).bind fun x23 =>
  (uRI σ19 226 1).bind fun x27 =>
  (uRI σ19 242 s0).bind fun x31 =>
  (uRI σ19 242 (σ19.i 213 29)).bind fun x37 =>
  (uPI σ19 213 32 (isub (iadd (iadd x23 x27) x31) x37)).bind fun σ39 =>
  FX37_measure_b97 N N l1 l2 s0 0 σ39
theorem SX37_measure_b25 {m b : Nat} {φ0 : Nat → Nat} {σo : fS} (hm : 1 ≤ m) {N : Nat} {q : Unit × fS} {φ : Nat → Nat} {h : eH} {s : fS} {l1' : Int32} {l1 : Int} {l2' : Int32} {l2 : Int} {s0' : Int32} {s0 : Int} (R : fC m b φ0 σo φ h s) (el1 : l1' = iI l1) (rl1 : r32 l1) (el2 : l2' = iI l2) (rl2 : r32 l2) (es0 : s0' = iI s0) (rs0 : r32 s0) (hF : FX37_measure_b25 N l1 l2 s0 s = some q) : gG m b φ0 σo lU q (fX37_measure_b25 N 213 l1' l2' s0' h) := by
  subst el1; subst el2; subst es0
  unfold FX37_measure_b25 at hF
  unfold fX37_measure_b25
  refine s_gAs R (t_213 hm R.S) (Nat.le_of_ble_eq_true rfl) rfl (o_213_12 hm R.S) (a_223 hm R) ?_
  refine s_rI R (u_223 hm R.S).1 (u_223 hm R.S).2 (by decide) (a_223 hm R) (c_lit 0 0 rfl) ⟨by decide, by decide⟩ hF (fun x3 ra2 hF => ?_)
  refine s_gAs R (t_213 hm R.S) (Nat.le_of_ble_eq_true rfl) rfl (o_213_12 hm R.S) (a_223 hm R) ?_
  refine s_rI R (u_223 hm R.S).1 (u_223 hm R.S).2 (by decide) (a_223 hm R) (c_lit 1 1 rfl) ⟨by decide, by decide⟩ hF (fun x7 ra4 hF => ?_)
  refine s_gAs R (t_213 hm R.S) (Nat.le_of_ble_eq_true rfl) rfl (o_213_45 hm R.S) (a_240 hm R) ?_
  refine s_rI R (u_240 hm R.S).1 (u_240 hm R.S).2 (by decide) (a_240 hm R) rfl rs0 hF (fun x11 ra6 hF => ?_)
  refine s_gAs R (t_213 hm R.S) (Nat.le_of_ble_eq_true rfl) rfl (o_213_45 hm R.S) (a_240 hm R) ?_
  refine s_gI R (t_213 hm R.S) (Nat.le_of_ble_eq_true rfl) rfl ?_
  refine s_rI R (u_240 hm R.S).1 (u_240 hm R.S).2 (by decide) (a_240 hm R) rfl (R.ri (t_213 hm R.S) (Nat.le_of_ble_eq_true rfl) rfl) hF (fun x17 ra9 hF => ?_)
  refine s_pI R (t_213 hm R.S) (Nat.le_of_ble_eq_true rfl) rfl (c_sub (c_add (c_add rfl rfl) rfl) rfl) (rr_I _) hF (fun h10 σ19 R10 T10 hF => ?_)
  refine s_gAs R10 (t_213 hm R10.S) (Nat.le_of_ble_eq_true rfl) rfl (o_213_15 hm R10.S) (a_226 hm R10) ?_
  refine s_rI R10 (u_226 hm R10.S).1 (u_226 hm R10.S).2 (by decide) (a_226 hm R10) (c_lit 0 0 rfl) ⟨by decide, by decide⟩ hF (fun x23 ra12 hF => ?_)
  refine s_gAs R10 (t_213 hm R10.S) (Nat.le_of_ble_eq_true rfl) rfl (o_213_15 hm R10.S) (a_226 hm R10) ?_
  refine s_rI R10 (u_226 hm R10.S).1 (u_226 hm R10.S).2 (by decide) (a_226 hm R10) (c_lit 1 1 rfl) ⟨by decide, by decide⟩ hF (fun x27 ra14 hF => ?_)
  refine s_gAs R10 (t_213 hm R10.S) (Nat.le_of_ble_eq_true rfl) rfl (o_213_47 hm R10.S) (a_242 hm R10) ?_
  refine s_rI R10 (u_242 hm R10.S).1 (u_242 hm R10.S).2 (by decide) (a_242 hm R10) rfl rs0 hF (fun x31 ra16 hF => ?_)
  refine s_gAs R10 (t_213 hm R10.S) (Nat.le_of_ble_eq_true rfl) rfl (o_213_47 hm R10.S) (a_242 hm R10) ?_
  refine s_gI R10 (t_213 hm R10.S) (Nat.le_of_ble_eq_true rfl) rfl ?_
  refine s_rI R10 (u_242 hm R10.S).1 (u_242 hm R10.S).2 (by decide) (a_242 hm R10) rfl (R10.ri (t_213 hm R10.S) (Nat.le_of_ble_eq_true rfl) rfl) hF (fun x37 ra19 hF => ?_)
  refine s_pI R10 (t_213 hm R10.S) (Nat.le_of_ble_eq_true rfl) rfl (c_sub (c_add (c_add rfl rfl) rfl) rfl) (rr_I _) hF (fun h20 σ39 R20 T20 hF => ?_)
  exact SX37_measure_b97 (N := N) hm R20 rfl rl1 rfl rl2 rfl rs0 (c_lit 0 0 rfl) ⟨by decide, by decide⟩ hF
def FX37_measure (N : Nat) (p0 : Int) (p1 : Int) (s : fS) : Option (Unit × fS) :=
  (FX37_firstOf N p0 s).bind fun q2 =>
  (uPI q2.2 213 29 q2.1).bind fun σ3 =>
  if p1 ≤ (σ3.i 213 29) then
    FX37_measure_b25 N p0 p1 (σ3.i 213 29) σ3
  else
    FX37_measure_b25 N p0 p1 p1 σ3
theorem SX37_measure {m b : Nat} {φ0 : Nat → Nat} {σo : fS} (hm : 1 ≤ m) {N : Nat} {q : Unit × fS} {φ : Nat → Nat} {h : eH} {s : fS} {p0' : Int32} {p0 : Int} {p1' : Int32} {p1 : Int} (R : fC m b φ0 σo φ h s) (ep0 : p0' = iI p0) (rp0 : r32 p0) (ep1 : p1' = iI p1) (rp1 : r32 p1) (hF : FX37_measure N p0 p1 s = some q) : gG m b φ0 σo lU q (fX37_measure N 213 p0' p1' h) := by
  subst ep0; subst ep1
  unfold FX37_measure at hF
  unfold fX37_measure
  refine s_kok R (t_213 hm R.S) (Nat.le_of_ble_eq_true rfl) ?_
  refine s_call R (Nat.zero_le _) (fun _ hq => SX37_firstOf (b := 0) (N := N) hm (R.rf) rfl rp0 hq) hF (fun f2 rv2 h2 q2 R2 e2 E2 hF => ?_)
  refine s_pI R2 (t_213 hm R2.S) (Nat.le_of_ble_eq_true rfl) rfl e2.1 e2.2 hF (fun h3 σ3 R3 T3 hF => ?_)
  refine s_gI R3 (t_213 hm R3.S) (Nat.le_of_ble_eq_true rfl) rfl ?_
  refine s_if (i_le rfl rfl rp1 (R3.ri (t_213 hm R3.S) (Nat.le_of_ble_eq_true rfl) rfl)) hF (fun c5 hF => ?_) (fun c5 hF => ?_)
  ·
    refine s_gI R3 (t_213 hm R3.S) (Nat.le_of_ble_eq_true rfl) rfl ?_
    exact SX37_measure_b25 (N := N) hm R3 rfl rp0 rfl rp1 rfl (R3.ri (t_213 hm R3.S) (Nat.le_of_ble_eq_true rfl) rfl) hF
  ·
    exact SX37_measure_b25 (N := N) hm R3 rfl rp0 rfl rp1 rfl rp1 hF
def FX37_bad_b89 (s0 : Int) (s : fS) : Option (Int × fS) :=
  some (s0, s)
theorem SX37_bad_b89 {m b : Nat} {φ0 : Nat → Nat} {σo : fS} (hm : 1 ≤ m) {q : Int × fS} {φ : Nat → Nat} {h : eH} {s : fS} {s0' : Int32} {s0 : Int} (R : fC m b φ0 σo φ h s) (es0 : s0' = iI s0) (rs0 : r32 s0) (hF : FX37_bad_b89 s0 s = some q) : gG m b φ0 σo lI q (fX37_bad_b89 s0' h) := by
  subst es0
  unfold FX37_bad_b89 at hF
  unfold fX37_bad_b89
  exact g_ret R hF ⟨rfl, rs0⟩
def FX37_bad_b55 (s0 : Int) (s : fS) : Option (Int × fS) :=
  if s0 ≤ 1290 then
    FX37_bad_b89 (l2i (ldiv (ladd (lmul (lmul s0 s0) s0) 131072) 262144)) s
  else
    FX37_bad_b89 10000 s
theorem SX37_bad_b55 {m b : Nat} {φ0 : Nat → Nat} {σo : fS} (hm : 1 ≤ m) {q : Int × fS} {φ : Nat → Nat} {h : eH} {s : fS} {s0' : Int64} {s0 : Int} (R : fC m b φ0 σo φ h s) (es0 : s0' = iJ s0) (rs0 : r64 s0) (hF : FX37_bad_b55 s0 s = some q) : gG m b φ0 σo lI q (fX37_bad_b55 s0' h) := by
  subst es0
  unfold FX37_bad_b55 at hF
  unfold fX37_bad_b55
  refine s_if (lg_le.trans (j_le rfl (d_lit 1290 1290 rfl) rs0 ⟨by decide, by decide⟩)) hF (fun c1 hF => ?_) (fun c1 hF => ?_)
  ·
    exact SX37_bad_b89 hm R (d_2i (d_div (d_add (d_mul (d_mul rfl rfl) rfl) (d_lit 131072 131072 rfl)) (d_lit 262144 262144 rfl))) (rr_I _) hF
  ·
    exact SX37_bad_b89 hm R (c_lit 10000 10000 rfl) ⟨by decide, by decide⟩ hF
def FX37_bad (p0 : Int) (p1 : Int) (s : fS) : Option (Int × fS) :=
  if ¬ (p0 = 0) then
    if ¬ (p1 = 0) then
      if 7230584 < p0 then
        if p1 < 1663497 then
          FX37_bad_b55 p0 s
        else
          if (ldiv p1 297) = 0 then none else
          FX37_bad_b55 (ldiv p0 (ldiv p1 297)) s
      else
        if p1 = 0 then none else
        FX37_bad_b55 (ldiv (lmul 297 p0) p1) s
    else
      some (10000, s)
  else
    some (0, s)
theorem SX37_bad {m b : Nat} {φ0 : Nat → Nat} {σo : fS} (hm : 1 ≤ m) {q : Int × fS} {φ : Nat → Nat} {h : eH} {s : fS} {p0' : Int64} {p0 : Int} {p1' : Int64} {p1 : Int} (R : fC m b φ0 σo φ h s) (ep0 : p0' = iJ p0) (rp0 : r64 p0) (ep1 : p1' = iJ p1) (rp1 : r64 p1) (hF : FX37_bad p0 p1 s = some q) : gG m b φ0 σo lI q (fX37_bad p0' p1' h) := by
  subst ep0; subst ep1
  unfold FX37_bad at hF
  unfold fX37_bad
  refine s_if (not_congr (lg_eq.trans (j_eq rfl (d_lit 0 0 rfl) rp0 ⟨by decide, by decide⟩))) hF (fun c1 hF => ?_) (fun c1 hF => ?_)
  ·
    refine s_if (not_congr (lg_eq.trans (j_eq rfl (d_lit 0 0 rfl) rp1 ⟨by decide, by decide⟩))) hF (fun c2 hF => ?_) (fun c2 hF => ?_)
    ·
      refine s_if ((lg_cmp_gt _ _).trans (j_lt (d_lit 7230584 7230584 rfl) rfl ⟨by decide, by decide⟩ rp0)) hF (fun c3 hF => ?_) (fun c3 hF => ?_)
      ·
        refine s_if (lg_lt.trans (j_lt rfl (d_lit 1663497 1663497 rfl) rp1 ⟨by decide, by decide⟩)) hF (fun c4 hF => ?_) (fun c4 hF => ?_)
        ·
          exact SX37_bad_b55 hm R rfl rp0 hF
        ·
          refine s_div (j_eq (d_div rfl (d_lit 297 297 rfl)) (d_lit 0 0 rfl) (rr_J _) ⟨by decide, by decide⟩) hF (fun c5 hF => ?_)
          exact SX37_bad_b55 hm R (d_div rfl (d_div rfl (d_lit 297 297 rfl))) (rr_J _) hF
      ·
        refine s_div (j_eq rfl (d_lit 0 0 rfl) rp1 ⟨by decide, by decide⟩) hF (fun c6 hF => ?_)
        exact SX37_bad_b55 hm R (d_div (d_mul (d_lit 297 297 rfl) rfl) rfl) (rr_J _) hF
    ·
      exact g_ret R hF ⟨(c_lit 10000 10000 rfl), ⟨by decide, by decide⟩⟩
  ·
    exact g_ret R hF ⟨(c_lit 0 0 rfl), ⟨by decide, by decide⟩⟩
def FX37_judge_b174 (s : fS) : Option (Unit × fS) :=
  some ((), s)
theorem SX37_judge_b174 {m b : Nat} {φ0 : Nat → Nat} {σo : fS} (hm : 1 ≤ m) {q : Unit × fS} {φ : Nat → Nat} {h : eH} {s : fS} (R : fC m b φ0 σo φ h s) (hF : FX37_judge_b174 s = some q) : gG m b φ0 σo lU q (fX37_judge_b174 h) := by
  unfold FX37_judge_b174 at hF
  unfold fX37_judge_b174
  exact g_ret R hF trivial
def FX37_judge_b110 (s1 : Int) (s : fS) : Option (Unit × fS) :=
  (uPI s 213 35 s1).bind fun σ1 =>
  FX37_judge_b174 σ1
theorem SX37_judge_b110 {m b : Nat} {φ0 : Nat → Nat} {σo : fS} (hm : 1 ≤ m) {q : Unit × fS} {φ : Nat → Nat} {h : eH} {s : fS} {s1' : Int32} {s1 : Int} (R : fC m b φ0 σo φ h s) (es1 : s1' = iI s1) (rs1 : r32 s1) (hF : FX37_judge_b110 s1 s = some q) : gG m b φ0 σo lU q (fX37_judge_b110 213 s1' h) := by
  subst es1
  unfold FX37_judge_b110 at hF
  unfold fX37_judge_b110
  refine s_pI R (t_213 hm R.S) (Nat.le_of_ble_eq_true rfl) rfl rfl rs1 hF (fun h1 σ1 R1 T1 hF => ?_)
  exact SX37_judge_b174 hm R1 hF
def FX37_judge_b79 (s1 : Int) (s : fS) : Option (Unit × fS) :=
  (uPI s 213 34 s1).bind fun σ1 =>
  if (σ1.i 213 34) ≤ 99 then
    if (σ1.i 213 34) ≤ 12 then
      FX37_judge_b110 2 σ1
    else
      FX37_judge_b110 1 σ1
  else
    FX37_judge_b110 0 σ1
theorem SX37_judge_b79 {m b : Nat} {φ0 : Nat → Nat} {σo : fS} (hm : 1 ≤ m) {q : Unit × fS} {φ : Nat → Nat} {h : eH} {s : fS} {s1' : Int32} {s1 : Int} (R : fC m b φ0 σo φ h s) (es1 : s1' = iI s1) (rs1 : r32 s1) (hF : FX37_judge_b79 s1 s = some q) : gG m b φ0 σo lU q (fX37_judge_b79 213 213 s1' h) := by
  subst es1
  unfold FX37_judge_b79 at hF
  unfold fX37_judge_b79
  refine s_pI R (t_213 hm R.S) (Nat.le_of_ble_eq_true rfl) rfl rfl rs1 hF (fun h1 σ1 R1 T1 hF => ?_)
  refine s_gI R1 (t_213 hm R1.S) (Nat.le_of_ble_eq_true rfl) rfl ?_
  refine s_if (i_le rfl (c_lit 99 99 rfl) (R1.ri (t_213 hm R1.S) (Nat.le_of_ble_eq_true rfl) rfl) ⟨by decide, by decide⟩) hF (fun c3 hF => ?_) (fun c3 hF => ?_)
  ·
    refine s_gI R1 (t_213 hm R1.S) (Nat.le_of_ble_eq_true rfl) rfl ?_
    refine s_if (i_le rfl (c_lit 12 12 rfl) (R1.ri (t_213 hm R1.S) (Nat.le_of_ble_eq_true rfl) rfl) ⟨by decide, by decide⟩) hF (fun c5 hF => ?_) (fun c5 hF => ?_)
    ·
      exact SX37_judge_b110 hm R1 (c_lit 2 2 rfl) ⟨by decide, by decide⟩ hF
    ·
      exact SX37_judge_b110 hm R1 (c_lit 1 1 rfl) ⟨by decide, by decide⟩ hF
  ·
    exact SX37_judge_b110 hm R1 (c_lit 0 0 rfl) ⟨by decide, by decide⟩ hF
def FX37_judge_b56 (l2 : Int) (s0 : Int) (s : fS) : Option (Unit × fS) :=
  if s0 = 0 then
    (uRI s 233 0).bind fun x4 =>
    (FX37_bad l2 x4 s).bind fun q6 =>
    FX37_judge_b79 q6.1 q6.2
  else
    FX37_judge_b79 0 s
theorem SX37_judge_b56 {m b : Nat} {φ0 : Nat → Nat} {σo : fS} (hm : 1 ≤ m) {q : Unit × fS} {φ : Nat → Nat} {h : eH} {s : fS} {l2' : Int64} {l2 : Int} {s0' : Int32} {s0 : Int} (R : fC m b φ0 σo φ h s) (el2 : l2' = iJ l2) (rl2 : r64 l2) (es0 : s0' = iI s0) (rs0 : r32 s0) (hF : FX37_judge_b56 l2 s0 s = some q) : gG m b φ0 σo lU q (fX37_judge_b56 213 l2' s0' h) := by
  subst el2; subst es0
  unfold FX37_judge_b56 at hF
  unfold fX37_judge_b56
  refine s_if (i_eq rfl (c_lit 0 0 rfl) rs0 ⟨by decide, by decide⟩) hF (fun c1 hF => ?_) (fun c1 hF => ?_)
  ·
    refine s_gAs R (t_213 hm R.S) (Nat.le_of_ble_eq_true rfl) rfl (o_213_31 hm R.S) (a_233 hm R) ?_
    refine s_rI R (u_233 hm R.S).1 (u_233 hm R.S).2 (by decide) (a_233 hm R) (c_lit 0 0 rfl) ⟨by decide, by decide⟩ hF (fun x4 ra3 hF => ?_)
    refine s_call R (Nat.zero_le _) (fun _ hq => SX37_bad (b := 0) hm (R.rf) rfl rl2 (c_2l rfl ra3) (r32.w ra3) hq) hF (fun f4 rv4 h4 q6 R4 e4 E4 hF => ?_)
    exact SX37_judge_b79 hm R4 e4.1 e4.2 hF
  ·
    exact SX37_judge_b79 hm R (c_lit 0 0 rfl) ⟨by decide, by decide⟩ hF
def FX37_judge_b51 (l2 : Int) (s : fS) : Option (Unit × fS) :=
  FX37_judge_b56 l2 1 s
theorem SX37_judge_b51 {m b : Nat} {φ0 : Nat → Nat} {σo : fS} (hm : 1 ≤ m) {q : Unit × fS} {φ : Nat → Nat} {h : eH} {s : fS} {l2' : Int64} {l2 : Int} (R : fC m b φ0 σo φ h s) (el2 : l2' = iJ l2) (rl2 : r64 l2) (hF : FX37_judge_b51 l2 s = some q) : gG m b φ0 σo lU q (fX37_judge_b51 213 l2' h) := by
  subst el2
  unfold FX37_judge_b51 at hF
  unfold fX37_judge_b51
  exact SX37_judge_b56 hm R rfl rl2 (c_lit 1 1 rfl) ⟨by decide, by decide⟩ hF
def FX37_judge_b171 (s1 : Int) (s : fS) : Option (Unit × fS) :=
  (uPI s 213 35 s1).bind fun σ1 =>
  FX37_judge_b174 σ1
theorem SX37_judge_b171 {m b : Nat} {φ0 : Nat → Nat} {σo : fS} (hm : 1 ≤ m) {q : Unit × fS} {φ : Nat → Nat} {h : eH} {s : fS} {s1' : Int32} {s1 : Int} (R : fC m b φ0 σo φ h s) (es1 : s1' = iI s1) (rs1 : r32 s1) (hF : FX37_judge_b171 s1 s = some q) : gG m b φ0 σo lU q (fX37_judge_b171 213 s1' h) := by
  subst es1
  unfold FX37_judge_b171 at hF
  unfold fX37_judge_b171
  refine s_pI R (t_213 hm R.S) (Nat.le_of_ble_eq_true rfl) rfl rfl rs1 hF (fun h1 σ1 R1 T1 hF => ?_)
  exact SX37_judge_b174 hm R1 hF
def FX37_judge (p0 : Int) (s : fS) : Option (Unit × fS) :=
  (uPI s 213 33 (l2i (lsub (s.i 213 11) (s.i 213 30)))).bind fun σ5 =>
  if (lsub (s.i 213 11) (s.i 213 30)) ≤ 0 then
    if (lneg (lsub (s.i 213 11) (s.i 213 30))) ≤ (σ5.i 213 32) then
      (FX37_bad (lneg (lsub (s.i 213 11) (s.i 213 30))) (σ5.i 213 32) σ5).bind fun q13 =>
      (uPI q13.2 213 34 q13.1).bind fun σ14 =>
      if (σ14.i 213 34) ≤ 12 then
        FX37_judge_b171 2 σ14
      else
        FX37_judge_b171 3 σ14
    else
      (uPI σ5 213 34 10001).bind fun σ19 =>
      (uPI σ19 213 35 3).bind fun σ21 =>
      FX37_judge_b174 σ21
  else
    (uRI σ5 233 1).bind fun x25 =>
    if 0 < x25 then
      FX37_judge_b51 (lsub (s.i 213 11) (s.i 213 30)) σ5
    else
      (uRI σ5 233 2).bind fun x30 =>
      if 0 < x30 then
        FX37_judge_b51 (lsub (s.i 213 11) (s.i 213 30)) σ5
      else
        (uRI σ5 233 3).bind fun x35 =>
        if x35 ≤ 0 then
          FX37_judge_b56 (lsub (s.i 213 11) (s.i 213 30)) 0 σ5
        else
          FX37_judge_b51 (lsub (s.i 213 11) (s.i 213 30)) σ5
theorem SX37_judge {m b : Nat} {φ0 : Nat → Nat} {σo : fS} (hm : 1 ≤ m) {q : Unit × fS} {φ : Nat → Nat} {h : eH} {s : fS} {p0' : Int32} {p0 : Int} (R : fC m b φ0 σo φ h s) (ep0 : p0' = iI p0) (rp0 : r32 p0) (hF : FX37_judge p0 s = some q) : gG m b φ0 σo lU q (fX37_judge 213 p0' h) := by
  subst ep0
  unfold FX37_judge at hF
  unfold fX37_judge
  refine s_gI R (t_213 hm R.S) (Nat.le_of_ble_eq_true rfl) rfl ?_
  refine s_gI R (t_213 hm R.S) (Nat.le_of_ble_eq_true rfl) rfl ?_
  refine s_pI R (t_213 hm R.S) (Nat.le_of_ble_eq_true rfl) rfl (d_2i (d_sub (c_2l rfl (R.ri (t_213 hm R.S) (Nat.le_of_ble_eq_true rfl) rfl)) (c_2l rfl (R.ri (t_213 hm R.S) (Nat.le_of_ble_eq_true rfl) rfl)))) (rr_I _) hF (fun h3 σ5 R3 T3 hF => ?_)
  refine s_if (lg_le.trans (j_le (d_sub (c_2l rfl (R.ri (t_213 hm R.S) (Nat.le_of_ble_eq_true rfl) rfl)) (c_2l rfl (R.ri (t_213 hm R.S) (Nat.le_of_ble_eq_true rfl) rfl))) (d_lit 0 0 rfl) (rr_J _) ⟨by decide, by decide⟩)) hF (fun c4 hF => ?_) (fun c4 hF => ?_)
  ·
    refine s_gI R3 (t_213 hm R3.S) (Nat.le_of_ble_eq_true rfl) rfl ?_
    refine s_if ((lg_cmp_ge _ _).trans (j_le (d_neg (d_sub (c_2l rfl (R.ri (t_213 hm R.S) (Nat.le_of_ble_eq_true rfl) rfl)) (c_2l rfl (R.ri (t_213 hm R.S) (Nat.le_of_ble_eq_true rfl) rfl)))) (c_2l rfl (R3.ri (t_213 hm R3.S) (Nat.le_of_ble_eq_true rfl) rfl)) (rr_J _) (r32.w (R3.ri (t_213 hm R3.S) (Nat.le_of_ble_eq_true rfl) rfl)))) hF (fun c6 hF => ?_) (fun c6 hF => ?_)
    ·
      refine s_gI R3 (t_213 hm R3.S) (Nat.le_of_ble_eq_true rfl) rfl ?_
      refine s_call R3 (Nat.zero_le _) (fun _ hq => SX37_bad (b := 0) hm (R3.rf) (d_neg (d_sub (c_2l rfl (R.ri (t_213 hm R.S) (Nat.le_of_ble_eq_true rfl) rfl)) (c_2l rfl (R.ri (t_213 hm R.S) (Nat.le_of_ble_eq_true rfl) rfl)))) (rr_J _) (c_2l rfl (R3.ri (t_213 hm R3.S) (Nat.le_of_ble_eq_true rfl) rfl)) (r32.w (R3.ri (t_213 hm R3.S) (Nat.le_of_ble_eq_true rfl) rfl)) hq) hF (fun f8 rv8 h8 q13 R8 e8 E8 hF => ?_)
      refine s_pI R8 (t_213 hm R8.S) (Nat.le_of_ble_eq_true rfl) rfl e8.1 e8.2 hF (fun h9 σ14 R9 T9 hF => ?_)
      refine s_gI R9 (t_213 hm R9.S) (Nat.le_of_ble_eq_true rfl) rfl ?_
      refine s_if (i_le rfl (c_lit 12 12 rfl) (R9.ri (t_213 hm R9.S) (Nat.le_of_ble_eq_true rfl) rfl) ⟨by decide, by decide⟩) hF (fun c11 hF => ?_) (fun c11 hF => ?_)
      ·
        exact SX37_judge_b171 hm R9 (c_lit 2 2 rfl) ⟨by decide, by decide⟩ hF
      ·
        exact SX37_judge_b171 hm R9 (c_lit 3 3 rfl) ⟨by decide, by decide⟩ hF
    ·
      refine s_pI R3 (t_213 hm R3.S) (Nat.le_of_ble_eq_true rfl) rfl (c_lit 10001 10001 rfl) ⟨by decide, by decide⟩ hF (fun h12 σ19 R12 T12 hF => ?_)
      refine s_pI R12 (t_213 hm R12.S) (Nat.le_of_ble_eq_true rfl) rfl (c_lit 3 3 rfl) ⟨by decide, by decide⟩ hF (fun h13 σ21 R13 T13 hF => ?_)
      exact SX37_judge_b174 hm R13 hF
  ·
    refine s_gAs R3 (t_213 hm R3.S) (Nat.le_of_ble_eq_true rfl) rfl (o_213_31 hm R3.S) (a_233 hm R3) ?_
    refine s_rI R3 (u_233 hm R3.S).1 (u_233 hm R3.S).2 (by decide) (a_233 hm R3) (c_lit 1 1 rfl) ⟨by decide, by decide⟩ hF (fun x25 ra15 hF => ?_)
    refine s_if (i_lt (c_lit 0 0 rfl) rfl ⟨by decide, by decide⟩ ra15) hF (fun c16 hF => ?_) (fun c16 hF => ?_)
    ·
      exact SX37_judge_b51 hm R3 (d_sub (c_2l rfl (R.ri (t_213 hm R.S) (Nat.le_of_ble_eq_true rfl) rfl)) (c_2l rfl (R.ri (t_213 hm R.S) (Nat.le_of_ble_eq_true rfl) rfl))) (rr_J _) hF
    ·
      refine s_gAs R3 (t_213 hm R3.S) (Nat.le_of_ble_eq_true rfl) rfl (o_213_31 hm R3.S) (a_233 hm R3) ?_
      refine s_rI R3 (u_233 hm R3.S).1 (u_233 hm R3.S).2 (by decide) (a_233 hm R3) (c_lit 2 2 rfl) ⟨by decide, by decide⟩ hF (fun x30 ra18 hF => ?_)
      refine s_if (i_lt (c_lit 0 0 rfl) rfl ⟨by decide, by decide⟩ ra18) hF (fun c19 hF => ?_) (fun c19 hF => ?_)
      ·
        exact SX37_judge_b51 hm R3 (d_sub (c_2l rfl (R.ri (t_213 hm R.S) (Nat.le_of_ble_eq_true rfl) rfl)) (c_2l rfl (R.ri (t_213 hm R.S) (Nat.le_of_ble_eq_true rfl) rfl))) (rr_J _) hF
      ·
        refine s_gAs R3 (t_213 hm R3.S) (Nat.le_of_ble_eq_true rfl) rfl (o_213_31 hm R3.S) (a_233 hm R3) ?_
        refine s_rI R3 (u_233 hm R3.S).1 (u_233 hm R3.S).2 (by decide) (a_233 hm R3) (c_lit 3 3 rfl) ⟨by decide, by decide⟩ hF (fun x35 ra21 hF => ?_)
        refine s_if (i_le rfl (c_lit 0 0 rfl) ra21 ⟨by decide, by decide⟩) hF (fun c22 hF => ?_) (fun c22 hF => ?_)
        ·
          exact SX37_judge_b56 hm R3 (d_sub (c_2l rfl (R.ri (t_213 hm R.S) (Nat.le_of_ble_eq_true rfl) rfl)) (c_2l rfl (R.ri (t_213 hm R.S) (Nat.le_of_ble_eq_true rfl) rfl))) (rr_J _) (c_lit 0 0 rfl) ⟨by decide, by decide⟩ hF
        ·
          exact SX37_judge_b51 hm R3 (d_sub (c_2l rfl (R.ri (t_213 hm R.S) (Nat.le_of_ble_eq_true rfl) rfl)) (c_2l rfl (R.ri (t_213 hm R.S) (Nat.le_of_ble_eq_true rfl) rfl))) (rr_J _) hF
def FX37_demerits_b217 (s0 : Int) (s : fS) : Option (Int × fS) :=
  some (s0, s)
theorem SX37_demerits_b217 {m b : Nat} {φ0 : Nat → Nat} {σo : fS} (hm : 1 ≤ m) {q : Int × fS} {φ : Nat → Nat} {h : eH} {s : fS} {s0' : Int64} {s0 : Int} (R : fC m b φ0 σo φ h s) (es0 : s0' = iJ s0) (rs0 : r64 s0) (hF : FX37_demerits_b217 s0 s = some q) : gG m b φ0 σo lJ q (fX37_demerits_b217 s0' h) := by
  subst es0
  unfold FX37_demerits_b217 at hF
  unfold fX37_demerits_b217
  exact g_ret R hF ⟨rfl, rs0⟩
def FX37_demerits_b193 (l5 : Int) (s0 : Int) (s : fS) : Option (Int × fS) :=
  if s0 ≤ 1 then
    FX37_demerits_b217 l5 s
  else
    (uRI s 222 7).bind fun x4 =>
    FX37_demerits_b217 (ladd l5 x4) s
theorem SX37_demerits_b193 {m b : Nat} {φ0 : Nat → Nat} {σo : fS} (hm : 1 ≤ m) {q : Int × fS} {φ : Nat → Nat} {h : eH} {s : fS} {l5' : Int64} {l5 : Int} {s0' : Int32} {s0 : Int} (R : fC m b φ0 σo φ h s) (el5 : l5' = iJ l5) (rl5 : r64 l5) (es0 : s0' = iI s0) (rs0 : r32 s0) (hF : FX37_demerits_b193 l5 s0 s = some q) : gG m b φ0 σo lJ q (fX37_demerits_b193 213 l5' s0' h) := by
  subst el5; subst es0
  unfold FX37_demerits_b193 at hF
  unfold fX37_demerits_b193
  refine s_if (i_le rfl (c_lit 1 1 rfl) rs0 ⟨by decide, by decide⟩) hF (fun c1 hF => ?_) (fun c1 hF => ?_)
  ·
    exact SX37_demerits_b217 hm R rfl rl5 hF
  ·
    refine s_gAs R (t_213 hm R.S) (Nat.le_of_ble_eq_true rfl) rfl (o_213_10 hm R.S) (a_222 hm R) ?_
    refine s_rI R (u_222 hm R.S).1 (u_222 hm R.S).2 (by decide) (a_222 hm R) (c_lit 7 7 rfl) ⟨by decide, by decide⟩ hF (fun x4 ra3 hF => ?_)
    exact SX37_demerits_b217 hm R (d_add rfl (c_2l rfl ra3)) (rr_J _) hF
def FX37_demerits_b153 (l1 : Int) (s0 : Int) (s : fS) : Option (Int × fS) :=
  (uRI s 229 l1).bind fun x3 =>
  if x3 ≤ (s.i 213 35) then
    (uRI s 229 l1).bind fun x12 =>
    FX37_demerits_b193 s0 (isub (s.i 213 35) x12) s
  else
    (uRI s 229 l1).bind fun x16 =>
    FX37_demerits_b193 s0 (isub x16 (s.i 213 35)) s
theorem SX37_demerits_b153 {m b : Nat} {φ0 : Nat → Nat} {σo : fS} (hm : 1 ≤ m) {q : Int × fS} {φ : Nat → Nat} {h : eH} {s : fS} {l1' : Int32} {l1 : Int} {s0' : Int64} {s0 : Int} (R : fC m b φ0 σo φ h s) (el1 : l1' = iI l1) (rl1 : r32 l1) (es0 : s0' = iJ s0) (rs0 : r64 s0) (hF : FX37_demerits_b153 l1 s0 s = some q) : gG m b φ0 σo lJ q (fX37_demerits_b153 213 l1' s0' h) := by
  subst el1; subst es0
  unfold FX37_demerits_b153 at hF
  unfold fX37_demerits_b153
  refine s_gAs R (t_213 hm R.S) (Nat.le_of_ble_eq_true rfl) rfl (o_213_25 hm R.S) (a_229 hm R) ?_
  refine s_rI R (u_229 hm R.S).1 (u_229 hm R.S).2 (by decide) (a_229 hm R) rfl rl1 hF (fun x3 ra2 hF => ?_)
  refine s_gI R (t_213 hm R.S) (Nat.le_of_ble_eq_true rfl) rfl ?_
  refine s_if (i_le rfl rfl ra2 (R.ri (t_213 hm R.S) (Nat.le_of_ble_eq_true rfl) rfl)) hF (fun c4 hF => ?_) (fun c4 hF => ?_)
  ·
    refine s_gI R (t_213 hm R.S) (Nat.le_of_ble_eq_true rfl) rfl ?_
    refine s_gAs R (t_213 hm R.S) (Nat.le_of_ble_eq_true rfl) rfl (o_213_25 hm R.S) (a_229 hm R) ?_
    refine s_rI R (u_229 hm R.S).1 (u_229 hm R.S).2 (by decide) (a_229 hm R) rfl rl1 hF (fun x12 ra7 hF => ?_)
    exact SX37_demerits_b193 hm R rfl rs0 (c_sub rfl rfl) (rr_I _) hF
  ·
    refine s_gAs R (t_213 hm R.S) (Nat.le_of_ble_eq_true rfl) rfl (o_213_25 hm R.S) (a_229 hm R) ?_
    refine s_rI R (u_229 hm R.S).1 (u_229 hm R.S).2 (by decide) (a_229 hm R) rfl rl1 hF (fun x16 ra9 hF => ?_)
    refine s_gI R (t_213 hm R.S) (Nat.le_of_ble_eq_true rfl) rfl ?_
    exact SX37_demerits_b193 hm R rfl rs0 (c_sub rfl rfl) (rr_I _) hF
def FX37_demerits_b151 (l1 : Int) (l5 : Int) (s : fS) : Option (Int × fS) :=
  FX37_demerits_b153 l1 l5 s
theorem SX37_demerits_b151 {m b : Nat} {φ0 : Nat → Nat} {σo : fS} (hm : 1 ≤ m) {q : Int × fS} {φ : Nat → Nat} {h : eH} {s : fS} {l1' : Int32} {l1 : Int} {l5' : Int64} {l5 : Int} (R : fC m b φ0 σo φ h s) (el1 : l1' = iI l1) (rl1 : r32 l1) (el5 : l5' = iJ l5) (rl5 : r64 l5) (hF : FX37_demerits_b151 l1 l5 s = some q) : gG m b φ0 σo lJ q (fX37_demerits_b151 213 l1' l5' h) := by
  subst el1; subst el5
  unfold FX37_demerits_b151 at hF
  unfold fX37_demerits_b151
  exact SX37_demerits_b153 hm R rfl rl1 rfl rl5 hF
def FX37_demerits_b122 (l1 : Int) (l2 : Int) (l9 : Int) (s0 : Int) (s : fS) : Option (Int × fS) :=
  if l9 = 0 then
    FX37_demerits_b151 l1 s0 s
  else
    if ¬ (l2 = (s.i 213 17)) then
      FX37_demerits_b151 l1 s0 s
    else
      (uRI s 222 6).bind fun x7 =>
      FX37_demerits_b153 l1 (ladd s0 x7) s
theorem SX37_demerits_b122 {m b : Nat} {φ0 : Nat → Nat} {σo : fS} (hm : 1 ≤ m) {q : Int × fS} {φ : Nat → Nat} {h : eH} {s : fS} {l1' : Int32} {l1 : Int} {l2' : Int32} {l2 : Int} {l9' : Int32} {l9 : Int} {s0' : Int64} {s0 : Int} (R : fC m b φ0 σo φ h s) (el1 : l1' = iI l1) (rl1 : r32 l1) (el2 : l2' = iI l2) (rl2 : r32 l2) (el9 : l9' = iI l9) (rl9 : r32 l9) (es0 : s0' = iJ s0) (rs0 : r64 s0) (hF : FX37_demerits_b122 l1 l2 l9 s0 s = some q) : gG m b φ0 σo lJ q (fX37_demerits_b122 213 l1' l2' l9' s0' h) := by
  subst el1; subst el2; subst el9; subst es0
  unfold FX37_demerits_b122 at hF
  unfold fX37_demerits_b122
  refine s_if (i_eq rfl (c_lit 0 0 rfl) rl9 ⟨by decide, by decide⟩) hF (fun c1 hF => ?_) (fun c1 hF => ?_)
  ·
    exact SX37_demerits_b151 hm R rfl rl1 rfl rs0 hF
  ·
    refine s_gI R (t_213 hm R.S) (Nat.le_of_ble_eq_true rfl) rfl ?_
    refine s_if (not_congr (i_eq rfl rfl rl2 (R.ri (t_213 hm R.S) (Nat.le_of_ble_eq_true rfl) rfl))) hF (fun c3 hF => ?_) (fun c3 hF => ?_)
    ·
      exact SX37_demerits_b151 hm R rfl rl1 rfl rs0 hF
    ·
      refine s_gAs R (t_213 hm R.S) (Nat.le_of_ble_eq_true rfl) rfl (o_213_10 hm R.S) (a_222 hm R) ?_
      refine s_rI R (u_222 hm R.S).1 (u_222 hm R.S).2 (by decide) (a_222 hm R) (c_lit 6 6 rfl) ⟨by decide, by decide⟩ hF (fun x7 ra5 hF => ?_)
      exact SX37_demerits_b153 hm R rfl rl1 (d_add rfl (c_2l rfl ra5)) (rr_J _) hF
def FX37_demerits_b120 (l1 : Int) (l2 : Int) (l5 : Int) (l9 : Int) (s : fS) : Option (Int × fS) :=
  FX37_demerits_b122 l1 l2 l9 l5 s
theorem SX37_demerits_b120 {m b : Nat} {φ0 : Nat → Nat} {σo : fS} (hm : 1 ≤ m) {q : Int × fS} {φ : Nat → Nat} {h : eH} {s : fS} {l1' : Int32} {l1 : Int} {l2' : Int32} {l2 : Int} {l5' : Int64} {l5 : Int} {l9' : Int32} {l9 : Int} (R : fC m b φ0 σo φ h s) (el1 : l1' = iI l1) (rl1 : r32 l1) (el2 : l2' = iI l2) (rl2 : r32 l2) (el5 : l5' = iJ l5) (rl5 : r64 l5) (el9 : l9' = iI l9) (rl9 : r32 l9) (hF : FX37_demerits_b120 l1 l2 l5 l9 s = some q) : gG m b φ0 σo lJ q (fX37_demerits_b120 213 l1' l2' l5' l9' h) := by
  subst el1; subst el2; subst el5; subst el9
  unfold FX37_demerits_b120 at hF
  unfold fX37_demerits_b120
  exact SX37_demerits_b122 hm R rfl rl1 rfl rl2 rfl rl9 rfl rl5 hF
def FX37_demerits_b80 (l1 : Int) (l2 : Int) (s0 : Int) (s : fS) : Option (Int × fS) :=
  (uRI s 227 l1).bind fun x3 =>
  (FX37_isHyphen x3 s).bind fun q6 =>
  if q6.1 = 0 then
    FX37_demerits_b120 l1 l2 s0 q6.1 q6.2
  else
    (FX37_isHyphen l2 q6.2).bind fun q9 =>
    if q9.1 = 0 then
      FX37_demerits_b120 l1 l2 s0 q6.1 q9.2
    else
      (uRI q9.2 222 5).bind fun x13 =>
      FX37_demerits_b122 l1 l2 q6.1 (ladd s0 x13) q9.2
theorem SX37_demerits_b80 {m b : Nat} {φ0 : Nat → Nat} {σo : fS} (hm : 1 ≤ m) {q : Int × fS} {φ : Nat → Nat} {h : eH} {s : fS} {l1' : Int32} {l1 : Int} {l2' : Int32} {l2 : Int} {s0' : Int64} {s0 : Int} (R : fC m b φ0 σo φ h s) (el1 : l1' = iI l1) (rl1 : r32 l1) (el2 : l2' = iI l2) (rl2 : r32 l2) (es0 : s0' = iJ s0) (rs0 : r64 s0) (hF : FX37_demerits_b80 l1 l2 s0 s = some q) : gG m b φ0 σo lJ q (fX37_demerits_b80 213 l1' l2' s0' h) := by
  subst el1; subst el2; subst es0
  unfold FX37_demerits_b80 at hF
  unfold fX37_demerits_b80
  refine s_gAs R (t_213 hm R.S) (Nat.le_of_ble_eq_true rfl) rfl (o_213_23 hm R.S) (a_227 hm R) ?_
  refine s_rI R (u_227 hm R.S).1 (u_227 hm R.S).2 (by decide) (a_227 hm R) rfl rl1 hF (fun x3 ra2 hF => ?_)
  refine s_kok R (t_213 hm R.S) (Nat.le_of_ble_eq_true rfl) ?_
  refine s_call R (Nat.zero_le _) (fun _ hq => SX37_isHyphen (b := 0) hm (R.rf) rfl ra2 hq) hF (fun f4 rv4 h4 q6 R4 e4 E4 hF => ?_)
  refine s_if (i_eq e4.1 (c_lit 0 0 rfl) e4.2 ⟨by decide, by decide⟩) hF (fun c5 hF => ?_) (fun c5 hF => ?_)
  ·
    exact SX37_demerits_b120 hm R4 rfl rl1 rfl rl2 rfl rs0 e4.1 e4.2 hF
  ·
    refine s_kok R4 (t_213 hm R4.S) (Nat.le_of_ble_eq_true rfl) ?_
    refine s_call R4 (Nat.zero_le _) (fun _ hq => SX37_isHyphen (b := 0) hm (R4.rf) rfl rl2 hq) hF (fun f7 rv7 h7 q9 R7 e7 E7 hF => ?_)
    refine s_if (i_eq e7.1 (c_lit 0 0 rfl) e7.2 ⟨by decide, by decide⟩) hF (fun c8 hF => ?_) (fun c8 hF => ?_)
    ·
      exact SX37_demerits_b120 hm R7 rfl rl1 rfl rl2 rfl rs0 e4.1 e4.2 hF
    ·
      refine s_gAs R7 (t_213 hm R7.S) (Nat.le_of_ble_eq_true rfl) rfl (o_213_10 hm R7.S) (a_222 hm R7) ?_
      refine s_rI R7 (u_222 hm R7.S).1 (u_222 hm R7.S).2 (by decide) (a_222 hm R7) (c_lit 5 5 rfl) ⟨by decide, by decide⟩ hF (fun x13 ra10 hF => ?_)
      exact SX37_demerits_b122 hm R7 rfl rl1 rfl rl2 e4.1 e4.2 (d_add rfl (c_2l rfl ra10)) (rr_J _) hF
def FX37_demerits_b30 (l1 : Int) (l2 : Int) (s0 : Int) (s : fS) : Option (Int × fS) :=
  (FX37_fine l2 s).bind fun q2 =>
  if q2.1 ≤ 0 then
    if q2.1 ≤ (-10000) then
      FX37_demerits_b80 l1 l2 s0 q2.2
    else
      FX37_demerits_b80 l1 l2 (lsub s0 (lmul q2.1 q2.1)) q2.2
  else
    FX37_demerits_b80 l1 l2 (ladd s0 (lmul q2.1 q2.1)) q2.2
theorem SX37_demerits_b30 {m b : Nat} {φ0 : Nat → Nat} {σo : fS} (hm : 1 ≤ m) {q : Int × fS} {φ : Nat → Nat} {h : eH} {s : fS} {l1' : Int32} {l1 : Int} {l2' : Int32} {l2 : Int} {s0' : Int64} {s0 : Int} (R : fC m b φ0 σo φ h s) (el1 : l1' = iI l1) (rl1 : r32 l1) (el2 : l2' = iI l2) (rl2 : r32 l2) (es0 : s0' = iJ s0) (rs0 : r64 s0) (hF : FX37_demerits_b30 l1 l2 s0 s = some q) : gG m b φ0 σo lJ q (fX37_demerits_b30 213 l1' l2' s0' h) := by
  subst el1; subst el2; subst es0
  unfold FX37_demerits_b30 at hF
  unfold fX37_demerits_b30
  refine s_kok R (t_213 hm R.S) (Nat.le_of_ble_eq_true rfl) ?_
  refine s_call R (Nat.zero_le _) (fun _ hq => SX37_fine (b := 0) hm (R.rf) rfl rl2 hq) hF (fun f2 rv2 h2 q2 R2 e2 E2 hF => ?_)
  refine s_if (lg_le.trans (j_le (c_2l e2.1 e2.2) (d_lit 0 0 rfl) (r32.w e2.2) ⟨by decide, by decide⟩)) hF (fun c3 hF => ?_) (fun c3 hF => ?_)
  ·
    refine s_if (lg_le.trans (j_le (c_2l e2.1 e2.2) (d_lit (-10000) (-10000) rfl) (r32.w e2.2) ⟨by decide, by decide⟩)) hF (fun c4 hF => ?_) (fun c4 hF => ?_)
    ·
      exact SX37_demerits_b80 hm R2 rfl rl1 rfl rl2 rfl rs0 hF
    ·
      exact SX37_demerits_b80 hm R2 rfl rl1 rfl rl2 (d_sub rfl (d_mul (c_2l e2.1 e2.2) (c_2l e2.1 e2.2))) (rr_J _) hF
  ·
    exact SX37_demerits_b80 hm R2 rfl rl1 rfl rl2 (d_add rfl (d_mul (c_2l e2.1 e2.2) (c_2l e2.1 e2.2))) (rr_J _) hF
def FX37_demerits (p0 : Int) (p1 : Int) (s : fS) : Option (Int × fS) :=
  (uRI s 222 2).bind fun x3 =>
  if (iadd x3 (s.i 213 34)) < 10000 then
    FX37_demerits_b30 p0 p1 (lmul (iadd x3 (s.i 213 34)) (iadd x3 (s.i 213 34))) s
  else
    FX37_demerits_b30 p0 p1 100000000 s
theorem SX37_demerits {m b : Nat} {φ0 : Nat → Nat} {σo : fS} (hm : 1 ≤ m) {q : Int × fS} {φ : Nat → Nat} {h : eH} {s : fS} {p0' : Int32} {p0 : Int} {p1' : Int32} {p1 : Int} (R : fC m b φ0 σo φ h s) (ep0 : p0' = iI p0) (rp0 : r32 p0) (ep1 : p1' = iI p1) (rp1 : r32 p1) (hF : FX37_demerits p0 p1 s = some q) : gG m b φ0 σo lJ q (fX37_demerits 213 p0' p1' h) := by
  subst ep0; subst ep1
  unfold FX37_demerits at hF
  unfold fX37_demerits
  refine s_gAs R (t_213 hm R.S) (Nat.le_of_ble_eq_true rfl) rfl (o_213_10 hm R.S) (a_222 hm R) ?_
  refine s_rI R (u_222 hm R.S).1 (u_222 hm R.S).2 (by decide) (a_222 hm R) (c_lit 2 2 rfl) ⟨by decide, by decide⟩ hF (fun x3 ra2 hF => ?_)
  refine s_gI R (t_213 hm R.S) (Nat.le_of_ble_eq_true rfl) rfl ?_
  refine s_if (lg_lt.trans (j_lt (c_2l (c_add rfl rfl) (rr_I _)) (d_lit 10000 10000 rfl) (r32.w (rr_I _)) ⟨by decide, by decide⟩)) hF (fun c4 hF => ?_) (fun c4 hF => ?_)
  ·
    exact SX37_demerits_b30 hm R rfl rp0 rfl rp1 (d_mul (c_2l (c_add rfl rfl) (rr_I _)) (c_2l (c_add rfl rfl) (rr_I _))) (rr_J _) hF
  ·
    exact SX37_demerits_b30 hm R rfl rp0 rfl rp1 (d_lit 100000000 100000000 rfl) ⟨by decide, by decide⟩ hF
def FX37_write (p0 : Int) (p1 : Int) (p2 : Int) (p3 : Int) (s : fS) : Option (Unit × fS) :=
  (uQI s 227 p0 p1).bind fun σ3 =>
  (uRI σ3 228 p2).bind fun x9 =>
  (uQI σ3 228 p0 (iadd x9 1)).bind fun σ11 =>
  (uQI σ11 229 p0 (σ11.i 213 35)).bind fun σ17 =>
  (uQJ σ17 230 p0 p3).bind fun σ21 =>
  (uQI σ21 231 p0 p2).bind fun σ25 =>
  (uQI σ25 232 p0 (iand 0 1)).bind fun σ29 =>
  some ((), σ29)
theorem SX37_write {m b : Nat} {φ0 : Nat → Nat} {σo : fS} (hm : 1 ≤ m) {q : Unit × fS} {φ : Nat → Nat} {h : eH} {s : fS} {p0' : Int32} {p0 : Int} {p1' : Int32} {p1 : Int} {p2' : Int32} {p2 : Int} {p3' : Int64} {p3 : Int} (R : fC m b φ0 σo φ h s) (ep0 : p0' = iI p0) (rp0 : r32 p0) (ep1 : p1' = iI p1) (rp1 : r32 p1) (ep2 : p2' = iI p2) (rp2 : r32 p2) (ep3 : p3' = iJ p3) (rp3 : r64 p3) (hF : FX37_write p0 p1 p2 p3 s = some q) : gG m b φ0 σo lU q (fX37_write 213 p0' p1' p2' p3' h) := by
  subst ep0; subst ep1; subst ep2; subst ep3
  unfold FX37_write at hF
  unfold fX37_write
  refine s_gAs R (t_213 hm R.S) (Nat.le_of_ble_eq_true rfl) rfl (o_213_23 hm R.S) (a_227 hm R) ?_
  refine s_qI R (u_227 hm R.S).1 (u_227 hm R.S).2 (by decide) (a_227 hm R) rfl rp0 rfl rp1 hF (fun h2 σ3 R2 T2 hF => ?_)
  refine s_gAs R2 (t_213 hm R2.S) (Nat.le_of_ble_eq_true rfl) rfl (o_213_24 hm R2.S) (a_228 hm R2) ?_
  refine s_gAs R2 (t_213 hm R2.S) (Nat.le_of_ble_eq_true rfl) rfl (o_213_24 hm R2.S) (a_228 hm R2) ?_
  refine s_rI R2 (u_228 hm R2.S).1 (u_228 hm R2.S).2 (by decide) (a_228 hm R2) rfl rp2 hF (fun x9 ra5 hF => ?_)
  refine s_qI R2 (u_228 hm R2.S).1 (u_228 hm R2.S).2 (by decide) (a_228 hm R2) rfl rp0 (c_add rfl (c_lit 1 1 rfl)) (rr_I _) hF (fun h6 σ11 R6 T6 hF => ?_)
  refine s_gAs R6 (t_213 hm R6.S) (Nat.le_of_ble_eq_true rfl) rfl (o_213_25 hm R6.S) (a_229 hm R6) ?_
  refine s_gI R6 (t_213 hm R6.S) (Nat.le_of_ble_eq_true rfl) rfl ?_
  refine s_qI R6 (u_229 hm R6.S).1 (u_229 hm R6.S).2 (by decide) (a_229 hm R6) rfl rp0 rfl (R6.ri (t_213 hm R6.S) (Nat.le_of_ble_eq_true rfl) rfl) hF (fun h9 σ17 R9 T9 hF => ?_)
  refine s_gAs R9 (t_213 hm R9.S) (Nat.le_of_ble_eq_true rfl) rfl (o_213_26 hm R9.S) (a_230 hm R9) ?_
  refine s_qJ R9 (u_230 hm R9.S).1 (u_230 hm R9.S).2 (a_230 hm R9) rfl rp0 rfl rp3 hF (fun h11 σ21 R11 T11 hF => ?_)
  refine s_gAs R11 (t_213 hm R11.S) (Nat.le_of_ble_eq_true rfl) rfl (o_213_27 hm R11.S) (a_231 hm R11) ?_
  refine s_qI R11 (u_231 hm R11.S).1 (u_231 hm R11.S).2 (by decide) (a_231 hm R11) rfl rp0 rfl rp2 hF (fun h13 σ25 R13 T13 hF => ?_)
  refine s_gAs R13 (t_213 hm R13.S) (Nat.le_of_ble_eq_true rfl) rfl (o_213_28 hm R13.S) (a_232 hm R13) ?_
  refine s_qI R13 (u_232 hm R13.S).1 (u_232 hm R13.S).2 (by decide) (a_232 hm R13) rfl rp0 (c_and (c_lit 0 0 rfl) (c_lit 1 1 rfl)) (rr_I _) hF (fun h15 σ29 R15 T15 hF => ?_)
  exact g_ret R15 hF trivial
def FX37_isBefore_b50 (s0 : Int) (s : fS) : Option (Int × fS) :=
  uZ s0 (s0, s)
theorem SX37_isBefore_b50 {m b : Nat} {φ0 : Nat → Nat} {σo : fS} (hm : 1 ≤ m) {q : Int × fS} {φ : Nat → Nat} {h : eH} {s : fS} {s0' : Int32} {s0 : Int} (R : fC m b φ0 σo φ h s) (es0 : s0' = iI s0) (rs0 : r32 s0) (hF : FX37_isBefore_b50 s0 s = some q) : gG m b φ0 σo lI q (fX37_isBefore_b50 s0' h) := by
  subst es0
  unfold FX37_isBefore_b50 at hF
  unfold fX37_isBefore_b50
  exact g_z R rfl hF ⟨rfl, rs0⟩
def FX37_isBefore_b45 (s : fS) : Option (Int × fS) :=
  FX37_isBefore_b50 1 s
theorem SX37_isBefore_b45 {m b : Nat} {φ0 : Nat → Nat} {σo : fS} (hm : 1 ≤ m) {q : Int × fS} {φ : Nat → Nat} {h : eH} {s : fS} (R : fC m b φ0 σo φ h s) (hF : FX37_isBefore_b45 s = some q) : gG m b φ0 σo lI q (fX37_isBefore_b45 h) := by
  unfold FX37_isBefore_b45 at hF
  unfold fX37_isBefore_b45
  exact SX37_isBefore_b50 hm R (c_lit 1 1 rfl) ⟨by decide, by decide⟩ hF
def FX37_isBefore_b49 (s : fS) : Option (Int × fS) :=
  FX37_isBefore_b50 0 s
theorem SX37_isBefore_b49 {m b : Nat} {φ0 : Nat → Nat} {σo : fS} (hm : 1 ≤ m) {q : Int × fS} {φ : Nat → Nat} {h : eH} {s : fS} (R : fC m b φ0 σo φ h s) (hF : FX37_isBefore_b49 s = some q) : gG m b φ0 σo lI q (fX37_isBefore_b49 h) := by
  unfold FX37_isBefore_b49 at hF
  unfold fX37_isBefore_b49
  exact SX37_isBefore_b50 hm R (c_lit 0 0 rfl) ⟨by decide, by decide⟩ hF
def FX37_isBefore (p0 : Int) (p1 : Int) (s : fS) : Option (Int × fS) :=
  (uRI s 227 p0).bind fun x3 =>
  (uRI s 227 p1).bind fun x7 =>
  if x3 < x7 then
    FX37_isBefore_b45 s
  else
    (uRI s 227 p0).bind fun x12 =>
    (uRI s 227 p1).bind fun x16 =>
    if ¬ (x12 = x16) then
      FX37_isBefore_b49 s
    else
      (uRI s 229 p0).bind fun x21 =>
      (uRI s 229 p1).bind fun x25 =>
      if x21 ≤ x25 then
        FX37_isBefore_b49 s
      else
        FX37_isBefore_b45 s
theorem SX37_isBefore {m b : Nat} {φ0 : Nat → Nat} {σo : fS} (hm : 1 ≤ m) {q : Int × fS} {φ : Nat → Nat} {h : eH} {s : fS} {p0' : Int32} {p0 : Int} {p1' : Int32} {p1 : Int} (R : fC m b φ0 σo φ h s) (ep0 : p0' = iI p0) (rp0 : r32 p0) (ep1 : p1' = iI p1) (rp1 : r32 p1) (hF : FX37_isBefore p0 p1 s = some q) : gG m b φ0 σo lI q (fX37_isBefore 213 p0' p1' h) := by
  subst ep0; subst ep1
  unfold FX37_isBefore at hF
  unfold fX37_isBefore
  refine s_gAs R (t_213 hm R.S) (Nat.le_of_ble_eq_true rfl) rfl (o_213_23 hm R.S) (a_227 hm R) ?_
  refine s_rI R (u_227 hm R.S).1 (u_227 hm R.S).2 (by decide) (a_227 hm R) rfl rp0 hF (fun x3 ra2 hF => ?_)
  refine s_gAs R (t_213 hm R.S) (Nat.le_of_ble_eq_true rfl) rfl (o_213_23 hm R.S) (a_227 hm R) ?_
  refine s_rI R (u_227 hm R.S).1 (u_227 hm R.S).2 (by decide) (a_227 hm R) rfl rp1 hF (fun x7 ra4 hF => ?_)
  refine s_if (i_lt rfl rfl ra2 ra4) hF (fun c5 hF => ?_) (fun c5 hF => ?_)
  ·
    exact SX37_isBefore_b45 hm R hF
  ·
    refine s_gAs R (t_213 hm R.S) (Nat.le_of_ble_eq_true rfl) rfl (o_213_23 hm R.S) (a_227 hm R) ?_
    refine s_rI R (u_227 hm R.S).1 (u_227 hm R.S).2 (by decide) (a_227 hm R) rfl rp0 hF (fun x12 ra7 hF => ?_)
    refine s_gAs R (t_213 hm R.S) (Nat.le_of_ble_eq_true rfl) rfl (o_213_23 hm R.S) (a_227 hm R) ?_
    refine s_rI R (u_227 hm R.S).1 (u_227 hm R.S).2 (by decide) (a_227 hm R) rfl rp1 hF (fun x16 ra9 hF => ?_)
    refine s_if (not_congr (i_eq rfl rfl ra7 ra9)) hF (fun c10 hF => ?_) (fun c10 hF => ?_)
    ·
      exact SX37_isBefore_b49 hm R hF
    ·
      refine s_gAs R (t_213 hm R.S) (Nat.le_of_ble_eq_true rfl) rfl (o_213_25 hm R.S) (a_229 hm R) ?_
      refine s_rI R (u_229 hm R.S).1 (u_229 hm R.S).2 (by decide) (a_229 hm R) rfl rp0 hF (fun x21 ra12 hF => ?_)
      refine s_gAs R (t_213 hm R.S) (Nat.le_of_ble_eq_true rfl) rfl (o_213_25 hm R.S) (a_229 hm R) ?_
      refine s_rI R (u_229 hm R.S).1 (u_229 hm R.S).2 (by decide) (a_229 hm R) rfl rp1 hF (fun x25 ra14 hF => ?_)
      refine s_if (i_le rfl rfl ra12 ra14) hF (fun c15 hF => ?_) (fun c15 hF => ?_)
      ·
        exact SX37_isBefore_b49 hm R hF
      ·
        exact SX37_isBefore_b45 hm R hF
def FX37_reach_b59 (N : Nat) (K18 : Int → Int → Int → Int → fS → Option (Int × fS)) (l2 : Int) (l3 : Int) (l4 : Int) (l6 : Int) (s : fS) : Option (Int × fS) :=
  K18 l2 l3 l4 (iadd l6 1) s
theorem SX37_reach_b59 {m b : Nat} {φ0 : Nat → Nat} {σo : fS} (hm : 1 ≤ m) {N : Nat} {k18 : Nat → Int32 → Int32 → Int64 → Int32 → eH → Option (Int32 × eH)} {K18 : Int → Int → Int → Int → fS → Option (Int × fS)} {q : Int × fS} (hk18 : ∀ {φ : Nat → Nat} {h : eH} {s : fS} {l2' : Int32} {l2 : Int} {l3' : Int32} {l3 : Int} {l4' : Int64} {l4 : Int} {l6' : Int32} {l6 : Int}, fC m b φ0 σo φ h s → l2' = iI l2 → r32 l2 → l3' = iI l3 → r32 l3 → l4' = iJ l4 → r64 l4 → l6' = iI l6 → r32 l6 → K18 l2 l3 l4 l6 s = some q → gG m b φ0 σo lI q (k18 213 l2' l3' l4' l6' h)) {φ : Nat → Nat} {h : eH} {s : fS} {l2' : Int32} {l2 : Int} {l3' : Int32} {l3 : Int} {l4' : Int64} {l4 : Int} {l6' : Int32} {l6 : Int} (R : fC m b φ0 σo φ h s) (el2 : l2' = iI l2) (rl2 : r32 l2) (el3 : l3' = iI l3) (rl3 : r32 l3) (el4 : l4' = iJ l4) (rl4 : r64 l4) (el6 : l6' = iI l6) (rl6 : r32 l6) (hF : FX37_reach_b59 N K18 l2 l3 l4 l6 s = some q) : gG m b φ0 σo lI q (fX37_reach_b59 N k18 213 l2' l3' l4' l6' h) := by
  subst el2; subst el3; subst el4; subst el6
  unfold FX37_reach_b59 at hF
  unfold fX37_reach_b59
  exact hk18 R rfl rl2 rfl rl3 rfl rl4 (c_add rfl (c_lit 1 1 rfl)) (rr_I _) hF
def FX37_reach_b160 (N : Nat) (s : fS) : Option (Int × fS) :=
  some (1, s)
theorem SX37_reach_b160 {m b : Nat} {φ0 : Nat → Nat} {σo : fS} (hm : 1 ≤ m) {N : Nat} {q : Int × fS} {φ : Nat → Nat} {h : eH} {s : fS} (R : fC m b φ0 σo φ h s) (hF : FX37_reach_b160 N s = some q) : gG m b φ0 σo lI q (fX37_reach_b160 N h) := by
  unfold FX37_reach_b160 at hF
  unfold fX37_reach_b160
  exact g_ret R hF ⟨(c_lit 1 1 rfl), ⟨by decide, by decide⟩⟩
def FX37_reach_b150 (N : Nat) (l2 : Int) (l3 : Int) (l4 : Int) (l6 : Int) (s : fS) : Option (Int × fS) :=
  (FX37_write l6 l2 l3 l4 s).bind fun q2 =>
  FX37_reach_b160 N q2.2
theorem SX37_reach_b150 {m b : Nat} {φ0 : Nat → Nat} {σo : fS} (hm : 1 ≤ m) {N : Nat} {q : Int × fS} {φ : Nat → Nat} {h : eH} {s : fS} {l2' : Int32} {l2 : Int} {l3' : Int32} {l3 : Int} {l4' : Int64} {l4 : Int} {l6' : Int32} {l6 : Int} (R : fC m b φ0 σo φ h s) (el2 : l2' = iI l2) (rl2 : r32 l2) (el3 : l3' = iI l3) (rl3 : r32 l3) (el4 : l4' = iJ l4) (rl4 : r64 l4) (el6 : l6' = iI l6) (rl6 : r32 l6) (hF : FX37_reach_b150 N l2 l3 l4 l6 s = some q) : gG m b φ0 σo lI q (fX37_reach_b150 N 213 l2' l3' l4' l6' h) := by
  subst el2; subst el3; subst el4; subst el6
  unfold FX37_reach_b150 at hF
  unfold fX37_reach_b150
  refine s_kok R (t_213 hm R.S) (Nat.le_of_ble_eq_true rfl) ?_
  refine s_call R (Nat.zero_le _) (fun _ hq => SX37_write (b := 0) hm (R.rf) rfl rl6 rfl rl2 rfl rl3 rfl rl4 hq) hF (fun f2 rv2 h2 q2 R2 e2 E2 hF => ?_)
  exact SX37_reach_b160 (N := N) hm R2 hF
def FX37_reach_b65 (N : Nat) (l2 : Int) (l3 : Int) (l4 : Int) (l6 : Int) (s : fS) : Option (Int × fS) :=
  if l6 ≤ (s.i 213 20) then
    (uRJ s 230 l6).bind fun x6 =>
    if l4 < x6 then
      FX37_reach_b150 N l2 l3 l4 l6 s
    else
      (uRJ s 230 l6).bind fun x11 =>
      if ¬ (l4 = x11) then
        FX37_reach_b160 N s
      else
        (uRI s 231 l6).bind fun x16 =>
        (FX37_isBefore l3 x16 s).bind fun q19 =>
        if q19.1 = 0 then
          FX37_reach_b160 N q19.2
        else
          FX37_reach_b150 N l2 l3 l4 l6 q19.2
  else
    if ¬ ((s.i 213 20) = 8000) then
      (uPI s 213 20 (iadd (s.i 213 20) 1)).bind fun σ26 =>
      (FX37_write l6 l2 l3 l4 σ26).bind fun q29 =>
      FX37_reach_b160 N q29.2
    else
      some (0, s)
theorem SX37_reach_b65 {m b : Nat} {φ0 : Nat → Nat} {σo : fS} (hm : 1 ≤ m) {N : Nat} {q : Int × fS} {φ : Nat → Nat} {h : eH} {s : fS} {l2' : Int32} {l2 : Int} {l3' : Int32} {l3 : Int} {l4' : Int64} {l4 : Int} {l6' : Int32} {l6 : Int} (R : fC m b φ0 σo φ h s) (el2 : l2' = iI l2) (rl2 : r32 l2) (el3 : l3' = iI l3) (rl3 : r32 l3) (el4 : l4' = iJ l4) (rl4 : r64 l4) (el6 : l6' = iI l6) (rl6 : r32 l6) (hF : FX37_reach_b65 N l2 l3 l4 l6 s = some q) : gG m b φ0 σo lI q (fX37_reach_b65 N 213 l2' l3' l4' l6' h) := by
  subst el2; subst el3; subst el4; subst el6
  unfold FX37_reach_b65 at hF
  unfold fX37_reach_b65
  refine s_gI R (t_213 hm R.S) (Nat.le_of_ble_eq_true rfl) rfl ?_
  refine s_if (i_le rfl rfl rl6 (R.ri (t_213 hm R.S) (Nat.le_of_ble_eq_true rfl) rfl)) hF (fun c2 hF => ?_) (fun c2 hF => ?_)
  ·
    refine s_gAs R (t_213 hm R.S) (Nat.le_of_ble_eq_true rfl) rfl (o_213_26 hm R.S) (a_230 hm R) ?_
    refine s_rJ R (u_230 hm R.S).1 (u_230 hm R.S).2 (a_230 hm R) rfl rl6 hF (fun x6 ra4 hF => ?_)
    refine s_if (lg_lt.trans (j_lt rfl rfl rl4 ra4)) hF (fun c5 hF => ?_) (fun c5 hF => ?_)
    ·
      exact SX37_reach_b150 (N := N) hm R rfl rl2 rfl rl3 rfl rl4 rfl rl6 hF
    ·
      refine s_gAs R (t_213 hm R.S) (Nat.le_of_ble_eq_true rfl) rfl (o_213_26 hm R.S) (a_230 hm R) ?_
      refine s_rJ R (u_230 hm R.S).1 (u_230 hm R.S).2 (a_230 hm R) rfl rl6 hF (fun x11 ra7 hF => ?_)
      refine s_if (not_congr (lg_eq.trans (j_eq rfl rfl rl4 ra7))) hF (fun c8 hF => ?_) (fun c8 hF => ?_)
      ·
        exact SX37_reach_b160 (N := N) hm R hF
      ·
        refine s_gAs R (t_213 hm R.S) (Nat.le_of_ble_eq_true rfl) rfl (o_213_27 hm R.S) (a_231 hm R) ?_
        refine s_rI R (u_231 hm R.S).1 (u_231 hm R.S).2 (by decide) (a_231 hm R) rfl rl6 hF (fun x16 ra10 hF => ?_)
        refine s_kok R (t_213 hm R.S) (Nat.le_of_ble_eq_true rfl) ?_
        refine s_call R (Nat.zero_le _) (fun _ hq => SX37_isBefore (b := 0) hm (R.rf) rfl rl3 rfl ra10 hq) hF (fun f12 rv12 h12 q19 R12 e12 E12 hF => ?_)
        refine s_if (i_eq e12.1 (c_lit 0 0 rfl) e12.2 ⟨by decide, by decide⟩) hF (fun c13 hF => ?_) (fun c13 hF => ?_)
        ·
          exact SX37_reach_b160 (N := N) hm R12 hF
        ·
          exact SX37_reach_b150 (N := N) hm R12 rfl rl2 rfl rl3 rfl rl4 rfl rl6 hF
  ·
    refine s_gI R (t_213 hm R.S) (Nat.le_of_ble_eq_true rfl) rfl ?_
    refine s_if (not_congr (i_eq rfl (c_lit 8000 8000 rfl) (R.ri (t_213 hm R.S) (Nat.le_of_ble_eq_true rfl) rfl) ⟨by decide, by decide⟩)) hF (fun c15 hF => ?_) (fun c15 hF => ?_)
    ·
      refine s_gI R (t_213 hm R.S) (Nat.le_of_ble_eq_true rfl) rfl ?_
      refine s_pI R (t_213 hm R.S) (Nat.le_of_ble_eq_true rfl) rfl (c_add rfl (c_lit 1 1 rfl)) (rr_I _) hF (fun h17 σ26 R17 T17 hF => ?_)
      refine s_kok R17 (t_213 hm R17.S) (Nat.le_of_ble_eq_true rfl) ?_
      refine s_call R17 (Nat.zero_le _) (fun _ hq => SX37_write (b := 0) hm (R17.rf) rfl rl6 rfl rl2 rfl rl3 rfl rl4 hq) hF (fun f19 rv19 h19 q29 R19 e19 E19 hF => ?_)
      exact SX37_reach_b160 (N := N) hm R19 hF
    ·
      exact g_ret R hF ⟨(c_lit 0 0 rfl), ⟨by decide, by decide⟩⟩
def FX37_reach_b18 (N : Nat) : Nat → Int → Int → Int → Int → fS → Option (Int × fS)
  | 0, _, _, _, _, _ => none
  | n + 1, l2, l3, l4, l6, s =>
    if (s.i 213 20) < l6 then
      FX37_reach_b65 N l2 l3 l4 l6 s
    else
      (uRI s 228 l6).bind fun x6 =>
      (uRI s 228 l3).bind fun x10 =>
      if ¬ (x6 = (iadd x10 1)) then
        FX37_reach_b59 N (FX37_reach_b18 N n) l2 l3 l4 l6 s
      else
        (uRI s 229 l6).bind fun x15 =>
        if x15 = (s.i 213 35) then
          FX37_reach_b65 N l2 l3 l4 l6 s
        else
          FX37_reach_b59 N (FX37_reach_b18 N n) l2 l3 l4 l6 s
theorem SX37_reach_b18 {m b : Nat} {φ0 : Nat → Nat} {σo : fS} (hm : 1 ≤ m) {N : Nat} {q : Int × fS} : ∀ {n : Nat} {φ : Nat → Nat} {h : eH} {s : fS} {l2' : Int32} {l2 : Int} {l3' : Int32} {l3 : Int} {l4' : Int64} {l4 : Int} {l6' : Int32} {l6 : Int}, fC m b φ0 σo φ h s → l2' = iI l2 → r32 l2 → l3' = iI l3 → r32 l3 → l4' = iJ l4 → r64 l4 → l6' = iI l6 → r32 l6 → FX37_reach_b18 N n l2 l3 l4 l6 s = some q → gG m b φ0 σo lI q (fX37_reach_b18 N n 213 l2' l3' l4' l6' h) := by
  intro n
  induction n with
 | zero => intro φ h s l2' l2 l3' l3 l4' l4 l6' l6 R el2 rl2 el3 rl3 el4 rl4 el6 rl6 hF; simp [FX37_reach_b18] at hF
  | succ n ih =>
    intro φ h s l2' l2 l3' l3 l4' l4 l6' l6 R el2 rl2 el3 rl3 el4 rl4 el6 rl6 hF
    subst el2; subst el3; subst el4; subst el6
    rw [FX37_reach_b18] at hF
    rw [fX37_reach_b18]
    refine s_gI R (t_213 hm R.S) (Nat.le_of_ble_eq_true rfl) rfl ?_
    refine s_if (i_lt rfl rfl (R.ri (t_213 hm R.S) (Nat.le_of_ble_eq_true rfl) rfl) rl6) hF (fun c2 hF => ?_) (fun c2 hF => ?_)
    ·
      exact SX37_reach_b65 (N := N) hm R rfl rl2 rfl rl3 rfl rl4 rfl rl6 hF
    ·
      refine s_gAs R (t_213 hm R.S) (Nat.le_of_ble_eq_true rfl) rfl (o_213_24 hm R.S) (a_228 hm R) ?_
      refine s_rI R (u_228 hm R.S).1 (u_228 hm R.S).2 (by decide) (a_228 hm R) rfl rl6 hF (fun x6 ra4 hF => ?_)
      refine s_gAs R (t_213 hm R.S) (Nat.le_of_ble_eq_true rfl) rfl (o_213_24 hm R.S) (a_228 hm R) ?_
      refine s_rI R (u_228 hm R.S).1 (u_228 hm R.S).2 (by decide) (a_228 hm R) rfl rl3 hF (fun x10 ra6 hF => ?_)
      refine s_if (not_congr (i_eq rfl (c_add rfl (c_lit 1 1 rfl)) ra4 (rr_I _))) hF (fun c7 hF => ?_) (fun c7 hF => ?_)
      ·
        exact SX37_reach_b59 (N := N) (k18 := fX37_reach_b18 N n) (K18 := FX37_reach_b18 N n) hm @ih R rfl rl2 rfl rl3 rfl rl4 rfl rl6 hF
      ·
        refine s_gAs R (t_213 hm R.S) (Nat.le_of_ble_eq_true rfl) rfl (o_213_25 hm R.S) (a_229 hm R) ?_
        refine s_rI R (u_229 hm R.S).1 (u_229 hm R.S).2 (by decide) (a_229 hm R) rfl rl6 hF (fun x15 ra9 hF => ?_)
        refine s_gI R (t_213 hm R.S) (Nat.le_of_ble_eq_true rfl) rfl ?_
        refine s_if (i_eq rfl rfl ra9 (R.ri (t_213 hm R.S) (Nat.le_of_ble_eq_true rfl) rfl)) hF (fun c11 hF => ?_) (fun c11 hF => ?_)
        ·
          exact SX37_reach_b65 (N := N) hm R rfl rl2 rfl rl3 rfl rl4 rfl rl6 hF
        ·
          exact SX37_reach_b59 (N := N) (k18 := fX37_reach_b18 N n) (K18 := FX37_reach_b18 N n) hm @ih R rfl rl2 rfl rl3 rfl rl4 rfl rl6 hF
def FX37_reach (N : Nat) (p0 : Int) (p1 : Int) (p2 : Int) (s : fS) : Option (Int × fS) :=
  (uRJ s 230 p2).bind fun x3 =>
  (FX37_demerits p2 p1 s).bind fun q6 =>
  FX37_reach_b18 N N p1 p2 (ladd x3 q6.1) p0 q6.2
theorem SX37_reach {m b : Nat} {φ0 : Nat → Nat} {σo : fS} (hm : 1 ≤ m) {N : Nat} {q : Int × fS} {φ : Nat → Nat} {h : eH} {s : fS} {p0' : Int32} {p0 : Int} {p1' : Int32} {p1 : Int} {p2' : Int32} {p2 : Int} (R : fC m b φ0 σo φ h s) (ep0 : p0' = iI p0) (rp0 : r32 p0) (ep1 : p1' = iI p1) (rp1 : r32 p1) (ep2 : p2' = iI p2) (rp2 : r32 p2) (hF : FX37_reach N p0 p1 p2 s = some q) : gG m b φ0 σo lI q (fX37_reach N 213 p0' p1' p2' h) := by
  subst ep0; subst ep1; subst ep2
  unfold FX37_reach at hF
  unfold fX37_reach
  refine s_gAs R (t_213 hm R.S) (Nat.le_of_ble_eq_true rfl) rfl (o_213_26 hm R.S) (a_230 hm R) ?_
  refine s_rJ R (u_230 hm R.S).1 (u_230 hm R.S).2 (a_230 hm R) rfl rp2 hF (fun x3 ra2 hF => ?_)
  refine s_kok R (t_213 hm R.S) (Nat.le_of_ble_eq_true rfl) ?_
  refine s_call R (Nat.zero_le _) (fun _ hq => SX37_demerits (b := 0) hm (R.rf) rfl rp2 rfl rp1 hq) hF (fun f4 rv4 h4 q6 R4 e4 E4 hF => ?_)
  exact SX37_reach_b18 (N := N) hm R4 rfl rp1 rfl rp2 (d_add rfl e4.1) (rr_J _) rfl rp0 hF
def FX37_ask_b204 (N : Nat) (K39 : Int → Int → Int → Int → Int → Int → Int → Int → fS → Option (Int × fS)) (l1 : Int) (l2 : Int) (l3 : Int) (l4 : Int) (l5 : Int) (l6 : Int) (l7 : Int) (l8 : Int) (s : fS) : Option (Int × fS) :=
  K39 l1 l2 l3 l4 l5 l6 l7 (iadd l8 1) s
theorem SX37_ask_b204 {m b : Nat} {φ0 : Nat → Nat} {σo : fS} (hm : 1 ≤ m) {N : Nat} {k39 : Nat → Int32 → Int32 → Int32 → Int32 → Int32 → Int32 → Int32 → Int32 → eH → Option (Int32 × eH)} {K39 : Int → Int → Int → Int → Int → Int → Int → Int → fS → Option (Int × fS)} {q : Int × fS} (hk39 : ∀ {φ : Nat → Nat} {h : eH} {s : fS} {l1' : Int32} {l1 : Int} {l2' : Int32} {l2 : Int} {l3' : Int32} {l3 : Int} {l4' : Int32} {l4 : Int} {l5' : Int32} {l5 : Int} {l6' : Int32} {l6 : Int} {l7' : Int32} {l7 : Int} {l8' : Int32} {l8 : Int}, fC m b φ0 σo φ h s → l1' = iI l1 → r32 l1 → l2' = iI l2 → r32 l2 → l3' = iI l3 → r32 l3 → l4' = iI l4 → r32 l4 → l5' = iI l5 → r32 l5 → l6' = iI l6 → r32 l6 → l7' = iI l7 → r32 l7 → l8' = iI l8 → r32 l8 → K39 l1 l2 l3 l4 l5 l6 l7 l8 s = some q → gG m b φ0 σo lI q (k39 213 l1' l2' l3' l4' l5' l6' l7' l8' h)) {φ : Nat → Nat} {h : eH} {s : fS} {l1' : Int32} {l1 : Int} {l2' : Int32} {l2 : Int} {l3' : Int32} {l3 : Int} {l4' : Int32} {l4 : Int} {l5' : Int32} {l5 : Int} {l6' : Int32} {l6 : Int} {l7' : Int32} {l7 : Int} {l8' : Int32} {l8 : Int} (R : fC m b φ0 σo φ h s) (el1 : l1' = iI l1) (rl1 : r32 l1) (el2 : l2' = iI l2) (rl2 : r32 l2) (el3 : l3' = iI l3) (rl3 : r32 l3) (el4 : l4' = iI l4) (rl4 : r32 l4) (el5 : l5' = iI l5) (rl5 : r32 l5) (el6 : l6' = iI l6) (rl6 : r32 l6) (el7 : l7' = iI l7) (rl7 : r32 l7) (el8 : l8' = iI l8) (rl8 : r32 l8) (hF : FX37_ask_b204 N K39 l1 l2 l3 l4 l5 l6 l7 l8 s = some q) : gG m b φ0 σo lI q (fX37_ask_b204 N k39 213 l1' l2' l3' l4' l5' l6' l7' l8' h) := by
  subst el1; subst el2; subst el3; subst el4; subst el5; subst el6; subst el7; subst el8
  unfold FX37_ask_b204 at hF
  unfold fX37_ask_b204
  exact hk39 R rfl rl1 rfl rl2 rfl rl3 rfl rl4 rfl rl5 rfl rl6 rfl rl7 (c_add rfl (c_lit 1 1 rfl)) (rr_I _) hF
def FX37_ask_b194 (N : Nat) (K39 : Int → Int → Int → Int → Int → Int → Int → Int → fS → Option (Int × fS)) (l1 : Int) (l2 : Int) (l3 : Int) (l4 : Int) (l5 : Int) (l7 : Int) (l8 : Int) (s0 : Int) (s : fS) : Option (Int × fS) :=
  (uQI s 232 l8 (iand 1 1)).bind fun σ3 =>
  FX37_ask_b204 N K39 l1 l2 l3 l4 l5 s0 l7 l8 σ3
theorem SX37_ask_b194 {m b : Nat} {φ0 : Nat → Nat} {σo : fS} (hm : 1 ≤ m) {N : Nat} {k39 : Nat → Int32 → Int32 → Int32 → Int32 → Int32 → Int32 → Int32 → Int32 → eH → Option (Int32 × eH)} {K39 : Int → Int → Int → Int → Int → Int → Int → Int → fS → Option (Int × fS)} {q : Int × fS} (hk39 : ∀ {φ : Nat → Nat} {h : eH} {s : fS} {l1' : Int32} {l1 : Int} {l2' : Int32} {l2 : Int} {l3' : Int32} {l3 : Int} {l4' : Int32} {l4 : Int} {l5' : Int32} {l5 : Int} {l6' : Int32} {l6 : Int} {l7' : Int32} {l7 : Int} {l8' : Int32} {l8 : Int}, fC m b φ0 σo φ h s → l1' = iI l1 → r32 l1 → l2' = iI l2 → r32 l2 → l3' = iI l3 → r32 l3 → l4' = iI l4 → r32 l4 → l5' = iI l5 → r32 l5 → l6' = iI l6 → r32 l6 → l7' = iI l7 → r32 l7 → l8' = iI l8 → r32 l8 → K39 l1 l2 l3 l4 l5 l6 l7 l8 s = some q → gG m b φ0 σo lI q (k39 213 l1' l2' l3' l4' l5' l6' l7' l8' h)) {φ : Nat → Nat} {h : eH} {s : fS} {l1' : Int32} {l1 : Int} {l2' : Int32} {l2 : Int} {l3' : Int32} {l3 : Int} {l4' : Int32} {l4 : Int} {l5' : Int32} {l5 : Int} {l7' : Int32} {l7 : Int} {l8' : Int32} {l8 : Int} {s0' : Int32} {s0 : Int} (R : fC m b φ0 σo φ h s) (el1 : l1' = iI l1) (rl1 : r32 l1) (el2 : l2' = iI l2) (rl2 : r32 l2) (el3 : l3' = iI l3) (rl3 : r32 l3) (el4 : l4' = iI l4) (rl4 : r32 l4) (el5 : l5' = iI l5) (rl5 : r32 l5) (el7 : l7' = iI l7) (rl7 : r32 l7) (el8 : l8' = iI l8) (rl8 : r32 l8) (es0 : s0' = iI s0) (rs0 : r32 s0) (hF : FX37_ask_b194 N K39 l1 l2 l3 l4 l5 l7 l8 s0 s = some q) : gG m b φ0 σo lI q (fX37_ask_b194 N k39 213 l1' l2' l3' l4' l5' l7' l8' s0' h) := by
  subst el1; subst el2; subst el3; subst el4; subst el5; subst el7; subst el8; subst es0
  unfold FX37_ask_b194 at hF
  unfold fX37_ask_b194
  refine s_gAs R (t_213 hm R.S) (Nat.le_of_ble_eq_true rfl) rfl (o_213_28 hm R.S) (a_232 hm R) ?_
  refine s_qI R (u_232 hm R.S).1 (u_232 hm R.S).2 (by decide) (a_232 hm R) rfl rl8 (c_and (c_lit 1 1 rfl) (c_lit 1 1 rfl)) (rr_I _) hF (fun h2 σ3 R2 T2 hF => ?_)
  exact SX37_ask_b204 (N := N) (k39 := k39) (K39 := K39) hm @hk39 R2 rfl rl1 rfl rl2 rfl rl3 rfl rl4 rfl rl5 rfl rs0 rfl rl7 rfl rl8 hF
def FX37_ask_b180 (N : Nat) (K39 : Int → Int → Int → Int → Int → Int → Int → Int → fS → Option (Int × fS)) (l1 : Int) (l2 : Int) (l3 : Int) (l4 : Int) (l5 : Int) (l6 : Int) (l7 : Int) (l8 : Int) (s0 : Int) (s : fS) : Option (Int × fS) :=
  if s0 = 0 then
    FX37_ask_b194 N K39 l1 l2 l3 l4 l5 l7 l8 l6 s
  else
    FX37_ask_b194 N K39 l1 l2 l3 l4 l5 l7 l8 l8 s
theorem SX37_ask_b180 {m b : Nat} {φ0 : Nat → Nat} {σo : fS} (hm : 1 ≤ m) {N : Nat} {k39 : Nat → Int32 → Int32 → Int32 → Int32 → Int32 → Int32 → Int32 → Int32 → eH → Option (Int32 × eH)} {K39 : Int → Int → Int → Int → Int → Int → Int → Int → fS → Option (Int × fS)} {q : Int × fS} (hk39 : ∀ {φ : Nat → Nat} {h : eH} {s : fS} {l1' : Int32} {l1 : Int} {l2' : Int32} {l2 : Int} {l3' : Int32} {l3 : Int} {l4' : Int32} {l4 : Int} {l5' : Int32} {l5 : Int} {l6' : Int32} {l6 : Int} {l7' : Int32} {l7 : Int} {l8' : Int32} {l8 : Int}, fC m b φ0 σo φ h s → l1' = iI l1 → r32 l1 → l2' = iI l2 → r32 l2 → l3' = iI l3 → r32 l3 → l4' = iI l4 → r32 l4 → l5' = iI l5 → r32 l5 → l6' = iI l6 → r32 l6 → l7' = iI l7 → r32 l7 → l8' = iI l8 → r32 l8 → K39 l1 l2 l3 l4 l5 l6 l7 l8 s = some q → gG m b φ0 σo lI q (k39 213 l1' l2' l3' l4' l5' l6' l7' l8' h)) {φ : Nat → Nat} {h : eH} {s : fS} {l1' : Int32} {l1 : Int} {l2' : Int32} {l2 : Int} {l3' : Int32} {l3 : Int} {l4' : Int32} {l4 : Int} {l5' : Int32} {l5 : Int} {l6' : Int32} {l6 : Int} {l7' : Int32} {l7 : Int} {l8' : Int32} {l8 : Int} {s0' : Int32} {s0 : Int} (R : fC m b φ0 σo φ h s) (el1 : l1' = iI l1) (rl1 : r32 l1) (el2 : l2' = iI l2) (rl2 : r32 l2) (el3 : l3' = iI l3) (rl3 : r32 l3) (el4 : l4' = iI l4) (rl4 : r32 l4) (el5 : l5' = iI l5) (rl5 : r32 l5) (el6 : l6' = iI l6) (rl6 : r32 l6) (el7 : l7' = iI l7) (rl7 : r32 l7) (el8 : l8' = iI l8) (rl8 : r32 l8) (es0 : s0' = iI s0) (rs0 : r32 s0) (hF : FX37_ask_b180 N K39 l1 l2 l3 l4 l5 l6 l7 l8 s0 s = some q) : gG m b φ0 σo lI q (fX37_ask_b180 N k39 213 l1' l2' l3' l4' l5' l6' l7' l8' s0' h) := by
  subst el1; subst el2; subst el3; subst el4; subst el5; subst el6; subst el7; subst el8; subst es0
  unfold FX37_ask_b180 at hF
  unfold fX37_ask_b180
  refine s_if (i_eq rfl (c_lit 0 0 rfl) rs0 ⟨by decide, by decide⟩) hF (fun c1 hF => ?_) (fun c1 hF => ?_)
  ·
    exact SX37_ask_b194 (N := N) (k39 := k39) (K39 := K39) hm @hk39 R rfl rl1 rfl rl2 rfl rl3 rfl rl4 rfl rl5 rfl rl7 rfl rl8 rfl rl6 hF
  ·
    exact SX37_ask_b194 (N := N) (k39 := k39) (K39 := K39) hm @hk39 R rfl rl1 rfl rl2 rfl rl3 rfl rl4 rfl rl5 rfl rl7 rfl rl8 rfl rl8 hF
def FX37_ask_b175 (N : Nat) (K39 : Int → Int → Int → Int → Int → Int → Int → Int → fS → Option (Int × fS)) (l1 : Int) (l2 : Int) (l3 : Int) (l4 : Int) (l5 : Int) (l6 : Int) (l7 : Int) (l8 : Int) (s : fS) : Option (Int × fS) :=
  FX37_ask_b180 N K39 l1 l2 l3 l4 l5 l6 l7 l8 1 s
theorem SX37_ask_b175 {m b : Nat} {φ0 : Nat → Nat} {σo : fS} (hm : 1 ≤ m) {N : Nat} {k39 : Nat → Int32 → Int32 → Int32 → Int32 → Int32 → Int32 → Int32 → Int32 → eH → Option (Int32 × eH)} {K39 : Int → Int → Int → Int → Int → Int → Int → Int → fS → Option (Int × fS)} {q : Int × fS} (hk39 : ∀ {φ : Nat → Nat} {h : eH} {s : fS} {l1' : Int32} {l1 : Int} {l2' : Int32} {l2 : Int} {l3' : Int32} {l3 : Int} {l4' : Int32} {l4 : Int} {l5' : Int32} {l5 : Int} {l6' : Int32} {l6 : Int} {l7' : Int32} {l7 : Int} {l8' : Int32} {l8 : Int}, fC m b φ0 σo φ h s → l1' = iI l1 → r32 l1 → l2' = iI l2 → r32 l2 → l3' = iI l3 → r32 l3 → l4' = iI l4 → r32 l4 → l5' = iI l5 → r32 l5 → l6' = iI l6 → r32 l6 → l7' = iI l7 → r32 l7 → l8' = iI l8 → r32 l8 → K39 l1 l2 l3 l4 l5 l6 l7 l8 s = some q → gG m b φ0 σo lI q (k39 213 l1' l2' l3' l4' l5' l6' l7' l8' h)) {φ : Nat → Nat} {h : eH} {s : fS} {l1' : Int32} {l1 : Int} {l2' : Int32} {l2 : Int} {l3' : Int32} {l3 : Int} {l4' : Int32} {l4 : Int} {l5' : Int32} {l5 : Int} {l6' : Int32} {l6 : Int} {l7' : Int32} {l7 : Int} {l8' : Int32} {l8 : Int} (R : fC m b φ0 σo φ h s) (el1 : l1' = iI l1) (rl1 : r32 l1) (el2 : l2' = iI l2) (rl2 : r32 l2) (el3 : l3' = iI l3) (rl3 : r32 l3) (el4 : l4' = iI l4) (rl4 : r32 l4) (el5 : l5' = iI l5) (rl5 : r32 l5) (el6 : l6' = iI l6) (rl6 : r32 l6) (el7 : l7' = iI l7) (rl7 : r32 l7) (el8 : l8' = iI l8) (rl8 : r32 l8) (hF : FX37_ask_b175 N K39 l1 l2 l3 l4 l5 l6 l7 l8 s = some q) : gG m b φ0 σo lI q (fX37_ask_b175 N k39 213 l1' l2' l3' l4' l5' l6' l7' l8' h) := by
  subst el1; subst el2; subst el3; subst el4; subst el5; subst el6; subst el7; subst el8
  unfold FX37_ask_b175 at hF
  unfold fX37_ask_b175
  exact SX37_ask_b180 (N := N) (k39 := k39) (K39 := K39) hm @hk39 R rfl rl1 rfl rl2 rfl rl3 rfl rl4 rfl rl5 rfl rl6 rfl rl7 rfl rl8 (c_lit 1 1 rfl) ⟨by decide, by decide⟩ hF
def FX37_ask_b179 (N : Nat) (K39 : Int → Int → Int → Int → Int → Int → Int → Int → fS → Option (Int × fS)) (l1 : Int) (l2 : Int) (l3 : Int) (l4 : Int) (l5 : Int) (l6 : Int) (l7 : Int) (l8 : Int) (s : fS) : Option (Int × fS) :=
  FX37_ask_b180 N K39 l1 l2 l3 l4 l5 l6 l7 l8 0 s
theorem SX37_ask_b179 {m b : Nat} {φ0 : Nat → Nat} {σo : fS} (hm : 1 ≤ m) {N : Nat} {k39 : Nat → Int32 → Int32 → Int32 → Int32 → Int32 → Int32 → Int32 → Int32 → eH → Option (Int32 × eH)} {K39 : Int → Int → Int → Int → Int → Int → Int → Int → fS → Option (Int × fS)} {q : Int × fS} (hk39 : ∀ {φ : Nat → Nat} {h : eH} {s : fS} {l1' : Int32} {l1 : Int} {l2' : Int32} {l2 : Int} {l3' : Int32} {l3 : Int} {l4' : Int32} {l4 : Int} {l5' : Int32} {l5 : Int} {l6' : Int32} {l6 : Int} {l7' : Int32} {l7 : Int} {l8' : Int32} {l8 : Int}, fC m b φ0 σo φ h s → l1' = iI l1 → r32 l1 → l2' = iI l2 → r32 l2 → l3' = iI l3 → r32 l3 → l4' = iI l4 → r32 l4 → l5' = iI l5 → r32 l5 → l6' = iI l6 → r32 l6 → l7' = iI l7 → r32 l7 → l8' = iI l8 → r32 l8 → K39 l1 l2 l3 l4 l5 l6 l7 l8 s = some q → gG m b φ0 σo lI q (k39 213 l1' l2' l3' l4' l5' l6' l7' l8' h)) {φ : Nat → Nat} {h : eH} {s : fS} {l1' : Int32} {l1 : Int} {l2' : Int32} {l2 : Int} {l3' : Int32} {l3 : Int} {l4' : Int32} {l4 : Int} {l5' : Int32} {l5 : Int} {l6' : Int32} {l6 : Int} {l7' : Int32} {l7 : Int} {l8' : Int32} {l8 : Int} (R : fC m b φ0 σo φ h s) (el1 : l1' = iI l1) (rl1 : r32 l1) (el2 : l2' = iI l2) (rl2 : r32 l2) (el3 : l3' = iI l3) (rl3 : r32 l3) (el4 : l4' = iI l4) (rl4 : r32 l4) (el5 : l5' = iI l5) (rl5 : r32 l5) (el6 : l6' = iI l6) (rl6 : r32 l6) (el7 : l7' = iI l7) (rl7 : r32 l7) (el8 : l8' = iI l8) (rl8 : r32 l8) (hF : FX37_ask_b179 N K39 l1 l2 l3 l4 l5 l6 l7 l8 s = some q) : gG m b φ0 σo lI q (fX37_ask_b179 N k39 213 l1' l2' l3' l4' l5' l6' l7' l8' h) := by
  subst el1; subst el2; subst el3; subst el4; subst el5; subst el6; subst el7; subst el8
  unfold FX37_ask_b179 at hF
  unfold fX37_ask_b179
  exact SX37_ask_b180 (N := N) (k39 := k39) (K39 := K39) hm @hk39 R rfl rl1 rfl rl2 rfl rl3 rfl rl4 rfl rl5 rfl rl6 rfl rl7 rfl rl8 (c_lit 0 0 rfl) ⟨by decide, by decide⟩ hF
def FX37_ask_b122 (N : Nat) (K39 : Int → Int → Int → Int → Int → Int → Int → Int → fS → Option (Int × fS)) (l1 : Int) (l2 : Int) (l3 : Int) (l4 : Int) (l5 : Int) (l6 : Int) (l7 : Int) (l8 : Int) (s : fS) : Option (Int × fS) :=
  if l6 < 0 then
    FX37_ask_b175 N K39 l1 l2 l3 l4 (iadd l5 1) l6 l7 l8 s
  else
    (uRI s 228 l8).bind fun x4 =>
    (uRI s 228 l6).bind fun x8 =>
    if x8 < x4 then
      FX37_ask_b175 N K39 l1 l2 l3 l4 (iadd l5 1) l6 l7 l8 s
    else
      (uRI s 228 l8).bind fun x13 =>
      (uRI s 228 l6).bind fun x17 =>
      if ¬ (x13 = x17) then
        FX37_ask_b179 N K39 l1 l2 l3 l4 (iadd l5 1) l6 l7 l8 s
      else
        (FX37_isBefore l8 l6 s).bind fun q21 =>
        if q21.1 = 0 then
          FX37_ask_b179 N K39 l1 l2 l3 l4 (iadd l5 1) l6 l7 l8 q21.2
        else
          FX37_ask_b175 N K39 l1 l2 l3 l4 (iadd l5 1) l6 l7 l8 q21.2
theorem SX37_ask_b122 {m b : Nat} {φ0 : Nat → Nat} {σo : fS} (hm : 1 ≤ m) {N : Nat} {k39 : Nat → Int32 → Int32 → Int32 → Int32 → Int32 → Int32 → Int32 → Int32 → eH → Option (Int32 × eH)} {K39 : Int → Int → Int → Int → Int → Int → Int → Int → fS → Option (Int × fS)} {q : Int × fS} (hk39 : ∀ {φ : Nat → Nat} {h : eH} {s : fS} {l1' : Int32} {l1 : Int} {l2' : Int32} {l2 : Int} {l3' : Int32} {l3 : Int} {l4' : Int32} {l4 : Int} {l5' : Int32} {l5 : Int} {l6' : Int32} {l6 : Int} {l7' : Int32} {l7 : Int} {l8' : Int32} {l8 : Int}, fC m b φ0 σo φ h s → l1' = iI l1 → r32 l1 → l2' = iI l2 → r32 l2 → l3' = iI l3 → r32 l3 → l4' = iI l4 → r32 l4 → l5' = iI l5 → r32 l5 → l6' = iI l6 → r32 l6 → l7' = iI l7 → r32 l7 → l8' = iI l8 → r32 l8 → K39 l1 l2 l3 l4 l5 l6 l7 l8 s = some q → gG m b φ0 σo lI q (k39 213 l1' l2' l3' l4' l5' l6' l7' l8' h)) {φ : Nat → Nat} {h : eH} {s : fS} {l1' : Int32} {l1 : Int} {l2' : Int32} {l2 : Int} {l3' : Int32} {l3 : Int} {l4' : Int32} {l4 : Int} {l5' : Int32} {l5 : Int} {l6' : Int32} {l6 : Int} {l7' : Int32} {l7 : Int} {l8' : Int32} {l8 : Int} (R : fC m b φ0 σo φ h s) (el1 : l1' = iI l1) (rl1 : r32 l1) (el2 : l2' = iI l2) (rl2 : r32 l2) (el3 : l3' = iI l3) (rl3 : r32 l3) (el4 : l4' = iI l4) (rl4 : r32 l4) (el5 : l5' = iI l5) (rl5 : r32 l5) (el6 : l6' = iI l6) (rl6 : r32 l6) (el7 : l7' = iI l7) (rl7 : r32 l7) (el8 : l8' = iI l8) (rl8 : r32 l8) (hF : FX37_ask_b122 N K39 l1 l2 l3 l4 l5 l6 l7 l8 s = some q) : gG m b φ0 σo lI q (fX37_ask_b122 N k39 213 l1' l2' l3' l4' l5' l6' l7' l8' h) := by
  subst el1; subst el2; subst el3; subst el4; subst el5; subst el6; subst el7; subst el8
  unfold FX37_ask_b122 at hF
  unfold fX37_ask_b122
  refine s_if (i_lt rfl (c_lit 0 0 rfl) rl6 ⟨by decide, by decide⟩) hF (fun c1 hF => ?_) (fun c1 hF => ?_)
  ·
    exact SX37_ask_b175 (N := N) (k39 := k39) (K39 := K39) hm @hk39 R rfl rl1 rfl rl2 rfl rl3 rfl rl4 (c_add rfl (c_lit 1 1 rfl)) (rr_I _) rfl rl6 rfl rl7 rfl rl8 hF
  ·
    refine s_gAs R (t_213 hm R.S) (Nat.le_of_ble_eq_true rfl) rfl (o_213_24 hm R.S) (a_228 hm R) ?_
    refine s_rI R (u_228 hm R.S).1 (u_228 hm R.S).2 (by decide) (a_228 hm R) rfl rl8 hF (fun x4 ra3 hF => ?_)
    refine s_gAs R (t_213 hm R.S) (Nat.le_of_ble_eq_true rfl) rfl (o_213_24 hm R.S) (a_228 hm R) ?_
    refine s_rI R (u_228 hm R.S).1 (u_228 hm R.S).2 (by decide) (a_228 hm R) rfl rl6 hF (fun x8 ra5 hF => ?_)
    refine s_if (i_lt rfl rfl ra5 ra3) hF (fun c6 hF => ?_) (fun c6 hF => ?_)
    ·
      exact SX37_ask_b175 (N := N) (k39 := k39) (K39 := K39) hm @hk39 R rfl rl1 rfl rl2 rfl rl3 rfl rl4 (c_add rfl (c_lit 1 1 rfl)) (rr_I _) rfl rl6 rfl rl7 rfl rl8 hF
    ·
      refine s_gAs R (t_213 hm R.S) (Nat.le_of_ble_eq_true rfl) rfl (o_213_24 hm R.S) (a_228 hm R) ?_
      refine s_rI R (u_228 hm R.S).1 (u_228 hm R.S).2 (by decide) (a_228 hm R) rfl rl8 hF (fun x13 ra8 hF => ?_)
      refine s_gAs R (t_213 hm R.S) (Nat.le_of_ble_eq_true rfl) rfl (o_213_24 hm R.S) (a_228 hm R) ?_
      refine s_rI R (u_228 hm R.S).1 (u_228 hm R.S).2 (by decide) (a_228 hm R) rfl rl6 hF (fun x17 ra10 hF => ?_)
      refine s_if (not_congr (i_eq rfl rfl ra8 ra10)) hF (fun c11 hF => ?_) (fun c11 hF => ?_)
      ·
        exact SX37_ask_b179 (N := N) (k39 := k39) (K39 := K39) hm @hk39 R rfl rl1 rfl rl2 rfl rl3 rfl rl4 (c_add rfl (c_lit 1 1 rfl)) (rr_I _) rfl rl6 rfl rl7 rfl rl8 hF
      ·
        refine s_kok R (t_213 hm R.S) (Nat.le_of_ble_eq_true rfl) ?_
        refine s_call R (Nat.zero_le _) (fun _ hq => SX37_isBefore (b := 0) hm (R.rf) rfl rl8 rfl rl6 hq) hF (fun f13 rv13 h13 q21 R13 e13 E13 hF => ?_)
        refine s_if (i_eq e13.1 (c_lit 0 0 rfl) e13.2 ⟨by decide, by decide⟩) hF (fun c14 hF => ?_) (fun c14 hF => ?_)
        ·
          exact SX37_ask_b179 (N := N) (k39 := k39) (K39 := K39) hm @hk39 R13 rfl rl1 rfl rl2 rfl rl3 rfl rl4 (c_add rfl (c_lit 1 1 rfl)) (rr_I _) rfl rl6 rfl rl7 rfl rl8 hF
        ·
          exact SX37_ask_b175 (N := N) (k39 := k39) (K39 := K39) hm @hk39 R13 rfl rl1 rfl rl2 rfl rl3 rfl rl4 (c_add rfl (c_lit 1 1 rfl)) (rr_I _) rfl rl6 rfl rl7 rfl rl8 hF
def FX37_ask_b108 (N : Nat) (K39 : Int → Int → Int → Int → Int → Int → Int → Int → fS → Option (Int × fS)) (l1 : Int) (l2 : Int) (l3 : Int) (l4 : Int) (l5 : Int) (l6 : Int) (l7 : Int) (l8 : Int) (s : fS) : Option (Int × fS) :=
  if (s.i 213 34) = 10001 then
    FX37_ask_b122 N K39 l1 l2 l3 l4 l5 l6 l7 l8 s
  else
    if l3 = 0 then
      FX37_ask_b204 N K39 l1 l2 l3 l4 l5 l6 l7 l8 s
    else
      FX37_ask_b122 N K39 l1 l2 l3 l4 l5 l6 l7 l8 s
theorem SX37_ask_b108 {m b : Nat} {φ0 : Nat → Nat} {σo : fS} (hm : 1 ≤ m) {N : Nat} {k39 : Nat → Int32 → Int32 → Int32 → Int32 → Int32 → Int32 → Int32 → Int32 → eH → Option (Int32 × eH)} {K39 : Int → Int → Int → Int → Int → Int → Int → Int → fS → Option (Int × fS)} {q : Int × fS} (hk39 : ∀ {φ : Nat → Nat} {h : eH} {s : fS} {l1' : Int32} {l1 : Int} {l2' : Int32} {l2 : Int} {l3' : Int32} {l3 : Int} {l4' : Int32} {l4 : Int} {l5' : Int32} {l5 : Int} {l6' : Int32} {l6 : Int} {l7' : Int32} {l7 : Int} {l8' : Int32} {l8 : Int}, fC m b φ0 σo φ h s → l1' = iI l1 → r32 l1 → l2' = iI l2 → r32 l2 → l3' = iI l3 → r32 l3 → l4' = iI l4 → r32 l4 → l5' = iI l5 → r32 l5 → l6' = iI l6 → r32 l6 → l7' = iI l7 → r32 l7 → l8' = iI l8 → r32 l8 → K39 l1 l2 l3 l4 l5 l6 l7 l8 s = some q → gG m b φ0 σo lI q (k39 213 l1' l2' l3' l4' l5' l6' l7' l8' h)) {φ : Nat → Nat} {h : eH} {s : fS} {l1' : Int32} {l1 : Int} {l2' : Int32} {l2 : Int} {l3' : Int32} {l3 : Int} {l4' : Int32} {l4 : Int} {l5' : Int32} {l5 : Int} {l6' : Int32} {l6 : Int} {l7' : Int32} {l7 : Int} {l8' : Int32} {l8 : Int} (R : fC m b φ0 σo φ h s) (el1 : l1' = iI l1) (rl1 : r32 l1) (el2 : l2' = iI l2) (rl2 : r32 l2) (el3 : l3' = iI l3) (rl3 : r32 l3) (el4 : l4' = iI l4) (rl4 : r32 l4) (el5 : l5' = iI l5) (rl5 : r32 l5) (el6 : l6' = iI l6) (rl6 : r32 l6) (el7 : l7' = iI l7) (rl7 : r32 l7) (el8 : l8' = iI l8) (rl8 : r32 l8) (hF : FX37_ask_b108 N K39 l1 l2 l3 l4 l5 l6 l7 l8 s = some q) : gG m b φ0 σo lI q (fX37_ask_b108 N k39 213 l1' l2' l3' l4' l5' l6' l7' l8' h) := by
  subst el1; subst el2; subst el3; subst el4; subst el5; subst el6; subst el7; subst el8
  unfold FX37_ask_b108 at hF
  unfold fX37_ask_b108
  refine s_gI R (t_213 hm R.S) (Nat.le_of_ble_eq_true rfl) rfl ?_
  refine s_if (i_eq rfl (c_lit 10001 10001 rfl) (R.ri (t_213 hm R.S) (Nat.le_of_ble_eq_true rfl) rfl) ⟨by decide, by decide⟩) hF (fun c2 hF => ?_) (fun c2 hF => ?_)
  ·
    exact SX37_ask_b122 (N := N) (k39 := k39) (K39 := K39) hm @hk39 R rfl rl1 rfl rl2 rfl rl3 rfl rl4 rfl rl5 rfl rl6 rfl rl7 rfl rl8 hF
  ·
    refine s_if (i_eq rfl (c_lit 0 0 rfl) rl3 ⟨by decide, by decide⟩) hF (fun c3 hF => ?_) (fun c3 hF => ?_)
    ·
      exact SX37_ask_b204 (N := N) (k39 := k39) (K39 := K39) hm @hk39 R rfl rl1 rfl rl2 rfl rl3 rfl rl4 rfl rl5 rfl rl6 rfl rl7 rfl rl8 hF
    ·
      exact SX37_ask_b122 (N := N) (k39 := k39) (K39 := K39) hm @hk39 R rfl rl1 rfl rl2 rfl rl3 rfl rl4 rfl rl5 rfl rl6 rfl rl7 rfl rl8 hF
def FX37_ask_b325 (N : Nat) (s : fS) : Option (Int × fS) :=
  some (0, s)
theorem SX37_ask_b325 {m b : Nat} {φ0 : Nat → Nat} {σo : fS} (hm : 1 ≤ m) {N : Nat} {q : Int × fS} {φ : Nat → Nat} {h : eH} {s : fS} (R : fC m b φ0 σo φ h s) (hF : FX37_ask_b325 N s = some q) : gG m b φ0 σo lI q (fX37_ask_b325 N h) := by
  unfold FX37_ask_b325 at hF
  unfold fX37_ask_b325
  exact g_ret R hF ⟨(c_lit 0 0 rfl), ⟨by decide, by decide⟩⟩
def FX37_ask_b383 (N : Nat) (s : fS) : Option (Int × fS) :=
  some (1, s)
theorem SX37_ask_b383 {m b : Nat} {φ0 : Nat → Nat} {σo : fS} (hm : 1 ≤ m) {N : Nat} {q : Int × fS} {φ : Nat → Nat} {h : eH} {s : fS} (R : fC m b φ0 σo φ h s) (hF : FX37_ask_b383 N s = some q) : gG m b φ0 σo lI q (fX37_ask_b383 N h) := by
  unfold FX37_ask_b383 at hF
  unfold fX37_ask_b383
  exact g_ret R hF ⟨(c_lit 1 1 rfl), ⟨by decide, by decide⟩⟩
def FX37_ask_b285 (N : Nat) (l1 : Int) (l4 : Int) (l6 : Int) (l9 : Int) (s : fS) : Option (Int × fS) :=
  (uPI s 213 21 (iadd (s.i 213 21) l4)).bind fun σ3 =>
  (uPI σ3 213 22 (iadd (σ3.i 213 22) l4)).bind fun σ7 =>
  if 3000000 < (σ7.i 213 21) then
    FX37_ask_b325 N σ7
  else
    if (σ7.i 213 22) ≤ 30000000 then
      if l9 = 0 then
        FX37_ask_b383 N σ7
      else
        (uRI σ7 227 l6).bind fun x18 =>
        (FX37_measure N x18 l1 σ7).bind fun q21 =>
        (uRI q21.2 228 l6).bind fun x24 =>
        (FX37_judge x24 q21.2).bind fun q27 =>
        (uPI q27.2 213 20 (iadd (q27.2.i 213 20) 1)).bind fun σ30 =>
        (uRJ σ30 230 l6).bind fun x36 =>
        (FX37_write (σ30.i 213 20) l1 l6 x36 σ30).bind fun q39 =>
        FX37_ask_b383 N q39.2
    else
      FX37_ask_b325 N σ7
theorem SX37_ask_b285 {m b : Nat} {φ0 : Nat → Nat} {σo : fS} (hm : 1 ≤ m) {N : Nat} {q : Int × fS} {φ : Nat → Nat} {h : eH} {s : fS} {l1' : Int32} {l1 : Int} {l4' : Int32} {l4 : Int} {l6' : Int32} {l6 : Int} {l9' : Int32} {l9 : Int} (R : fC m b φ0 σo φ h s) (el1 : l1' = iI l1) (rl1 : r32 l1) (el4 : l4' = iI l4) (rl4 : r32 l4) (el6 : l6' = iI l6) (rl6 : r32 l6) (el9 : l9' = iI l9) (rl9 : r32 l9) (hF : FX37_ask_b285 N l1 l4 l6 l9 s = some q) : gG m b φ0 σo lI q (fX37_ask_b285 N 213 l1' l4' l6' l9' h) := by
  subst el1; subst el4; subst el6; subst el9
  unfold FX37_ask_b285 at hF
  unfold fX37_ask_b285
  refine s_gI R (t_213 hm R.S) (Nat.le_of_ble_eq_true rfl) rfl ?_
  refine s_pI R (t_213 hm R.S) (Nat.le_of_ble_eq_true rfl) rfl (c_add rfl rfl) (rr_I _) hF (fun h2 σ3 R2 T2 hF => ?_)
  refine s_gI R2 (t_213 hm R2.S) (Nat.le_of_ble_eq_true rfl) rfl ?_
  refine s_pI R2 (t_213 hm R2.S) (Nat.le_of_ble_eq_true rfl) rfl (c_add rfl rfl) (rr_I _) hF (fun h4 σ7 R4 T4 hF => ?_)
  refine s_gI R4 (t_213 hm R4.S) (Nat.le_of_ble_eq_true rfl) rfl ?_
  refine s_if (i_lt (c_lit 3000000 3000000 rfl) rfl ⟨by decide, by decide⟩ (R4.ri (t_213 hm R4.S) (Nat.le_of_ble_eq_true rfl) rfl)) hF (fun c6 hF => ?_) (fun c6 hF => ?_)
  ·
    exact SX37_ask_b325 (N := N) hm R4 hF
  ·
    refine s_gI R4 (t_213 hm R4.S) (Nat.le_of_ble_eq_true rfl) rfl ?_
    refine s_if (i_le rfl (c_lit 30000000 30000000 rfl) (R4.ri (t_213 hm R4.S) (Nat.le_of_ble_eq_true rfl) rfl) ⟨by decide, by decide⟩) hF (fun c8 hF => ?_) (fun c8 hF => ?_)
    ·
      refine s_if (i_eq rfl (c_lit 0 0 rfl) rl9 ⟨by decide, by decide⟩) hF (fun c9 hF => ?_) (fun c9 hF => ?_)
      ·
        exact SX37_ask_b383 (N := N) hm R4 hF
      ·
        refine s_gAs R4 (t_213 hm R4.S) (Nat.le_of_ble_eq_true rfl) rfl (o_213_23 hm R4.S) (a_227 hm R4) ?_
        refine s_rI R4 (u_227 hm R4.S).1 (u_227 hm R4.S).2 (by decide) (a_227 hm R4) rfl rl6 hF (fun x18 ra11 hF => ?_)
        refine s_kok R4 (t_213 hm R4.S) (Nat.le_of_ble_eq_true rfl) ?_
        refine s_call R4 (Nat.zero_le _) (fun _ hq => SX37_measure (b := 0) (N := N) hm (R4.rf) rfl ra11 rfl rl1 hq) hF (fun f13 rv13 h13 q21 R13 e13 E13 hF => ?_)
        refine s_gAs R13 (t_213 hm R13.S) (Nat.le_of_ble_eq_true rfl) rfl (o_213_24 hm R13.S) (a_228 hm R13) ?_
        refine s_rI R13 (u_228 hm R13.S).1 (u_228 hm R13.S).2 (by decide) (a_228 hm R13) rfl rl6 hF (fun x24 ra15 hF => ?_)
        refine s_kok R13 (t_213 hm R13.S) (Nat.le_of_ble_eq_true rfl) ?_
        refine s_call R13 (Nat.zero_le _) (fun _ hq => SX37_judge (b := 0) hm (R13.rf) rfl ra15 hq) hF (fun f17 rv17 h17 q27 R17 e17 E17 hF => ?_)
        refine s_gI R17 (t_213 hm R17.S) (Nat.le_of_ble_eq_true rfl) rfl ?_
        refine s_pI R17 (t_213 hm R17.S) (Nat.le_of_ble_eq_true rfl) rfl (c_add rfl (c_lit 1 1 rfl)) (rr_I _) hF (fun h19 σ30 R19 T19 hF => ?_)
        refine s_gI R19 (t_213 hm R19.S) (Nat.le_of_ble_eq_true rfl) rfl ?_
        refine s_gAs R19 (t_213 hm R19.S) (Nat.le_of_ble_eq_true rfl) rfl (o_213_26 hm R19.S) (a_230 hm R19) ?_
        refine s_rJ R19 (u_230 hm R19.S).1 (u_230 hm R19.S).2 (a_230 hm R19) rfl rl6 hF (fun x36 ra22 hF => ?_)
        refine s_kok R19 (t_213 hm R19.S) (Nat.le_of_ble_eq_true rfl) ?_
        refine s_call R19 (Nat.zero_le _) (fun _ hq => SX37_write (b := 0) hm (R19.rf) rfl (R19.ri (t_213 hm R19.S) (Nat.le_of_ble_eq_true rfl) rfl) rfl rl1 rfl rl6 rfl ra22 hq) hF (fun f24 rv24 h24 q39 R24 e24 E24 hF => ?_)
        exact SX37_ask_b383 (N := N) hm R24 hF
    ·
      exact SX37_ask_b325 (N := N) hm R4 hF
def FX37_ask_b266 (N : Nat) (l1 : Int) (l4 : Int) (l6 : Int) (s0 : Int) (s : fS) : Option (Int × fS) :=
  if s0 = 0 then
    FX37_ask_b285 N l1 l4 l6 s0 s
  else
    if ¬ ((s.i 213 20) = 8000) then
      FX37_ask_b285 N l1 l4 l6 s0 s
    else
      some (0, s)
theorem SX37_ask_b266 {m b : Nat} {φ0 : Nat → Nat} {σo : fS} (hm : 1 ≤ m) {N : Nat} {q : Int × fS} {φ : Nat → Nat} {h : eH} {s : fS} {l1' : Int32} {l1 : Int} {l4' : Int32} {l4 : Int} {l6' : Int32} {l6 : Int} {s0' : Int32} {s0 : Int} (R : fC m b φ0 σo φ h s) (el1 : l1' = iI l1) (rl1 : r32 l1) (el4 : l4' = iI l4) (rl4 : r32 l4) (el6 : l6' = iI l6) (rl6 : r32 l6) (es0 : s0' = iI s0) (rs0 : r32 s0) (hF : FX37_ask_b266 N l1 l4 l6 s0 s = some q) : gG m b φ0 σo lI q (fX37_ask_b266 N 213 l1' l4' l6' s0' h) := by
  subst el1; subst el4; subst el6; subst es0
  unfold FX37_ask_b266 at hF
  unfold fX37_ask_b266
  refine s_if (i_eq rfl (c_lit 0 0 rfl) rs0 ⟨by decide, by decide⟩) hF (fun c1 hF => ?_) (fun c1 hF => ?_)
  ·
    exact SX37_ask_b285 (N := N) hm R rfl rl1 rfl rl4 rfl rl6 rfl rs0 hF
  ·
    refine s_gI R (t_213 hm R.S) (Nat.le_of_ble_eq_true rfl) rfl ?_
    refine s_if (not_congr (i_eq rfl (c_lit 8000 8000 rfl) (R.ri (t_213 hm R.S) (Nat.le_of_ble_eq_true rfl) rfl) ⟨by decide, by decide⟩)) hF (fun c3 hF => ?_) (fun c3 hF => ?_)
    ·
      exact SX37_ask_b285 (N := N) hm R rfl rl1 rfl rl4 rfl rl6 rfl rs0 hF
    ·
      exact g_ret R hF ⟨(c_lit 0 0 rfl), ⟨by decide, by decide⟩⟩
def FX37_ask_b265 (N : Nat) (l1 : Int) (l4 : Int) (l6 : Int) (s : fS) : Option (Int × fS) :=
  FX37_ask_b266 N l1 l4 l6 0 s
theorem SX37_ask_b265 {m b : Nat} {φ0 : Nat → Nat} {σo : fS} (hm : 1 ≤ m) {N : Nat} {q : Int × fS} {φ : Nat → Nat} {h : eH} {s : fS} {l1' : Int32} {l1 : Int} {l4' : Int32} {l4 : Int} {l6' : Int32} {l6 : Int} (R : fC m b φ0 σo φ h s) (el1 : l1' = iI l1) (rl1 : r32 l1) (el4 : l4' = iI l4) (rl4 : r32 l4) (el6 : l6' = iI l6) (rl6 : r32 l6) (hF : FX37_ask_b265 N l1 l4 l6 s = some q) : gG m b φ0 σo lI q (fX37_ask_b265 N 213 l1' l4' l6' h) := by
  subst el1; subst el4; subst el6
  unfold FX37_ask_b265 at hF
  unfold fX37_ask_b265
  exact SX37_ask_b266 (N := N) hm R rfl rl1 rfl rl4 rfl rl6 (c_lit 0 0 rfl) ⟨by decide, by decide⟩ hF
def FX37_ask_b237 (N : Nat) (l1 : Int) (l4 : Int) (l5 : Int) (l6 : Int) (l7 : Int) (s0 : Int) (s : fS) : Option (Int × fS) :=
  if s0 = 0 then
    FX37_ask_b265 N l1 l4 l6 s
  else
    if ¬ (l7 = 0) then
      FX37_ask_b265 N l1 l4 l6 s
    else
      if l4 ≤ 0 then
        FX37_ask_b265 N l1 l4 l6 s
      else
        if ¬ (l4 = l5) then
          FX37_ask_b265 N l1 l4 l6 s
        else
          FX37_ask_b266 N l1 l4 l6 1 s
theorem SX37_ask_b237 {m b : Nat} {φ0 : Nat → Nat} {σo : fS} (hm : 1 ≤ m) {N : Nat} {q : Int × fS} {φ : Nat → Nat} {h : eH} {s : fS} {l1' : Int32} {l1 : Int} {l4' : Int32} {l4 : Int} {l5' : Int32} {l5 : Int} {l6' : Int32} {l6 : Int} {l7' : Int32} {l7 : Int} {s0' : Int32} {s0 : Int} (R : fC m b φ0 σo φ h s) (el1 : l1' = iI l1) (rl1 : r32 l1) (el4 : l4' = iI l4) (rl4 : r32 l4) (el5 : l5' = iI l5) (rl5 : r32 l5) (el6 : l6' = iI l6) (rl6 : r32 l6) (el7 : l7' = iI l7) (rl7 : r32 l7) (es0 : s0' = iI s0) (rs0 : r32 s0) (hF : FX37_ask_b237 N l1 l4 l5 l6 l7 s0 s = some q) : gG m b φ0 σo lI q (fX37_ask_b237 N 213 l1' l4' l5' l6' l7' s0' h) := by
  subst el1; subst el4; subst el5; subst el6; subst el7; subst es0
  unfold FX37_ask_b237 at hF
  unfold fX37_ask_b237
  refine s_if (i_eq rfl (c_lit 0 0 rfl) rs0 ⟨by decide, by decide⟩) hF (fun c1 hF => ?_) (fun c1 hF => ?_)
  ·
    exact SX37_ask_b265 (N := N) hm R rfl rl1 rfl rl4 rfl rl6 hF
  ·
    refine s_if (not_congr (i_eq rfl (c_lit 0 0 rfl) rl7 ⟨by decide, by decide⟩)) hF (fun c2 hF => ?_) (fun c2 hF => ?_)
    ·
      exact SX37_ask_b265 (N := N) hm R rfl rl1 rfl rl4 rfl rl6 hF
    ·
      refine s_if (i_le rfl (c_lit 0 0 rfl) rl4 ⟨by decide, by decide⟩) hF (fun c3 hF => ?_) (fun c3 hF => ?_)
      ·
        exact SX37_ask_b265 (N := N) hm R rfl rl1 rfl rl4 rfl rl6 hF
      ·
        refine s_if (not_congr (i_eq rfl rfl rl4 rl5)) hF (fun c4 hF => ?_) (fun c4 hF => ?_)
        ·
          exact SX37_ask_b265 (N := N) hm R rfl rl1 rfl rl4 rfl rl6 hF
        ·
          exact SX37_ask_b266 (N := N) hm R rfl rl1 rfl rl4 rfl rl6 (c_lit 1 1 rfl) ⟨by decide, by decide⟩ hF
def FX37_ask_b229 (N : Nat) (l1 : Int) (l4 : Int) (l5 : Int) (l6 : Int) (l7 : Int) (s0 : Int) (s1 : Int) (s : fS) : Option (Int × fS) :=
  if ¬ (s0 = s1) then
    FX37_ask_b237 N l1 l4 l5 l6 l7 0 s
  else
    FX37_ask_b237 N l1 l4 l5 l6 l7 1 s
theorem SX37_ask_b229 {m b : Nat} {φ0 : Nat → Nat} {σo : fS} (hm : 1 ≤ m) {N : Nat} {q : Int × fS} {φ : Nat → Nat} {h : eH} {s : fS} {l1' : Int32} {l1 : Int} {l4' : Int32} {l4 : Int} {l5' : Int32} {l5 : Int} {l6' : Int32} {l6 : Int} {l7' : Int32} {l7 : Int} {s0' : Int32} {s0 : Int} {s1' : Int32} {s1 : Int} (R : fC m b φ0 σo φ h s) (el1 : l1' = iI l1) (rl1 : r32 l1) (el4 : l4' = iI l4) (rl4 : r32 l4) (el5 : l5' = iI l5) (rl5 : r32 l5) (el6 : l6' = iI l6) (rl6 : r32 l6) (el7 : l7' = iI l7) (rl7 : r32 l7) (es0 : s0' = iI s0) (rs0 : r32 s0) (es1 : s1' = iI s1) (rs1 : r32 s1) (hF : FX37_ask_b229 N l1 l4 l5 l6 l7 s0 s1 s = some q) : gG m b φ0 σo lI q (fX37_ask_b229 N 213 l1' l4' l5' l6' l7' s0' s1' h) := by
  subst el1; subst el4; subst el5; subst el6; subst el7; subst es0; subst es1
  unfold FX37_ask_b229 at hF
  unfold fX37_ask_b229
  refine s_if (not_congr (i_eq rfl rfl rs0 rs1)) hF (fun c1 hF => ?_) (fun c1 hF => ?_)
  ·
    exact SX37_ask_b237 (N := N) hm R rfl rl1 rfl rl4 rfl rl5 rfl rl6 rfl rl7 (c_lit 0 0 rfl) ⟨by decide, by decide⟩ hF
  ·
    exact SX37_ask_b237 (N := N) hm R rfl rl1 rfl rl4 rfl rl5 rfl rl6 rfl rl7 (c_lit 1 1 rfl) ⟨by decide, by decide⟩ hF
def FX37_ask_b39 (N : Nat) : Nat → Int → Int → Int → Int → Int → Int → Int → Int → fS → Option (Int × fS)
  | 0, _, _, _, _, _, _, _, _, _ => none
  | n + 1, l1, l2, l3, l4, l5, l6, l7, l8, s =>
    if l2 ≤ l8 then
      (uRI s 222 8).bind fun x6 =>
      if x6 ≤ 0 then
        FX37_ask_b229 N l1 l4 l5 l6 l7 (s.i 213 16) 2 s
      else
        FX37_ask_b229 N l1 l4 l5 l6 l7 (s.i 213 16) 3 s
    else
      (uRI s 232 l8).bind fun x11 =>
      if ¬ (x11 = 0) then
        FX37_ask_b204 N (FX37_ask_b39 N n) l1 l2 l3 l4 l5 l6 l7 l8 s
      else
        (uRI s 227 l8).bind fun x16 =>
        (FX37_measure N x16 l1 s).bind fun q19 =>
        (uRI q19.2 228 l8).bind fun x22 =>
        (FX37_judge x22 q19.2).bind fun q25 =>
        if (q25.2.i 213 18) < (q25.2.i 213 34) then
          FX37_ask_b108 N (FX37_ask_b39 N n) l1 l2 l3 (iadd l4 1) l5 l6 l7 l8 q25.2
        else
          (FX37_reach N l2 l1 l8 q25.2).bind fun q32 =>
          if ¬ (q32.1 = 0) then
            FX37_ask_b108 N (FX37_ask_b39 N n) l1 l2 l3 (iadd l4 1) l5 l6 1 l8 q32.2
          else
            some (0, q32.2)
theorem SX37_ask_b39 {m b : Nat} {φ0 : Nat → Nat} {σo : fS} (hm : 1 ≤ m) {N : Nat} {q : Int × fS} : ∀ {n : Nat} {φ : Nat → Nat} {h : eH} {s : fS} {l1' : Int32} {l1 : Int} {l2' : Int32} {l2 : Int} {l3' : Int32} {l3 : Int} {l4' : Int32} {l4 : Int} {l5' : Int32} {l5 : Int} {l6' : Int32} {l6 : Int} {l7' : Int32} {l7 : Int} {l8' : Int32} {l8 : Int}, fC m b φ0 σo φ h s → l1' = iI l1 → r32 l1 → l2' = iI l2 → r32 l2 → l3' = iI l3 → r32 l3 → l4' = iI l4 → r32 l4 → l5' = iI l5 → r32 l5 → l6' = iI l6 → r32 l6 → l7' = iI l7 → r32 l7 → l8' = iI l8 → r32 l8 → FX37_ask_b39 N n l1 l2 l3 l4 l5 l6 l7 l8 s = some q → gG m b φ0 σo lI q (fX37_ask_b39 N n 213 l1' l2' l3' l4' l5' l6' l7' l8' h) := by
  intro n
  induction n with
 | zero => intro φ h s l1' l1 l2' l2 l3' l3 l4' l4 l5' l5 l6' l6 l7' l7 l8' l8 R el1 rl1 el2 rl2 el3 rl3 el4 rl4 el5 rl5 el6 rl6 el7 rl7 el8 rl8 hF; simp [FX37_ask_b39] at hF
  | succ n ih =>
    intro φ h s l1' l1 l2' l2 l3' l3 l4' l4 l5' l5 l6' l6 l7' l7 l8' l8 R el1 rl1 el2 rl2 el3 rl3 el4 rl4 el5 rl5 el6 rl6 el7 rl7 el8 rl8 hF
    subst el1; subst el2; subst el3; subst el4; subst el5; subst el6; subst el7; subst el8
    rw [FX37_ask_b39] at hF
    rw [fX37_ask_b39]
    refine s_if (i_le rfl rfl rl2 rl8) hF (fun c1 hF => ?_) (fun c1 hF => ?_)
    ·
      refine s_gI R (t_213 hm R.S) (Nat.le_of_ble_eq_true rfl) rfl ?_
      refine s_gAs R (t_213 hm R.S) (Nat.le_of_ble_eq_true rfl) rfl (o_213_10 hm R.S) (a_222 hm R) ?_
      refine s_rI R (u_222 hm R.S).1 (u_222 hm R.S).2 (by decide) (a_222 hm R) (c_lit 8 8 rfl) ⟨by decide, by decide⟩ hF (fun x6 ra4 hF => ?_)
      refine s_if (i_le rfl (c_lit 0 0 rfl) ra4 ⟨by decide, by decide⟩) hF (fun c5 hF => ?_) (fun c5 hF => ?_)
      ·
        exact SX37_ask_b229 (N := N) hm R rfl rl1 rfl rl4 rfl rl5 rfl rl6 rfl rl7 rfl (R.ri (t_213 hm R.S) (Nat.le_of_ble_eq_true rfl) rfl) (c_lit 2 2 rfl) ⟨by decide, by decide⟩ hF
      ·
        exact SX37_ask_b229 (N := N) hm R rfl rl1 rfl rl4 rfl rl5 rfl rl6 rfl rl7 rfl (R.ri (t_213 hm R.S) (Nat.le_of_ble_eq_true rfl) rfl) (c_lit 3 3 rfl) ⟨by decide, by decide⟩ hF
    ·
      refine s_gAs R (t_213 hm R.S) (Nat.le_of_ble_eq_true rfl) rfl (o_213_28 hm R.S) (a_232 hm R) ?_
      refine s_rI R (u_232 hm R.S).1 (u_232 hm R.S).2 (by decide) (a_232 hm R) rfl rl8 hF (fun x11 ra7 hF => ?_)
      refine s_if (not_congr (i_eq rfl (c_lit 0 0 rfl) ra7 ⟨by decide, by decide⟩)) hF (fun c8 hF => ?_) (fun c8 hF => ?_)
      ·
        exact SX37_ask_b204 (N := N) (k39 := fX37_ask_b39 N n) (K39 := FX37_ask_b39 N n) hm @ih R rfl rl1 rfl rl2 rfl rl3 rfl rl4 rfl rl5 rfl rl6 rfl rl7 rfl rl8 hF
      ·
        refine s_gAs R (t_213 hm R.S) (Nat.le_of_ble_eq_true rfl) rfl (o_213_23 hm R.S) (a_227 hm R) ?_
        refine s_rI R (u_227 hm R.S).1 (u_227 hm R.S).2 (by decide) (a_227 hm R) rfl rl8 hF (fun x16 ra10 hF => ?_)
        refine s_kok R (t_213 hm R.S) (Nat.le_of_ble_eq_true rfl) ?_
        refine s_call R (Nat.zero_le _) (fun _ hq => SX37_measure (b := 0) (N := N) hm (R.rf) rfl ra10 rfl rl1 hq) hF (fun f12 rv12 h12 q19 R12 e12 E12 hF => ?_)
        refine s_gAs R12 (t_213 hm R12.S) (Nat.le_of_ble_eq_true rfl) rfl (o_213_24 hm R12.S) (a_228 hm R12) ?_
        refine s_rI R12 (u_228 hm R12.S).1 (u_228 hm R12.S).2 (by decide) (a_228 hm R12) rfl rl8 hF (fun x22 ra14 hF => ?_)
        refine s_kok R12 (t_213 hm R12.S) (Nat.le_of_ble_eq_true rfl) ?_
        refine s_call R12 (Nat.zero_le _) (fun _ hq => SX37_judge (b := 0) hm (R12.rf) rfl ra14 hq) hF (fun f16 rv16 h16 q25 R16 e16 E16 hF => ?_)
        refine s_gI R16 (t_213 hm R16.S) (Nat.le_of_ble_eq_true rfl) rfl ?_
        refine s_gI R16 (t_213 hm R16.S) (Nat.le_of_ble_eq_true rfl) rfl ?_
        refine s_if (i_lt rfl rfl (R16.ri (t_213 hm R16.S) (Nat.le_of_ble_eq_true rfl) rfl) (R16.ri (t_213 hm R16.S) (Nat.le_of_ble_eq_true rfl) rfl)) hF (fun c19 hF => ?_) (fun c19 hF => ?_)
        ·
          exact SX37_ask_b108 (N := N) (k39 := fX37_ask_b39 N n) (K39 := FX37_ask_b39 N n) hm @ih R16 rfl rl1 rfl rl2 rfl rl3 (c_add rfl (c_lit 1 1 rfl)) (rr_I _) rfl rl5 rfl rl6 rfl rl7 rfl rl8 hF
        ·
          refine s_kok R16 (t_213 hm R16.S) (Nat.le_of_ble_eq_true rfl) ?_
          refine s_call R16 (Nat.zero_le _) (fun _ hq => SX37_reach (b := 0) (N := N) hm (R16.rf) rfl rl2 rfl rl1 rfl rl8 hq) hF (fun f21 rv21 h21 q32 R21 e21 E21 hF => ?_)
          refine s_if (not_congr (i_eq e21.1 (c_lit 0 0 rfl) e21.2 ⟨by decide, by decide⟩)) hF (fun c22 hF => ?_) (fun c22 hF => ?_)
          ·
            exact SX37_ask_b108 (N := N) (k39 := fX37_ask_b39 N n) (K39 := FX37_ask_b39 N n) hm @ih R21 rfl rl1 rfl rl2 rfl rl3 (c_add rfl (c_lit 1 1 rfl)) (rr_I _) rfl rl5 rfl rl6 (c_lit 1 1 rfl) ⟨by decide, by decide⟩ rfl rl8 hF
          ·
            exact g_ret R21 hF ⟨(c_lit 0 0 rfl), ⟨by decide, by decide⟩⟩
def FX37_ask_b23 (N : Nat) (l1 : Int) (l2 : Int) (s0 : Int) (s : fS) : Option (Int × fS) :=
  FX37_ask_b39 N N l1 l2 s0 0 0 (-1) 0 0 s
theorem SX37_ask_b23 {m b : Nat} {φ0 : Nat → Nat} {σo : fS} (hm : 1 ≤ m) {N : Nat} {q : Int × fS} {φ : Nat → Nat} {h : eH} {s : fS} {l1' : Int32} {l1 : Int} {l2' : Int32} {l2 : Int} {s0' : Int32} {s0 : Int} (R : fC m b φ0 σo φ h s) (el1 : l1' = iI l1) (rl1 : r32 l1) (el2 : l2' = iI l2) (rl2 : r32 l2) (es0 : s0' = iI s0) (rs0 : r32 s0) (hF : FX37_ask_b23 N l1 l2 s0 s = some q) : gG m b φ0 σo lI q (fX37_ask_b23 N 213 l1' l2' s0' h) := by
  subst el1; subst el2; subst es0
  unfold FX37_ask_b23 at hF
  unfold fX37_ask_b23
  exact SX37_ask_b39 (N := N) hm R rfl rl1 rfl rl2 rfl rs0 (c_lit 0 0 rfl) ⟨by decide, by decide⟩ (c_lit 0 0 rfl) ⟨by decide, by decide⟩ (c_lit (-1) (-1) rfl) ⟨by decide, by decide⟩ (c_lit 0 0 rfl) ⟨by decide, by decide⟩ (c_lit 0 0 rfl) ⟨by decide, by decide⟩ hF
def FX37_ask (N : Nat) (p0 : Int) (s : fS) : Option (Int × fS) :=
  (FX37_fine p0 s).bind fun q4 =>
  if ¬ (q4.1 = (-10000)) then
    FX37_ask_b23 N p0 (iadd (s.i 213 20) 1) 0 q4.2
  else
    FX37_ask_b23 N p0 (iadd (s.i 213 20) 1) 1 q4.2
theorem SX37_ask {m b : Nat} {φ0 : Nat → Nat} {σo : fS} (hm : 1 ≤ m) {N : Nat} {q : Int × fS} {φ : Nat → Nat} {h : eH} {s : fS} {p0' : Int32} {p0 : Int} (R : fC m b φ0 σo φ h s) (ep0 : p0' = iI p0) (rp0 : r32 p0) (hF : FX37_ask N p0 s = some q) : gG m b φ0 σo lI q (fX37_ask N 213 p0' h) := by
  subst ep0
  unfold FX37_ask at hF
  unfold fX37_ask
  refine s_gI R (t_213 hm R.S) (Nat.le_of_ble_eq_true rfl) rfl ?_
  refine s_kok R (t_213 hm R.S) (Nat.le_of_ble_eq_true rfl) ?_
  refine s_call R (Nat.zero_le _) (fun _ hq => SX37_fine (b := 0) hm (R.rf) rfl rp0 hq) hF (fun f3 rv3 h3 q4 R3 e3 E3 hF => ?_)
  refine s_if (not_congr (i_eq e3.1 (c_lit (-10000) (-10000) rfl) e3.2 ⟨by decide, by decide⟩)) hF (fun c4 hF => ?_) (fun c4 hF => ?_)
  ·
    exact SX37_ask_b23 (N := N) hm R3 rfl rp0 (c_add rfl (c_lit 1 1 rfl)) (rr_I _) (c_lit 0 0 rfl) ⟨by decide, by decide⟩ hF
  ·
    exact SX37_ask_b23 (N := N) hm R3 rfl rp0 (c_add rfl (c_lit 1 1 rfl)) (rr_I _) (c_lit 1 1 rfl) ⟨by decide, by decide⟩ hF
def FX37_make_b122 (N : Nat) (K89 : Int → Int → fS → Option (Int × fS)) (l2 : Int) (s0 : Int) (s : fS) : Option (Int × fS) :=
  K89 s0 (iadd l2 1) s
theorem SX37_make_b122 {m b : Nat} {φ0 : Nat → Nat} {σo : fS} (hm : 1 ≤ m) {N : Nat} {k89 : Nat → Int32 → Int32 → eH → Option (Int32 × eH)} {K89 : Int → Int → fS → Option (Int × fS)} {q : Int × fS} (hk89 : ∀ {φ : Nat → Nat} {h : eH} {s : fS} {l1' : Int32} {l1 : Int} {l2' : Int32} {l2 : Int}, fC m b φ0 σo φ h s → l1' = iI l1 → r32 l1 → l2' = iI l2 → r32 l2 → K89 l1 l2 s = some q → gG m b φ0 σo lI q (k89 213 l1' l2' h)) {φ : Nat → Nat} {h : eH} {s : fS} {l2' : Int32} {l2 : Int} {s0' : Int32} {s0 : Int} (R : fC m b φ0 σo φ h s) (el2 : l2' = iI l2) (rl2 : r32 l2) (es0 : s0' = iI s0) (rs0 : r32 s0) (hF : FX37_make_b122 N K89 l2 s0 s = some q) : gG m b φ0 σo lI q (fX37_make_b122 N k89 213 l2' s0' h) := by
  subst el2; subst es0
  unfold FX37_make_b122 at hF
  unfold fX37_make_b122
  exact hk89 R rfl rs0 (c_add rfl (c_lit 1 1 rfl)) (rr_I _) hF
def FX37_make_b117 (N : Nat) (K89 : Int → Int → fS → Option (Int × fS)) (l2 : Int) (s : fS) : Option (Int × fS) :=
  FX37_make_b122 N K89 l2 1 s
theorem SX37_make_b117 {m b : Nat} {φ0 : Nat → Nat} {σo : fS} (hm : 1 ≤ m) {N : Nat} {k89 : Nat → Int32 → Int32 → eH → Option (Int32 × eH)} {K89 : Int → Int → fS → Option (Int × fS)} {q : Int × fS} (hk89 : ∀ {φ : Nat → Nat} {h : eH} {s : fS} {l1' : Int32} {l1 : Int} {l2' : Int32} {l2 : Int}, fC m b φ0 σo φ h s → l1' = iI l1 → r32 l1 → l2' = iI l2 → r32 l2 → K89 l1 l2 s = some q → gG m b φ0 σo lI q (k89 213 l1' l2' h)) {φ : Nat → Nat} {h : eH} {s : fS} {l2' : Int32} {l2 : Int} (R : fC m b φ0 σo φ h s) (el2 : l2' = iI l2) (rl2 : r32 l2) (hF : FX37_make_b117 N K89 l2 s = some q) : gG m b φ0 σo lI q (fX37_make_b117 N k89 213 l2' h) := by
  subst el2
  unfold FX37_make_b117 at hF
  unfold fX37_make_b117
  exact SX37_make_b122 (N := N) (k89 := k89) (K89 := K89) hm @hk89 R rfl rl2 (c_lit 1 1 rfl) ⟨by decide, by decide⟩ hF
def FX37_make_b129 (N : Nat) (l1 : Int) (s : fS) : Option (Int × fS) :=
  uZ l1 (l1, s)
theorem SX37_make_b129 {m b : Nat} {φ0 : Nat → Nat} {σo : fS} (hm : 1 ≤ m) {N : Nat} {q : Int × fS} {φ : Nat → Nat} {h : eH} {s : fS} {l1' : Int32} {l1 : Int} (R : fC m b φ0 σo φ h s) (el1 : l1' = iI l1) (rl1 : r32 l1) (hF : FX37_make_b129 N l1 s = some q) : gG m b φ0 σo lI q (fX37_make_b129 N l1' h) := by
  subst el1
  unfold FX37_make_b129 at hF
  unfold fX37_make_b129
  exact g_z R rfl hF ⟨rfl, rl1⟩
def FX37_make_b89 (N : Nat) : Nat → Int → Int → fS → Option (Int × fS)
  | 0, _, _, _ => none
  | n + 1, l1, l2, s =>
    if (s.i 213 17) < l2 then
      FX37_make_b129 N l1 s
    else
      if l1 = 0 then
        FX37_make_b129 N l1 s
      else
        (FX37_isPlace N l2 s).bind fun q6 =>
        if q6.1 = 0 then
          FX37_make_b117 N (FX37_make_b89 N n) l2 q6.2
        else
          (FX37_ask N l2 q6.2).bind fun q9 =>
          if q9.1 = 0 then
            FX37_make_b122 N (FX37_make_b89 N n) l2 0 q9.2
          else
            FX37_make_b117 N (FX37_make_b89 N n) l2 q9.2
theorem SX37_make_b89 {m b : Nat} {φ0 : Nat → Nat} {σo : fS} (hm : 1 ≤ m) {N : Nat} {q : Int × fS} : ∀ {n : Nat} {φ : Nat → Nat} {h : eH} {s : fS} {l1' : Int32} {l1 : Int} {l2' : Int32} {l2 : Int}, fC m b φ0 σo φ h s → l1' = iI l1 → r32 l1 → l2' = iI l2 → r32 l2 → FX37_make_b89 N n l1 l2 s = some q → gG m b φ0 σo lI q (fX37_make_b89 N n 213 l1' l2' h) := by
  intro n
  induction n with
 | zero => intro φ h s l1' l1 l2' l2 R el1 rl1 el2 rl2 hF; simp [FX37_make_b89] at hF
  | succ n ih =>
    intro φ h s l1' l1 l2' l2 R el1 rl1 el2 rl2 hF
    subst el1; subst el2
    rw [FX37_make_b89] at hF
    rw [fX37_make_b89]
    refine s_gI R (t_213 hm R.S) (Nat.le_of_ble_eq_true rfl) rfl ?_
    refine s_if (i_lt rfl rfl (R.ri (t_213 hm R.S) (Nat.le_of_ble_eq_true rfl) rfl) rl2) hF (fun c2 hF => ?_) (fun c2 hF => ?_)
    ·
      exact SX37_make_b129 (N := N) hm R rfl rl1 hF
    ·
      refine s_if (i_eq rfl (c_lit 0 0 rfl) rl1 ⟨by decide, by decide⟩) hF (fun c3 hF => ?_) (fun c3 hF => ?_)
      ·
        exact SX37_make_b129 (N := N) hm R rfl rl1 hF
      ·
        refine s_kok R (t_213 hm R.S) (Nat.le_of_ble_eq_true rfl) ?_
        refine s_call R (Nat.zero_le _) (fun _ hq => SX37_isPlace (b := 0) (N := N) hm (R.rf) rfl rl2 hq) hF (fun f5 rv5 h5 q6 R5 e5 E5 hF => ?_)
        refine s_if (i_eq e5.1 (c_lit 0 0 rfl) e5.2 ⟨by decide, by decide⟩) hF (fun c6 hF => ?_) (fun c6 hF => ?_)
        ·
          exact SX37_make_b117 (N := N) (k89 := fX37_make_b89 N n) (K89 := FX37_make_b89 N n) hm @ih R5 rfl rl2 hF
        ·
          refine s_kok R5 (t_213 hm R5.S) (Nat.le_of_ble_eq_true rfl) ?_
          refine s_call R5 (Nat.zero_le _) (fun _ hq => SX37_ask (b := 0) (N := N) hm (R5.rf) rfl rl2 hq) hF (fun f8 rv8 h8 q9 R8 e8 E8 hF => ?_)
          refine s_if (i_eq e8.1 (c_lit 0 0 rfl) e8.2 ⟨by decide, by decide⟩) hF (fun c9 hF => ?_) (fun c9 hF => ?_)
          ·
            exact SX37_make_b122 (N := N) (k89 := fX37_make_b89 N n) (K89 := FX37_make_b89 N n) hm @ih R8 rfl rl2 (c_lit 0 0 rfl) ⟨by decide, by decide⟩ hF
          ·
            exact SX37_make_b117 (N := N) (k89 := fX37_make_b89 N n) (K89 := FX37_make_b89 N n) hm @ih R8 rfl rl2 hF
def FX37_make_b82 (N : Nat) (s1 : Int) (s : fS) : Option (Int × fS) :=
  (uPI s 213 19 s1).bind fun σ1 =>
  FX37_make_b89 N N 1 0 σ1
theorem SX37_make_b82 {m b : Nat} {φ0 : Nat → Nat} {σo : fS} (hm : 1 ≤ m) {N : Nat} {q : Int × fS} {φ : Nat → Nat} {h : eH} {s : fS} {s1' : Int32} {s1 : Int} (R : fC m b φ0 σo φ h s) (es1 : s1' = iI s1) (rs1 : r32 s1) (hF : FX37_make_b82 N s1 s = some q) : gG m b φ0 σo lI q (fX37_make_b82 N 213 213 s1' h) := by
  subst es1
  unfold FX37_make_b82 at hF
  unfold fX37_make_b82
  refine s_pI R (t_213 hm R.S) (Nat.le_of_ble_eq_true rfl) rfl rfl rs1 hF (fun h1 σ1 R1 T1 hF => ?_)
  exact SX37_make_b89 (N := N) hm R1 (c_lit 1 1 rfl) ⟨by decide, by decide⟩ (c_lit 0 0 rfl) ⟨by decide, by decide⟩ hF
def FX37_make_b58 (N : Nat) (s2 : Int) (s : fS) : Option (Int × fS) :=
  (uRI s 222 s2).bind fun x1 =>
  (uPI s 213 18 x1).bind fun σ3 =>
  if ¬ ((σ3.i 213 16) = 3) then
    FX37_make_b82 N 0 σ3
  else
    (uRI σ3 222 8).bind fun x10 =>
    FX37_make_b82 N x10 σ3
theorem SX37_make_b58 {m b : Nat} {φ0 : Nat → Nat} {σo : fS} (hm : 1 ≤ m) {N : Nat} {q : Int × fS} {φ : Nat → Nat} {h : eH} {s : fS} {s2' : Int32} {s2 : Int} (R : fC m b φ0 σo φ h s) (es2 : s2' = iI s2) (rs2 : r32 s2) (hF : FX37_make_b58 N s2 s = some q) : gG m b φ0 σo lI q (fX37_make_b58 N 213 213 222 s2' h) := by
  subst es2
  unfold FX37_make_b58 at hF
  unfold fX37_make_b58
  refine s_rI R (u_222 hm R.S).1 (u_222 hm R.S).2 (by decide) (a_222 hm R) rfl rs2 hF (fun x1 ra1 hF => ?_)
  refine s_pI R (t_213 hm R.S) (Nat.le_of_ble_eq_true rfl) rfl rfl ra1 hF (fun h2 σ3 R2 T2 hF => ?_)
  refine s_gI R2 (t_213 hm R2.S) (Nat.le_of_ble_eq_true rfl) rfl ?_
  refine s_if (not_congr (i_eq rfl (c_lit 3 3 rfl) (R2.ri (t_213 hm R2.S) (Nat.le_of_ble_eq_true rfl) rfl) ⟨by decide, by decide⟩)) hF (fun c4 hF => ?_) (fun c4 hF => ?_)
  ·
    exact SX37_make_b82 (N := N) hm R2 (c_lit 0 0 rfl) ⟨by decide, by decide⟩ hF
  ·
    refine s_gAs R2 (t_213 hm R2.S) (Nat.le_of_ble_eq_true rfl) rfl (o_213_10 hm R2.S) (a_222 hm R2) ?_
    refine s_rI R2 (u_222 hm R2.S).1 (u_222 hm R2.S).2 (by decide) (a_222 hm R2) (c_lit 8 8 rfl) ⟨by decide, by decide⟩ hF (fun x10 ra6 hF => ?_)
    exact SX37_make_b82 (N := N) hm R2 rfl ra6 hF
def FX37_make (N : Nat) (s : fS) : Option (Int × fS) :=
  (uPI s 213 20 0).bind fun σ1 =>
  (uQI σ1 227 0 (-1)).bind fun σ5 =>
  (uQI σ5 228 0 0).bind fun σ9 =>
  (uQI σ9 229 0 2).bind fun σ13 =>
  (uQJ σ13 230 0 0).bind fun σ17 =>
  (uQI σ17 232 0 (iand 0 1)).bind fun σ21 =>
  if ¬ ((σ21.i 213 16) = 1) then
    FX37_make_b58 N 1 σ21
  else
    FX37_make_b58 N 0 σ21
theorem SX37_make {m b : Nat} {φ0 : Nat → Nat} {σo : fS} (hm : 1 ≤ m) {N : Nat} {q : Int × fS} {φ : Nat → Nat} {h : eH} {s : fS} (R : fC m b φ0 σo φ h s) (hF : FX37_make N s = some q) : gG m b φ0 σo lI q (fX37_make N 213 h) := by
  unfold FX37_make at hF
  unfold fX37_make
  refine s_pI R (t_213 hm R.S) (Nat.le_of_ble_eq_true rfl) rfl (c_lit 0 0 rfl) ⟨by decide, by decide⟩ hF (fun h1 σ1 R1 T1 hF => ?_)
  refine s_gAs R1 (t_213 hm R1.S) (Nat.le_of_ble_eq_true rfl) rfl (o_213_23 hm R1.S) (a_227 hm R1) ?_
  refine s_qI R1 (u_227 hm R1.S).1 (u_227 hm R1.S).2 (by decide) (a_227 hm R1) (c_lit 0 0 rfl) ⟨by decide, by decide⟩ (c_lit (-1) (-1) rfl) ⟨by decide, by decide⟩ hF (fun h3 σ5 R3 T3 hF => ?_)
  refine s_gAs R3 (t_213 hm R3.S) (Nat.le_of_ble_eq_true rfl) rfl (o_213_24 hm R3.S) (a_228 hm R3) ?_
  refine s_qI R3 (u_228 hm R3.S).1 (u_228 hm R3.S).2 (by decide) (a_228 hm R3) (c_lit 0 0 rfl) ⟨by decide, by decide⟩ (c_lit 0 0 rfl) ⟨by decide, by decide⟩ hF (fun h5 σ9 R5 T5 hF => ?_)
  refine s_gAs R5 (t_213 hm R5.S) (Nat.le_of_ble_eq_true rfl) rfl (o_213_25 hm R5.S) (a_229 hm R5) ?_
  refine s_qI R5 (u_229 hm R5.S).1 (u_229 hm R5.S).2 (by decide) (a_229 hm R5) (c_lit 0 0 rfl) ⟨by decide, by decide⟩ (c_lit 2 2 rfl) ⟨by decide, by decide⟩ hF (fun h7 σ13 R7 T7 hF => ?_)
  refine s_gAs R7 (t_213 hm R7.S) (Nat.le_of_ble_eq_true rfl) rfl (o_213_26 hm R7.S) (a_230 hm R7) ?_
  refine s_qJ R7 (u_230 hm R7.S).1 (u_230 hm R7.S).2 (a_230 hm R7) (c_lit 0 0 rfl) ⟨by decide, by decide⟩ (d_lit 0 0 rfl) ⟨by decide, by decide⟩ hF (fun h9 σ17 R9 T9 hF => ?_)
  refine s_gAs R9 (t_213 hm R9.S) (Nat.le_of_ble_eq_true rfl) rfl (o_213_28 hm R9.S) (a_232 hm R9) ?_
  refine s_qI R9 (u_232 hm R9.S).1 (u_232 hm R9.S).2 (by decide) (a_232 hm R9) (c_lit 0 0 rfl) ⟨by decide, by decide⟩ (c_and (c_lit 0 0 rfl) (c_lit 1 1 rfl)) (rr_I _) hF (fun h11 σ21 R11 T11 hF => ?_)
  refine s_gAs R11 (t_213 hm R11.S) (Nat.le_of_ble_eq_true rfl) rfl (o_213_10 hm R11.S) (a_222 hm R11) ?_
  refine s_gI R11 (t_213 hm R11.S) (Nat.le_of_ble_eq_true rfl) rfl ?_
  refine s_if (not_congr (i_eq rfl (c_lit 1 1 rfl) (R11.ri (t_213 hm R11.S) (Nat.le_of_ble_eq_true rfl) rfl) ⟨by decide, by decide⟩)) hF (fun c14 hF => ?_) (fun c14 hF => ?_)
  ·
    exact SX37_make_b58 (N := N) hm R11 (c_lit 1 1 rfl) ⟨by decide, by decide⟩ hF
  ·
    exact SX37_make_b58 (N := N) hm R11 (c_lit 0 0 rfl) ⟨by decide, by decide⟩ hF
def FX37_isLess_b37 (s0 : Int) (s : fS) : Option (Int × fS) :=
  uZ s0 (s0, s)
theorem SX37_isLess_b37 {m b : Nat} {φ0 : Nat → Nat} {σo : fS} (hm : 1 ≤ m) {q : Int × fS} {φ : Nat → Nat} {h : eH} {s : fS} {s0' : Int32} {s0 : Int} (R : fC m b φ0 σo φ h s) (es0 : s0' = iI s0) (rs0 : r32 s0) (hF : FX37_isLess_b37 s0 s = some q) : gG m b φ0 σo lI q (fX37_isLess_b37 s0' h) := by
  subst es0
  unfold FX37_isLess_b37 at hF
  unfold fX37_isLess_b37
  exact g_z R rfl hF ⟨rfl, rs0⟩
def FX37_isLess_b88 (s0 : Int) (s : fS) : Option (Int × fS) :=
  uZ s0 (s0, s)
theorem SX37_isLess_b88 {m b : Nat} {φ0 : Nat → Nat} {σo : fS} (hm : 1 ≤ m) {q : Int × fS} {φ : Nat → Nat} {h : eH} {s : fS} {s0' : Int32} {s0 : Int} (R : fC m b φ0 σo φ h s) (es0 : s0' = iI s0) (rs0 : r32 s0) (hF : FX37_isLess_b88 s0 s = some q) : gG m b φ0 σo lI q (fX37_isLess_b88 s0' h) := by
  subst es0
  unfold FX37_isLess_b88 at hF
  unfold fX37_isLess_b88
  exact g_z R rfl hF ⟨rfl, rs0⟩
def FX37_isLess_b83 (s : fS) : Option (Int × fS) :=
  FX37_isLess_b88 1 s
theorem SX37_isLess_b83 {m b : Nat} {φ0 : Nat → Nat} {σo : fS} (hm : 1 ≤ m) {q : Int × fS} {φ : Nat → Nat} {h : eH} {s : fS} (R : fC m b φ0 σo φ h s) (hF : FX37_isLess_b83 s = some q) : gG m b φ0 σo lI q (fX37_isLess_b83 h) := by
  unfold FX37_isLess_b83 at hF
  unfold fX37_isLess_b83
  exact SX37_isLess_b88 hm R (c_lit 1 1 rfl) ⟨by decide, by decide⟩ hF
def FX37_isLess_b87 (s : fS) : Option (Int × fS) :=
  FX37_isLess_b88 0 s
theorem SX37_isLess_b87 {m b : Nat} {φ0 : Nat → Nat} {σo : fS} (hm : 1 ≤ m) {q : Int × fS} {φ : Nat → Nat} {h : eH} {s : fS} (R : fC m b φ0 σo φ h s) (hF : FX37_isLess_b87 s = some q) : gG m b φ0 σo lI q (fX37_isLess_b87 h) := by
  unfold FX37_isLess_b87 at hF
  unfold fX37_isLess_b87
  exact SX37_isLess_b88 hm R (c_lit 0 0 rfl) ⟨by decide, by decide⟩ hF
def FX37_isLess (p0 : Int) (p1 : Int) (s : fS) : Option (Int × fS) :=
  (uRJ s 230 p0).bind fun x3 =>
  (uRJ s 230 p1).bind fun x7 =>
  if x3 = x7 then
    (uRI s 228 p0).bind fun x12 =>
    (uRI s 228 p1).bind fun x16 =>
    if x12 < x16 then
      FX37_isLess_b83 s
    else
      (uRI s 228 p0).bind fun x21 =>
      (uRI s 228 p1).bind fun x25 =>
      if ¬ (x21 = x25) then
        FX37_isLess_b87 s
      else
        (uRI s 229 p0).bind fun x30 =>
        (uRI s 229 p1).bind fun x34 =>
        if x34 ≤ x30 then
          FX37_isLess_b87 s
        else
          FX37_isLess_b83 s
  else
    (uRJ s 230 p0).bind fun x39 =>
    (uRJ s 230 p1).bind fun x43 =>
    if x43 ≤ x39 then
      FX37_isLess_b37 0 s
    else
      FX37_isLess_b37 1 s
theorem SX37_isLess {m b : Nat} {φ0 : Nat → Nat} {σo : fS} (hm : 1 ≤ m) {q : Int × fS} {φ : Nat → Nat} {h : eH} {s : fS} {p0' : Int32} {p0 : Int} {p1' : Int32} {p1 : Int} (R : fC m b φ0 σo φ h s) (ep0 : p0' = iI p0) (rp0 : r32 p0) (ep1 : p1' = iI p1) (rp1 : r32 p1) (hF : FX37_isLess p0 p1 s = some q) : gG m b φ0 σo lI q (fX37_isLess 213 p0' p1' h) := by
  subst ep0; subst ep1
  unfold FX37_isLess at hF
  unfold fX37_isLess
  refine s_gAs R (t_213 hm R.S) (Nat.le_of_ble_eq_true rfl) rfl (o_213_26 hm R.S) (a_230 hm R) ?_
  refine s_rJ R (u_230 hm R.S).1 (u_230 hm R.S).2 (a_230 hm R) rfl rp0 hF (fun x3 ra2 hF => ?_)
  refine s_gAs R (t_213 hm R.S) (Nat.le_of_ble_eq_true rfl) rfl (o_213_26 hm R.S) (a_230 hm R) ?_
  refine s_rJ R (u_230 hm R.S).1 (u_230 hm R.S).2 (a_230 hm R) rfl rp1 hF (fun x7 ra4 hF => ?_)
  refine s_if (lg_eq.trans (j_eq rfl rfl ra2 ra4)) hF (fun c5 hF => ?_) (fun c5 hF => ?_)
  ·
    refine s_gAs R (t_213 hm R.S) (Nat.le_of_ble_eq_true rfl) rfl (o_213_24 hm R.S) (a_228 hm R) ?_
    refine s_rI R (u_228 hm R.S).1 (u_228 hm R.S).2 (by decide) (a_228 hm R) rfl rp0 hF (fun x12 ra7 hF => ?_)
    refine s_gAs R (t_213 hm R.S) (Nat.le_of_ble_eq_true rfl) rfl (o_213_24 hm R.S) (a_228 hm R) ?_
    refine s_rI R (u_228 hm R.S).1 (u_228 hm R.S).2 (by decide) (a_228 hm R) rfl rp1 hF (fun x16 ra9 hF => ?_)
    refine s_if (i_lt rfl rfl ra7 ra9) hF (fun c10 hF => ?_) (fun c10 hF => ?_)
    ·
      exact SX37_isLess_b83 hm R hF
    ·
      refine s_gAs R (t_213 hm R.S) (Nat.le_of_ble_eq_true rfl) rfl (o_213_24 hm R.S) (a_228 hm R) ?_
      refine s_rI R (u_228 hm R.S).1 (u_228 hm R.S).2 (by decide) (a_228 hm R) rfl rp0 hF (fun x21 ra12 hF => ?_)
      refine s_gAs R (t_213 hm R.S) (Nat.le_of_ble_eq_true rfl) rfl (o_213_24 hm R.S) (a_228 hm R) ?_
      refine s_rI R (u_228 hm R.S).1 (u_228 hm R.S).2 (by decide) (a_228 hm R) rfl rp1 hF (fun x25 ra14 hF => ?_)
      refine s_if (not_congr (i_eq rfl rfl ra12 ra14)) hF (fun c15 hF => ?_) (fun c15 hF => ?_)
      ·
        exact SX37_isLess_b87 hm R hF
      ·
        refine s_gAs R (t_213 hm R.S) (Nat.le_of_ble_eq_true rfl) rfl (o_213_25 hm R.S) (a_229 hm R) ?_
        refine s_rI R (u_229 hm R.S).1 (u_229 hm R.S).2 (by decide) (a_229 hm R) rfl rp0 hF (fun x30 ra17 hF => ?_)
        refine s_gAs R (t_213 hm R.S) (Nat.le_of_ble_eq_true rfl) rfl (o_213_25 hm R.S) (a_229 hm R) ?_
        refine s_rI R (u_229 hm R.S).1 (u_229 hm R.S).2 (by decide) (a_229 hm R) rfl rp1 hF (fun x34 ra19 hF => ?_)
        refine s_if (i_le rfl rfl ra19 ra17) hF (fun c20 hF => ?_) (fun c20 hF => ?_)
        ·
          exact SX37_isLess_b87 hm R hF
        ·
          exact SX37_isLess_b83 hm R hF
  ·
    refine s_gAs R (t_213 hm R.S) (Nat.le_of_ble_eq_true rfl) rfl (o_213_26 hm R.S) (a_230 hm R) ?_
    refine s_rJ R (u_230 hm R.S).1 (u_230 hm R.S).2 (a_230 hm R) rfl rp0 hF (fun x39 ra22 hF => ?_)
    refine s_gAs R (t_213 hm R.S) (Nat.le_of_ble_eq_true rfl) rfl (o_213_26 hm R.S) (a_230 hm R) ?_
    refine s_rJ R (u_230 hm R.S).1 (u_230 hm R.S).2 (a_230 hm R) rfl rp1 hF (fun x43 ra24 hF => ?_)
    refine s_if ((lg_cmp_ge _ _).trans (j_le rfl rfl ra24 ra22)) hF (fun c25 hF => ?_) (fun c25 hF => ?_)
    ·
      exact SX37_isLess_b37 hm R (c_lit 0 0 rfl) ⟨by decide, by decide⟩ hF
    ·
      exact SX37_isLess_b37 hm R (c_lit 1 1 rfl) ⟨by decide, by decide⟩ hF
def FX37_apart_b14 (s0 : Int) (s : fS) : Option (Int × fS) :=
  some (s0, s)
theorem SX37_apart_b14 {m b : Nat} {φ0 : Nat → Nat} {σo : fS} (hm : 1 ≤ m) {q : Int × fS} {φ : Nat → Nat} {h : eH} {s : fS} {s0' : Int32} {s0 : Int} (R : fC m b φ0 σo φ h s) (es0 : s0' = iI s0) (rs0 : r32 s0) (hF : FX37_apart_b14 s0 s = some q) : gG m b φ0 σo lI q (fX37_apart_b14 s0' h) := by
  subst es0
  unfold FX37_apart_b14 at hF
  unfold fX37_apart_b14
  exact g_ret R hF ⟨rfl, rs0⟩
def FX37_apart (p0 : Int) (p1 : Int) (s : fS) : Option (Int × fS) :=
  if p0 ≤ p1 then
    FX37_apart_b14 (isub p1 p0) s
  else
    FX37_apart_b14 (isub p0 p1) s
theorem SX37_apart {m b : Nat} {φ0 : Nat → Nat} {σo : fS} (hm : 1 ≤ m) {q : Int × fS} {φ : Nat → Nat} {h : eH} {s : fS} {p0' : Int32} {p0 : Int} {p1' : Int32} {p1 : Int} (R : fC m b φ0 σo φ h s) (ep0 : p0' = iI p0) (rp0 : r32 p0) (ep1 : p1' = iI p1) (rp1 : r32 p1) (hF : FX37_apart p0 p1 s = some q) : gG m b φ0 σo lI q (fX37_apart p0' p1' h) := by
  subst ep0; subst ep1
  unfold FX37_apart at hF
  unfold fX37_apart
  refine s_if (i_le rfl rfl rp0 rp1) hF (fun c1 hF => ?_) (fun c1 hF => ?_)
  ·
    exact SX37_apart_b14 hm R (c_sub rfl rfl) (rr_I _) hF
  ·
    exact SX37_apart_b14 hm R (c_sub rfl rfl) (rr_I _) hF
