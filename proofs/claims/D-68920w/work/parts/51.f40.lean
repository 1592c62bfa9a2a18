set_option maxRecDepth 100000
set_option maxHeartbeats 4000000
def FX37_choose_b43 (N : Nat) (K4 : Int → Int → fS → Option (Int × fS)) (l2 : Int) (s0 : Int) (s : fS) : Option (Int × fS) :=
  K4 s0 (iadd l2 1) s
theorem SX37_choose_b43 {m b : Nat} {φ0 : Nat → Nat} {σo : fS} (hm : 1 ≤ m) {N : Nat} {k4 : Nat → Int32 → Int32 → eH → Option (Int32 × eH)} {K4 : Int → Int → fS → Option (Int × fS)} {q : Int × fS} (hk4 : ∀ {φ : Nat → Nat} {h : eH} {s : fS} {l1' : Int32} {l1 : Int} {l2' : Int32} {l2 : Int}, fC m b φ0 σo φ h s → l1' = iI l1 → r32 l1 → l2' = iI l2 → r32 l2 → K4 l1 l2 s = some q → gG m b φ0 σo lI q (k4 213 l1' l2' h)) {φ : Nat → Nat} {h : eH} {s : fS} {l2' : Int32} {l2 : Int} {s0' : Int32} {s0 : Int} (R : fC m b φ0 σo φ h s) (el2 : l2' = iI l2) (rl2 : r32 l2) (es0 : s0' = iI s0) (rs0 : r32 s0) (hF : FX37_choose_b43 N K4 l2 s0 s = some q) : gG m b φ0 σo lI q (fX37_choose_b43 N k4 213 l2' s0' h) := by
  subst el2; subst es0
  unfold FX37_choose_b43 at hF
  unfold fX37_choose_b43
  exact hk4 R rfl rs0 (c_add rfl (c_lit 1 1 rfl)) (rr_I _) hF
def FX37_choose_b38 (N : Nat) (K4 : Int → Int → fS → Option (Int × fS)) (l2 : Int) (s : fS) : Option (Int × fS) :=
  FX37_choose_b43 N K4 l2 l2 s
theorem SX37_choose_b38 {m b : Nat} {φ0 : Nat → Nat} {σo : fS} (hm : 1 ≤ m) {N : Nat} {k4 : Nat → Int32 → Int32 → eH → Option (Int32 × eH)} {K4 : Int → Int → fS → Option (Int × fS)} {q : Int × fS} (hk4 : ∀ {φ : Nat → Nat} {h : eH} {s : fS} {l1' : Int32} {l1 : Int} {l2' : Int32} {l2 : Int}, fC m b φ0 σo φ h s → l1' = iI l1 → r32 l1 → l2' = iI l2 → r32 l2 → K4 l1 l2 s = some q → gG m b φ0 σo lI q (k4 213 l1' l2' h)) {φ : Nat → Nat} {h : eH} {s : fS} {l2' : Int32} {l2 : Int} (R : fC m b φ0 σo φ h s) (el2 : l2' = iI l2) (rl2 : r32 l2) (hF : FX37_choose_b38 N K4 l2 s = some q) : gG m b φ0 σo lI q (fX37_choose_b38 N k4 213 l2' h) := by
  subst el2
  unfold FX37_choose_b38 at hF
  unfold fX37_choose_b38
  exact SX37_choose_b43 (N := N) (k4 := k4) (K4 := K4) hm @hk4 R rfl rl2 rfl rl2 hF
def FX37_choose_b42 (N : Nat) (K4 : Int → Int → fS → Option (Int × fS)) (l1 : Int) (l2 : Int) (s : fS) : Option (Int × fS) :=
  FX37_choose_b43 N K4 l2 l1 s
theorem SX37_choose_b42 {m b : Nat} {φ0 : Nat → Nat} {σo : fS} (hm : 1 ≤ m) {N : Nat} {k4 : Nat → Int32 → Int32 → eH → Option (Int32 × eH)} {K4 : Int → Int → fS → Option (Int × fS)} {q : Int × fS} (hk4 : ∀ {φ : Nat → Nat} {h : eH} {s : fS} {l1' : Int32} {l1 : Int} {l2' : Int32} {l2 : Int}, fC m b φ0 σo φ h s → l1' = iI l1 → r32 l1 → l2' = iI l2 → r32 l2 → K4 l1 l2 s = some q → gG m b φ0 σo lI q (k4 213 l1' l2' h)) {φ : Nat → Nat} {h : eH} {s : fS} {l1' : Int32} {l1 : Int} {l2' : Int32} {l2 : Int} (R : fC m b φ0 σo φ h s) (el1 : l1' = iI l1) (rl1 : r32 l1) (el2 : l2' = iI l2) (rl2 : r32 l2) (hF : FX37_choose_b42 N K4 l1 l2 s = some q) : gG m b φ0 σo lI q (fX37_choose_b42 N k4 213 l1' l2' h) := by
  subst el1; subst el2
  unfold FX37_choose_b42 at hF
  unfold fX37_choose_b42
  exact SX37_choose_b43 (N := N) (k4 := k4) (K4 := K4) hm @hk4 R rfl rl2 rfl rl1 hF
def FX37_choose_b64 (N : Nat) (l1 : Int) (s : fS) : Option (Int × fS) :=
  some (l1, s)
theorem SX37_choose_b64 {m b : Nat} {φ0 : Nat → Nat} {σo : fS} (hm : 1 ≤ m) {N : Nat} {q : Int × fS} {φ : Nat → Nat} {h : eH} {s : fS} {l1' : Int32} {l1 : Int} (R : fC m b φ0 σo φ h s) (el1 : l1' = iI l1) (rl1 : r32 l1) (hF : FX37_choose_b64 N l1 s = some q) : gG m b φ0 σo lI q (fX37_choose_b64 N l1' h) := by
  subst el1
  unfold FX37_choose_b64 at hF
  unfold fX37_choose_b64
  exact g_ret R hF ⟨rfl, rl1⟩
def FX37_choose_b220 (N : Nat) (K86 : Int → Int → Int → Int → fS → Option (Int × fS)) (l1 : Int) (l2 : Int) (l3 : Int) (l4 : Int) (s : fS) : Option (Int × fS) :=
  K86 l1 l2 l3 (iadd l4 1) s
theorem SX37_choose_b220 {m b : Nat} {φ0 : Nat → Nat} {σo : fS} (hm : 1 ≤ m) {N : Nat} {k86 : Nat → Int32 → Int32 → Int32 → Int32 → eH → Option (Int32 × eH)} {K86 : Int → Int → Int → Int → fS → Option (Int × fS)} {q : Int × fS} (hk86 : ∀ {φ : Nat → Nat} {h : eH} {s : fS} {l1' : Int32} {l1 : Int} {l2' : Int32} {l2 : Int} {l3' : Int32} {l3 : Int} {l4' : Int32} {l4 : Int}, fC m b φ0 σo φ h s → l1' = iI l1 → r32 l1 → l2' = iI l2 → r32 l2 → l3' = iI l3 → r32 l3 → l4' = iI l4 → r32 l4 → K86 l1 l2 l3 l4 s = some q → gG m b φ0 σo lI q (k86 213 l1' l2' l3' l4' h)) {φ : Nat → Nat} {h : eH} {s : fS} {l1' : Int32} {l1 : Int} {l2' : Int32} {l2 : Int} {l3' : Int32} {l3 : Int} {l4' : Int32} {l4 : Int} (R : fC m b φ0 σo φ h s) (el1 : l1' = iI l1) (rl1 : r32 l1) (el2 : l2' = iI l2) (rl2 : r32 l2) (el3 : l3' = iI l3) (rl3 : r32 l3) (el4 : l4' = iI l4) (rl4 : r32 l4) (hF : FX37_choose_b220 N K86 l1 l2 l3 l4 s = some q) : gG m b φ0 σo lI q (fX37_choose_b220 N k86 213 l1' l2' l3' l4' h) := by
  subst el1; subst el2; subst el3; subst el4
  unfold FX37_choose_b220 at hF
  unfold fX37_choose_b220
  exact hk86 R rfl rl1 rfl rl2 rfl rl3 (c_add rfl (c_lit 1 1 rfl)) (rr_I _) hF
def FX37_choose_b219 (N : Nat) (K86 : Int → Int → Int → Int → fS → Option (Int × fS)) (l1 : Int) (l2 : Int) (l4 : Int) (s0 : Int) (s : fS) : Option (Int × fS) :=
  FX37_choose_b220 N K86 l1 l2 s0 l4 s
theorem SX37_choose_b219 {m b : Nat} {φ0 : Nat → Nat} {σo : fS} (hm : 1 ≤ m) {N : Nat} {k86 : Nat → Int32 → Int32 → Int32 → Int32 → eH → Option (Int32 × eH)} {K86 : Int → Int → Int → Int → fS → Option (Int × fS)} {q : Int × fS} (hk86 : ∀ {φ : Nat → Nat} {h : eH} {s : fS} {l1' : Int32} {l1 : Int} {l2' : Int32} {l2 : Int} {l3' : Int32} {l3 : Int} {l4' : Int32} {l4 : Int}, fC m b φ0 σo φ h s → l1' = iI l1 → r32 l1 → l2' = iI l2 → r32 l2 → l3' = iI l3 → r32 l3 → l4' = iI l4 → r32 l4 → K86 l1 l2 l3 l4 s = some q → gG m b φ0 σo lI q (k86 213 l1' l2' l3' l4' h)) {φ : Nat → Nat} {h : eH} {s : fS} {l1' : Int32} {l1 : Int} {l2' : Int32} {l2 : Int} {l4' : Int32} {l4 : Int} {s0' : Int32} {s0 : Int} (R : fC m b φ0 σo φ h s) (el1 : l1' = iI l1) (rl1 : r32 l1) (el2 : l2' = iI l2) (rl2 : r32 l2) (el4 : l4' = iI l4) (rl4 : r32 l4) (es0 : s0' = iI s0) (rs0 : r32 s0) (hF : FX37_choose_b219 N K86 l1 l2 l4 s0 s = some q) : gG m b φ0 σo lI q (fX37_choose_b219 N k86 213 l1' l2' l4' s0' h) := by
  subst el1; subst el2; subst el4; subst es0
  unfold FX37_choose_b219 at hF
  unfold fX37_choose_b219
  exact SX37_choose_b220 (N := N) (k86 := k86) (K86 := K86) hm @hk86 R rfl rl1 rfl rl2 rfl rs0 rfl rl4 hF
def FX37_choose_b213 (N : Nat) (K86 : Int → Int → Int → Int → fS → Option (Int × fS)) (l1 : Int) (l2 : Int) (l4 : Int) (s : fS) : Option (Int × fS) :=
  FX37_choose_b219 N K86 l1 l2 l4 l4 s
theorem SX37_choose_b213 {m b : Nat} {φ0 : Nat → Nat} {σo : fS} (hm : 1 ≤ m) {N : Nat} {k86 : Nat → Int32 → Int32 → Int32 → Int32 → eH → Option (Int32 × eH)} {K86 : Int → Int → Int → Int → fS → Option (Int × fS)} {q : Int × fS} (hk86 : ∀ {φ : Nat → Nat} {h : eH} {s : fS} {l1' : Int32} {l1 : Int} {l2' : Int32} {l2 : Int} {l3' : Int32} {l3 : Int} {l4' : Int32} {l4 : Int}, fC m b φ0 σo φ h s → l1' = iI l1 → r32 l1 → l2' = iI l2 → r32 l2 → l3' = iI l3 → r32 l3 → l4' = iI l4 → r32 l4 → K86 l1 l2 l3 l4 s = some q → gG m b φ0 σo lI q (k86 213 l1' l2' l3' l4' h)) {φ : Nat → Nat} {h : eH} {s : fS} {l1' : Int32} {l1 : Int} {l2' : Int32} {l2 : Int} {l4' : Int32} {l4 : Int} (R : fC m b φ0 σo φ h s) (el1 : l1' = iI l1) (rl1 : r32 l1) (el2 : l2' = iI l2) (rl2 : r32 l2) (el4 : l4' = iI l4) (rl4 : r32 l4) (hF : FX37_choose_b213 N K86 l1 l2 l4 s = some q) : gG m b φ0 σo lI q (fX37_choose_b213 N k86 213 l1' l2' l4' h) := by
  subst el1; subst el2; subst el4
  unfold FX37_choose_b213 at hF
  unfold fX37_choose_b213
  exact SX37_choose_b219 (N := N) (k86 := k86) (K86 := K86) hm @hk86 R rfl rl1 rfl rl2 rfl rl4 rfl rl4 hF
def FX37_choose_b218 (N : Nat) (K86 : Int → Int → Int → Int → fS → Option (Int × fS)) (l1 : Int) (l2 : Int) (l3 : Int) (l4 : Int) (s : fS) : Option (Int × fS) :=
  FX37_choose_b219 N K86 l1 l2 l4 l3 s
theorem SX37_choose_b218 {m b : Nat} {φ0 : Nat → Nat} {σo : fS} (hm : 1 ≤ m) {N : Nat} {k86 : Nat → Int32 → Int32 → Int32 → Int32 → eH → Option (Int32 × eH)} {K86 : Int → Int → Int → Int → fS → Option (Int × fS)} {q : Int × fS} (hk86 : ∀ {φ : Nat → Nat} {h : eH} {s : fS} {l1' : Int32} {l1 : Int} {l2' : Int32} {l2 : Int} {l3' : Int32} {l3 : Int} {l4' : Int32} {l4 : Int}, fC m b φ0 σo φ h s → l1' = iI l1 → r32 l1 → l2' = iI l2 → r32 l2 → l3' = iI l3 → r32 l3 → l4' = iI l4 → r32 l4 → K86 l1 l2 l3 l4 s = some q → gG m b φ0 σo lI q (k86 213 l1' l2' l3' l4' h)) {φ : Nat → Nat} {h : eH} {s : fS} {l1' : Int32} {l1 : Int} {l2' : Int32} {l2 : Int} {l3' : Int32} {l3 : Int} {l4' : Int32} {l4 : Int} (R : fC m b φ0 σo φ h s) (el1 : l1' = iI l1) (rl1 : r32 l1) (el2 : l2' = iI l2) (rl2 : r32 l2) (el3 : l3' = iI l3) (rl3 : r32 l3) (el4 : l4' = iI l4) (rl4 : r32 l4) (hF : FX37_choose_b218 N K86 l1 l2 l3 l4 s = some q) : gG m b φ0 σo lI q (fX37_choose_b218 N k86 213 l1' l2' l3' l4' h) := by
  subst el1; subst el2; subst el3; subst el4
  unfold FX37_choose_b218 at hF
  unfold fX37_choose_b218
  exact SX37_choose_b219 (N := N) (k86 := k86) (K86 := K86) hm @hk86 R rfl rl1 rfl rl2 rfl rl4 rfl rl3 hF
def FX37_choose_b141 (N : Nat) (K86 : Int → Int → Int → Int → fS → Option (Int × fS)) (l1 : Int) (l2 : Int) (l3 : Int) (l4 : Int) (s0 : Int) (s : fS) : Option (Int × fS) :=
  if s0 = 0 then
    FX37_choose_b220 N K86 l1 l2 l3 l4 s
  else
    (uRI s 228 l4).bind fun x4 =>
    (FX37_apart x4 l2 s).bind fun q6 =>
    (uRI q6.2 228 l3).bind fun x9 =>
    (FX37_apart x9 l2 q6.2).bind fun q11 =>
    if q6.1 < q11.1 then
      FX37_choose_b213 N K86 l1 l2 l4 q11.2
    else
      if ¬ (q6.1 = q11.1) then
        FX37_choose_b218 N K86 l1 l2 l3 l4 q11.2
      else
        (uRI q11.2 228 l4).bind fun x16 =>
        (uRI q11.2 228 l3).bind fun x20 =>
        if ¬ (x16 = x20) then
          FX37_choose_b218 N K86 l1 l2 l3 l4 q11.2
        else
          (FX37_isLess l4 l3 q11.2).bind fun q24 =>
          if q24.1 = 0 then
            FX37_choose_b218 N K86 l1 l2 l3 l4 q24.2
          else
            FX37_choose_b213 N K86 l1 l2 l4 q24.2
theorem SX37_choose_b141 {m b : Nat} {φ0 : Nat → Nat} {σo : fS} (hm : 1 ≤ m) {N : Nat} {k86 : Nat → Int32 → Int32 → Int32 → Int32 → eH → Option (Int32 × eH)} {K86 : Int → Int → Int → Int → fS → Option (Int × fS)} {q : Int × fS} (hk86 : ∀ {φ : Nat → Nat} {h : eH} {s : fS} {l1' : Int32} {l1 : Int} {l2' : Int32} {l2 : Int} {l3' : Int32} {l3 : Int} {l4' : Int32} {l4 : Int}, fC m b φ0 σo φ h s → l1' = iI l1 → r32 l1 → l2' = iI l2 → r32 l2 → l3' = iI l3 → r32 l3 → l4' = iI l4 → r32 l4 → K86 l1 l2 l3 l4 s = some q → gG m b φ0 σo lI q (k86 213 l1' l2' l3' l4' h)) {φ : Nat → Nat} {h : eH} {s : fS} {l1' : Int32} {l1 : Int} {l2' : Int32} {l2 : Int} {l3' : Int32} {l3 : Int} {l4' : Int32} {l4 : Int} {s0' : Int32} {s0 : Int} (R : fC m b φ0 σo φ h s) (el1 : l1' = iI l1) (rl1 : r32 l1) (el2 : l2' = iI l2) (rl2 : r32 l2) (el3 : l3' = iI l3) (rl3 : r32 l3) (el4 : l4' = iI l4) (rl4 : r32 l4) (es0 : s0' = iI s0) (rs0 : r32 s0) (hF : FX37_choose_b141 N K86 l1 l2 l3 l4 s0 s = some q) : gG m b φ0 σo lI q (fX37_choose_b141 N k86 213 l1' l2' l3' l4' s0' h) := by
  subst el1; subst el2; subst el3; subst el4; subst es0
  unfold FX37_choose_b141 at hF
  unfold fX37_choose_b141
  refine s_if (i_eq rfl (c_lit 0 0 rfl) rs0 ⟨by decide, by decide⟩) hF (fun c1 hF => ?_) (fun c1 hF => ?_)
  ·
    exact SX37_choose_b220 (N := N) (k86 := k86) (K86 := K86) hm @hk86 R rfl rl1 rfl rl2 rfl rl3 rfl rl4 hF
  ·
    refine s_gAs R (t_213 hm R.S) (Nat.le_of_ble_eq_true rfl) rfl (o_213_24 hm R.S) (a_228 hm R) ?_
    refine s_rI R (u_228 hm R.S).1 (u_228 hm R.S).2 (by decide) (a_228 hm R) rfl rl4 hF (fun x4 ra3 hF => ?_)
    refine s_call R (Nat.zero_le _) (fun _ hq => SX37_apart (b := 0) hm (R.rf) rfl ra3 rfl rl2 hq) hF (fun f4 rv4 h4 q6 R4 e4 E4 hF => ?_)
    refine s_gAs R4 (t_213 hm R4.S) (Nat.le_of_ble_eq_true rfl) rfl (o_213_24 hm R4.S) (a_228 hm R4) ?_
    refine s_rI R4 (u_228 hm R4.S).1 (u_228 hm R4.S).2 (by decide) (a_228 hm R4) rfl rl3 hF (fun x9 ra6 hF => ?_)
    refine s_call R4 (Nat.zero_le _) (fun _ hq => SX37_apart (b := 0) hm (R4.rf) rfl ra6 rfl rl2 hq) hF (fun f7 rv7 h7 q11 R7 e7 E7 hF => ?_)
    refine s_if (i_lt e4.1 e7.1 e4.2 e7.2) hF (fun c8 hF => ?_) (fun c8 hF => ?_)
    ·
      exact SX37_choose_b213 (N := N) (k86 := k86) (K86 := K86) hm @hk86 R7 rfl rl1 rfl rl2 rfl rl4 hF
    ·
      refine s_if (not_congr (i_eq e4.1 e7.1 e4.2 e7.2)) hF (fun c9 hF => ?_) (fun c9 hF => ?_)
      ·
        exact SX37_choose_b218 (N := N) (k86 := k86) (K86 := K86) hm @hk86 R7 rfl rl1 rfl rl2 rfl rl3 rfl rl4 hF
      ·
        refine s_gAs R7 (t_213 hm R7.S) (Nat.le_of_ble_eq_true rfl) rfl (o_213_24 hm R7.S) (a_228 hm R7) ?_
        refine s_rI R7 (u_228 hm R7.S).1 (u_228 hm R7.S).2 (by decide) (a_228 hm R7) rfl rl4 hF (fun x16 ra11 hF => ?_)
        refine s_gAs R7 (t_213 hm R7.S) (Nat.le_of_ble_eq_true rfl) rfl (o_213_24 hm R7.S) (a_228 hm R7) ?_
        refine s_rI R7 (u_228 hm R7.S).1 (u_228 hm R7.S).2 (by decide) (a_228 hm R7) rfl rl3 hF (fun x20 ra13 hF => ?_)
        refine s_if (not_congr (i_eq rfl rfl ra11 ra13)) hF (fun c14 hF => ?_) (fun c14 hF => ?_)
        ·
          exact SX37_choose_b218 (N := N) (k86 := k86) (K86 := K86) hm @hk86 R7 rfl rl1 rfl rl2 rfl rl3 rfl rl4 hF
        ·
          refine s_kok R7 (t_213 hm R7.S) (Nat.le_of_ble_eq_true rfl) ?_
          refine s_call R7 (Nat.zero_le _) (fun _ hq => SX37_isLess (b := 0) hm (R7.rf) rfl rl4 rfl rl3 hq) hF (fun f16 rv16 h16 q24 R16 e16 E16 hF => ?_)
          refine s_if (i_eq e16.1 (c_lit 0 0 rfl) e16.2 ⟨by decide, by decide⟩) hF (fun c17 hF => ?_) (fun c17 hF => ?_)
          ·
            exact SX37_choose_b218 (N := N) (k86 := k86) (K86 := K86) hm @hk86 R16 rfl rl1 rfl rl2 rfl rl3 rfl rl4 hF
          ·
            exact SX37_choose_b213 (N := N) (k86 := k86) (K86 := K86) hm @hk86 R16 rfl rl1 rfl rl2 rfl rl4 hF
def FX37_choose_b140 (N : Nat) (K86 : Int → Int → Int → Int → fS → Option (Int × fS)) (l1 : Int) (l2 : Int) (l3 : Int) (l4 : Int) (s : fS) : Option (Int × fS) :=
  FX37_choose_b141 N K86 l1 l2 l3 l4 0 s
theorem SX37_choose_b140 {m b : Nat} {φ0 : Nat → Nat} {σo : fS} (hm : 1 ≤ m) {N : Nat} {k86 : Nat → Int32 → Int32 → Int32 → Int32 → eH → Option (Int32 × eH)} {K86 : Int → Int → Int → Int → fS → Option (Int × fS)} {q : Int × fS} (hk86 : ∀ {φ : Nat → Nat} {h : eH} {s : fS} {l1' : Int32} {l1 : Int} {l2' : Int32} {l2 : Int} {l3' : Int32} {l3 : Int} {l4' : Int32} {l4 : Int}, fC m b φ0 σo φ h s → l1' = iI l1 → r32 l1 → l2' = iI l2 → r32 l2 → l3' = iI l3 → r32 l3 → l4' = iI l4 → r32 l4 → K86 l1 l2 l3 l4 s = some q → gG m b φ0 σo lI q (k86 213 l1' l2' l3' l4' h)) {φ : Nat → Nat} {h : eH} {s : fS} {l1' : Int32} {l1 : Int} {l2' : Int32} {l2 : Int} {l3' : Int32} {l3 : Int} {l4' : Int32} {l4 : Int} (R : fC m b φ0 σo φ h s) (el1 : l1' = iI l1) (rl1 : r32 l1) (el2 : l2' = iI l2) (rl2 : r32 l2) (el3 : l3' = iI l3) (rl3 : r32 l3) (el4 : l4' = iI l4) (rl4 : r32 l4) (hF : FX37_choose_b140 N K86 l1 l2 l3 l4 s = some q) : gG m b φ0 σo lI q (fX37_choose_b140 N k86 213 l1' l2' l3' l4' h) := by
  subst el1; subst el2; subst el3; subst el4
  unfold FX37_choose_b140 at hF
  unfold fX37_choose_b140
  exact SX37_choose_b141 (N := N) (k86 := k86) (K86 := K86) hm @hk86 R rfl rl1 rfl rl2 rfl rl3 rfl rl4 (c_lit 0 0 rfl) ⟨by decide, by decide⟩ hF
def FX37_choose_b275 (N : Nat) (s0 : Int) (s : fS) : Option (Int × fS) :=
  some (s0, s)
theorem SX37_choose_b275 {m b : Nat} {φ0 : Nat → Nat} {σo : fS} (hm : 1 ≤ m) {N : Nat} {q : Int × fS} {φ : Nat → Nat} {h : eH} {s : fS} {s0' : Int32} {s0 : Int} (R : fC m b φ0 σo φ h s) (es0 : s0' = iI s0) (rs0 : r32 s0) (hF : FX37_choose_b275 N s0 s = some q) : gG m b φ0 σo lI q (fX37_choose_b275 N s0' h) := by
  subst es0
  unfold FX37_choose_b275 at hF
  unfold fX37_choose_b275
  exact g_ret R hF ⟨rfl, rs0⟩
def FX37_choose_b274 (N : Nat) (l3 : Int) (s : fS) : Option (Int × fS) :=
  FX37_choose_b275 N l3 s
theorem SX37_choose_b274 {m b : Nat} {φ0 : Nat → Nat} {σo : fS} (hm : 1 ≤ m) {N : Nat} {q : Int × fS} {φ : Nat → Nat} {h : eH} {s : fS} {l3' : Int32} {l3 : Int} (R : fC m b φ0 σo φ h s) (el3 : l3' = iI l3) (rl3 : r32 l3) (hF : FX37_choose_b274 N l3 s = some q) : gG m b φ0 σo lI q (fX37_choose_b274 N l3' h) := by
  subst el3
  unfold FX37_choose_b274 at hF
  unfold fX37_choose_b274
  exact SX37_choose_b275 (N := N) hm R rfl rl3 hF
def FX37_choose_b253 (N : Nat) (l2 : Int) (l3 : Int) (s0 : Int) (s : fS) : Option (Int × fS) :=
  if ¬ (s0 = 0) then
    FX37_choose_b274 N l3 s
  else
    (uRI s 228 l3).bind fun x4 =>
    if x4 = l2 then
      FX37_choose_b274 N l3 s
    else
      FX37_choose_b275 N (-1) s
theorem SX37_choose_b253 {m b : Nat} {φ0 : Nat → Nat} {σo : fS} (hm : 1 ≤ m) {N : Nat} {q : Int × fS} {φ : Nat → Nat} {h : eH} {s : fS} {l2' : Int32} {l2 : Int} {l3' : Int32} {l3 : Int} {s0' : Int32} {s0 : Int} (R : fC m b φ0 σo φ h s) (el2 : l2' = iI l2) (rl2 : r32 l2) (el3 : l3' = iI l3) (rl3 : r32 l3) (es0 : s0' = iI s0) (rs0 : r32 s0) (hF : FX37_choose_b253 N l2 l3 s0 s = some q) : gG m b φ0 σo lI q (fX37_choose_b253 N 213 l2' l3' s0' h) := by
  subst el2; subst el3; subst es0
  unfold FX37_choose_b253 at hF
  unfold fX37_choose_b253
  refine s_if (not_congr (i_eq rfl (c_lit 0 0 rfl) rs0 ⟨by decide, by decide⟩)) hF (fun c1 hF => ?_) (fun c1 hF => ?_)
  ·
    exact SX37_choose_b274 (N := N) hm R rfl rl3 hF
  ·
    refine s_gAs R (t_213 hm R.S) (Nat.le_of_ble_eq_true rfl) rfl (o_213_24 hm R.S) (a_228 hm R) ?_
    refine s_rI R (u_228 hm R.S).1 (u_228 hm R.S).2 (by decide) (a_228 hm R) rfl rl3 hF (fun x4 ra3 hF => ?_)
    refine s_if (i_eq rfl rfl ra3 rl2) hF (fun c4 hF => ?_) (fun c4 hF => ?_)
    ·
      exact SX37_choose_b274 (N := N) hm R rfl rl3 hF
    ·
      exact SX37_choose_b275 (N := N) hm R (c_lit (-1) (-1) rfl) ⟨by decide, by decide⟩ hF
def FX37_choose_b245 (N : Nat) (l2 : Int) (l3 : Int) (s0 : Int) (s1 : Int) (s : fS) : Option (Int × fS) :=
  if ¬ (s0 = s1) then
    FX37_choose_b253 N l2 l3 0 s
  else
    FX37_choose_b253 N l2 l3 1 s
theorem SX37_choose_b245 {m b : Nat} {φ0 : Nat → Nat} {σo : fS} (hm : 1 ≤ m) {N : Nat} {q : Int × fS} {φ : Nat → Nat} {h : eH} {s : fS} {l2' : Int32} {l2 : Int} {l3' : Int32} {l3 : Int} {s0' : Int32} {s0 : Int} {s1' : Int32} {s1 : Int} (R : fC m b φ0 σo φ h s) (el2 : l2' = iI l2) (rl2 : r32 l2) (el3 : l3' = iI l3) (rl3 : r32 l3) (es0 : s0' = iI s0) (rs0 : r32 s0) (es1 : s1' = iI s1) (rs1 : r32 s1) (hF : FX37_choose_b245 N l2 l3 s0 s1 s = some q) : gG m b φ0 σo lI q (fX37_choose_b245 N 213 l2' l3' s0' s1' h) := by
  subst el2; subst el3; subst es0; subst es1
  unfold FX37_choose_b245 at hF
  unfold fX37_choose_b245
  refine s_if (not_congr (i_eq rfl rfl rs0 rs1)) hF (fun c1 hF => ?_) (fun c1 hF => ?_)
  ·
    exact SX37_choose_b253 (N := N) hm R rfl rl2 rfl rl3 (c_lit 0 0 rfl) ⟨by decide, by decide⟩ hF
  ·
    exact SX37_choose_b253 (N := N) hm R rfl rl2 rfl rl3 (c_lit 1 1 rfl) ⟨by decide, by decide⟩ hF
def FX37_choose_b86 (N : Nat) : Nat → Int → Int → Int → Int → fS → Option (Int × fS)
  | 0, _, _, _, _, _ => none
  | n + 1, l1, l2, l3, l4, s =>
    if (s.i 213 20) < l4 then
      (uRI s 222 8).bind fun x8 =>
      if x8 ≤ 0 then
        FX37_choose_b245 N l2 l3 (s.i 213 16) 2 s
      else
        FX37_choose_b245 N l2 l3 (s.i 213 16) 3 s
    else
      (uRI s 227 l4).bind fun x13 =>
      if ¬ (x13 = (s.i 213 17)) then
        FX37_choose_b140 N (FX37_choose_b86 N n) l1 l2 l3 l4 s
      else
        (uRI s 228 l4).bind fun x20 =>
        (uRI s 228 l1).bind fun x24 =>
        (uRI s 228 l4).bind fun x28 =>
        if 0 < (imul (isub x20 x24) (isub x28 l2)) then
          FX37_choose_b140 N (FX37_choose_b86 N n) l1 l2 l3 l4 s
        else
          FX37_choose_b141 N (FX37_choose_b86 N n) l1 l2 l3 l4 1 s
theorem SX37_choose_b86 {m b : Nat} {φ0 : Nat → Nat} {σo : fS} (hm : 1 ≤ m) {N : Nat} {q : Int × fS} : ∀ {n : Nat} {φ : Nat → Nat} {h : eH} {s : fS} {l1' : Int32} {l1 : Int} {l2' : Int32} {l2 : Int} {l3' : Int32} {l3 : Int} {l4' : Int32} {l4 : Int}, fC m b φ0 σo φ h s → l1' = iI l1 → r32 l1 → l2' = iI l2 → r32 l2 → l3' = iI l3 → r32 l3 → l4' = iI l4 → r32 l4 → FX37_choose_b86 N n l1 l2 l3 l4 s = some q → gG m b φ0 σo lI q (fX37_choose_b86 N n 213 l1' l2' l3' l4' h) := by
  intro n
  induction n with
 | zero => intro φ h s l1' l1 l2' l2 l3' l3 l4' l4 R el1 rl1 el2 rl2 el3 rl3 el4 rl4 hF; simp [FX37_choose_b86] at hF
  | succ n ih =>
    intro φ h s l1' l1 l2' l2 l3' l3 l4' l4 R el1 rl1 el2 rl2 el3 rl3 el4 rl4 hF
    subst el1; subst el2; subst el3; subst el4
    rw [FX37_choose_b86] at hF
    rw [fX37_choose_b86]
    refine s_gI R (t_213 hm R.S) (Nat.le_of_ble_eq_true rfl) rfl ?_
    refine s_if (i_lt rfl rfl (R.ri (t_213 hm R.S) (Nat.le_of_ble_eq_true rfl) rfl) rl4) hF (fun c2 hF => ?_) (fun c2 hF => ?_)
    ·
      refine s_gI R (t_213 hm R.S) (Nat.le_of_ble_eq_true rfl) rfl ?_
      refine s_gAs R (t_213 hm R.S) (Nat.le_of_ble_eq_true rfl) rfl (o_213_10 hm R.S) (a_222 hm R) ?_
      refine s_rI R (u_222 hm R.S).1 (u_222 hm R.S).2 (by decide) (a_222 hm R) (c_lit 8 8 rfl) ⟨by decide, by decide⟩ hF (fun x8 ra5 hF => ?_)
      refine s_if (i_le rfl (c_lit 0 0 rfl) ra5 ⟨by decide, by decide⟩) hF (fun c6 hF => ?_) (fun c6 hF => ?_)
      ·
        exact SX37_choose_b245 (N := N) hm R rfl rl2 rfl rl3 rfl (R.ri (t_213 hm R.S) (Nat.le_of_ble_eq_true rfl) rfl) (c_lit 2 2 rfl) ⟨by decide, by decide⟩ hF
      ·
        exact SX37_choose_b245 (N := N) hm R rfl rl2 rfl rl3 rfl (R.ri (t_213 hm R.S) (Nat.le_of_ble_eq_true rfl) rfl) (c_lit 3 3 rfl) ⟨by decide, by decide⟩ hF
    ·
      refine s_gAs R (t_213 hm R.S) (Nat.le_of_ble_eq_true rfl) rfl (o_213_23 hm R.S) (a_227 hm R) ?_
      refine s_rI R (u_227 hm R.S).1 (u_227 hm R.S).2 (by decide) (a_227 hm R) rfl rl4 hF (fun x13 ra8 hF => ?_)
      refine s_gI R (t_213 hm R.S) (Nat.le_of_ble_eq_true rfl) rfl ?_
      refine s_if (not_congr (i_eq rfl rfl ra8 (R.ri (t_213 hm R.S) (Nat.le_of_ble_eq_true rfl) rfl))) hF (fun c10 hF => ?_) (fun c10 hF => ?_)
      ·
        exact SX37_choose_b140 (N := N) (k86 := fX37_choose_b86 N n) (K86 := FX37_choose_b86 N n) hm @ih R rfl rl1 rfl rl2 rfl rl3 rfl rl4 hF
      ·
        refine s_gAs R (t_213 hm R.S) (Nat.le_of_ble_eq_true rfl) rfl (o_213_24 hm R.S) (a_228 hm R) ?_
        refine s_rI R (u_228 hm R.S).1 (u_228 hm R.S).2 (by decide) (a_228 hm R) rfl rl4 hF (fun x20 ra12 hF => ?_)
        refine s_gAs R (t_213 hm R.S) (Nat.le_of_ble_eq_true rfl) rfl (o_213_24 hm R.S) (a_228 hm R) ?_
        refine s_rI R (u_228 hm R.S).1 (u_228 hm R.S).2 (by decide) (a_228 hm R) rfl rl1 hF (fun x24 ra14 hF => ?_)
        refine s_gAs R (t_213 hm R.S) (Nat.le_of_ble_eq_true rfl) rfl (o_213_24 hm R.S) (a_228 hm R) ?_
        refine s_rI R (u_228 hm R.S).1 (u_228 hm R.S).2 (by decide) (a_228 hm R) rfl rl4 hF (fun x28 ra16 hF => ?_)
        refine s_if (i_lt (c_lit 0 0 rfl) (c_mul (c_sub rfl rfl) (c_sub rfl rfl)) ⟨by decide, by decide⟩ (rr_I _)) hF (fun c17 hF => ?_) (fun c17 hF => ?_)
        ·
          exact SX37_choose_b140 (N := N) (k86 := fX37_choose_b86 N n) (K86 := FX37_choose_b86 N n) hm @ih R rfl rl1 rfl rl2 rfl rl3 rfl rl4 hF
        ·
          exact SX37_choose_b141 (N := N) (k86 := fX37_choose_b86 N n) (K86 := FX37_choose_b86 N n) hm @ih R rfl rl1 rfl rl2 rfl rl3 rfl rl4 (c_lit 1 1 rfl) ⟨by decide, by decide⟩ hF
def FX37_choose_b4 (N : Nat) : Nat → Int → Int → fS → Option (Int × fS)
  | 0, _, _, _ => none
  | n + 1, l1, l2, s =>
    if (s.i 213 20) < l2 then
      if l1 < 0 then
        FX37_choose_b64 N l1 s
      else
        (uRI s 222 9).bind fun x7 =>
        if ¬ (x7 = 0) then
          (uRI s 228 l1).bind fun x12 =>
          (uRI s 222 9).bind fun x16 =>
          FX37_choose_b86 N N l1 (iadd x12 x16) l1 1 s
        else
          FX37_choose_b64 N l1 s
    else
      (uRI s 227 l2).bind fun x20 =>
      if ¬ (x20 = (s.i 213 17)) then
        FX37_choose_b42 N (FX37_choose_b4 N n) l1 l2 s
      else
        if l1 < 0 then
          FX37_choose_b38 N (FX37_choose_b4 N n) l2 s
        else
          (FX37_isLess l2 l1 s).bind fun q27 =>
          if q27.1 = 0 then
            FX37_choose_b42 N (FX37_choose_b4 N n) l1 l2 q27.2
          else
            FX37_choose_b38 N (FX37_choose_b4 N n) l2 q27.2
theorem SX37_choose_b4 {m b : Nat} {φ0 : Nat → Nat} {σo : fS} (hm : 1 ≤ m) {N : Nat} {q : Int × fS} : ∀ {n : Nat} {φ : Nat → Nat} {h : eH} {s : fS} {l1' : Int32} {l1 : Int} {l2' : Int32} {l2 : Int}, fC m b φ0 σo φ h s → l1' = iI l1 → r32 l1 → l2' = iI l2 → r32 l2 → FX37_choose_b4 N n l1 l2 s = some q → gG m b φ0 σo lI q (fX37_choose_b4 N n 213 l1' l2' h) := by
  intro n
  induction n with
 | zero => intro φ h s l1' l1 l2' l2 R el1 rl1 el2 rl2 hF; simp [FX37_choose_b4] at hF
  | succ n ih =>
    intro φ h s l1' l1 l2' l2 R el1 rl1 el2 rl2 hF
    subst el1; subst el2
    rw [FX37_choose_b4] at hF
    rw [fX37_choose_b4]
    refine s_gI R (t_213 hm R.S) (Nat.le_of_ble_eq_true rfl) rfl ?_
    refine s_if (i_lt rfl rfl (R.ri (t_213 hm R.S) (Nat.le_of_ble_eq_true rfl) rfl) rl2) hF (fun c2 hF => ?_) (fun c2 hF => ?_)
    ·
      refine s_if (i_lt rfl (c_lit 0 0 rfl) rl1 ⟨by decide, by decide⟩) hF (fun c3 hF => ?_) (fun c3 hF => ?_)
      ·
        exact SX37_choose_b64 (N := N) hm R rfl rl1 hF
      ·
        refine s_gAs R (t_213 hm R.S) (Nat.le_of_ble_eq_true rfl) rfl (o_213_10 hm R.S) (a_222 hm R) ?_
        refine s_rI R (u_222 hm R.S).1 (u_222 hm R.S).2 (by decide) (a_222 hm R) (c_lit 9 9 rfl) ⟨by decide, by decide⟩ hF (fun x7 ra5 hF => ?_)
        refine s_if (not_congr (i_eq rfl (c_lit 0 0 rfl) ra5 ⟨by decide, by decide⟩)) hF (fun c6 hF => ?_) (fun c6 hF => ?_)
        ·
          refine s_gAs R (t_213 hm R.S) (Nat.le_of_ble_eq_true rfl) rfl (o_213_24 hm R.S) (a_228 hm R) ?_
          refine s_rI R (u_228 hm R.S).1 (u_228 hm R.S).2 (by decide) (a_228 hm R) rfl rl1 hF (fun x12 ra8 hF => ?_)
          refine s_gAs R (t_213 hm R.S) (Nat.le_of_ble_eq_true rfl) rfl (o_213_10 hm R.S) (a_222 hm R) ?_
          refine s_rI R (u_222 hm R.S).1 (u_222 hm R.S).2 (by decide) (a_222 hm R) (c_lit 9 9 rfl) ⟨by decide, by decide⟩ hF (fun x16 ra10 hF => ?_)
          exact SX37_choose_b86 (N := N) hm R rfl rl1 (c_add rfl rfl) (rr_I _) rfl rl1 (c_lit 1 1 rfl) ⟨by decide, by decide⟩ hF
        ·
          exact SX37_choose_b64 (N := N) hm R rfl rl1 hF
    ·
      refine s_gAs R (t_213 hm R.S) (Nat.le_of_ble_eq_true rfl) rfl (o_213_23 hm R.S) (a_227 hm R) ?_
      refine s_rI R (u_227 hm R.S).1 (u_227 hm R.S).2 (by decide) (a_227 hm R) rfl rl2 hF (fun x20 ra12 hF => ?_)
      refine s_gI R (t_213 hm R.S) (Nat.le_of_ble_eq_true rfl) rfl ?_
      refine s_if (not_congr (i_eq rfl rfl ra12 (R.ri (t_213 hm R.S) (Nat.le_of_ble_eq_true rfl) rfl))) hF (fun c14 hF => ?_) (fun c14 hF => ?_)
      ·
        exact SX37_choose_b42 (N := N) (k4 := fX37_choose_b4 N n) (K4 := FX37_choose_b4 N n) hm @ih R rfl rl1 rfl rl2 hF
      ·
        refine s_if (i_lt rfl (c_lit 0 0 rfl) rl1 ⟨by decide, by decide⟩) hF (fun c15 hF => ?_) (fun c15 hF => ?_)
        ·
          exact SX37_choose_b38 (N := N) (k4 := fX37_choose_b4 N n) (K4 := FX37_choose_b4 N n) hm @ih R rfl rl2 hF
        ·
          refine s_kok R (t_213 hm R.S) (Nat.le_of_ble_eq_true rfl) ?_
          refine s_call R (Nat.zero_le _) (fun _ hq => SX37_isLess (b := 0) hm (R.rf) rfl rl2 rfl rl1 hq) hF (fun f17 rv17 h17 q27 R17 e17 E17 hF => ?_)
          refine s_if (i_eq e17.1 (c_lit 0 0 rfl) e17.2 ⟨by decide, by decide⟩) hF (fun c18 hF => ?_) (fun c18 hF => ?_)
          ·
            exact SX37_choose_b42 (N := N) (k4 := fX37_choose_b4 N n) (K4 := FX37_choose_b4 N n) hm @ih R17 rfl rl1 rfl rl2 hF
          ·
            exact SX37_choose_b38 (N := N) (k4 := fX37_choose_b4 N n) (K4 := FX37_choose_b4 N n) hm @ih R17 rfl rl2 hF
def FX37_choose (N : Nat) (s : fS) : Option (Int × fS) :=
  FX37_choose_b4 N N (-1) 1 s
theorem SX37_choose {m b : Nat} {φ0 : Nat → Nat} {σo : fS} (hm : 1 ≤ m) {N : Nat} {q : Int × fS} {φ : Nat → Nat} {h : eH} {s : fS} (R : fC m b φ0 σo φ h s) (hF : FX37_choose N s = some q) : gG m b φ0 σo lI q (fX37_choose N 213 h) := by
  unfold FX37_choose at hF
  unfold fX37_choose
  exact SX37_choose_b4 (N := N) hm R (c_lit (-1) (-1) rfl) ⟨by decide, by decide⟩ (c_lit 1 1 rfl) ⟨by decide, by decide⟩ hF
def FX37_tell_b28 (N : Nat) : Nat → Int → fS → Option (Int × fS)
  | 0, _, _ => none
  | n + 1, l2, s =>
    if l2 ≤ 0 then
      some ((s.i 213 38), s)
    else
      (uRI s 228 l2).bind fun x6 =>
      (uRI s 231 l2).bind fun x12 =>
      (uRI s 227 x12).bind fun x14 =>
      (uRI s 227 l2).bind fun x18 =>
      (FX37_measure N x14 x18 s).bind fun q21 =>
      (FX37_judge (isub x6 1) q21.2).bind fun q23 =>
      (uRI q23.2 227 l2).bind fun x28 =>
      (uQI q23.2 234 (isub x6 1) x28).bind fun σ30 =>
      (uQI σ30 235 (isub x6 1) (σ30.i 213 29)).bind fun σ36 =>
      (uQI σ36 236 (isub x6 1) (σ36.i 213 33)).bind fun σ42 =>
      (uQI σ42 237 (isub x6 1) (σ42.i 213 34)).bind fun σ48 =>
      (uQI σ48 238 (isub x6 1) (σ48.i 213 35)).bind fun σ54 =>
      (uRJ σ54 230 l2).bind fun x60 =>
      (uQJ σ54 239 (isub x6 1) x60).bind fun σ62 =>
      (uRI σ62 231 l2).bind fun x66 =>
      FX37_tell_b28 N n x66 σ62
theorem SX37_tell_b28 {m b : Nat} {φ0 : Nat → Nat} {σo : fS} (hm : 1 ≤ m) {N : Nat} {q : Int × fS} : ∀ {n : Nat} {φ : Nat → Nat} {h : eH} {s : fS} {l2' : Int32} {l2 : Int}, fC m b φ0 σo φ h s → l2' = iI l2 → r32 l2 → FX37_tell_b28 N n l2 s = some q → gG m b φ0 σo lI q (fX37_tell_b28 N n 213 l2' h) := by
  intro n
  induction n with
 | zero => intro φ h s l2' l2 R el2 rl2 hF; simp [FX37_tell_b28] at hF
  | succ n ih =>
    intro φ h s l2' l2 R el2 rl2 hF
    subst el2
    rw [FX37_tell_b28] at hF
    rw [fX37_tell_b28]
    refine s_if (i_le rfl (c_lit 0 0 rfl) rl2 ⟨by decide, by decide⟩) hF (fun c1 hF => ?_) (fun c1 hF => ?_)
    ·
      refine s_gI R (t_213 hm R.S) (Nat.le_of_ble_eq_true rfl) rfl ?_
      exact g_ret R hF ⟨rfl, (R.ri (t_213 hm R.S) (Nat.le_of_ble_eq_true rfl) rfl)⟩
    ·
      refine s_gAs R (t_213 hm R.S) (Nat.le_of_ble_eq_true rfl) rfl (o_213_24 hm R.S) (a_228 hm R) ?_
      refine s_rI R (u_228 hm R.S).1 (u_228 hm R.S).2 (by decide) (a_228 hm R) rfl rl2 hF (fun x6 ra4 hF => ?_)
      refine s_gAs R (t_213 hm R.S) (Nat.le_of_ble_eq_true rfl) rfl (o_213_23 hm R.S) (a_227 hm R) ?_
      refine s_gAs R (t_213 hm R.S) (Nat.le_of_ble_eq_true rfl) rfl (o_213_27 hm R.S) (a_231 hm R) ?_
      refine s_rI R (u_231 hm R.S).1 (u_231 hm R.S).2 (by decide) (a_231 hm R) rfl rl2 hF (fun x12 ra7 hF => ?_)
      refine s_rI R (u_227 hm R.S).1 (u_227 hm R.S).2 (by decide) (a_227 hm R) rfl ra7 hF (fun x14 ra8 hF => ?_)
      refine s_gAs R (t_213 hm R.S) (Nat.le_of_ble_eq_true rfl) rfl (o_213_23 hm R.S) (a_227 hm R) ?_
      refine s_rI R (u_227 hm R.S).1 (u_227 hm R.S).2 (by decide) (a_227 hm R) rfl rl2 hF (fun x18 ra10 hF => ?_)
      refine s_kok R (t_213 hm R.S) (Nat.le_of_ble_eq_true rfl) ?_
      refine s_call R (Nat.zero_le _) (fun _ hq => SX37_measure (b := 0) (N := N) hm (R.rf) rfl ra8 rfl ra10 hq) hF (fun f12 rv12 h12 q21 R12 e12 E12 hF => ?_)
      refine s_kok R12 (t_213 hm R12.S) (Nat.le_of_ble_eq_true rfl) ?_
      refine s_call R12 (Nat.zero_le _) (fun _ hq => SX37_judge (b := 0) hm (R12.rf) (c_sub rfl (c_lit 1 1 rfl)) (rr_I _) hq) hF (fun f14 rv14 h14 q23 R14 e14 E14 hF => ?_)
      refine s_gAs R14 (t_213 hm R14.S) (Nat.le_of_ble_eq_true rfl) rfl (o_213_39 hm R14.S) (a_234 hm R14) ?_
      refine s_gAs R14 (t_213 hm R14.S) (Nat.le_of_ble_eq_true rfl) rfl (o_213_23 hm R14.S) (a_227 hm R14) ?_
      refine s_rI R14 (u_227 hm R14.S).1 (u_227 hm R14.S).2 (by decide) (a_227 hm R14) rfl rl2 hF (fun x28 ra17 hF => ?_)
      refine s_qI R14 (u_234 hm R14.S).1 (u_234 hm R14.S).2 (by decide) (a_234 hm R14) (c_sub rfl (c_lit 1 1 rfl)) (rr_I _) rfl ra17 hF (fun h18 σ30 R18 T18 hF => ?_)
      refine s_gAs R18 (t_213 hm R18.S) (Nat.le_of_ble_eq_true rfl) rfl (o_213_40 hm R18.S) (a_235 hm R18) ?_
      refine s_gI R18 (t_213 hm R18.S) (Nat.le_of_ble_eq_true rfl) rfl ?_
      refine s_qI R18 (u_235 hm R18.S).1 (u_235 hm R18.S).2 (by decide) (a_235 hm R18) (c_sub rfl (c_lit 1 1 rfl)) (rr_I _) rfl (R18.ri (t_213 hm R18.S) (Nat.le_of_ble_eq_true rfl) rfl) hF (fun h21 σ36 R21 T21 hF => ?_)
      refine s_gAs R21 (t_213 hm R21.S) (Nat.le_of_ble_eq_true rfl) rfl (o_213_41 hm R21.S) (a_236 hm R21) ?_
      refine s_gI R21 (t_213 hm R21.S) (Nat.le_of_ble_eq_true rfl) rfl ?_
      refine s_qI R21 (u_236 hm R21.S).1 (u_236 hm R21.S).2 (by decide) (a_236 hm R21) (c_sub rfl (c_lit 1 1 rfl)) (rr_I _) rfl (R21.ri (t_213 hm R21.S) (Nat.le_of_ble_eq_true rfl) rfl) hF (fun h24 σ42 R24 T24 hF => ?_)
      refine s_gAs R24 (t_213 hm R24.S) (Nat.le_of_ble_eq_true rfl) rfl (o_213_42 hm R24.S) (a_237 hm R24) ?_
      refine s_gI R24 (t_213 hm R24.S) (Nat.le_of_ble_eq_true rfl) rfl ?_
      refine s_qI R24 (u_237 hm R24.S).1 (u_237 hm R24.S).2 (by decide) (a_237 hm R24) (c_sub rfl (c_lit 1 1 rfl)) (rr_I _) rfl (R24.ri (t_213 hm R24.S) (Nat.le_of_ble_eq_true rfl) rfl) hF (fun h27 σ48 R27 T27 hF => ?_)
      refine s_gAs R27 (t_213 hm R27.S) (Nat.le_of_ble_eq_true rfl) rfl (o_213_43 hm R27.S) (a_238 hm R27) ?_
      refine s_gI R27 (t_213 hm R27.S) (Nat.le_of_ble_eq_true rfl) rfl ?_
      refine s_qI R27 (u_238 hm R27.S).1 (u_238 hm R27.S).2 (by decide) (a_238 hm R27) (c_sub rfl (c_lit 1 1 rfl)) (rr_I _) rfl (R27.ri (t_213 hm R27.S) (Nat.le_of_ble_eq_true rfl) rfl) hF (fun h30 σ54 R30 T30 hF => ?_)
      refine s_gAs R30 (t_213 hm R30.S) (Nat.le_of_ble_eq_true rfl) rfl (o_213_44 hm R30.S) (a_239 hm R30) ?_
      refine s_gAs R30 (t_213 hm R30.S) (Nat.le_of_ble_eq_true rfl) rfl (o_213_26 hm R30.S) (a_230 hm R30) ?_
      refine s_rJ R30 (u_230 hm R30.S).1 (u_230 hm R30.S).2 (a_230 hm R30) rfl rl2 hF (fun x60 ra33 hF => ?_)
      refine s_qJ R30 (u_239 hm R30.S).1 (u_239 hm R30.S).2 (a_239 hm R30) (c_sub rfl (c_lit 1 1 rfl)) (rr_I _) rfl ra33 hF (fun h34 σ62 R34 T34 hF => ?_)
      refine s_gAs R34 (t_213 hm R34.S) (Nat.le_of_ble_eq_true rfl) rfl (o_213_27 hm R34.S) (a_231 hm R34) ?_
      refine s_rI R34 (u_231 hm R34.S).1 (u_231 hm R34.S).2 (by decide) (a_231 hm R34) rfl rl2 hF (fun x66 ra36 hF => ?_)
      exact ih R34 rfl ra36 hF
def FX37_tell (N : Nat) (p0 : Int) (s : fS) : Option (Int × fS) :=
  (uPI s 213 36 (s.i 213 16)).bind fun σ3 =>
  (uPI σ3 213 37 (σ3.i 213 20)).bind fun σ7 =>
  (uRI σ7 228 p0).bind fun x11 =>
  (uPI σ7 213 38 x11).bind fun σ13 =>
  FX37_tell_b28 N N p0 σ13
theorem SX37_tell {m b : Nat} {φ0 : Nat → Nat} {σo : fS} (hm : 1 ≤ m) {N : Nat} {q : Int × fS} {φ : Nat → Nat} {h : eH} {s : fS} {p0' : Int32} {p0 : Int} (R : fC m b φ0 σo φ h s) (ep0 : p0' = iI p0) (rp0 : r32 p0) (hF : FX37_tell N p0 s = some q) : gG m b φ0 σo lI q (fX37_tell N 213 p0' h) := by
  subst ep0
  unfold FX37_tell at hF
  unfold fX37_tell
  refine s_gI R (t_213 hm R.S) (Nat.le_of_ble_eq_true rfl) rfl ?_
  refine s_pI R (t_213 hm R.S) (Nat.le_of_ble_eq_true rfl) rfl rfl (R.ri (t_213 hm R.S) (Nat.le_of_ble_eq_true rfl) rfl) hF (fun h2 σ3 R2 T2 hF => ?_)
  refine s_gI R2 (t_213 hm R2.S) (Nat.le_of_ble_eq_true rfl) rfl ?_
  refine s_pI R2 (t_213 hm R2.S) (Nat.le_of_ble_eq_true rfl) rfl rfl (R2.ri (t_213 hm R2.S) (Nat.le_of_ble_eq_true rfl) rfl) hF (fun h4 σ7 R4 T4 hF => ?_)
  refine s_gAs R4 (t_213 hm R4.S) (Nat.le_of_ble_eq_true rfl) rfl (o_213_24 hm R4.S) (a_228 hm R4) ?_
  refine s_rI R4 (u_228 hm R4.S).1 (u_228 hm R4.S).2 (by decide) (a_228 hm R4) rfl rp0 hF (fun x11 ra6 hF => ?_)
  refine s_pI R4 (t_213 hm R4.S) (Nat.le_of_ble_eq_true rfl) rfl rfl ra6 hF (fun h7 σ13 R7 T7 hF => ?_)
  exact SX37_tell_b28 (N := N) hm R7 rfl rp0 hF
def FX37_breakUp_b46 (N : Nat) (K4 : Int → Int → fS → Option (Int × fS)) (l2 : Int) (s0 : Int) (s : fS) : Option (Int × fS) :=
  K4 s0 (iadd l2 1) s
theorem SX37_breakUp_b46 {m b : Nat} {φ0 : Nat → Nat} {σo : fS} (hm : 1 ≤ m) {N : Nat} {k4 : Nat → Int32 → Int32 → eH → Option (Int32 × eH)} {K4 : Int → Int → fS → Option (Int × fS)} {q : Int × fS} (hk4 : ∀ {φ : Nat → Nat} {h : eH} {s : fS} {l1' : Int32} {l1 : Int} {l2' : Int32} {l2 : Int}, fC m b φ0 σo φ h s → l1' = iI l1 → r32 l1 → l2' = iI l2 → r32 l2 → K4 l1 l2 s = some q → gG m b φ0 σo lI q (k4 213 l1' l2' h)) {φ : Nat → Nat} {h : eH} {s : fS} {l2' : Int32} {l2 : Int} {s0' : Int32} {s0 : Int} (R : fC m b φ0 σo φ h s) (el2 : l2' = iI l2) (rl2 : r32 l2) (es0 : s0' = iI s0) (rs0 : r32 s0) (hF : FX37_breakUp_b46 N K4 l2 s0 s = some q) : gG m b φ0 σo lI q (fX37_breakUp_b46 N k4 213 l2' s0' h) := by
  subst el2; subst es0
  unfold FX37_breakUp_b46 at hF
  unfold fX37_breakUp_b46
  exact hk4 R rfl rs0 (c_add rfl (c_lit 1 1 rfl)) (rr_I _) hF
def FX37_breakUp_b41 (N : Nat) (K4 : Int → Int → fS → Option (Int × fS)) (l2 : Int) (s : fS) : Option (Int × fS) :=
  FX37_breakUp_b46 N K4 l2 1 s
theorem SX37_breakUp_b41 {m b : Nat} {φ0 : Nat → Nat} {σo : fS} (hm : 1 ≤ m) {N : Nat} {k4 : Nat → Int32 → Int32 → eH → Option (Int32 × eH)} {K4 : Int → Int → fS → Option (Int × fS)} {q : Int × fS} (hk4 : ∀ {φ : Nat → Nat} {h : eH} {s : fS} {l1' : Int32} {l1 : Int} {l2' : Int32} {l2 : Int}, fC m b φ0 σo φ h s → l1' = iI l1 → r32 l1 → l2' = iI l2 → r32 l2 → K4 l1 l2 s = some q → gG m b φ0 σo lI q (k4 213 l1' l2' h)) {φ : Nat → Nat} {h : eH} {s : fS} {l2' : Int32} {l2 : Int} (R : fC m b φ0 σo φ h s) (el2 : l2' = iI l2) (rl2 : r32 l2) (hF : FX37_breakUp_b41 N K4 l2 s = some q) : gG m b φ0 σo lI q (fX37_breakUp_b41 N k4 213 l2' h) := by
  subst el2
  unfold FX37_breakUp_b41 at hF
  unfold fX37_breakUp_b41
  exact SX37_breakUp_b46 (N := N) (k4 := k4) (K4 := K4) hm @hk4 R rfl rl2 (c_lit 1 1 rfl) ⟨by decide, by decide⟩ hF
def FX37_breakUp_b45 (N : Nat) (K4 : Int → Int → fS → Option (Int × fS)) (l2 : Int) (s : fS) : Option (Int × fS) :=
  FX37_breakUp_b46 N K4 l2 0 s
theorem SX37_breakUp_b45 {m b : Nat} {φ0 : Nat → Nat} {σo : fS} (hm : 1 ≤ m) {N : Nat} {k4 : Nat → Int32 → Int32 → eH → Option (Int32 × eH)} {K4 : Int → Int → fS → Option (Int × fS)} {q : Int × fS} (hk4 : ∀ {φ : Nat → Nat} {h : eH} {s : fS} {l1' : Int32} {l1 : Int} {l2' : Int32} {l2 : Int}, fC m b φ0 σo φ h s → l1' = iI l1 → r32 l1 → l2' = iI l2 → r32 l2 → K4 l1 l2 s = some q → gG m b φ0 σo lI q (k4 213 l1' l2' h)) {φ : Nat → Nat} {h : eH} {s : fS} {l2' : Int32} {l2 : Int} (R : fC m b φ0 σo φ h s) (el2 : l2' = iI l2) (rl2 : r32 l2) (hF : FX37_breakUp_b45 N K4 l2 s = some q) : gG m b φ0 σo lI q (fX37_breakUp_b45 N k4 213 l2' h) := by
  subst el2
  unfold FX37_breakUp_b45 at hF
  unfold fX37_breakUp_b45
  exact SX37_breakUp_b46 (N := N) (k4 := k4) (K4 := K4) hm @hk4 R rfl rl2 (c_lit 0 0 rfl) ⟨by decide, by decide⟩ hF
def FX37_breakUp_b340 (N : Nat) (K287 : Int → Int → Int → Int → Int → Int → Int → Int → Int → Int → fS → Option (Int × fS)) (l2 : Int) (l3 : Int) (l4 : Int) (l5 : Int) (l6 : Int) (l7 : Int) (l8 : Int) (l10 : Int) (l11 : Int) (l12 : Int) (s : fS) : Option (Int × fS) :=
  (uPI s 213 16 (iadd (s.i 213 16) 1)).bind fun σ3 =>
  K287 l2 l3 l4 l5 l6 l7 l8 l10 l11 l12 σ3
theorem SX37_breakUp_b340 {m b : Nat} {φ0 : Nat → Nat} {σo : fS} (hm : 1 ≤ m) {N : Nat} {k287 : Nat → Int32 → Int32 → Int32 → Int32 → Int32 → Int32 → Int32 → Int32 → Int32 → Int32 → eH → Option (Int32 × eH)} {K287 : Int → Int → Int → Int → Int → Int → Int → Int → Int → Int → fS → Option (Int × fS)} {q : Int × fS} (hk287 : ∀ {φ : Nat → Nat} {h : eH} {s : fS} {l2' : Int32} {l2 : Int} {l3' : Int32} {l3 : Int} {l4' : Int32} {l4 : Int} {l5' : Int32} {l5 : Int} {l6' : Int32} {l6 : Int} {l7' : Int32} {l7 : Int} {l8' : Int32} {l8 : Int} {l10' : Int32} {l10 : Int} {l11' : Int32} {l11 : Int} {l12' : Int32} {l12 : Int}, fC m b φ0 σo φ h s → l2' = iI l2 → r32 l2 → l3' = iI l3 → r32 l3 → l4' = iI l4 → r32 l4 → l5' = iI l5 → r32 l5 → l6' = iI l6 → r32 l6 → l7' = iI l7 → r32 l7 → l8' = iI l8 → r32 l8 → l10' = iI l10 → r32 l10 → l11' = iI l11 → r32 l11 → l12' = iI l12 → r32 l12 → K287 l2 l3 l4 l5 l6 l7 l8 l10 l11 l12 s = some q → gG m b φ0 σo lI q (k287 213 l2' l3' l4' l5' l6' l7' l8' l10' l11' l12' h)) {φ : Nat → Nat} {h : eH} {s : fS} {l2' : Int32} {l2 : Int} {l3' : Int32} {l3 : Int} {l4' : Int32} {l4 : Int} {l5' : Int32} {l5 : Int} {l6' : Int32} {l6 : Int} {l7' : Int32} {l7 : Int} {l8' : Int32} {l8 : Int} {l10' : Int32} {l10 : Int} {l11' : Int32} {l11 : Int} {l12' : Int32} {l12 : Int} (R : fC m b φ0 σo φ h s) (el2 : l2' = iI l2) (rl2 : r32 l2) (el3 : l3' = iI l3) (rl3 : r32 l3) (el4 : l4' = iI l4) (rl4 : r32 l4) (el5 : l5' = iI l5) (rl5 : r32 l5) (el6 : l6' = iI l6) (rl6 : r32 l6) (el7 : l7' = iI l7) (rl7 : r32 l7) (el8 : l8' = iI l8) (rl8 : r32 l8) (el10 : l10' = iI l10) (rl10 : r32 l10) (el11 : l11' = iI l11) (rl11 : r32 l11) (el12 : l12' = iI l12) (rl12 : r32 l12) (hF : FX37_breakUp_b340 N K287 l2 l3 l4 l5 l6 l7 l8 l10 l11 l12 s = some q) : gG m b φ0 σo lI q (fX37_breakUp_b340 N k287 213 l2' l3' l4' l5' l6' l7' l8' l10' l11' l12' h) := by
  subst el2; subst el3; subst el4; subst el5; subst el6; subst el7; subst el8; subst el10; subst el11; subst el12
  unfold FX37_breakUp_b340 at hF
  unfold fX37_breakUp_b340
  refine s_gI R (t_213 hm R.S) (Nat.le_of_ble_eq_true rfl) rfl ?_
  refine s_pI R (t_213 hm R.S) (Nat.le_of_ble_eq_true rfl) rfl (c_add rfl (c_lit 1 1 rfl)) (rr_I _) hF (fun h2 σ3 R2 T2 hF => ?_)
  exact hk287 R2 rfl rl2 rfl rl3 rfl rl4 rfl rl5 rfl rl6 rfl rl7 rfl rl8 rfl rl10 rfl rl11 rfl rl12 hF
def FX37_breakUp_b353 (N : Nat) (l2 : Int) (l3 : Int) (l4 : Int) (l5 : Int) (l6 : Int) (l7 : Int) (l8 : Int) (l10 : Int) (s : fS) : Option (Int × fS) :=
  (uPI s 213 1 l2).bind fun σ1 =>
  (uQI σ1 214 l3 l4).bind fun σ5 =>
  (uQI σ5 215 l3 l5).bind fun σ9 =>
  (uQI σ9 216 l3 l6).bind fun σ13 =>
  (uQI σ13 217 l3 l7).bind fun σ17 =>
  (uQI σ17 218 l3 l8).bind fun σ21 =>
  some (l10, σ21)
theorem SX37_breakUp_b353 {m b : Nat} {φ0 : Nat → Nat} {σo : fS} (hm : 1 ≤ m) {N : Nat} {q : Int × fS} {φ : Nat → Nat} {h : eH} {s : fS} {l2' : Int32} {l2 : Int} {l3' : Int32} {l3 : Int} {l4' : Int32} {l4 : Int} {l5' : Int32} {l5 : Int} {l6' : Int32} {l6 : Int} {l7' : Int32} {l7 : Int} {l8' : Int32} {l8 : Int} {l10' : Int32} {l10 : Int} (R : fC m b φ0 σo φ h s) (el2 : l2' = iI l2) (rl2 : r32 l2) (el3 : l3' = iI l3) (rl3 : r32 l3) (el4 : l4' = iI l4) (rl4 : r32 l4) (el5 : l5' = iI l5) (rl5 : r32 l5) (el6 : l6' = iI l6) (rl6 : r32 l6) (el7 : l7' = iI l7) (rl7 : r32 l7) (el8 : l8' = iI l8) (rl8 : r32 l8) (el10 : l10' = iI l10) (rl10 : r32 l10) (hF : FX37_breakUp_b353 N l2 l3 l4 l5 l6 l7 l8 l10 s = some q) : gG m b φ0 σo lI q (fX37_breakUp_b353 N 213 l2' l3' l4' l5' l6' l7' l8' l10' h) := by
  subst el2; subst el3; subst el4; subst el5; subst el6; subst el7; subst el8; subst el10
  unfold FX37_breakUp_b353 at hF
  unfold fX37_breakUp_b353
  refine s_pI R (t_213 hm R.S) (Nat.le_of_ble_eq_true rfl) rfl rfl rl2 hF (fun h1 σ1 R1 T1 hF => ?_)
  refine s_gAs R1 (t_213 hm R1.S) (Nat.le_of_ble_eq_true rfl) rfl (o_213_2 hm R1.S) (a_214 hm R1) ?_
  refine s_qI R1 (u_214 hm R1.S).1 (u_214 hm R1.S).2 (by decide) (a_214 hm R1) rfl rl3 rfl rl4 hF (fun h3 σ5 R3 T3 hF => ?_)
  refine s_gAs R3 (t_213 hm R3.S) (Nat.le_of_ble_eq_true rfl) rfl (o_213_3 hm R3.S) (a_215 hm R3) ?_
  refine s_qI R3 (u_215 hm R3.S).1 (u_215 hm R3.S).2 (by decide) (a_215 hm R3) rfl rl3 rfl rl5 hF (fun h5 σ9 R5 T5 hF => ?_)
  refine s_gAs R5 (t_213 hm R5.S) (Nat.le_of_ble_eq_true rfl) rfl (o_213_4 hm R5.S) (a_216 hm R5) ?_
  refine s_qI R5 (u_216 hm R5.S).1 (u_216 hm R5.S).2 (by decide) (a_216 hm R5) rfl rl3 rfl rl6 hF (fun h7 σ13 R7 T7 hF => ?_)
  refine s_gAs R7 (t_213 hm R7.S) (Nat.le_of_ble_eq_true rfl) rfl (o_213_5 hm R7.S) (a_217 hm R7) ?_
  refine s_qI R7 (u_217 hm R7.S).1 (u_217 hm R7.S).2 (by decide) (a_217 hm R7) rfl rl3 rfl rl7 hF (fun h9 σ17 R9 T9 hF => ?_)
  refine s_gAs R9 (t_213 hm R9.S) (Nat.le_of_ble_eq_true rfl) rfl (o_213_6 hm R9.S) (a_218 hm R9) ?_
  refine s_qI R9 (u_218 hm R9.S).1 (u_218 hm R9.S).2 (by decide) (a_218 hm R9) rfl rl3 rfl rl8 hF (fun h11 σ21 R11 T11 hF => ?_)
  exact g_ret R11 hF ⟨rfl, rl10⟩
def FX37_breakUp_b287 (N : Nat) : Nat → Int → Int → Int → Int → Int → Int → Int → Int → Int → Int → fS → Option (Int × fS)
  | 0, _, _, _, _, _, _, _, _, _, _, _ => none
  | n + 1, l2, l3, l4, l5, l6, l7, l8, l10, l11, l12, s =>
    if l12 < (s.i 213 16) then
      FX37_breakUp_b353 N l2 l3 l4 l5 l6 l7 l8 l10 s
    else
      if ¬ (l11 = 0) then
        FX37_breakUp_b353 N l2 l3 l4 l5 l6 l7 l8 l10 s
      else
        (FX37_make N s).bind fun q6 =>
        if ¬ (q6.1 = 0) then
          (FX37_choose N q6.2).bind fun q9 =>
          if q9.1 < 0 then
            FX37_breakUp_b340 N (FX37_breakUp_b287 N n) l2 l3 l4 l5 l6 l7 l8 l10 l11 l12 q9.2
          else
            (FX37_tell N q9.1 q9.2).bind fun q12 =>
            FX37_breakUp_b340 N (FX37_breakUp_b287 N n) l2 l3 l4 l5 l6 l7 l8 q12.1 1 l12 q12.2
        else
          FX37_breakUp_b340 N (FX37_breakUp_b287 N n) l2 l3 l4 l5 l6 l7 l8 (-2) 1 l12 q6.2
theorem SX37_breakUp_b287 {m b : Nat} {φ0 : Nat → Nat} {σo : fS} (hm : 1 ≤ m) {N : Nat} {q : Int × fS} : ∀ {n : Nat} {φ : Nat → Nat} {h : eH} {s : fS} {l2' : Int32} {l2 : Int} {l3' : Int32} {l3 : Int} {l4' : Int32} {l4 : Int} {l5' : Int32} {l5 : Int} {l6' : Int32} {l6 : Int} {l7' : Int32} {l7 : Int} {l8' : Int32} {l8 : Int} {l10' : Int32} {l10 : Int} {l11' : Int32} {l11 : Int} {l12' : Int32} {l12 : Int}, fC m b φ0 σo φ h s → l2' = iI l2 → r32 l2 → l3' = iI l3 → r32 l3 → l4' = iI l4 → r32 l4 → l5' = iI l5 → r32 l5 → l6' = iI l6 → r32 l6 → l7' = iI l7 → r32 l7 → l8' = iI l8 → r32 l8 → l10' = iI l10 → r32 l10 → l11' = iI l11 → r32 l11 → l12' = iI l12 → r32 l12 → FX37_breakUp_b287 N n l2 l3 l4 l5 l6 l7 l8 l10 l11 l12 s = some q → gG m b φ0 σo lI q (fX37_breakUp_b287 N n 213 l2' l3' l4' l5' l6' l7' l8' l10' l11' l12' h) := by
  intro n
  induction n with
 | zero => intro φ h s l2' l2 l3' l3 l4' l4 l5' l5 l6' l6 l7' l7 l8' l8 l10' l10 l11' l11 l12' l12 R el2 rl2 el3 rl3 el4 rl4 el5 rl5 el6 rl6 el7 rl7 el8 rl8 el10 rl10 el11 rl11 el12 rl12 hF; simp [FX37_breakUp_b287] at hF
  | succ n ih =>
    intro φ h s l2' l2 l3' l3 l4' l4 l5' l5 l6' l6 l7' l7 l8' l8 l10' l10 l11' l11 l12' l12 R el2 rl2 el3 rl3 el4 rl4 el5 rl5 el6 rl6 el7 rl7 el8 rl8 el10 rl10 el11 rl11 el12 rl12 hF
    subst el2; subst el3; subst el4; subst el5; subst el6; subst el7; subst el8; subst el10; subst el11; subst el12
    rw [FX37_breakUp_b287] at hF
    rw [fX37_breakUp_b287]
    refine s_gI R (t_213 hm R.S) (Nat.le_of_ble_eq_true rfl) rfl ?_
    refine s_if (i_lt rfl rfl rl12 (R.ri (t_213 hm R.S) (Nat.le_of_ble_eq_true rfl) rfl)) hF (fun c2 hF => ?_) (fun c2 hF => ?_)
    ·
      exact SX37_breakUp_b353 (N := N) hm R rfl rl2 rfl rl3 rfl rl4 rfl rl5 rfl rl6 rfl rl7 rfl rl8 rfl rl10 hF
    ·
      refine s_if (not_congr (i_eq rfl (c_lit 0 0 rfl) rl11 ⟨by decide, by decide⟩)) hF (fun c3 hF => ?_) (fun c3 hF => ?_)
      ·
        exact SX37_breakUp_b353 (N := N) hm R rfl rl2 rfl rl3 rfl rl4 rfl rl5 rfl rl6 rfl rl7 rfl rl8 rfl rl10 hF
      ·
        refine s_kok R (t_213 hm R.S) (Nat.le_of_ble_eq_true rfl) ?_
        refine s_call R (Nat.zero_le _) (fun _ hq => SX37_make (b := 0) (N := N) hm (R.rf) hq) hF (fun f5 rv5 h5 q6 R5 e5 E5 hF => ?_)
        refine s_if (not_congr (i_eq e5.1 (c_lit 0 0 rfl) e5.2 ⟨by decide, by decide⟩)) hF (fun c6 hF => ?_) (fun c6 hF => ?_)
        ·
          refine s_kok R5 (t_213 hm R5.S) (Nat.le_of_ble_eq_true rfl) ?_
          refine s_call R5 (Nat.zero_le _) (fun _ hq => SX37_choose (b := 0) (N := N) hm (R5.rf) hq) hF (fun f8 rv8 h8 q9 R8 e8 E8 hF => ?_)
          refine s_if (i_lt e8.1 (c_lit 0 0 rfl) e8.2 ⟨by decide, by decide⟩) hF (fun c9 hF => ?_) (fun c9 hF => ?_)
          ·
            exact SX37_breakUp_b340 (N := N) (k287 := fX37_breakUp_b287 N n) (K287 := FX37_breakUp_b287 N n) hm @ih R8 rfl rl2 rfl rl3 rfl rl4 rfl rl5 rfl rl6 rfl rl7 rfl rl8 rfl rl10 rfl rl11 rfl rl12 hF
          ·
            refine s_kok R8 (t_213 hm R8.S) (Nat.le_of_ble_eq_true rfl) ?_
            refine s_call R8 (Nat.zero_le _) (fun _ hq => SX37_tell (b := 0) (N := N) hm (R8.rf) e8.1 e8.2 hq) hF (fun f11 rv11 h11 q12 R11 e11 E11 hF => ?_)
            exact SX37_breakUp_b340 (N := N) (k287 := fX37_breakUp_b287 N n) (K287 := FX37_breakUp_b287 N n) hm @ih R11 rfl rl2 rfl rl3 rfl rl4 rfl rl5 rfl rl6 rfl rl7 rfl rl8 e11.1 e11.2 (c_lit 1 1 rfl) ⟨by decide, by decide⟩ rfl rl12 hF
        ·
          exact SX37_breakUp_b340 (N := N) (k287 := fX37_breakUp_b287 N n) (K287 := FX37_breakUp_b287 N n) hm @ih R5 rfl rl2 rfl rl3 rfl rl4 rfl rl5 rfl rl6 rfl rl7 rfl rl8 (c_lit (-2) (-2) rfl) ⟨by decide, by decide⟩ (c_lit 1 1 rfl) ⟨by decide, by decide⟩ rfl rl12 hF
def FX37_breakUp_b284 (N : Nat) (l2 : Int) (l3 : Int) (l4 : Int) (l5 : Int) (l6 : Int) (l7 : Int) (l8 : Int) (l10 : Int) (l11 : Int) (l12 : Int) (s1 : Int) (s : fS) : Option (Int × fS) :=
  (uPI s 213 16 s1).bind fun σ1 =>
  FX37_breakUp_b287 N N l2 l3 l4 l5 l6 l7 l8 l10 l11 l12 σ1
theorem SX37_breakUp_b284 {m b : Nat} {φ0 : Nat → Nat} {σo : fS} (hm : 1 ≤ m) {N : Nat} {q : Int × fS} {φ : Nat → Nat} {h : eH} {s : fS} {l2' : Int32} {l2 : Int} {l3' : Int32} {l3 : Int} {l4' : Int32} {l4 : Int} {l5' : Int32} {l5 : Int} {l6' : Int32} {l6 : Int} {l7' : Int32} {l7 : Int} {l8' : Int32} {l8 : Int} {l10' : Int32} {l10 : Int} {l11' : Int32} {l11 : Int} {l12' : Int32} {l12 : Int} {s1' : Int32} {s1 : Int} (R : fC m b φ0 σo φ h s) (el2 : l2' = iI l2) (rl2 : r32 l2) (el3 : l3' = iI l3) (rl3 : r32 l3) (el4 : l4' = iI l4) (rl4 : r32 l4) (el5 : l5' = iI l5) (rl5 : r32 l5) (el6 : l6' = iI l6) (rl6 : r32 l6) (el7 : l7' = iI l7) (rl7 : r32 l7) (el8 : l8' = iI l8) (rl8 : r32 l8) (el10 : l10' = iI l10) (rl10 : r32 l10) (el11 : l11' = iI l11) (rl11 : r32 l11) (el12 : l12' = iI l12) (rl12 : r32 l12) (es1 : s1' = iI s1) (rs1 : r32 s1) (hF : FX37_breakUp_b284 N l2 l3 l4 l5 l6 l7 l8 l10 l11 l12 s1 s = some q) : gG m b φ0 σo lI q (fX37_breakUp_b284 N 213 l2' l3' l4' l5' l6' l7' l8' l10' l11' l12' 213 s1' h) := by
  subst el2; subst el3; subst el4; subst el5; subst el6; subst el7; subst el8; subst el10; subst el11; subst el12; subst es1
  unfold FX37_breakUp_b284 at hF
  unfold fX37_breakUp_b284
  refine s_pI R (t_213 hm R.S) (Nat.le_of_ble_eq_true rfl) rfl rfl rs1 hF (fun h1 σ1 R1 T1 hF => ?_)
  exact SX37_breakUp_b287 (N := N) hm R1 rfl rl2 rfl rl3 rfl rl4 rfl rl5 rfl rl6 rfl rl7 rfl rl8 rfl rl10 rfl rl11 rfl rl12 hF
def FX37_breakUp_b267 (N : Nat) (l2 : Int) (l3 : Int) (l4 : Int) (l5 : Int) (l6 : Int) (l7 : Int) (l8 : Int) (l10 : Int) (l11 : Int) (s0 : Int) (s : fS) : Option (Int × fS) :=
  (uRI s 222 0).bind fun x3 =>
  if 0 ≤ x3 then
    FX37_breakUp_b284 N l2 l3 l4 l5 l6 l7 l8 l10 l11 s0 1 s
  else
    FX37_breakUp_b284 N l2 l3 l4 l5 l6 l7 l8 l10 l11 s0 2 s
theorem SX37_breakUp_b267 {m b : Nat} {φ0 : Nat → Nat} {σo : fS} (hm : 1 ≤ m) {N : Nat} {q : Int × fS} {φ : Nat → Nat} {h : eH} {s : fS} {l2' : Int32} {l2 : Int} {l3' : Int32} {l3 : Int} {l4' : Int32} {l4 : Int} {l5' : Int32} {l5 : Int} {l6' : Int32} {l6 : Int} {l7' : Int32} {l7 : Int} {l8' : Int32} {l8 : Int} {l10' : Int32} {l10 : Int} {l11' : Int32} {l11 : Int} {s0' : Int32} {s0 : Int} (R : fC m b φ0 σo φ h s) (el2 : l2' = iI l2) (rl2 : r32 l2) (el3 : l3' = iI l3) (rl3 : r32 l3) (el4 : l4' = iI l4) (rl4 : r32 l4) (el5 : l5' = iI l5) (rl5 : r32 l5) (el6 : l6' = iI l6) (rl6 : r32 l6) (el7 : l7' = iI l7) (rl7 : r32 l7) (el8 : l8' = iI l8) (rl8 : r32 l8) (el10 : l10' = iI l10) (rl10 : r32 l10) (el11 : l11' = iI l11) (rl11 : r32 l11) (es0 : s0' = iI s0) (rs0 : r32 s0) (hF : FX37_breakUp_b267 N l2 l3 l4 l5 l6 l7 l8 l10 l11 s0 s = some q) : gG m b φ0 σo lI q (fX37_breakUp_b267 N 213 l2' l3' l4' l5' l6' l7' l8' l10' l11' s0' h) := by
  subst el2; subst el3; subst el4; subst el5; subst el6; subst el7; subst el8; subst el10; subst el11; subst es0
  unfold FX37_breakUp_b267 at hF
  unfold fX37_breakUp_b267
  refine s_gAs R (t_213 hm R.S) (Nat.le_of_ble_eq_true rfl) rfl (o_213_10 hm R.S) (a_222 hm R) ?_
  refine s_rI R (u_222 hm R.S).1 (u_222 hm R.S).2 (by decide) (a_222 hm R) (c_lit 0 0 rfl) ⟨by decide, by decide⟩ hF (fun x3 ra2 hF => ?_)
  refine s_if (i_le (c_lit 0 0 rfl) rfl ⟨by decide, by decide⟩ ra2) hF (fun c3 hF => ?_) (fun c3 hF => ?_)
  ·
    exact SX37_breakUp_b284 (N := N) hm R rfl rl2 rfl rl3 rfl rl4 rfl rl5 rfl rl6 rfl rl7 rfl rl8 rfl rl10 rfl rl11 rfl rs0 (c_lit 1 1 rfl) ⟨by decide, by decide⟩ hF
  ·
    exact SX37_breakUp_b284 (N := N) hm R rfl rl2 rfl rl3 rfl rl4 rfl rl5 rfl rl6 rfl rl7 rfl rl8 rfl rl10 rfl rl11 rfl rs0 (c_lit 2 2 rfl) ⟨by decide, by decide⟩ hF
def FX37_breakUp_b126 (N : Nat) (l2 : Int) (s0 : Int) (s : fS) : Option (Int × fS) :=
  (uRI s 214 s0).bind fun x3 =>
  (uRI s 215 s0).bind fun x7 =>
  (uRI s 216 s0).bind fun x11 =>
  (uRI s 217 s0).bind fun x15 =>
  (uRI s 218 s0).bind fun x19 =>
  (uPI s 213 1 s0).bind fun σ21 =>
  (FX37_append 4 10000 0 0 0 0 0 σ21).bind fun q24 =>
  (uRI q24.2 223 2).bind fun x27 =>
  (uRI q24.2 224 2).bind fun x31 =>
  (uRI q24.2 225 2).bind fun x35 =>
  (uRI q24.2 226 2).bind fun x39 =>
  (FX37_append 1 x27 x31 x35 x39 0 0 q24.2).bind fun q42 =>
  (FX37_append 4 (-10000) 0 0 0 0 0 q42.2).bind fun q44 =>
  (uPI q44.2 213 17 q44.1).bind fun σ45 =>
  (FX37_sumUp N σ45).bind fun q48 =>
  (uPI q48.2 213 36 0).bind fun σ49 =>
  (uRI σ49 222 8).bind fun x53 =>
  if x53 ≤ 0 then
    FX37_breakUp_b267 N l2 s0 x3 x7 x11 x15 x19 0 0 2 σ49
  else
    FX37_breakUp_b267 N l2 s0 x3 x7 x11 x15 x19 0 0 3 σ49
theorem SX37_breakUp_b126 {m b : Nat} {φ0 : Nat → Nat} {σo : fS} (hm : 1 ≤ m) {N : Nat} {q : Int × fS} {φ : Nat → Nat} {h : eH} {s : fS} {l2' : Int32} {l2 : Int} {s0' : Int32} {s0 : Int} (R : fC m b φ0 σo φ h s) (el2 : l2' = iI l2) (rl2 : r32 l2) (es0 : s0' = iI s0) (rs0 : r32 s0) (hF : FX37_breakUp_b126 N l2 s0 s = some q) : gG m b φ0 σo lI q (fX37_breakUp_b126 N 213 l2' s0' h) := by
  subst el2; subst es0
  unfold FX37_breakUp_b126 at hF
  unfold fX37_breakUp_b126
  refine s_gAs R (t_213 hm R.S) (Nat.le_of_ble_eq_true rfl) rfl (o_213_2 hm R.S) (a_214 hm R) ?_
  refine s_rI R (u_214 hm R.S).1 (u_214 hm R.S).2 (by decide) (a_214 hm R) rfl rs0 hF (fun x3 ra2 hF => ?_)
  refine s_gAs R (t_213 hm R.S) (Nat.le_of_ble_eq_true rfl) rfl (o_213_3 hm R.S) (a_215 hm R) ?_
  refine s_rI R (u_215 hm R.S).1 (u_215 hm R.S).2 (by decide) (a_215 hm R) rfl rs0 hF (fun x7 ra4 hF => ?_)
  refine s_gAs R (t_213 hm R.S) (Nat.le_of_ble_eq_true rfl) rfl (o_213_4 hm R.S) (a_216 hm R) ?_
  refine s_rI R (u_216 hm R.S).1 (u_216 hm R.S).2 (by decide) (a_216 hm R) rfl rs0 hF (fun x11 ra6 hF => ?_)
  refine s_gAs R (t_213 hm R.S) (Nat.le_of_ble_eq_true rfl) rfl (o_213_5 hm R.S) (a_217 hm R) ?_
  refine s_rI R (u_217 hm R.S).1 (u_217 hm R.S).2 (by decide) (a_217 hm R) rfl rs0 hF (fun x15 ra8 hF => ?_)
  refine s_gAs R (t_213 hm R.S) (Nat.le_of_ble_eq_true rfl) rfl (o_213_6 hm R.S) (a_218 hm R) ?_
  refine s_rI R (u_218 hm R.S).1 (u_218 hm R.S).2 (by decide) (a_218 hm R) rfl rs0 hF (fun x19 ra10 hF => ?_)
  refine s_pI R (t_213 hm R.S) (Nat.le_of_ble_eq_true rfl) rfl rfl rs0 hF (fun h11 σ21 R11 T11 hF => ?_)
  refine s_kok R11 (t_213 hm R11.S) (Nat.le_of_ble_eq_true rfl) ?_
  refine s_call R11 (Nat.zero_le _) (fun _ hq => SX37_append (b := 0) hm (R11.rf) (c_lit 4 4 rfl) ⟨by decide, by decide⟩ (c_lit 10000 10000 rfl) ⟨by decide, by decide⟩ (c_lit 0 0 rfl) ⟨by decide, by decide⟩ (c_lit 0 0 rfl) ⟨by decide, by decide⟩ (c_lit 0 0 rfl) ⟨by decide, by decide⟩ (c_lit 0 0 rfl) ⟨by decide, by decide⟩ (c_lit 0 0 rfl) ⟨by decide, by decide⟩ hq) hF (fun f13 rv13 h13 q24 R13 e13 E13 hF => ?_)
  refine s_gAs R13 (t_213 hm R13.S) (Nat.le_of_ble_eq_true rfl) rfl (o_213_12 hm R13.S) (a_223 hm R13) ?_
  refine s_rI R13 (u_223 hm R13.S).1 (u_223 hm R13.S).2 (by decide) (a_223 hm R13) (c_lit 2 2 rfl) ⟨by decide, by decide⟩ hF (fun x27 ra15 hF => ?_)
  refine s_gAs R13 (t_213 hm R13.S) (Nat.le_of_ble_eq_true rfl) rfl (o_213_13 hm R13.S) (a_224 hm R13) ?_
  refine s_rI R13 (u_224 hm R13.S).1 (u_224 hm R13.S).2 (by decide) (a_224 hm R13) (c_lit 2 2 rfl) ⟨by decide, by decide⟩ hF (fun x31 ra17 hF => ?_)
  refine s_gAs R13 (t_213 hm R13.S) (Nat.le_of_ble_eq_true rfl) rfl (o_213_14 hm R13.S) (a_225 hm R13) ?_
  refine s_rI R13 (u_225 hm R13.S).1 (u_225 hm R13.S).2 (by decide) (a_225 hm R13) (c_lit 2 2 rfl) ⟨by decide, by decide⟩ hF (fun x35 ra19 hF => ?_)
  refine s_gAs R13 (t_213 hm R13.S) (Nat.le_of_ble_eq_true rfl) rfl (o_213_15 hm R13.S) (a_226 hm R13) ?_
  refine s_rI R13 (u_226 hm R13.S).1 (u_226 hm R13.S).2 (by decide) (a_226 hm R13) (c_lit 2 2 rfl) ⟨by decide, by decide⟩ hF (fun x39 ra21 hF => ?_)
  refine s_kok R13 (t_213 hm R13.S) (Nat.le_of_ble_eq_true rfl) ?_
  refine s_call R13 (Nat.zero_le _) (fun _ hq => SX37_append (b := 0) hm (R13.rf) (c_lit 1 1 rfl) ⟨by decide, by decide⟩ rfl ra15 rfl ra17 rfl ra19 rfl ra21 (c_lit 0 0 rfl) ⟨by decide, by decide⟩ (c_lit 0 0 rfl) ⟨by decide, by decide⟩ hq) hF (fun f23 rv23 h23 q42 R23 e23 E23 hF => ?_)
  refine s_kok R23 (t_213 hm R23.S) (Nat.le_of_ble_eq_true rfl) ?_
  refine s_call R23 (Nat.zero_le _) (fun _ hq => SX37_append (b := 0) hm (R23.rf) (c_lit 4 4 rfl) ⟨by decide, by decide⟩ (c_lit (-10000) (-10000) rfl) ⟨by decide, by decide⟩ (c_lit 0 0 rfl) ⟨by decide, by decide⟩ (c_lit 0 0 rfl) ⟨by decide, by decide⟩ (c_lit 0 0 rfl) ⟨by decide, by decide⟩ (c_lit 0 0 rfl) ⟨by decide, by decide⟩ (c_lit 0 0 rfl) ⟨by decide, by decide⟩ hq) hF (fun f25 rv25 h25 q44 R25 e25 E25 hF => ?_)
  refine s_pI R25 (t_213 hm R25.S) (Nat.le_of_ble_eq_true rfl) rfl e25.1 e25.2 hF (fun h26 σ45 R26 T26 hF => ?_)
  refine s_kok R26 (t_213 hm R26.S) (Nat.le_of_ble_eq_true rfl) ?_
  refine s_call R26 (Nat.zero_le _) (fun _ hq => SX37_sumUp (b := 0) (N := N) hm (R26.rf) hq) hF (fun f28 rv28 h28 q48 R28 e28 E28 hF => ?_)
  refine s_pI R28 (t_213 hm R28.S) (Nat.le_of_ble_eq_true rfl) rfl (c_lit 0 0 rfl) ⟨by decide, by decide⟩ hF (fun h29 σ49 R29 T29 hF => ?_)
  refine s_gAs R29 (t_213 hm R29.S) (Nat.le_of_ble_eq_true rfl) rfl (o_213_10 hm R29.S) (a_222 hm R29) ?_
  refine s_rI R29 (u_222 hm R29.S).1 (u_222 hm R29.S).2 (by decide) (a_222 hm R29) (c_lit 8 8 rfl) ⟨by decide, by decide⟩ hF (fun x53 ra31 hF => ?_)
  refine s_if (i_le rfl (c_lit 0 0 rfl) ra31 ⟨by decide, by decide⟩) hF (fun c32 hF => ?_) (fun c32 hF => ?_)
  ·
    exact SX37_breakUp_b267 (N := N) hm R29 rfl rl2 rfl rs0 rfl ra2 rfl ra4 rfl ra6 rfl ra8 rfl ra10 (c_lit 0 0 rfl) ⟨by decide, by decide⟩ (c_lit 0 0 rfl) ⟨by decide, by decide⟩ (c_lit 2 2 rfl) ⟨by decide, by decide⟩ hF
  ·
    exact SX37_breakUp_b267 (N := N) hm R29 rfl rl2 rfl rs0 rfl ra2 rfl ra4 rfl ra6 rfl ra8 rfl ra10 (c_lit 0 0 rfl) ⟨by decide, by decide⟩ (c_lit 0 0 rfl) ⟨by decide, by decide⟩ (c_lit 3 3 rfl) ⟨by decide, by decide⟩ hF
def FX37_breakUp_b122 (N : Nat) (l2 : Int) (s : fS) : Option (Int × fS) :=
  FX37_breakUp_b126 N l2 (s.i 213 1) s
theorem SX37_breakUp_b122 {m b : Nat} {φ0 : Nat → Nat} {σo : fS} (hm : 1 ≤ m) {N : Nat} {q : Int × fS} {φ : Nat → Nat} {h : eH} {s : fS} {l2' : Int32} {l2 : Int} (R : fC m b φ0 σo φ h s) (el2 : l2' = iI l2) (rl2 : r32 l2) (hF : FX37_breakUp_b122 N l2 s = some q) : gG m b φ0 σo lI q (fX37_breakUp_b122 N 213 l2' h) := by
  subst el2
  unfold FX37_breakUp_b122 at hF
  unfold fX37_breakUp_b122
  refine s_gI R (t_213 hm R.S) (Nat.le_of_ble_eq_true rfl) rfl ?_
  exact SX37_breakUp_b126 (N := N) hm R rfl rl2 rfl (R.ri (t_213 hm R.S) (Nat.le_of_ble_eq_true rfl) rfl) hF
def FX37_breakUp_b74 (N : Nat) (s1 : Int) (s : fS) : Option (Int × fS) :=
  (uPI s 213 0 s1).bind fun σ1 =>
  if (σ1.i 213 0) ≤ 0 then
    if (σ1.i 213 1) ≤ 0 then
      FX37_breakUp_b122 N (σ1.i 213 1) σ1
    else
      (uRI σ1 214 (isub (σ1.i 213 1) 1)).bind fun x15 =>
      if ¬ (x15 = 1) then
        FX37_breakUp_b122 N (σ1.i 213 1) σ1
      else
        FX37_breakUp_b126 N (σ1.i 213 1) (isub (σ1.i 213 1) 1) σ1
  else
    some (0, σ1)
theorem SX37_breakUp_b74 {m b : Nat} {φ0 : Nat → Nat} {σo : fS} (hm : 1 ≤ m) {N : Nat} {q : Int × fS} {φ : Nat → Nat} {h : eH} {s : fS} {s1' : Int32} {s1 : Int} (R : fC m b φ0 σo φ h s) (es1 : s1' = iI s1) (rs1 : r32 s1) (hF : FX37_breakUp_b74 N s1 s = some q) : gG m b φ0 σo lI q (fX37_breakUp_b74 N 213 213 s1' h) := by
  subst es1
  unfold FX37_breakUp_b74 at hF
  unfold fX37_breakUp_b74
  refine s_pI R (t_213 hm R.S) (Nat.le_of_ble_eq_true rfl) rfl rfl rs1 hF (fun h1 σ1 R1 T1 hF => ?_)
  refine s_gI R1 (t_213 hm R1.S) (Nat.le_of_ble_eq_true rfl) rfl ?_
  refine s_if (i_le rfl (c_lit 0 0 rfl) (R1.ri (t_213 hm R1.S) (Nat.le_of_ble_eq_true rfl) rfl) ⟨by decide, by decide⟩) hF (fun c3 hF => ?_) (fun c3 hF => ?_)
  ·
    refine s_gI R1 (t_213 hm R1.S) (Nat.le_of_ble_eq_true rfl) rfl ?_
    refine s_gI R1 (t_213 hm R1.S) (Nat.le_of_ble_eq_true rfl) rfl ?_
    refine s_if (i_le rfl (c_lit 0 0 rfl) (R1.ri (t_213 hm R1.S) (Nat.le_of_ble_eq_true rfl) rfl) ⟨by decide, by decide⟩) hF (fun c6 hF => ?_) (fun c6 hF => ?_)
    ·
      exact SX37_breakUp_b122 (N := N) hm R1 rfl (R1.ri (t_213 hm R1.S) (Nat.le_of_ble_eq_true rfl) rfl) hF
    ·
      refine s_gAs R1 (t_213 hm R1.S) (Nat.le_of_ble_eq_true rfl) rfl (o_213_2 hm R1.S) (a_214 hm R1) ?_
      refine s_gI R1 (t_213 hm R1.S) (Nat.le_of_ble_eq_true rfl) rfl ?_
      refine s_rI R1 (u_214 hm R1.S).1 (u_214 hm R1.S).2 (by decide) (a_214 hm R1) (c_sub rfl (c_lit 1 1 rfl)) (rr_I _) hF (fun x15 ra9 hF => ?_)
      refine s_if (not_congr (i_eq rfl (c_lit 1 1 rfl) ra9 ⟨by decide, by decide⟩)) hF (fun c10 hF => ?_) (fun c10 hF => ?_)
      ·
        exact SX37_breakUp_b122 (N := N) hm R1 rfl (R1.ri (t_213 hm R1.S) (Nat.le_of_ble_eq_true rfl) rfl) hF
      ·
        refine s_gI R1 (t_213 hm R1.S) (Nat.le_of_ble_eq_true rfl) rfl ?_
        exact SX37_breakUp_b126 (N := N) hm R1 rfl (R1.ri (t_213 hm R1.S) (Nat.le_of_ble_eq_true rfl) rfl) (c_sub rfl (c_lit 1 1 rfl)) (rr_I _) hF
  ·
    exact g_ret R1 hF ⟨(c_lit 0 0 rfl), ⟨by decide, by decide⟩⟩
def FX37_breakUp_b4 (N : Nat) : Nat → Int → Int → fS → Option (Int × fS)
  | 0, _, _, _ => none
  | n + 1, l1, l2, s =>
    if (s.i 213 1) ≤ l2 then
      if l1 = 0 then
        (FX37_fitsInSizes N s).bind fun q6 =>
        if q6.1 = 0 then
          FX37_breakUp_b74 N 2 q6.2
        else
          FX37_breakUp_b74 N 0 q6.2
      else
        FX37_breakUp_b74 N 1 s
    else
      if ¬ (l1 = 0) then
        FX37_breakUp_b41 N (FX37_breakUp_b4 N n) l2 s
      else
        (uRI s 214 l2).bind fun x11 =>
        if ¬ (x11 = 5) then
          FX37_breakUp_b45 N (FX37_breakUp_b4 N n) l2 s
        else
          (uRI s 221 l2).bind fun x16 =>
          if (iadd l2 x16) < (s.i 213 1) then
            FX37_breakUp_b45 N (FX37_breakUp_b4 N n) l2 s
          else
            FX37_breakUp_b41 N (FX37_breakUp_b4 N n) l2 s
theorem SX37_breakUp_b4 {m b : Nat} {φ0 : Nat → Nat} {σo : fS} (hm : 1 ≤ m) {N : Nat} {q : Int × fS} : ∀ {n : Nat} {φ : Nat → Nat} {h : eH} {s : fS} {l1' : Int32} {l1 : Int} {l2' : Int32} {l2 : Int}, fC m b φ0 σo φ h s → l1' = iI l1 → r32 l1 → l2' = iI l2 → r32 l2 → FX37_breakUp_b4 N n l1 l2 s = some q → gG m b φ0 σo lI q (fX37_breakUp_b4 N n 213 l1' l2' h) := by
  intro n
  induction n with
 | zero => intro φ h s l1' l1 l2' l2 R el1 rl1 el2 rl2 hF; simp [FX37_breakUp_b4] at hF
  | succ n ih =>
    intro φ h s l1' l1 l2' l2 R el1 rl1 el2 rl2 hF
    subst el1; subst el2
    rw [FX37_breakUp_b4] at hF
    rw [fX37_breakUp_b4]
    refine s_gI R (t_213 hm R.S) (Nat.le_of_ble_eq_true rfl) rfl ?_
    refine s_if (i_le rfl rfl (R.ri (t_213 hm R.S) (Nat.le_of_ble_eq_true rfl) rfl) rl2) hF (fun c2 hF => ?_) (fun c2 hF => ?_)
    ·
      refine s_if (i_eq rfl (c_lit 0 0 rfl) rl1 ⟨by decide, by decide⟩) hF (fun c3 hF => ?_) (fun c3 hF => ?_)
      ·
        refine s_kok R (t_213 hm R.S) (Nat.le_of_ble_eq_true rfl) ?_
        refine s_call R (Nat.zero_le _) (fun _ hq => SX37_fitsInSizes (b := 0) (N := N) hm (R.rf) hq) hF (fun f5 rv5 h5 q6 R5 e5 E5 hF => ?_)
        refine s_if (i_eq e5.1 (c_lit 0 0 rfl) e5.2 ⟨by decide, by decide⟩) hF (fun c6 hF => ?_) (fun c6 hF => ?_)
        ·
          exact SX37_breakUp_b74 (N := N) hm R5 (c_lit 2 2 rfl) ⟨by decide, by decide⟩ hF
        ·
          exact SX37_breakUp_b74 (N := N) hm R5 (c_lit 0 0 rfl) ⟨by decide, by decide⟩ hF
      ·
        exact SX37_breakUp_b74 (N := N) hm R (c_lit 1 1 rfl) ⟨by decide, by decide⟩ hF
    ·
      refine s_if (not_congr (i_eq rfl (c_lit 0 0 rfl) rl1 ⟨by decide, by decide⟩)) hF (fun c7 hF => ?_) (fun c7 hF => ?_)
      ·
        exact SX37_breakUp_b41 (N := N) (k4 := fX37_breakUp_b4 N n) (K4 := FX37_breakUp_b4 N n) hm @ih R rfl rl2 hF
      ·
        refine s_gAs R (t_213 hm R.S) (Nat.le_of_ble_eq_true rfl) rfl (o_213_2 hm R.S) (a_214 hm R) ?_
        refine s_rI R (u_214 hm R.S).1 (u_214 hm R.S).2 (by decide) (a_214 hm R) rfl rl2 hF (fun x11 ra9 hF => ?_)
        refine s_if (not_congr (i_eq rfl (c_lit 5 5 rfl) ra9 ⟨by decide, by decide⟩)) hF (fun c10 hF => ?_) (fun c10 hF => ?_)
        ·
          exact SX37_breakUp_b45 (N := N) (k4 := fX37_breakUp_b4 N n) (K4 := FX37_breakUp_b4 N n) hm @ih R rfl rl2 hF
        ·
          refine s_gAs R (t_213 hm R.S) (Nat.le_of_ble_eq_true rfl) rfl (o_213_9 hm R.S) (a_221 hm R) ?_
          refine s_rI R (u_221 hm R.S).1 (u_221 hm R.S).2 (by decide) (a_221 hm R) rfl rl2 hF (fun x16 ra12 hF => ?_)
          refine s_gI R (t_213 hm R.S) (Nat.le_of_ble_eq_true rfl) rfl ?_
          refine s_if (i_lt (c_add rfl rfl) rfl (rr_I _) (R.ri (t_213 hm R.S) (Nat.le_of_ble_eq_true rfl) rfl)) hF (fun c14 hF => ?_) (fun c14 hF => ?_)
          ·
            exact SX37_breakUp_b45 (N := N) (k4 := fX37_breakUp_b4 N n) (K4 := FX37_breakUp_b4 N n) hm @ih R rfl rl2 hF
          ·
            exact SX37_breakUp_b41 (N := N) (k4 := fX37_breakUp_b4 N n) (K4 := FX37_breakUp_b4 N n) hm @ih R rfl rl2 hF
def FX37_breakUp (N : Nat) (s : fS) : Option (Int × fS) :=
  FX37_breakUp_b4 N N 0 0 s
theorem SX37_breakUp {m b : Nat} {φ0 : Nat → Nat} {σo : fS} (hm : 1 ≤ m) {N : Nat} {q : Int × fS} {φ : Nat → Nat} {h : eH} {s : fS} (R : fC m b φ0 σo φ h s) (hF : FX37_breakUp N s = some q) : gG m b φ0 σo lI q (fX37_breakUp N 213 h) := by
  unfold FX37_breakUp at hF
  unfold fX37_breakUp
  exact SX37_breakUp_b4 (N := N) hm R (c_lit 0 0 rfl) ⟨by decide, by decide⟩ (c_lit 0 0 rfl) ⟨by decide, by decide⟩ hF
def FX37_nodes_b15 (s0 : Int) (s : fS) : Option (Int × fS) :=
  some (s0, s)
theorem SX37_nodes_b15 {m b : Nat} {φ0 : Nat → Nat} {σo : fS} (hm : 1 ≤ m) {q : Int × fS} {φ : Nat → Nat} {h : eH} {s : fS} {s0' : Int32} {s0 : Int} (R : fC m b φ0 σo φ h s) (es0 : s0' = iI s0) (rs0 : r32 s0) (hF : FX37_nodes_b15 s0 s = some q) : gG m b φ0 σo lI q (fX37_nodes_b15 s0' h) := by
  subst es0
  unfold FX37_nodes_b15 at hF
  unfold fX37_nodes_b15
  exact g_ret R hF ⟨rfl, rs0⟩
def FX37_nodes (s : fS) : Option (Int × fS) :=
  if (s.i 213 36) ≤ 0 then
    FX37_nodes_b15 0 s
  else
    FX37_nodes_b15 (s.i 213 37) s
theorem SX37_nodes {m b : Nat} {φ0 : Nat → Nat} {σo : fS} (hm : 1 ≤ m) {q : Int × fS} {φ : Nat → Nat} {h : eH} {s : fS} (R : fC m b φ0 σo φ h s) (hF : FX37_nodes s = some q) : gG m b φ0 σo lI q (fX37_nodes 213 h) := by
  unfold FX37_nodes at hF
  unfold fX37_nodes
  refine s_gI R (t_213 hm R.S) (Nat.le_of_ble_eq_true rfl) rfl ?_
  refine s_if (i_le rfl (c_lit 0 0 rfl) (R.ri (t_213 hm R.S) (Nat.le_of_ble_eq_true rfl) rfl) ⟨by decide, by decide⟩) hF (fun c2 hF => ?_) (fun c2 hF => ?_)
  ·
    exact SX37_nodes_b15 hm R (c_lit 0 0 rfl) ⟨by decide, by decide⟩ hF
  ·
    refine s_gI R (t_213 hm R.S) (Nat.le_of_ble_eq_true rfl) rfl ?_
    exact SX37_nodes_b15 hm R rfl (R.ri (t_213 hm R.S) (Nat.le_of_ble_eq_true rfl) rfl) hF
def FX35_lineItem (p0 : Int) (p1 : Int) (p2 : Int) (p3 : Int) (p4 : Int) (p5 : Int) (s : fS) : Option (Unit × fS) :=
  (uQI s 324 (imul 6 (s.i 192 128)) p0).bind fun σ5 =>
  (uQI σ5 324 (iadd (imul 6 (s.i 192 128)) 1) p1).bind fun σ9 =>
  (uQI σ9 324 (iadd (imul 6 (s.i 192 128)) 2) p2).bind fun σ13 =>
  (uQI σ13 324 (iadd (imul 6 (s.i 192 128)) 3) p3).bind fun σ17 =>
  (uQI σ17 324 (iadd (imul 6 (s.i 192 128)) 4) p4).bind fun σ21 =>
  (uQI σ21 324 (iadd (imul 6 (s.i 192 128)) 5) p5).bind fun σ25 =>
  (uPI σ25 192 128 (iadd (σ25.i 192 128) 1)).bind fun σ29 =>
  some ((), σ29)
theorem SX35_lineItem {m b : Nat} {φ0 : Nat → Nat} {σo : fS} (hm : 1 ≤ m) {q : Unit × fS} {φ : Nat → Nat} {h : eH} {s : fS} {p0' : Int32} {p0 : Int} {p1' : Int32} {p1 : Int} {p2' : Int32} {p2 : Int} {p3' : Int32} {p3 : Int} {p4' : Int32} {p4 : Int} {p5' : Int32} {p5 : Int} (R : fC m b φ0 σo φ h s) (ep0 : p0' = iI p0) (rp0 : r32 p0) (ep1 : p1' = iI p1) (rp1 : r32 p1) (ep2 : p2' = iI p2) (rp2 : r32 p2) (ep3 : p3' = iI p3) (rp3 : r32 p3) (ep4 : p4' = iI p4) (rp4 : r32 p4) (ep5 : p5' = iI p5) (rp5 : r32 p5) (hF : FX35_lineItem p0 p1 p2 p3 p4 p5 s = some q) : gG m b φ0 σo lU q (fX35_lineItem 192 p0' p1' p2' p3' p4' p5' h) := by
  subst ep0; subst ep1; subst ep2; subst ep3; subst ep4; subst ep5
  unfold FX35_lineItem at hF
  unfold fX35_lineItem
  refine s_gI R (t_192 hm R.S) (Nat.le_of_ble_eq_true rfl) rfl ?_
  refine s_gAs R (t_192 hm R.S) (Nat.le_of_ble_eq_true rfl) rfl (o_192_127 hm R.S) (a_324 hm R) ?_
  refine s_qI R (u_324 hm R.S).1 (u_324 hm R.S).2 (by decide) (a_324 hm R) (c_mul (c_lit 6 6 rfl) rfl) (rr_I _) rfl rp0 hF (fun h3 σ5 R3 T3 hF => ?_)
  refine s_gAs R3 (t_192 hm R3.S) (Nat.le_of_ble_eq_true rfl) rfl (o_192_127 hm R3.S) (a_324 hm R3) ?_
  refine s_qI R3 (u_324 hm R3.S).1 (u_324 hm R3.S).2 (by decide) (a_324 hm R3) (c_add (c_mul (c_lit 6 6 rfl) rfl) (c_lit 1 1 rfl)) (rr_I _) rfl rp1 hF (fun h5 σ9 R5 T5 hF => ?_)
  refine s_gAs R5 (t_192 hm R5.S) (Nat.le_of_ble_eq_true rfl) rfl (o_192_127 hm R5.S) (a_324 hm R5) ?_
  refine s_qI R5 (u_324 hm R5.S).1 (u_324 hm R5.S).2 (by decide) (a_324 hm R5) (c_add (c_mul (c_lit 6 6 rfl) rfl) (c_lit 2 2 rfl)) (rr_I _) rfl rp2 hF (fun h7 σ13 R7 T7 hF => ?_)
  refine s_gAs R7 (t_192 hm R7.S) (Nat.le_of_ble_eq_true rfl) rfl (o_192_127 hm R7.S) (a_324 hm R7) ?_
  refine s_qI R7 (u_324 hm R7.S).1 (u_324 hm R7.S).2 (by decide) (a_324 hm R7) (c_add (c_mul (c_lit 6 6 rfl) rfl) (c_lit 3 3 rfl)) (rr_I _) rfl rp3 hF (fun h9 σ17 R9 T9 hF => ?_)
  refine s_gAs R9 (t_192 hm R9.S) (Nat.le_of_ble_eq_true rfl) rfl (o_192_127 hm R9.S) (a_324 hm R9) ?_
  refine s_qI R9 (u_324 hm R9.S).1 (u_324 hm R9.S).2 (by decide) (a_324 hm R9) (c_add (c_mul (c_lit 6 6 rfl) rfl) (c_lit 4 4 rfl)) (rr_I _) rfl rp4 hF (fun h11 σ21 R11 T11 hF => ?_)
  refine s_gAs R11 (t_192 hm R11.S) (Nat.le_of_ble_eq_true rfl) rfl (o_192_127 hm R11.S) (a_324 hm R11) ?_
  refine s_qI R11 (u_324 hm R11.S).1 (u_324 hm R11.S).2 (by decide) (a_324 hm R11) (c_add (c_mul (c_lit 6 6 rfl) rfl) (c_lit 5 5 rfl)) (rr_I _) rfl rp5 hF (fun h13 σ25 R13 T13 hF => ?_)
  refine s_gI R13 (t_192 hm R13.S) (Nat.le_of_ble_eq_true rfl) rfl ?_
  refine s_pI R13 (t_192 hm R13.S) (Nat.le_of_ble_eq_true rfl) rfl (c_add rfl (c_lit 1 1 rfl)) (rr_I _) hF (fun h15 σ29 R15 T15 hF => ?_)
  exact g_ret R15 hF trivial
def FX35_lineGlue (p0 : Int) (s : fS) : Option (Unit × fS) :=
  (FX35_now (iadd 2247 (imul 4 p0)) s).bind fun q2 =>
  (FX35_now (iadd (iadd 2247 (imul 4 p0)) 1) q2.2).bind fun q4 =>
  (FX35_now (iadd (iadd 2247 (imul 4 p0)) 2) q4.2).bind fun q6 =>
  (FX35_now (iadd (iadd 2247 (imul 4 p0)) 3) q6.2).bind fun q8 =>
  (FX35_lineItem 2 q2.1 q4.1 q6.1 q8.1 0 q8.2).bind fun q10 =>
  some ((), q10.2)
theorem SX35_lineGlue {m b : Nat} {φ0 : Nat → Nat} {σo : fS} (hm : 1 ≤ m) {q : Unit × fS} {φ : Nat → Nat} {h : eH} {s : fS} {p0' : Int32} {p0 : Int} (R : fC m b φ0 σo φ h s) (ep0 : p0' = iI p0) (rp0 : r32 p0) (hF : FX35_lineGlue p0 s = some q) : gG m b φ0 σo lU q (fX35_lineGlue 192 p0' h) := by
  subst ep0
  unfold FX35_lineGlue at hF
  unfold fX35_lineGlue
  refine s_kok R (t_192 hm R.S) (Nat.le_of_ble_eq_true rfl) ?_
  refine s_call R (Nat.zero_le _) (fun _ hq => SX35_now (b := 0) hm (R.rf) (c_add (c_lit 2247 2247 rfl) (c_mul (c_lit 4 4 rfl) rfl)) (rr_I _) hq) hF (fun f2 rv2 h2 q2 R2 e2 E2 hF => ?_)
  refine s_kok R2 (t_192 hm R2.S) (Nat.le_of_ble_eq_true rfl) ?_
  refine s_call R2 (Nat.zero_le _) (fun _ hq => SX35_now (b := 0) hm (R2.rf) (c_add (c_add (c_lit 2247 2247 rfl) (c_mul (c_lit 4 4 rfl) rfl)) (c_lit 1 1 rfl)) (rr_I _) hq) hF (fun f4 rv4 h4 q4 R4 e4 E4 hF => ?_)
  refine s_kok R4 (t_192 hm R4.S) (Nat.le_of_ble_eq_true rfl) ?_
  refine s_call R4 (Nat.zero_le _) (fun _ hq => SX35_now (b := 0) hm (R4.rf) (c_add (c_add (c_lit 2247 2247 rfl) (c_mul (c_lit 4 4 rfl) rfl)) (c_lit 2 2 rfl)) (rr_I _) hq) hF (fun f6 rv6 h6 q6 R6 e6 E6 hF => ?_)
  refine s_kok R6 (t_192 hm R6.S) (Nat.le_of_ble_eq_true rfl) ?_
  refine s_call R6 (Nat.zero_le _) (fun _ hq => SX35_now (b := 0) hm (R6.rf) (c_add (c_add (c_lit 2247 2247 rfl) (c_mul (c_lit 4 4 rfl) rfl)) (c_lit 3 3 rfl)) (rr_I _) hq) hF (fun f8 rv8 h8 q8 R8 e8 E8 hF => ?_)
  refine s_kok R8 (t_192 hm R8.S) (Nat.le_of_ble_eq_true rfl) ?_
  refine s_call R8 (Nat.zero_le _) (fun _ hq => SX35_lineItem (b := 0) hm (R8.rf) (c_lit 2 2 rfl) ⟨by decide, by decide⟩ e2.1 e2.2 e4.1 e4.2 e6.1 e6.2 e8.1 e8.2 (c_lit 0 0 rfl) ⟨by decide, by decide⟩ hq) hF (fun f10 rv10 h10 q10 R10 e10 E10 hF => ?_)
  exact g_ret R10 hF trivial
def FX35_kept_b29 (s0 : Int) (s : fS) : Option (Int × fS) :=
  some ((l2i s0), s)
theorem SX35_kept_b29 {m b : Nat} {φ0 : Nat → Nat} {σo : fS} (hm : 1 ≤ m) {q : Int × fS} {φ : Nat → Nat} {h : eH} {s : fS} {s0' : Int64} {s0 : Int} (R : fC m b φ0 σo φ h s) (es0 : s0' = iJ s0) (rs0 : r64 s0) (hF : FX35_kept_b29 s0 s = some q) : gG m b φ0 σo lI q (fX35_kept_b29 s0' h) := by
  subst es0
  unfold FX35_kept_b29 at hF
  unfold fX35_kept_b29
  exact g_ret R hF ⟨(d_2i rfl), (rr_I _)⟩
def FX35_kept (p0 : Int) (s : fS) : Option (Int × fS) :=
  if p0 ≤ 10000 then
    if (-10000) ≤ p0 then
      FX35_kept_b29 p0 s
    else
      FX35_kept_b29 (-10000) s
  else
    FX35_kept_b29 10000 s
theorem SX35_kept {m b : Nat} {φ0 : Nat → Nat} {σo : fS} (hm : 1 ≤ m) {q : Int × fS} {φ : Nat → Nat} {h : eH} {s : fS} {p0' : Int64} {p0 : Int} (R : fC m b φ0 σo φ h s) (ep0 : p0' = iJ p0) (rp0 : r64 p0) (hF : FX35_kept p0 s = some q) : gG m b φ0 σo lI q (fX35_kept p0' h) := by
  subst ep0
  unfold FX35_kept at hF
  unfold fX35_kept
  refine s_if (lg_le.trans (j_le rfl (d_lit 10000 10000 rfl) rp0 ⟨by decide, by decide⟩)) hF (fun c1 hF => ?_) (fun c1 hF => ?_)
  ·
    refine s_if ((lg_cmp_ge _ _).trans (j_le (d_lit (-10000) (-10000) rfl) rfl ⟨by decide, by decide⟩ rp0)) hF (fun c2 hF => ?_) (fun c2 hF => ?_)
    ·
      exact SX35_kept_b29 hm R rfl rp0 hF
    ·
      exact SX35_kept_b29 hm R (d_lit (-10000) (-10000) rfl) ⟨by decide, by decide⟩ hF
  ·
    exact SX35_kept_b29 hm R (d_lit 10000 10000 rfl) ⟨by decide, by decide⟩ hF
def FX35_penaltyItem_b37 (N : Nat) (SL : Int → Int → Int → fS → Option (Int × fS)) (s : fS) : Option (Unit × fS) :=
  some ((), s)
theorem SX35_penaltyItem_b37 {m b : Nat} {φ0 : Nat → Nat} {σo : fS} (hm : 1 ≤ m) {N : Nat} {sL : Nat → Int32 → Int64 → Int64 → eH → Option (Int32 × eH)} {SL : Int → Int → Int → fS → Option (Int × fS)} {q : Unit × fS} (hsL : ∀ {φ : Nat → Nat} {h : eH} {s : fS} {x1' : Int32} {x1 : Int} {x2' : Int64} {x2 : Int} {x3' : Int64} {x3 : Int} {q}, fC m 1 φ s φ h s → x1' = iI x1 → r32 x1 → x2' = iJ x2 → r64 x2 → x3' = iJ x3 → r64 x3 → SL x1 x2 x3 s = some q → gG m 1 φ s lI q (sL 192 x1' x2' x3' h)) {φ : Nat → Nat} {h : eH} {s : fS} (R : fC m b φ0 σo φ h s) (hF : FX35_penaltyItem_b37 N SL s = some q) : gG m b φ0 σo lU q (fX35_penaltyItem_b37 N sL h) := by
  unfold FX35_penaltyItem_b37 at hF
  unfold fX35_penaltyItem_b37
  exact g_ret R hF trivial
def FX35_penaltyItem (N : Nat) (SL : Int → Int → Int → fS → Option (Int × fS)) (p0 : Int) (s : fS) : Option (Unit × fS) :=
  (FX35_mode s).bind fun q2 =>
  if ¬ (q2.1 = 0) then
    (FX35_kept p0 q2.2).bind fun q4 =>
    (FX35_item N 4 q4.1 0 0 0 0 q4.2).bind fun q6 =>
    FX35_penaltyItem_b37 N SL q6.2
  else
    (FX35_kept p0 q2.2).bind fun q7 =>
    (FX35_outer N SL 4 q7.1 0 0 0 (-1) 0 q7.2).bind fun q9 =>
    FX35_penaltyItem_b37 N SL q9.2
theorem SX35_penaltyItem {m b : Nat} {φ0 : Nat → Nat} {σo : fS} (hm : 1 ≤ m) (hb : 1 ≤ b) {N : Nat} {sL : Nat → Int32 → Int64 → Int64 → eH → Option (Int32 × eH)} {SL : Int → Int → Int → fS → Option (Int × fS)} {q : Unit × fS} (hsL : ∀ {φ : Nat → Nat} {h : eH} {s : fS} {x1' : Int32} {x1 : Int} {x2' : Int64} {x2 : Int} {x3' : Int64} {x3 : Int} {q}, fC m 1 φ s φ h s → x1' = iI x1 → r32 x1 → x2' = iJ x2 → r64 x2 → x3' = iJ x3 → r64 x3 → SL x1 x2 x3 s = some q → gG m 1 φ s lI q (sL 192 x1' x2' x3' h)) {φ : Nat → Nat} {h : eH} {s : fS} {p0' : Int64} {p0 : Int} (R : fC m b φ0 σo φ h s) (ep0 : p0' = iJ p0) (rp0 : r64 p0) (hF : FX35_penaltyItem N SL p0 s = some q) : gG m b φ0 σo lU q (fX35_penaltyItem N sL 192 p0' h) := by
  subst ep0
  unfold FX35_penaltyItem at hF
  unfold fX35_penaltyItem
  refine s_kok R (t_192 hm R.S) (Nat.le_of_ble_eq_true rfl) ?_
  refine s_call R (Nat.zero_le _) (fun _ hq => SX35_mode (b := 0) hm (R.rf) hq) hF (fun f2 rv2 h2 q2 R2 e2 E2 hF => ?_)
  refine s_if (not_congr (i_eq e2.1 (c_lit 0 0 rfl) e2.2 ⟨by decide, by decide⟩)) hF (fun c3 hF => ?_) (fun c3 hF => ?_)
  ·
    refine s_call R2 (Nat.zero_le _) (fun _ hq => SX35_kept (b := 0) hm (R2.rf) rfl rp0 hq) hF (fun f4 rv4 h4 q4 R4 e4 E4 hF => ?_)
    refine s_kok R4 (t_192 hm R4.S) (Nat.le_of_ble_eq_true rfl) ?_
    refine s_call R4 hb (fun _ hq => SX35_item (b := 1) (N := N) hm (Nat.le_of_ble_eq_true rfl) (R4.rf) (c_lit 4 4 rfl) ⟨by decide, by decide⟩ e4.1 e4.2 (c_lit 0 0 rfl) ⟨by decide, by decide⟩ (c_lit 0 0 rfl) ⟨by decide, by decide⟩ (c_lit 0 0 rfl) ⟨by decide, by decide⟩ (c_lit 0 0 rfl) ⟨by decide, by decide⟩ hq) hF (fun f6 rv6 h6 q6 R6 e6 E6 hF => ?_)
    exact SX35_penaltyItem_b37 (N := N) (sL := sL) (SL := SL) hm @hsL R6 hF
  ·
    refine s_call R2 (Nat.zero_le _) (fun _ hq => SX35_kept (b := 0) hm (R2.rf) rfl rp0 hq) hF (fun f7 rv7 h7 q7 R7 e7 E7 hF => ?_)
    refine s_kok R7 (t_192 hm R7.S) (Nat.le_of_ble_eq_true rfl) ?_
    refine s_call R7 hb (fun _ hq => SX35_outer (b := 1) (N := N) (sL := sL) (SL := SL) hm (Nat.le_of_ble_eq_true rfl) @hsL (R7.rf) (c_lit 4 4 rfl) ⟨by decide, by decide⟩ e7.1 e7.2 (c_lit 0 0 rfl) ⟨by decide, by decide⟩ (c_lit 0 0 rfl) ⟨by decide, by decide⟩ (c_lit 0 0 rfl) ⟨by decide, by decide⟩ (c_lit (-1) (-1) rfl) ⟨by decide, by decide⟩ (c_lit 0 0 rfl) ⟨by decide, by decide⟩ hq) hF (fun f9 rv9 h9 q9 R9 e9 E9 hF => ?_)
    exact SX35_penaltyItem_b37 (N := N) (sL := sL) (SL := SL) hm @hsL R9 hF
def FX35_paragraphLine_b204 (N : Nat) (SL : Int → Int → Int → fS → Option (Int × fS)) (K63 : Int → Int → Int → Int → Int → fS → Option (Unit × fS)) (l1 : Int) (l3 : Int) (l4 : Int) (l5 : Int) (l6 : Int) (s : fS) : Option (Unit × fS) :=
  K63 l1 l3 l4 l5 (iadd l6 1) s
theorem SX35_paragraphLine_b204 {m b : Nat} {φ0 : Nat → Nat} {σo : fS} (hm : 1 ≤ m) (hb : 1 ≤ b) {N : Nat} {sL : Nat → Int32 → Int64 → Int64 → eH → Option (Int32 × eH)} {SL : Int → Int → Int → fS → Option (Int × fS)} {k63 : Nat → Int32 → Int32 → Int32 → Int32 → Int32 → eH → Option (Unit × eH)} {K63 : Int → Int → Int → Int → Int → fS → Option (Unit × fS)} {q : Unit × fS} (hsL : ∀ {φ : Nat → Nat} {h : eH} {s : fS} {x1' : Int32} {x1 : Int} {x2' : Int64} {x2 : Int} {x3' : Int64} {x3 : Int} {q}, fC m 1 φ s φ h s → x1' = iI x1 → r32 x1 → x2' = iJ x2 → r64 x2 → x3' = iJ x3 → r64 x3 → SL x1 x2 x3 s = some q → gG m 1 φ s lI q (sL 192 x1' x2' x3' h)) (hk63 : ∀ {φ : Nat → Nat} {h : eH} {s : fS} {l1' : Int32} {l1 : Int} {l3' : Int32} {l3 : Int} {l4' : Int32} {l4 : Int} {l5' : Int32} {l5 : Int} {l6' : Int32} {l6 : Int}, fC m b φ0 σo φ h s → l1' = iI l1 → r32 l1 → l3' = iI l3 → r32 l3 → l4' = iI l4 → r32 l4 → l5' = iI l5 → r32 l5 → l6' = iI l6 → r32 l6 → K63 l1 l3 l4 l5 l6 s = some q → gG m b φ0 σo lU q (k63 192 l1' l3' l4' l5' l6' h)) {φ : Nat → Nat} {h : eH} {s : fS} {l1' : Int32} {l1 : Int} {l3' : Int32} {l3 : Int} {l4' : Int32} {l4 : Int} {l5' : Int32} {l5 : Int} {l6' : Int32} {l6 : Int} (R : fC m b φ0 σo φ h s) (el1 : l1' = iI l1) (rl1 : r32 l1) (el3 : l3' = iI l3) (rl3 : r32 l3) (el4 : l4' = iI l4) (rl4 : r32 l4) (el5 : l5' = iI l5) (rl5 : r32 l5) (el6 : l6' = iI l6) (rl6 : r32 l6) (hF : FX35_paragraphLine_b204 N SL K63 l1 l3 l4 l5 l6 s = some q) : gG m b φ0 σo lU q (fX35_paragraphLine_b204 N sL k63 192 l1' l3' l4' l5' l6' h) := by
  subst el1; subst el3; subst el4; subst el5; subst el6
  unfold FX35_paragraphLine_b204 at hF
  unfold fX35_paragraphLine_b204
  exact hk63 R rfl rl1 rfl rl3 rfl rl4 rfl rl5 (c_add rfl (c_lit 1 1 rfl)) (rr_I _) hF
def FX35_paragraphLine_b104 (N : Nat) (SL : Int → Int → Int → fS → Option (Int × fS)) (K63 : Int → Int → Int → Int → Int → fS → Option (Unit × fS)) (l1 : Int) (l3 : Int) (l4 : Int) (l5 : Int) (l6 : Int) (s0 : Int) (s : fS) : Option (Unit × fS) :=
  if ¬ (l6 = (iadd l5 1)) then
    if s0 = 4 then
      FX35_paragraphLine_b204 N SL K63 l1 l3 l4 l5 l6 s
    else
      if s0 = 6 then
        FX35_paragraphLine_b204 N SL K63 l1 l3 l4 l5 l6 s
      else
        (uRI s 292 (iadd (imul 6 l6) 1)).bind fun x6 =>
        (uRI s 292 (iadd (imul 6 l6) 2)).bind fun x10 =>
        (uRI s 292 (iadd (imul 6 l6) 3)).bind fun x14 =>
        (uRI s 292 (iadd (imul 6 l6) 4)).bind fun x18 =>
        (uRI s 292 (iadd (imul 6 l6) 5)).bind fun x22 =>
        (FX35_lineItem s0 x6 x10 x14 x18 x22 s).bind fun q25 =>
        FX35_paragraphLine_b204 N SL K63 l1 l3 l4 l5 l6 q25.2
  else
    (FX35_lineGlue 262 s).bind fun q27 =>
    FX35_paragraphLine_b204 N SL K63 l1 l3 l4 l5 l6 q27.2
theorem SX35_paragraphLine_b104 {m b : Nat} {φ0 : Nat → Nat} {σo : fS} (hm : 1 ≤ m) (hb : 1 ≤ b) {N : Nat} {sL : Nat → Int32 → Int64 → Int64 → eH → Option (Int32 × eH)} {SL : Int → Int → Int → fS → Option (Int × fS)} {k63 : Nat → Int32 → Int32 → Int32 → Int32 → Int32 → eH → Option (Unit × eH)} {K63 : Int → Int → Int → Int → Int → fS → Option (Unit × fS)} {q : Unit × fS} (hsL : ∀ {φ : Nat → Nat} {h : eH} {s : fS} {x1' : Int32} {x1 : Int} {x2' : Int64} {x2 : Int} {x3' : Int64} {x3 : Int} {q}, fC m 1 φ s φ h s → x1' = iI x1 → r32 x1 → x2' = iJ x2 → r64 x2 → x3' = iJ x3 → r64 x3 → SL x1 x2 x3 s = some q → gG m 1 φ s lI q (sL 192 x1' x2' x3' h)) (hk63 : ∀ {φ : Nat → Nat} {h : eH} {s : fS} {l1' : Int32} {l1 : Int} {l3' : Int32} {l3 : Int} {l4' : Int32} {l4 : Int} {l5' : Int32} {l5 : Int} {l6' : Int32} {l6 : Int}, fC m b φ0 σo φ h s → l1' = iI l1 → r32 l1 → l3' = iI l3 → r32 l3 → l4' = iI l4 → r32 l4 → l5' = iI l5 → r32 l5 → l6' = iI l6 → r32 l6 → K63 l1 l3 l4 l5 l6 s = some q → gG m b φ0 σo lU q (k63 192 l1' l3' l4' l5' l6' h)) {φ : Nat → Nat} {h : eH} {s : fS} {l1' : Int32} {l1 : Int} {l3' : Int32} {l3 : Int} {l4' : Int32} {l4 : Int} {l5' : Int32} {l5 : Int} {l6' : Int32} {l6 : Int} {s0' : Int32} {s0 : Int} (R : fC m b φ0 σo φ h s) (el1 : l1' = iI l1) (rl1 : r32 l1) (el3 : l3' = iI l3) (rl3 : r32 l3) (el4 : l4' = iI l4) (rl4 : r32 l4) (el5 : l5' = iI l5) (rl5 : r32 l5) (el6 : l6' = iI l6) (rl6 : r32 l6) (es0 : s0' = iI s0) (rs0 : r32 s0) (hF : FX35_paragraphLine_b104 N SL K63 l1 l3 l4 l5 l6 s0 s = some q) : gG m b φ0 σo lU q (fX35_paragraphLine_b104 N sL k63 192 l1' l3' l4' l5' l6' s0' h) := by
  subst el1; subst el3; subst el4; subst el5; subst el6; subst es0
  unfold FX35_paragraphLine_b104 at hF
  unfold fX35_paragraphLine_b104
  refine s_if (not_congr (i_eq rfl (c_add rfl (c_lit 1 1 rfl)) rl6 (rr_I _))) hF (fun c1 hF => ?_) (fun c1 hF => ?_)
  ·
    refine s_if (i_eq rfl (c_lit 4 4 rfl) rs0 ⟨by decide, by decide⟩) hF (fun c2 hF => ?_) (fun c2 hF => ?_)
    ·
      exact SX35_paragraphLine_b204 (N := N) (sL := sL) (SL := SL) (k63 := k63) (K63 := K63) hm hb @hsL @hk63 R rfl rl1 rfl rl3 rfl rl4 rfl rl5 rfl rl6 hF
    ·
      refine s_if (i_eq rfl (c_lit 6 6 rfl) rs0 ⟨by decide, by decide⟩) hF (fun c3 hF => ?_) (fun c3 hF => ?_)
      ·
        exact SX35_paragraphLine_b204 (N := N) (sL := sL) (SL := SL) (k63 := k63) (K63 := K63) hm hb @hsL @hk63 R rfl rl1 rfl rl3 rfl rl4 rfl rl5 rfl rl6 hF
      ·
        refine s_gAs R (t_192 hm R.S) (Nat.le_of_ble_eq_true rfl) rfl (o_192_63 hm R.S) (a_292 hm R) ?_
        refine s_rI R (u_292 hm R.S).1 (u_292 hm R.S).2 (by decide) (a_292 hm R) (c_add (c_mul (c_lit 6 6 rfl) rfl) (c_lit 1 1 rfl)) (rr_I _) hF (fun x6 ra5 hF => ?_)
        refine s_gAs R (t_192 hm R.S) (Nat.le_of_ble_eq_true rfl) rfl (o_192_63 hm R.S) (a_292 hm R) ?_
        refine s_rI R (u_292 hm R.S).1 (u_292 hm R.S).2 (by decide) (a_292 hm R) (c_add (c_mul (c_lit 6 6 rfl) rfl) (c_lit 2 2 rfl)) (rr_I _) hF (fun x10 ra7 hF => ?_)
        refine s_gAs R (t_192 hm R.S) (Nat.le_of_ble_eq_true rfl) rfl (o_192_63 hm R.S) (a_292 hm R) ?_
        refine s_rI R (u_292 hm R.S).1 (u_292 hm R.S).2 (by decide) (a_292 hm R) (c_add (c_mul (c_lit 6 6 rfl) rfl) (c_lit 3 3 rfl)) (rr_I _) hF (fun x14 ra9 hF => ?_)
        refine s_gAs R (t_192 hm R.S) (Nat.le_of_ble_eq_true rfl) rfl (o_192_63 hm R.S) (a_292 hm R) ?_
        refine s_rI R (u_292 hm R.S).1 (u_292 hm R.S).2 (by decide) (a_292 hm R) (c_add (c_mul (c_lit 6 6 rfl) rfl) (c_lit 4 4 rfl)) (rr_I _) hF (fun x18 ra11 hF => ?_)
        refine s_gAs R (t_192 hm R.S) (Nat.le_of_ble_eq_true rfl) rfl (o_192_63 hm R.S) (a_292 hm R) ?_
        refine s_rI R (u_292 hm R.S).1 (u_292 hm R.S).2 (by decide) (a_292 hm R) (c_add (c_mul (c_lit 6 6 rfl) rfl) (c_lit 5 5 rfl)) (rr_I _) hF (fun x22 ra13 hF => ?_)
        refine s_kok R (t_192 hm R.S) (Nat.le_of_ble_eq_true rfl) ?_
        refine s_call R (Nat.zero_le _) (fun _ hq => SX35_lineItem (b := 0) hm (R.rf) rfl rs0 rfl ra5 rfl ra7 rfl ra9 rfl ra11 rfl ra13 hq) hF (fun f15 rv15 h15 q25 R15 e15 E15 hF => ?_)
        exact SX35_paragraphLine_b204 (N := N) (sL := sL) (SL := SL) (k63 := k63) (K63 := K63) hm hb @hsL @hk63 R15 rfl rl1 rfl rl3 rfl rl4 rfl rl5 rfl rl6 hF
  ·
    refine s_kok R (t_192 hm R.S) (Nat.le_of_ble_eq_true rfl) ?_
    refine s_call R (Nat.zero_le _) (fun _ hq => SX35_lineGlue (b := 0) hm (R.rf) (c_lit 262 262 rfl) ⟨by decide, by decide⟩ hq) hF (fun f17 rv17 h17 q27 R17 e17 E17 hF => ?_)
    exact SX35_paragraphLine_b204 (N := N) (sL := sL) (SL := SL) (k63 := k63) (K63 := K63) hm hb @hsL @hk63 R17 rfl rl1 rfl rl3 rfl rl4 rfl rl5 rfl rl6 hF
def FX35_paragraphLine_b492 (N : Nat) (SL : Int → Int → Int → fS → Option (Int × fS)) (s : fS) : Option (Unit × fS) :=
  some ((), s)
theorem SX35_paragraphLine_b492 {m b : Nat} {φ0 : Nat → Nat} {σo : fS} (hm : 1 ≤ m) {N : Nat} {sL : Nat → Int32 → Int64 → Int64 → eH → Option (Int32 × eH)} {SL : Int → Int → Int → fS → Option (Int × fS)} {q : Unit × fS} (hsL : ∀ {φ : Nat → Nat} {h : eH} {s : fS} {x1' : Int32} {x1 : Int} {x2' : Int64} {x2 : Int} {x3' : Int64} {x3 : Int} {q}, fC m 1 φ s φ h s → x1' = iI x1 → r32 x1 → x2' = iJ x2 → r64 x2 → x3' = iJ x3 → r64 x3 → SL x1 x2 x3 s = some q → gG m 1 φ s lI q (sL 192 x1' x2' x3' h)) {φ : Nat → Nat} {h : eH} {s : fS} (R : fC m b φ0 σo φ h s) (hF : FX35_paragraphLine_b492 N SL s = some q) : gG m b φ0 σo lU q (fX35_paragraphLine_b492 N sL h) := by
  unfold FX35_paragraphLine_b492 at hF
  unfold fX35_paragraphLine_b492
  exact g_ret R hF trivial
def FX35_paragraphLine_b477 (N : Nat) (SL : Int → Int → Int → fS → Option (Int × fS)) (s0 : Int) (s : fS) : Option (Unit × fS) :=
  if s0 = 0 then
    FX35_paragraphLine_b492 N SL s
  else
    (FX35_penaltyItem N SL s0 s).bind fun q3 =>
    FX35_paragraphLine_b492 N SL q3.2
theorem SX35_paragraphLine_b477 {m b : Nat} {φ0 : Nat → Nat} {σo : fS} (hm : 1 ≤ m) (hb : 1 ≤ b) {N : Nat} {sL : Nat → Int32 → Int64 → Int64 → eH → Option (Int32 × eH)} {SL : Int → Int → Int → fS → Option (Int × fS)} {q : Unit × fS} (hsL : ∀ {φ : Nat → Nat} {h : eH} {s : fS} {x1' : Int32} {x1 : Int} {x2' : Int64} {x2 : Int} {x3' : Int64} {x3 : Int} {q}, fC m 1 φ s φ h s → x1' = iI x1 → r32 x1 → x2' = iJ x2 → r64 x2 → x3' = iJ x3 → r64 x3 → SL x1 x2 x3 s = some q → gG m 1 φ s lI q (sL 192 x1' x2' x3' h)) {φ : Nat → Nat} {h : eH} {s : fS} {s0' : Int64} {s0 : Int} (R : fC m b φ0 σo φ h s) (es0 : s0' = iJ s0) (rs0 : r64 s0) (hF : FX35_paragraphLine_b477 N SL s0 s = some q) : gG m b φ0 σo lU q (fX35_paragraphLine_b477 N sL 192 s0' h) := by
  subst es0
  unfold FX35_paragraphLine_b477 at hF
  unfold fX35_paragraphLine_b477
  refine s_if (lg_eq.trans (j_eq rfl (d_lit 0 0 rfl) rs0 ⟨by decide, by decide⟩)) hF (fun c1 hF => ?_) (fun c1 hF => ?_)
  ·
    exact SX35_paragraphLine_b492 (N := N) (sL := sL) (SL := SL) hm @hsL R hF
  ·
    refine s_kok R (t_192 hm R.S) (Nat.le_of_ble_eq_true rfl) ?_
    refine s_call R hb (fun _ hq => SX35_penaltyItem (b := 1) (N := N) (sL := sL) (SL := SL) hm (Nat.le_of_ble_eq_true rfl) @hsL (R.rf) rfl rs0 hq) hF (fun f3 rv3 h3 q3 R3 e3 E3 hF => ?_)
    exact SX35_paragraphLine_b492 (N := N) (sL := sL) (SL := SL) hm @hsL R3 hF
def FX35_paragraphLine_b454 (N : Nat) (SL : Int → Int → Int → fS → Option (Int × fS)) (l6 : Int) (s0 : Int) (s : fS) : Option (Unit × fS) :=
  if l6 = 0 then
    FX35_paragraphLine_b477 N SL s0 s
  else
    (FX35_counter 263 s).bind fun q3 =>
    FX35_paragraphLine_b477 N SL (ladd s0 q3.1) q3.2
theorem SX35_paragraphLine_b454 {m b : Nat} {φ0 : Nat → Nat} {σo : fS} (hm : 1 ≤ m) (hb : 1 ≤ b) {N : Nat} {sL : Nat → Int32 → Int64 → Int64 → eH → Option (Int32 × eH)} {SL : Int → Int → Int → fS → Option (Int × fS)} {q : Unit × fS} (hsL : ∀ {φ : Nat → Nat} {h : eH} {s : fS} {x1' : Int32} {x1 : Int} {x2' : Int64} {x2 : Int} {x3' : Int64} {x3 : Int} {q}, fC m 1 φ s φ h s → x1' = iI x1 → r32 x1 → x2' = iJ x2 → r64 x2 → x3' = iJ x3 → r64 x3 → SL x1 x2 x3 s = some q → gG m 1 φ s lI q (sL 192 x1' x2' x3' h)) {φ : Nat → Nat} {h : eH} {s : fS} {l6' : Int32} {l6 : Int} {s0' : Int64} {s0 : Int} (R : fC m b φ0 σo φ h s) (el6 : l6' = iI l6) (rl6 : r32 l6) (es0 : s0' = iJ s0) (rs0 : r64 s0) (hF : FX35_paragraphLine_b454 N SL l6 s0 s = some q) : gG m b φ0 σo lU q (fX35_paragraphLine_b454 N sL 192 l6' s0' h) := by
  subst el6; subst es0
  unfold FX35_paragraphLine_b454 at hF
  unfold fX35_paragraphLine_b454
  refine s_if (i_eq rfl (c_lit 0 0 rfl) rl6 ⟨by decide, by decide⟩) hF (fun c1 hF => ?_) (fun c1 hF => ?_)
  ·
    exact SX35_paragraphLine_b477 (N := N) (sL := sL) (SL := SL) hm hb @hsL R rfl rs0 hF
  ·
    refine s_kok R (t_192 hm R.S) (Nat.le_of_ble_eq_true rfl) ?_
    refine s_call R (Nat.zero_le _) (fun _ hq => SX35_counter (b := 0) hm (R.rf) (c_lit 263 263 rfl) ⟨by decide, by decide⟩ hq) hF (fun f3 rv3 h3 q3 R3 e3 E3 hF => ?_)
    exact SX35_paragraphLine_b477 (N := N) (sL := sL) (SL := SL) hm hb @hsL R3 (d_add rfl (c_2l e3.1 e3.2)) (rr_J _) hF
def FX35_paragraphLine_b429 (N : Nat) (SL : Int → Int → Int → fS → Option (Int × fS)) (l1 : Int) (l3 : Int) (l6 : Int) (s0 : Int) (s : fS) : Option (Unit × fS) :=
  if ¬ (l1 = (isub l3 2)) then
    FX35_paragraphLine_b454 N SL l6 s0 s
  else
    (FX35_counter 262 s).bind fun q3 =>
    FX35_paragraphLine_b454 N SL l6 (ladd s0 q3.1) q3.2
theorem SX35_paragraphLine_b429 {m b : Nat} {φ0 : Nat → Nat} {σo : fS} (hm : 1 ≤ m) (hb : 1 ≤ b) {N : Nat} {sL : Nat → Int32 → Int64 → Int64 → eH → Option (Int32 × eH)} {SL : Int → Int → Int → fS → Option (Int × fS)} {q : Unit × fS} (hsL : ∀ {φ : Nat → Nat} {h : eH} {s : fS} {x1' : Int32} {x1 : Int} {x2' : Int64} {x2 : Int} {x3' : Int64} {x3 : Int} {q}, fC m 1 φ s φ h s → x1' = iI x1 → r32 x1 → x2' = iJ x2 → r64 x2 → x3' = iJ x3 → r64 x3 → SL x1 x2 x3 s = some q → gG m 1 φ s lI q (sL 192 x1' x2' x3' h)) {φ : Nat → Nat} {h : eH} {s : fS} {l1' : Int32} {l1 : Int} {l3' : Int32} {l3 : Int} {l6' : Int32} {l6 : Int} {s0' : Int64} {s0 : Int} (R : fC m b φ0 σo φ h s) (el1 : l1' = iI l1) (rl1 : r32 l1) (el3 : l3' = iI l3) (rl3 : r32 l3) (el6 : l6' = iI l6) (rl6 : r32 l6) (es0 : s0' = iJ s0) (rs0 : r64 s0) (hF : FX35_paragraphLine_b429 N SL l1 l3 l6 s0 s = some q) : gG m b φ0 σo lU q (fX35_paragraphLine_b429 N sL 192 l1' l3' l6' s0' h) := by
  subst el1; subst el3; subst el6; subst es0
  unfold FX35_paragraphLine_b429 at hF
  unfold fX35_paragraphLine_b429
  refine s_if (not_congr (i_eq rfl (c_sub rfl (c_lit 2 2 rfl)) rl1 (rr_I _))) hF (fun c1 hF => ?_) (fun c1 hF => ?_)
  ·
    exact SX35_paragraphLine_b454 (N := N) (sL := sL) (SL := SL) hm hb @hsL R rfl rl6 rfl rs0 hF
  ·
    refine s_kok R (t_192 hm R.S) (Nat.le_of_ble_eq_true rfl) ?_
    refine s_call R (Nat.zero_le _) (fun _ hq => SX35_counter (b := 0) hm (R.rf) (c_lit 262 262 rfl) ⟨by decide, by decide⟩ hq) hF (fun f3 rv3 h3 q3 R3 e3 E3 hF => ?_)
    exact SX35_paragraphLine_b454 (N := N) (sL := sL) (SL := SL) hm hb @hsL R3 rfl rl6 (d_add rfl (c_2l e3.1 e3.2)) (rr_J _) hF
def FX35_paragraphLine_b339 (N : Nat) (SL : Int → Int → Int → fS → Option (Int × fS)) (l1 : Int) (l3 : Int) (l6 : Int) (s : fS) : Option (Unit × fS) :=
  (FX35_lineGlue 261 s).bind fun q2 =>
  (FX35_now 2241 q2.2).bind fun q8 =>
  (FX35_pack N 324 0 (q2.2.i 192 128) 0 1 q8.1 q8.2).bind fun q10 =>
  if (q10.2.i 192 46) ≤ 0 then
    (FX35_boxItem N SL q10.1 0 q10.2).bind fun q15 =>
    if ¬ ((q15.2.i 192 46) = 0) then
      FX35_paragraphLine_b492 N SL q15.2
    else
      if (isub l3 1) ≤ l1 then
        FX35_paragraphLine_b492 N SL q15.2
      else
        (FX35_counter 264 q15.2).bind fun q21 =>
        if ¬ (l1 = 0) then
          FX35_paragraphLine_b429 N SL l1 l3 l6 q21.1 q21.2
        else
          (FX35_counter 261 q21.2).bind fun q24 =>
          FX35_paragraphLine_b429 N SL l1 l3 l6 (ladd q21.1 q24.1) q24.2
  else
    some ((), q10.2)
theorem SX35_paragraphLine_b339 {m b : Nat} {φ0 : Nat → Nat} {σo : fS} (hm : 1 ≤ m) (hb : 1 ≤ b) {N : Nat} {sL : Nat → Int32 → Int64 → Int64 → eH → Option (Int32 × eH)} {SL : Int → Int → Int → fS → Option (Int × fS)} {q : Unit × fS} (hsL : ∀ {φ : Nat → Nat} {h : eH} {s : fS} {x1' : Int32} {x1 : Int} {x2' : Int64} {x2 : Int} {x3' : Int64} {x3 : Int} {q}, fC m 1 φ s φ h s → x1' = iI x1 → r32 x1 → x2' = iJ x2 → r64 x2 → x3' = iJ x3 → r64 x3 → SL x1 x2 x3 s = some q → gG m 1 φ s lI q (sL 192 x1' x2' x3' h)) {φ : Nat → Nat} {h : eH} {s : fS} {l1' : Int32} {l1 : Int} {l3' : Int32} {l3 : Int} {l6' : Int32} {l6 : Int} (R : fC m b φ0 σo φ h s) (el1 : l1' = iI l1) (rl1 : r32 l1) (el3 : l3' = iI l3) (rl3 : r32 l3) (el6 : l6' = iI l6) (rl6 : r32 l6) (hF : FX35_paragraphLine_b339 N SL l1 l3 l6 s = some q) : gG m b φ0 σo lU q (fX35_paragraphLine_b339 N sL 192 l1' l3' l6' h) := by
  subst el1; subst el3; subst el6
  unfold FX35_paragraphLine_b339 at hF
  unfold fX35_paragraphLine_b339
  refine s_kok R (t_192 hm R.S) (Nat.le_of_ble_eq_true rfl) ?_
  refine s_call R (Nat.zero_le _) (fun _ hq => SX35_lineGlue (b := 0) hm (R.rf) (c_lit 261 261 rfl) ⟨by decide, by decide⟩ hq) hF (fun f2 rv2 h2 q2 R2 e2 E2 hF => ?_)
  refine s_gAs R2 (t_192 hm R2.S) (Nat.le_of_ble_eq_true rfl) rfl (o_192_127 hm R2.S) (a_324 hm R2) ?_
  refine s_gI R2 (t_192 hm R2.S) (Nat.le_of_ble_eq_true rfl) rfl ?_
  refine s_kok R2 (t_192 hm R2.S) (Nat.le_of_ble_eq_true rfl) ?_
  refine s_call R2 (Nat.zero_le _) (fun _ hq => SX35_now (b := 0) hm (R2.rf) (c_lit 2241 2241 rfl) ⟨by decide, by decide⟩ hq) hF (fun f6 rv6 h6 q8 R6 e6 E6 hF => ?_)
  refine s_kok R6 (t_192 hm R6.S) (Nat.le_of_ble_eq_true rfl) ?_
  refine s_call R6 (Nat.zero_le _) (fun _ hq => SX35_pack (b := 0) (N := N) hm (R6.rf) (a_324 hm R6) (u_324 hm R6.S).1 (c_lit 0 0 rfl) ⟨by decide, by decide⟩ rfl (R2.ri (t_192 hm R2.S) (Nat.le_of_ble_eq_true rfl) rfl) (c_lit 0 0 rfl) ⟨by decide, by decide⟩ (c_lit 1 1 rfl) ⟨by decide, by decide⟩ e6.1 e6.2 hq) hF (fun f8 rv8 h8 q10 R8 e8 E8 hF => ?_)
  refine s_gI R8 (t_192 hm R8.S) (Nat.le_of_ble_eq_true rfl) rfl ?_
  refine s_if (i_le rfl (c_lit 0 0 rfl) (R8.ri (t_192 hm R8.S) (Nat.le_of_ble_eq_true rfl) rfl) ⟨by decide, by decide⟩) hF (fun c10 hF => ?_) (fun c10 hF => ?_)
  ·
    refine s_kok R8 (t_192 hm R8.S) (Nat.le_of_ble_eq_true rfl) ?_
    refine s_call R8 hb (fun _ hq => SX35_boxItem (b := 1) (N := N) (sL := sL) (SL := SL) hm (Nat.le_of_ble_eq_true rfl) @hsL (R8.rf) e8.1 e8.2 (c_lit 0 0 rfl) ⟨by decide, by decide⟩ hq) hF (fun f12 rv12 h12 q15 R12 e12 E12 hF => ?_)
    refine s_gI R12 (t_192 hm R12.S) (Nat.le_of_ble_eq_true rfl) rfl ?_
    refine s_if (not_congr (i_eq rfl (c_lit 0 0 rfl) (R12.ri (t_192 hm R12.S) (Nat.le_of_ble_eq_true rfl) rfl) ⟨by decide, by decide⟩)) hF (fun c14 hF => ?_) (fun c14 hF => ?_)
    ·
      exact SX35_paragraphLine_b492 (N := N) (sL := sL) (SL := SL) hm @hsL R12 hF
    ·
      refine s_if (i_le (c_sub rfl (c_lit 1 1 rfl)) rfl (rr_I _) rl1) hF (fun c15 hF => ?_) (fun c15 hF => ?_)
      ·
        exact SX35_paragraphLine_b492 (N := N) (sL := sL) (SL := SL) hm @hsL R12 hF
      ·
        refine s_kok R12 (t_192 hm R12.S) (Nat.le_of_ble_eq_true rfl) ?_
        refine s_call R12 (Nat.zero_le _) (fun _ hq => SX35_counter (b := 0) hm (R12.rf) (c_lit 264 264 rfl) ⟨by decide, by decide⟩ hq) hF (fun f17 rv17 h17 q21 R17 e17 E17 hF => ?_)
        refine s_if (not_congr (i_eq rfl (c_lit 0 0 rfl) rl1 ⟨by decide, by decide⟩)) hF (fun c18 hF => ?_) (fun c18 hF => ?_)
        ·
          exact SX35_paragraphLine_b429 (N := N) (sL := sL) (SL := SL) hm hb @hsL R17 rfl rl1 rfl rl3 rfl rl6 (c_2l e17.1 e17.2) (r32.w e17.2) hF
        ·
          refine s_kok R17 (t_192 hm R17.S) (Nat.le_of_ble_eq_true rfl) ?_
          refine s_call R17 (Nat.zero_le _) (fun _ hq => SX35_counter (b := 0) hm (R17.rf) (c_lit 261 261 rfl) ⟨by decide, by decide⟩ hq) hF (fun f20 rv20 h20 q24 R20 e20 E20 hF => ?_)
          exact SX35_paragraphLine_b429 (N := N) (sL := sL) (SL := SL) hm hb @hsL R20 rfl rl1 rfl rl3 rfl rl6 (d_add (c_2l e17.1 e17.2) (c_2l e20.1 e20.2)) (rr_J _) hF
  ·
    exact g_ret R8 hF trivial
def FX35_paragraphLine_b237 (N : Nat) (SL : Int → Int → Int → fS → Option (Int × fS)) (l1 : Int) (l3 : Int) (l4 : Int) (s0 : Int) (s : fS) : Option (Unit × fS) :=
  if s0 = 0 then
    FX35_paragraphLine_b339 N SL l1 l3 s0 s
  else
    (uRI s 292 (iadd (imul 6 l4) 1)).bind fun x4 =>
    if x4 < 0 then
      FX35_paragraphLine_b339 N SL l1 l3 s0 s
    else
      (uRI s 292 (iadd (imul 6 l4) 1)).bind fun x9 =>
      (FX35_metrics x9 s).bind fun q12 =>
      (uRI q12.2 284 x9).bind fun x15 =>
      (uK 42 q12.2 q12.1).bind fun _ =>
      (FX40_of N q12.1 45 0 x15 q12.2).bind fun q18 =>
      (FX35_metrics x9 q18.2).bind fun q20 =>
      (uRI q20.2 284 x9).bind fun x23 =>
      (uK 42 q20.2 q20.1).bind fun _ =>
      (FX40_of N q20.1 45 1 x23 q20.2).bind fun q26 =>
      (FX35_metrics x9 q26.2).bind fun q28 =>
      (uRI q28.2 284 x9).bind fun x31 =>
      (uK 42 q28.2 q28.1).bind fun _ =>
      (FX40_of N q28.1 45 2 x31 q28.2).bind fun q34 =>
      (FX35_lineItem 0 x9 45 q18.1 q26.1 q34.1 q34.2).bind fun q36 =>
      FX35_paragraphLine_b339 N SL l1 l3 s0 q36.2
theorem SX35_paragraphLine_b237 {m b : Nat} {φ0 : Nat → Nat} {σo : fS} (hm : 1 ≤ m) (hb : 1 ≤ b) {N : Nat} {sL : Nat → Int32 → Int64 → Int64 → eH → Option (Int32 × eH)} {SL : Int → Int → Int → fS → Option (Int × fS)} {q : Unit × fS} (hsL : ∀ {φ : Nat → Nat} {h : eH} {s : fS} {x1' : Int32} {x1 : Int} {x2' : Int64} {x2 : Int} {x3' : Int64} {x3 : Int} {q}, fC m 1 φ s φ h s → x1' = iI x1 → r32 x1 → x2' = iJ x2 → r64 x2 → x3' = iJ x3 → r64 x3 → SL x1 x2 x3 s = some q → gG m 1 φ s lI q (sL 192 x1' x2' x3' h)) {φ : Nat → Nat} {h : eH} {s : fS} {l1' : Int32} {l1 : Int} {l3' : Int32} {l3 : Int} {l4' : Int32} {l4 : Int} {s0' : Int32} {s0 : Int} (R : fC m b φ0 σo φ h s) (el1 : l1' = iI l1) (rl1 : r32 l1) (el3 : l3' = iI l3) (rl3 : r32 l3) (el4 : l4' = iI l4) (rl4 : r32 l4) (es0 : s0' = iI s0) (rs0 : r32 s0) (hF : FX35_paragraphLine_b237 N SL l1 l3 l4 s0 s = some q) : gG m b φ0 σo lU q (fX35_paragraphLine_b237 N sL 192 l1' l3' l4' s0' h) := by
  subst el1; subst el3; subst el4; subst es0
  unfold FX35_paragraphLine_b237 at hF
  unfold fX35_paragraphLine_b237
  refine s_if (i_eq rfl (c_lit 0 0 rfl) rs0 ⟨by decide, by decide⟩) hF (fun c1 hF => ?_) (fun c1 hF => ?_)
  ·
    exact SX35_paragraphLine_b339 (N := N) (sL := sL) (SL := SL) hm hb @hsL R rfl rl1 rfl rl3 rfl rs0 hF
  ·
    refine s_gAs R (t_192 hm R.S) (Nat.le_of_ble_eq_true rfl) rfl (o_192_63 hm R.S) (a_292 hm R) ?_
    refine s_rI R (u_292 hm R.S).1 (u_292 hm R.S).2 (by decide) (a_292 hm R) (c_add (c_mul (c_lit 6 6 rfl) rfl) (c_lit 1 1 rfl)) (rr_I _) hF (fun x4 ra3 hF => ?_)
    refine s_if (i_lt rfl (c_lit 0 0 rfl) ra3 ⟨by decide, by decide⟩) hF (fun c4 hF => ?_) (fun c4 hF => ?_)
    ·
      exact SX35_paragraphLine_b339 (N := N) (sL := sL) (SL := SL) hm hb @hsL R rfl rl1 rfl rl3 rfl rs0 hF
    ·
      refine s_gAs R (t_192 hm R.S) (Nat.le_of_ble_eq_true rfl) rfl (o_192_63 hm R.S) (a_292 hm R) ?_
      refine s_rI R (u_292 hm R.S).1 (u_292 hm R.S).2 (by decide) (a_292 hm R) (c_add (c_mul (c_lit 6 6 rfl) rfl) (c_lit 1 1 rfl)) (rr_I _) hF (fun x9 ra6 hF => ?_)
      refine s_kok R (t_192 hm R.S) (Nat.le_of_ble_eq_true rfl) ?_
      refine s_call R (Nat.zero_le _) (fun _ hq => SX35_metrics (b := 0) hm (R.rf) rfl ra6 hq) hF (fun f8 rv8 h8 q12 R8 e8 E8 hF => ?_)
      obtain rfl : rv8 = _ := e8
      refine s_gAs R8 (t_192 hm R8.S) (Nat.le_of_ble_eq_true rfl) rfl (o_192_50 hm R8.S) (a_284 hm R8) ?_
      refine s_rI R8 (u_284 hm R8.S).1 (u_284 hm R8.S).2 (by decide) (a_284 hm R8) rfl ra6 hF (fun x15 ra10 hF => ?_)
      refine s_K hF (fun t12 hF => ?_)
      refine s_kok R8 t12 (Nat.le_of_ble_eq_true rfl) ?_
      refine s_call R8 (Nat.zero_le _) (fun _ hq => SX40_of (b := 0) (N := N) hm (R8.rf) (c_lit 45 45 rfl) ⟨by decide, by decide⟩ (c_lit 0 0 rfl) ⟨by decide, by decide⟩ rfl ra10 hq) hF (fun f13 rv13 h13 q18 R13 e13 E13 hF => ?_)
      refine s_kok R13 (t_192 hm R13.S) (Nat.le_of_ble_eq_true rfl) ?_
      refine s_call R13 (Nat.zero_le _) (fun _ hq => SX35_metrics (b := 0) hm (R13.rf) rfl ra6 hq) hF (fun f15 rv15 h15 q20 R15 e15 E15 hF => ?_)
      obtain rfl : rv15 = _ := e15
      refine s_gAs R15 (t_192 hm R15.S) (Nat.le_of_ble_eq_true rfl) rfl (o_192_50 hm R15.S) (a_284 hm R15) ?_
      refine s_rI R15 (u_284 hm R15.S).1 (u_284 hm R15.S).2 (by decide) (a_284 hm R15) rfl ra6 hF (fun x23 ra17 hF => ?_)
      refine s_K hF (fun t19 hF => ?_)
      refine s_kok R15 t19 (Nat.le_of_ble_eq_true rfl) ?_
      refine s_call R15 (Nat.zero_le _) (fun _ hq => SX40_of (b := 0) (N := N) hm (R15.rf) (c_lit 45 45 rfl) ⟨by decide, by decide⟩ (c_lit 1 1 rfl) ⟨by decide, by decide⟩ rfl ra17 hq) hF (fun f20 rv20 h20 q26 R20 e20 E20 hF => ?_)
      refine s_kok R20 (t_192 hm R20.S) (Nat.le_of_ble_eq_true rfl) ?_
      refine s_call R20 (Nat.zero_le _) (fun _ hq => SX35_metrics (b := 0) hm (R20.rf) rfl ra6 hq) hF (fun f22 rv22 h22 q28 R22 e22 E22 hF => ?_)
      obtain rfl : rv22 = _ := e22
      refine s_gAs R22 (t_192 hm R22.S) (Nat.le_of_ble_eq_true rfl) rfl (o_192_50 hm R22.S) (a_284 hm R22) ?_
      refine s_rI R22 (u_284 hm R22.S).1 (u_284 hm R22.S).2 (by decide) (a_284 hm R22) rfl ra6 hF (fun x31 ra24 hF => ?_)
      refine s_K hF (fun t26 hF => ?_)
      refine s_kok R22 t26 (Nat.le_of_ble_eq_true rfl) ?_
      refine s_call R22 (Nat.zero_le _) (fun _ hq => SX40_of (b := 0) (N := N) hm (R22.rf) (c_lit 45 45 rfl) ⟨by decide, by decide⟩ (c_lit 2 2 rfl) ⟨by decide, by decide⟩ rfl ra24 hq) hF (fun f27 rv27 h27 q34 R27 e27 E27 hF => ?_)
      refine s_kok R27 (t_192 hm R27.S) (Nat.le_of_ble_eq_true rfl) ?_
      refine s_call R27 (Nat.zero_le _) (fun _ hq => SX35_lineItem (b := 0) hm (R27.rf) (c_lit 0 0 rfl) ⟨by decide, by decide⟩ rfl ra6 (c_lit 45 45 rfl) ⟨by decide, by decide⟩ e13.1 e13.2 e20.1 e20.2 e27.1 e27.2 hq) hF (fun f29 rv29 h29 q36 R29 e29 E29 hF => ?_)
      exact SX35_paragraphLine_b339 (N := N) (sL := sL) (SL := SL) hm hb @hsL R29 rfl rl1 rfl rl3 rfl rs0 hF
def FX35_paragraphLine_b236 (N : Nat) (SL : Int → Int → Int → fS → Option (Int × fS)) (l1 : Int) (l3 : Int) (l4 : Int) (s : fS) : Option (Unit × fS) :=
  FX35_paragraphLine_b237 N SL l1 l3 l4 0 s
theorem SX35_paragraphLine_b236 {m b : Nat} {φ0 : Nat → Nat} {σo : fS} (hm : 1 ≤ m) (hb : 1 ≤ b) {N : Nat} {sL : Nat → Int32 → Int64 → Int64 → eH → Option (Int32 × eH)} {SL : Int → Int → Int → fS → Option (Int × fS)} {q : Unit × fS} (hsL : ∀ {φ : Nat → Nat} {h : eH} {s : fS} {x1' : Int32} {x1 : Int} {x2' : Int64} {x2 : Int} {x3' : Int64} {x3 : Int} {q}, fC m 1 φ s φ h s → x1' = iI x1 → r32 x1 → x2' = iJ x2 → r64 x2 → x3' = iJ x3 → r64 x3 → SL x1 x2 x3 s = some q → gG m 1 φ s lI q (sL 192 x1' x2' x3' h)) {φ : Nat → Nat} {h : eH} {s : fS} {l1' : Int32} {l1 : Int} {l3' : Int32} {l3 : Int} {l4' : Int32} {l4 : Int} (R : fC m b φ0 σo φ h s) (el1 : l1' = iI l1) (rl1 : r32 l1) (el3 : l3' = iI l3) (rl3 : r32 l3) (el4 : l4' = iI l4) (rl4 : r32 l4) (hF : FX35_paragraphLine_b236 N SL l1 l3 l4 s = some q) : gG m b φ0 σo lU q (fX35_paragraphLine_b236 N sL 192 l1' l3' l4' h) := by
  subst el1; subst el3; subst el4
  unfold FX35_paragraphLine_b236 at hF
  unfold fX35_paragraphLine_b236
  exact SX35_paragraphLine_b237 (N := N) (sL := sL) (SL := SL) hm hb @hsL R rfl rl1 rfl rl3 rfl rl4 (c_lit 0 0 rfl) ⟨by decide, by decide⟩ hF
def FX35_paragraphLine_b63 (N : Nat) (SL : Int → Int → Int → fS → Option (Int × fS)) : Nat → Int → Int → Int → Int → Int → fS → Option (Unit × fS)
  | 0, _, _, _, _, _, _ => none
  | n + 1, l1, l3, l4, l5, l6, s =>
    if l4 ≤ l6 then
      if l5 ≤ l4 then
        FX35_paragraphLine_b236 N SL l1 l3 l4 s
      else
        (uRI s 292 (imul 6 l4)).bind fun x5 =>
        if ¬ (x5 = 6) then
          FX35_paragraphLine_b236 N SL l1 l3 l4 s
        else
          FX35_paragraphLine_b237 N SL l1 l3 l4 1 s
    else
      if l5 ≤ l6 then
        if ¬ (l6 = (iadd l5 1)) then
          FX35_paragraphLine_b104 N SL (FX35_paragraphLine_b63 N SL n) l1 l3 l4 l5 l6 4 s
        else
          FX35_paragraphLine_b104 N SL (FX35_paragraphLine_b63 N SL n) l1 l3 l4 l5 l6 2 s
      else
        (uRI s 292 (imul 6 l6)).bind fun x12 =>
        FX35_paragraphLine_b104 N SL (FX35_paragraphLine_b63 N SL n) l1 l3 l4 l5 l6 x12 s
theorem SX35_paragraphLine_b63 {m b : Nat} {φ0 : Nat → Nat} {σo : fS} (hm : 1 ≤ m) (hb : 1 ≤ b) {N : Nat} {sL : Nat → Int32 → Int64 → Int64 → eH → Option (Int32 × eH)} {SL : Int → Int → Int → fS → Option (Int × fS)} {q : Unit × fS} (hsL : ∀ {φ : Nat → Nat} {h : eH} {s : fS} {x1' : Int32} {x1 : Int} {x2' : Int64} {x2 : Int} {x3' : Int64} {x3 : Int} {q}, fC m 1 φ s φ h s → x1' = iI x1 → r32 x1 → x2' = iJ x2 → r64 x2 → x3' = iJ x3 → r64 x3 → SL x1 x2 x3 s = some q → gG m 1 φ s lI q (sL 192 x1' x2' x3' h)) : ∀ {n : Nat} {φ : Nat → Nat} {h : eH} {s : fS} {l1' : Int32} {l1 : Int} {l3' : Int32} {l3 : Int} {l4' : Int32} {l4 : Int} {l5' : Int32} {l5 : Int} {l6' : Int32} {l6 : Int}, fC m b φ0 σo φ h s → l1' = iI l1 → r32 l1 → l3' = iI l3 → r32 l3 → l4' = iI l4 → r32 l4 → l5' = iI l5 → r32 l5 → l6' = iI l6 → r32 l6 → FX35_paragraphLine_b63 N SL n l1 l3 l4 l5 l6 s = some q → gG m b φ0 σo lU q (fX35_paragraphLine_b63 N sL n 192 l1' l3' l4' l5' l6' h) := by
  intro n
  induction n with
 | zero => intro φ h s l1' l1 l3' l3 l4' l4 l5' l5 l6' l6 R el1 rl1 el3 rl3 el4 rl4 el5 rl5 el6 rl6 hF; simp [FX35_paragraphLine_b63] at hF
  | succ n ih =>
    intro φ h s l1' l1 l3' l3 l4' l4 l5' l5 l6' l6 R el1 rl1 el3 rl3 el4 rl4 el5 rl5 el6 rl6 hF
    subst el1; subst el3; subst el4; subst el5; subst el6
    rw [FX35_paragraphLine_b63] at hF
    rw [fX35_paragraphLine_b63]
    refine s_if (i_le rfl rfl rl4 rl6) hF (fun c1 hF => ?_) (fun c1 hF => ?_)
    ·
      refine s_if (i_le rfl rfl rl5 rl4) hF (fun c2 hF => ?_) (fun c2 hF => ?_)
      ·
        exact SX35_paragraphLine_b236 (N := N) (sL := sL) (SL := SL) hm hb @hsL R rfl rl1 rfl rl3 rfl rl4 hF
      ·
        refine s_gAs R (t_192 hm R.S) (Nat.le_of_ble_eq_true rfl) rfl (o_192_63 hm R.S) (a_292 hm R) ?_
        refine s_rI R (u_292 hm R.S).1 (u_292 hm R.S).2 (by decide) (a_292 hm R) (c_mul (c_lit 6 6 rfl) rfl) (rr_I _) hF (fun x5 ra4 hF => ?_)
        refine s_if (not_congr (i_eq rfl (c_lit 6 6 rfl) ra4 ⟨by decide, by decide⟩)) hF (fun c5 hF => ?_) (fun c5 hF => ?_)
        ·
          exact SX35_paragraphLine_b236 (N := N) (sL := sL) (SL := SL) hm hb @hsL R rfl rl1 rfl rl3 rfl rl4 hF
        ·
          exact SX35_paragraphLine_b237 (N := N) (sL := sL) (SL := SL) hm hb @hsL R rfl rl1 rfl rl3 rfl rl4 (c_lit 1 1 rfl) ⟨by decide, by decide⟩ hF
    ·
      refine s_if (i_le rfl rfl rl5 rl6) hF (fun c6 hF => ?_) (fun c6 hF => ?_)
      ·
        refine s_if (not_congr (i_eq rfl (c_add rfl (c_lit 1 1 rfl)) rl6 (rr_I _))) hF (fun c7 hF => ?_) (fun c7 hF => ?_)
        ·
          exact SX35_paragraphLine_b104 (N := N) (sL := sL) (SL := SL) (k63 := fX35_paragraphLine_b63 N sL n) (K63 := FX35_paragraphLine_b63 N SL n) hm hb @hsL @ih R rfl rl1 rfl rl3 rfl rl4 rfl rl5 rfl rl6 (c_lit 4 4 rfl) ⟨by decide, by decide⟩ hF
        ·
          exact SX35_paragraphLine_b104 (N := N) (sL := sL) (SL := SL) (k63 := fX35_paragraphLine_b63 N sL n) (K63 := FX35_paragraphLine_b63 N SL n) hm hb @hsL @ih R rfl rl1 rfl rl3 rfl rl4 rfl rl5 rfl rl6 (c_lit 2 2 rfl) ⟨by decide, by decide⟩ hF
      ·
        refine s_gAs R (t_192 hm R.S) (Nat.le_of_ble_eq_true rfl) rfl (o_192_63 hm R.S) (a_292 hm R) ?_
        refine s_rI R (u_292 hm R.S).1 (u_292 hm R.S).2 (by decide) (a_292 hm R) (c_mul (c_lit 6 6 rfl) rfl) (rr_I _) hF (fun x12 ra9 hF => ?_)
        exact SX35_paragraphLine_b104 (N := N) (sL := sL) (SL := SL) (k63 := fX35_paragraphLine_b63 N sL n) (K63 := FX35_paragraphLine_b63 N SL n) hm hb @hsL @ih R rfl rl1 rfl rl3 rfl rl4 rfl rl5 rfl rl6 rfl ra9 hF
def FX35_paragraphLine_b50 (N : Nat) (SL : Int → Int → Int → fS → Option (Int × fS)) (l1 : Int) (l3 : Int) (l4 : Int) (s0 : Int) (s : fS) : Option (Unit × fS) :=
  (uRI s 235 l1).bind fun x5 =>
  FX35_paragraphLine_b63 N SL N l1 l3 l4 s0 x5 s
theorem SX35_paragraphLine_b50 {m b : Nat} {φ0 : Nat → Nat} {σo : fS} (hm : 1 ≤ m) (hb : 1 ≤ b) {N : Nat} {sL : Nat → Int32 → Int64 → Int64 → eH → Option (Int32 × eH)} {SL : Int → Int → Int → fS → Option (Int × fS)} {q : Unit × fS} (hsL : ∀ {φ : Nat → Nat} {h : eH} {s : fS} {x1' : Int32} {x1 : Int} {x2' : Int64} {x2 : Int} {x3' : Int64} {x3 : Int} {q}, fC m 1 φ s φ h s → x1' = iI x1 → r32 x1 → x2' = iJ x2 → r64 x2 → x3' = iJ x3 → r64 x3 → SL x1 x2 x3 s = some q → gG m 1 φ s lI q (sL 192 x1' x2' x3' h)) {φ : Nat → Nat} {h : eH} {s : fS} {l1' : Int32} {l1 : Int} {l3' : Int32} {l3 : Int} {l4' : Int32} {l4 : Int} {s0' : Int32} {s0 : Int} (R : fC m b φ0 σo φ h s) (el1 : l1' = iI l1) (rl1 : r32 l1) (el3 : l3' = iI l3) (rl3 : r32 l3) (el4 : l4' = iI l4) (rl4 : r32 l4) (es0 : s0' = iI s0) (rs0 : r32 s0) (hF : FX35_paragraphLine_b50 N SL l1 l3 l4 s0 s = some q) : gG m b φ0 σo lU q (fX35_paragraphLine_b50 N sL 192 l1' l3' l4' s0' h) := by
  subst el1; subst el3; subst el4; subst es0
  unfold FX35_paragraphLine_b50 at hF
  unfold fX35_paragraphLine_b50
  refine s_gO R (t_192 hm R.S) (Nat.le_of_ble_eq_true rfl) rfl (o_192_6 hm R.S) ?_
  refine s_gAs R (t_213 hm R.S) (Nat.le_of_ble_eq_true rfl) rfl (o_213_40 hm R.S) (a_235 hm R) ?_
  refine s_rI R (u_235 hm R.S).1 (u_235 hm R.S).2 (by decide) (a_235 hm R) rfl rl1 hF (fun x5 ra3 hF => ?_)
  exact SX35_paragraphLine_b63 (N := N) (sL := sL) (SL := SL) hm hb @hsL R rfl rl1 rfl rl3 rfl rl4 rfl rs0 rfl ra3 hF
def FX35_paragraphLine_b49 (N : Nat) (SL : Int → Int → Int → fS → Option (Int × fS)) (l1 : Int) (l2 : Int) (l3 : Int) (l4 : Int) (s : fS) : Option (Unit × fS) :=
  FX35_paragraphLine_b50 N SL l1 l3 l4 l2 s
theorem SX35_paragraphLine_b49 {m b : Nat} {φ0 : Nat → Nat} {σo : fS} (hm : 1 ≤ m) (hb : 1 ≤ b) {N : Nat} {sL : Nat → Int32 → Int64 → Int64 → eH → Option (Int32 × eH)} {SL : Int → Int → Int → fS → Option (Int × fS)} {q : Unit × fS} (hsL : ∀ {φ : Nat → Nat} {h : eH} {s : fS} {x1' : Int32} {x1 : Int} {x2' : Int64} {x2 : Int} {x3' : Int64} {x3 : Int} {q}, fC m 1 φ s φ h s → x1' = iI x1 → r32 x1 → x2' = iJ x2 → r64 x2 → x3' = iJ x3 → r64 x3 → SL x1 x2 x3 s = some q → gG m 1 φ s lI q (sL 192 x1' x2' x3' h)) {φ : Nat → Nat} {h : eH} {s : fS} {l1' : Int32} {l1 : Int} {l2' : Int32} {l2 : Int} {l3' : Int32} {l3 : Int} {l4' : Int32} {l4 : Int} (R : fC m b φ0 σo φ h s) (el1 : l1' = iI l1) (rl1 : r32 l1) (el2 : l2' = iI l2) (rl2 : r32 l2) (el3 : l3' = iI l3) (rl3 : r32 l3) (el4 : l4' = iI l4) (rl4 : r32 l4) (hF : FX35_paragraphLine_b49 N SL l1 l2 l3 l4 s = some q) : gG m b φ0 σo lU q (fX35_paragraphLine_b49 N sL 192 l1' l2' l3' l4' h) := by
  subst el1; subst el2; subst el3; subst el4
  unfold FX35_paragraphLine_b49 at hF
  unfold fX35_paragraphLine_b49
  exact SX35_paragraphLine_b50 (N := N) (sL := sL) (SL := SL) hm hb @hsL R rfl rl1 rfl rl3 rfl rl4 rfl rl2 hF
def FX35_paragraphLine (N : Nat) (SL : Int → Int → Int → fS → Option (Int × fS)) (p0 : Int) (p1 : Int) (p2 : Int) (s : fS) : Option (Unit × fS) :=
  (uPI s 192 128 0).bind fun σ1 =>
  (FX35_lineGlue 260 σ1).bind fun q4 =>
  (uRI q4.2 234 p0).bind fun x9 =>
  if p1 ≤ 0 then
    FX35_paragraphLine_b49 N SL p0 p1 p2 x9 q4.2
  else
    (uRI q4.2 292 (isub (imul 6 p1) 6)).bind fun x14 =>
    if ¬ (x14 = 2) then
      FX35_paragraphLine_b49 N SL p0 p1 p2 x9 q4.2
    else
      FX35_paragraphLine_b50 N SL p0 p2 x9 (isub p1 1) q4.2
theorem SX35_paragraphLine {m b : Nat} {φ0 : Nat → Nat} {σo : fS} (hm : 1 ≤ m) (hb : 1 ≤ b) {N : Nat} {sL : Nat → Int32 → Int64 → Int64 → eH → Option (Int32 × eH)} {SL : Int → Int → Int → fS → Option (Int × fS)} {q : Unit × fS} (hsL : ∀ {φ : Nat → Nat} {h : eH} {s : fS} {x1' : Int32} {x1 : Int} {x2' : Int64} {x2 : Int} {x3' : Int64} {x3 : Int} {q}, fC m 1 φ s φ h s → x1' = iI x1 → r32 x1 → x2' = iJ x2 → r64 x2 → x3' = iJ x3 → r64 x3 → SL x1 x2 x3 s = some q → gG m 1 φ s lI q (sL 192 x1' x2' x3' h)) {φ : Nat → Nat} {h : eH} {s : fS} {p0' : Int32} {p0 : Int} {p1' : Int32} {p1 : Int} {p2' : Int32} {p2 : Int} (R : fC m b φ0 σo φ h s) (ep0 : p0' = iI p0) (rp0 : r32 p0) (ep1 : p1' = iI p1) (rp1 : r32 p1) (ep2 : p2' = iI p2) (rp2 : r32 p2) (hF : FX35_paragraphLine N SL p0 p1 p2 s = some q) : gG m b φ0 σo lU q (fX35_paragraphLine N sL 192 p0' p1' p2' h) := by
  subst ep0; subst ep1; subst ep2
  unfold FX35_paragraphLine at hF
  unfold fX35_paragraphLine
  refine s_pI R (t_192 hm R.S) (Nat.le_of_ble_eq_true rfl) rfl (c_lit 0 0 rfl) ⟨by decide, by decide⟩ hF (fun h1 σ1 R1 T1 hF => ?_)
  refine s_kok R1 (t_192 hm R1.S) (Nat.le_of_ble_eq_true rfl) ?_
  refine s_call R1 (Nat.zero_le _) (fun _ hq => SX35_lineGlue (b := 0) hm (R1.rf) (c_lit 260 260 rfl) ⟨by decide, by decide⟩ hq) hF (fun f3 rv3 h3 q4 R3 e3 E3 hF => ?_)
  refine s_gO R3 (t_192 hm R3.S) (Nat.le_of_ble_eq_true rfl) rfl (o_192_6 hm R3.S) ?_
  refine s_gAs R3 (t_213 hm R3.S) (Nat.le_of_ble_eq_true rfl) rfl (o_213_39 hm R3.S) (a_234 hm R3) ?_
  refine s_rI R3 (u_234 hm R3.S).1 (u_234 hm R3.S).2 (by decide) (a_234 hm R3) rfl rp0 hF (fun x9 ra6 hF => ?_)
  refine s_if (i_le rfl (c_lit 0 0 rfl) rp1 ⟨by decide, by decide⟩) hF (fun c7 hF => ?_) (fun c7 hF => ?_)
  ·
    exact SX35_paragraphLine_b49 (N := N) (sL := sL) (SL := SL) hm hb @hsL R3 rfl rp0 rfl rp1 rfl rp2 rfl ra6 hF
  ·
    refine s_gAs R3 (t_192 hm R3.S) (Nat.le_of_ble_eq_true rfl) rfl (o_192_63 hm R3.S) (a_292 hm R3) ?_
    refine s_rI R3 (u_292 hm R3.S).1 (u_292 hm R3.S).2 (by decide) (a_292 hm R3) (c_sub (c_mul (c_lit 6 6 rfl) rfl) (c_lit 6 6 rfl)) (rr_I _) hF (fun x14 ra9 hF => ?_)
    refine s_if (not_congr (i_eq rfl (c_lit 2 2 rfl) ra9 ⟨by decide, by decide⟩)) hF (fun c10 hF => ?_) (fun c10 hF => ?_)
    ·
      exact SX35_paragraphLine_b49 (N := N) (sL := sL) (SL := SL) hm hb @hsL R3 rfl rp0 rfl rp1 rfl rp2 rfl ra6 hF
    ·
      exact SX35_paragraphLine_b50 (N := N) (sL := sL) (SL := SL) hm hb @hsL R3 rfl rp0 rfl rp2 rfl ra6 (c_sub rfl (c_lit 1 1 rfl)) (rr_I _) hF
def FX35_endParagraph_b237 (N : Nat) (SL : Int → Int → Int → fS → Option (Int × fS)) (K184 : Int → Int → Int → fS → Option (Unit × fS)) (l2 : Int) (l3 : Int) (l4 : Int) (s1 : Int) (s : fS) : Option (Unit × fS) :=
  (uPI s 192 112 s1).bind fun σ1 =>
  K184 l2 l3 (iadd l4 1) σ1
theorem SX35_endParagraph_b237 {m b : Nat} {φ0 : Nat → Nat} {σo : fS} (hm : 1 ≤ m) (hb : 1 ≤ b) {N : Nat} {sL : Nat → Int32 → Int64 → Int64 → eH → Option (Int32 × eH)} {SL : Int → Int → Int → fS → Option (Int × fS)} {k184 : Nat → Int32 → Int32 → Int32 → eH → Option (Unit × eH)} {K184 : Int → Int → Int → fS → Option (Unit × fS)} {q : Unit × fS} (hsL : ∀ {φ : Nat → Nat} {h : eH} {s : fS} {x1' : Int32} {x1 : Int} {x2' : Int64} {x2 : Int} {x3' : Int64} {x3 : Int} {q}, fC m 1 φ s φ h s → x1' = iI x1 → r32 x1 → x2' = iJ x2 → r64 x2 → x3' = iJ x3 → r64 x3 → SL x1 x2 x3 s = some q → gG m 1 φ s lI q (sL 192 x1' x2' x3' h)) (hk184 : ∀ {φ : Nat → Nat} {h : eH} {s : fS} {l2' : Int32} {l2 : Int} {l3' : Int32} {l3 : Int} {l4' : Int32} {l4 : Int}, fC m b φ0 σo φ h s → l2' = iI l2 → r32 l2 → l3' = iI l3 → r32 l3 → l4' = iI l4 → r32 l4 → K184 l2 l3 l4 s = some q → gG m b φ0 σo lU q (k184 192 l2' l3' l4' h)) {φ : Nat → Nat} {h : eH} {s : fS} {l2' : Int32} {l2 : Int} {l3' : Int32} {l3 : Int} {l4' : Int32} {l4 : Int} {s1' : Int32} {s1 : Int} (R : fC m b φ0 σo φ h s) (el2 : l2' = iI l2) (rl2 : r32 l2) (el3 : l3' = iI l3) (rl3 : r32 l3) (el4 : l4' = iI l4) (rl4 : r32 l4) (es1 : s1' = iI s1) (rs1 : r32 s1) (hF : FX35_endParagraph_b237 N SL K184 l2 l3 l4 s1 s = some q) : gG m b φ0 σo lU q (fX35_endParagraph_b237 N sL k184 192 l2' l3' l4' 192 s1' h) := by
  subst el2; subst el3; subst el4; subst es1
  unfold FX35_endParagraph_b237 at hF
  unfold fX35_endParagraph_b237
  refine s_pI R (t_192 hm R.S) (Nat.le_of_ble_eq_true rfl) rfl rfl rs1 hF (fun h1 σ1 R1 T1 hF => ?_)
  exact hk184 R1 rfl rl2 rfl rl3 (c_add rfl (c_lit 1 1 rfl)) (rr_I _) hF
def FX35_endParagraph_b233 (N : Nat) (SL : Int → Int → Int → fS → Option (Int × fS)) (K184 : Int → Int → Int → fS → Option (Unit × fS)) (l2 : Int) (l3 : Int) (l4 : Int) (s : fS) : Option (Unit × fS) :=
  FX35_endParagraph_b237 N SL K184 l2 l3 l4 (s.i 192 112) s
theorem SX35_endParagraph_b233 {m b : Nat} {φ0 : Nat → Nat} {σo : fS} (hm : 1 ≤ m) (hb : 1 ≤ b) {N : Nat} {sL : Nat → Int32 → Int64 → Int64 → eH → Option (Int32 × eH)} {SL : Int → Int → Int → fS → Option (Int × fS)} {k184 : Nat → Int32 → Int32 → Int32 → eH → Option (Unit × eH)} {K184 : Int → Int → Int → fS → Option (Unit × fS)} {q : Unit × fS} (hsL : ∀ {φ : Nat → Nat} {h : eH} {s : fS} {x1' : Int32} {x1 : Int} {x2' : Int64} {x2 : Int} {x3' : Int64} {x3 : Int} {q}, fC m 1 φ s φ h s → x1' = iI x1 → r32 x1 → x2' = iJ x2 → r64 x2 → x3' = iJ x3 → r64 x3 → SL x1 x2 x3 s = some q → gG m 1 φ s lI q (sL 192 x1' x2' x3' h)) (hk184 : ∀ {φ : Nat → Nat} {h : eH} {s : fS} {l2' : Int32} {l2 : Int} {l3' : Int32} {l3 : Int} {l4' : Int32} {l4 : Int}, fC m b φ0 σo φ h s → l2' = iI l2 → r32 l2 → l3' = iI l3 → r32 l3 → l4' = iI l4 → r32 l4 → K184 l2 l3 l4 s = some q → gG m b φ0 σo lU q (k184 192 l2' l3' l4' h)) {φ : Nat → Nat} {h : eH} {s : fS} {l2' : Int32} {l2 : Int} {l3' : Int32} {l3 : Int} {l4' : Int32} {l4 : Int} (R : fC m b φ0 σo φ h s) (el2 : l2' = iI l2) (rl2 : r32 l2) (el3 : l3' = iI l3) (rl3 : r32 l3) (el4 : l4' = iI l4) (rl4 : r32 l4) (hF : FX35_endParagraph_b233 N SL K184 l2 l3 l4 s = some q) : gG m b φ0 σo lU q (fX35_endParagraph_b233 N sL k184 192 l2' l3' l4' 192 h) := by
  subst el2; subst el3; subst el4
  unfold FX35_endParagraph_b233 at hF
  unfold fX35_endParagraph_b233
  refine s_gI R (t_192 hm R.S) (Nat.le_of_ble_eq_true rfl) rfl ?_
  exact SX35_endParagraph_b237 (N := N) (sL := sL) (SL := SL) (k184 := k184) (K184 := K184) hm hb @hsL @hk184 R rfl rl2 rfl rl3 rfl rl4 rfl (R.ri (t_192 hm R.S) (Nat.le_of_ble_eq_true rfl) rfl) hF
def FX35_endParagraph_b276 (N : Nat) (SL : Int → Int → Int → fS → Option (Int × fS)) (s : fS) : Option (Unit × fS) :=
  some ((), s)
theorem SX35_endParagraph_b276 {m b : Nat} {φ0 : Nat → Nat} {σo : fS} (hm : 1 ≤ m) {N : Nat} {sL : Nat → Int32 → Int64 → Int64 → eH → Option (Int32 × eH)} {SL : Int → Int → Int → fS → Option (Int × fS)} {q : Unit × fS} (hsL : ∀ {φ : Nat → Nat} {h : eH} {s : fS} {x1' : Int32} {x1 : Int} {x2' : Int64} {x2 : Int} {x3' : Int64} {x3 : Int} {q}, fC m 1 φ s φ h s → x1' = iI x1 → r32 x1 → x2' = iJ x2 → r64 x2 → x3' = iJ x3 → r64 x3 → SL x1 x2 x3 s = some q → gG m 1 φ s lI q (sL 192 x1' x2' x3' h)) {φ : Nat → Nat} {h : eH} {s : fS} (R : fC m b φ0 σo φ h s) (hF : FX35_endParagraph_b276 N SL s = some q) : gG m b φ0 σo lU q (fX35_endParagraph_b276 N sL h) := by
  unfold FX35_endParagraph_b276 at hF
  unfold fX35_endParagraph_b276
  exact g_ret R hF trivial
def FX35_endParagraph_b249 (N : Nat) (SL : Int → Int → Int → fS → Option (Int × fS)) : Nat → Int → Int → Int → fS → Option (Unit × fS)
  | 0, _, _, _, _ => none
  | n + 1, l2, l3, l4, s =>
    if l3 ≤ l4 then
      FX35_endParagraph_b276 N SL s
    else
      if ¬ ((s.i 192 46) = 0) then
        FX35_endParagraph_b276 N SL s
      else
        (FX35_paragraphLine N SL l4 l2 l3 s).bind fun q6 =>
        FX35_endParagraph_b249 N SL n l2 l3 (iadd l4 1) q6.2
theorem SX35_endParagraph_b249 {m b : Nat} {φ0 : Nat → Nat} {σo : fS} (hm : 1 ≤ m) (hb : 1 ≤ b) {N : Nat} {sL : Nat → Int32 → Int64 → Int64 → eH → Option (Int32 × eH)} {SL : Int → Int → Int → fS → Option (Int × fS)} {q : Unit × fS} (hsL : ∀ {φ : Nat → Nat} {h : eH} {s : fS} {x1' : Int32} {x1 : Int} {x2' : Int64} {x2 : Int} {x3' : Int64} {x3 : Int} {q}, fC m 1 φ s φ h s → x1' = iI x1 → r32 x1 → x2' = iJ x2 → r64 x2 → x3' = iJ x3 → r64 x3 → SL x1 x2 x3 s = some q → gG m 1 φ s lI q (sL 192 x1' x2' x3' h)) : ∀ {n : Nat} {φ : Nat → Nat} {h : eH} {s : fS} {l2' : Int32} {l2 : Int} {l3' : Int32} {l3 : Int} {l4' : Int32} {l4 : Int}, fC m b φ0 σo φ h s → l2' = iI l2 → r32 l2 → l3' = iI l3 → r32 l3 → l4' = iI l4 → r32 l4 → FX35_endParagraph_b249 N SL n l2 l3 l4 s = some q → gG m b φ0 σo lU q (fX35_endParagraph_b249 N sL n 192 l2' l3' l4' h) := by
  intro n
  induction n with
 | zero => intro φ h s l2' l2 l3' l3 l4' l4 R el2 rl2 el3 rl3 el4 rl4 hF; simp [FX35_endParagraph_b249] at hF
  | succ n ih =>
    intro φ h s l2' l2 l3' l3 l4' l4 R el2 rl2 el3 rl3 el4 rl4 hF
    subst el2; subst el3; subst el4
    rw [FX35_endParagraph_b249] at hF
    rw [fX35_endParagraph_b249]
    refine s_if (i_le rfl rfl rl3 rl4) hF (fun c1 hF => ?_) (fun c1 hF => ?_)
    ·
      exact SX35_endParagraph_b276 (N := N) (sL := sL) (SL := SL) hm @hsL R hF
    ·
      refine s_gI R (t_192 hm R.S) (Nat.le_of_ble_eq_true rfl) rfl ?_
      refine s_if (not_congr (i_eq rfl (c_lit 0 0 rfl) (R.ri (t_192 hm R.S) (Nat.le_of_ble_eq_true rfl) rfl) ⟨by decide, by decide⟩)) hF (fun c3 hF => ?_) (fun c3 hF => ?_)
      ·
        exact SX35_endParagraph_b276 (N := N) (sL := sL) (SL := SL) hm @hsL R hF
      ·
        refine s_kok R (t_192 hm R.S) (Nat.le_of_ble_eq_true rfl) ?_
        refine s_call R hb (fun _ hq => SX35_paragraphLine (b := 1) (N := N) (sL := sL) (SL := SL) hm (Nat.le_of_ble_eq_true rfl) @hsL (R.rf) rfl rl4 rfl rl2 rfl rl3 hq) hF (fun f5 rv5 h5 q6 R5 e5 E5 hF => ?_)
        exact ih R5 rfl rl2 rfl rl3 (c_add rfl (c_lit 1 1 rfl)) (rr_I _) hF
def FX35_endParagraph_b184 (N : Nat) (SL : Int → Int → Int → fS → Option (Int × fS)) : Nat → Int → Int → Int → fS → Option (Unit × fS)
  | 0, _, _, _, _ => none
  | n + 1, l2, l3, l4, s =>
    if l3 ≤ l4 then
      FX35_endParagraph_b249 N SL N l2 l3 0 s
    else
      (uRI s 234 l4).bind fun x6 =>
      if l2 ≤ x6 then
        FX35_endParagraph_b233 N SL (FX35_endParagraph_b184 N SL n) l2 l3 l4 s
      else
        (uRI s 292 (imul 6 x6)).bind fun x11 =>
        if ¬ (x11 = 6) then
          FX35_endParagraph_b233 N SL (FX35_endParagraph_b184 N SL n) l2 l3 l4 s
        else
          FX35_endParagraph_b237 N SL (FX35_endParagraph_b184 N SL n) l2 l3 l4 (iadd (s.i 192 112) 1) s
theorem SX35_endParagraph_b184 {m b : Nat} {φ0 : Nat → Nat} {σo : fS} (hm : 1 ≤ m) (hb : 1 ≤ b) {N : Nat} {sL : Nat → Int32 → Int64 → Int64 → eH → Option (Int32 × eH)} {SL : Int → Int → Int → fS → Option (Int × fS)} {q : Unit × fS} (hsL : ∀ {φ : Nat → Nat} {h : eH} {s : fS} {x1' : Int32} {x1 : Int} {x2' : Int64} {x2 : Int} {x3' : Int64} {x3 : Int} {q}, fC m 1 φ s φ h s → x1' = iI x1 → r32 x1 → x2' = iJ x2 → r64 x2 → x3' = iJ x3 → r64 x3 → SL x1 x2 x3 s = some q → gG m 1 φ s lI q (sL 192 x1' x2' x3' h)) : ∀ {n : Nat} {φ : Nat → Nat} {h : eH} {s : fS} {l2' : Int32} {l2 : Int} {l3' : Int32} {l3 : Int} {l4' : Int32} {l4 : Int}, fC m b φ0 σo φ h s → l2' = iI l2 → r32 l2 → l3' = iI l3 → r32 l3 → l4' = iI l4 → r32 l4 → FX35_endParagraph_b184 N SL n l2 l3 l4 s = some q → gG m b φ0 σo lU q (fX35_endParagraph_b184 N sL n 192 l2' l3' l4' h) := by
  intro n
  induction n with
 | zero => intro φ h s l2' l2 l3' l3 l4' l4 R el2 rl2 el3 rl3 el4 rl4 hF; simp [FX35_endParagraph_b184] at hF
  | succ n ih =>
    intro φ h s l2' l2 l3' l3 l4' l4 R el2 rl2 el3 rl3 el4 rl4 hF
    subst el2; subst el3; subst el4
    rw [FX35_endParagraph_b184] at hF
    rw [fX35_endParagraph_b184]
    refine s_if (i_le rfl rfl rl3 rl4) hF (fun c1 hF => ?_) (fun c1 hF => ?_)
    ·
      exact SX35_endParagraph_b249 (N := N) (sL := sL) (SL := SL) hm hb @hsL R rfl rl2 rfl rl3 (c_lit 0 0 rfl) ⟨by decide, by decide⟩ hF
    ·
      refine s_gO R (t_192 hm R.S) (Nat.le_of_ble_eq_true rfl) rfl (o_192_6 hm R.S) ?_
      refine s_gAs R (t_213 hm R.S) (Nat.le_of_ble_eq_true rfl) rfl (o_213_39 hm R.S) (a_234 hm R) ?_
      refine s_rI R (u_234 hm R.S).1 (u_234 hm R.S).2 (by decide) (a_234 hm R) rfl rl4 hF (fun x6 ra4 hF => ?_)
      refine s_if (i_le rfl rfl rl2 ra4) hF (fun c5 hF => ?_) (fun c5 hF => ?_)
      ·
        exact SX35_endParagraph_b233 (N := N) (sL := sL) (SL := SL) (k184 := fX35_endParagraph_b184 N sL n) (K184 := FX35_endParagraph_b184 N SL n) hm hb @hsL @ih R rfl rl2 rfl rl3 rfl rl4 hF
      ·
        refine s_gAs R (t_192 hm R.S) (Nat.le_of_ble_eq_true rfl) rfl (o_192_63 hm R.S) (a_292 hm R) ?_
        refine s_rI R (u_292 hm R.S).1 (u_292 hm R.S).2 (by decide) (a_292 hm R) (c_mul (c_lit 6 6 rfl) rfl) (rr_I _) hF (fun x11 ra7 hF => ?_)
        refine s_if (not_congr (i_eq rfl (c_lit 6 6 rfl) ra7 ⟨by decide, by decide⟩)) hF (fun c8 hF => ?_) (fun c8 hF => ?_)
        ·
          exact SX35_endParagraph_b233 (N := N) (sL := sL) (SL := SL) (k184 := fX35_endParagraph_b184 N sL n) (K184 := FX35_endParagraph_b184 N SL n) hm hb @hsL @ih R rfl rl2 rfl rl3 rfl rl4 hF
        ·
          refine s_gI R (t_192 hm R.S) (Nat.le_of_ble_eq_true rfl) rfl ?_
          exact SX35_endParagraph_b237 (N := N) (sL := sL) (SL := SL) (k184 := fX35_endParagraph_b184 N sL n) (K184 := FX35_endParagraph_b184 N SL n) hm hb @hsL @ih R rfl rl2 rfl rl3 rfl rl4 (c_add rfl (c_lit 1 1 rfl)) (rr_I _) hF
def FX35_endParagraph_b138 (N : Nat) (SL : Int → Int → Int → fS → Option (Int × fS)) (l2 : Int) (l3 : Int) (s : fS) : Option (Unit × fS) :=
  if (s.i 192 46) ≤ 0 then
    (FX35_setAt N 1984 0 0 s).bind fun q5 =>
    (uPI q5.2 192 111 (iadd (q5.2.i 192 111) l3)).bind fun σ8 =>
    (FX37_nodes σ8).bind fun q15 =>
    (uPI q15.2 192 113 (iadd (σ8.i 192 113) q15.1)).bind fun σ16 =>
    FX35_endParagraph_b184 N SL N l2 l3 0 σ16
  else
    some ((), s)
theorem SX35_endParagraph_b138 {m b : Nat} {φ0 : Nat → Nat} {σo : fS} (hm : 1 ≤ m) (hb : 1 ≤ b) {N : Nat} {sL : Nat → Int32 → Int64 → Int64 → eH → Option (Int32 × eH)} {SL : Int → Int → Int → fS → Option (Int × fS)} {q : Unit × fS} (hsL : ∀ {φ : Nat → Nat} {h : eH} {s : fS} {x1' : Int32} {x1 : Int} {x2' : Int64} {x2 : Int} {x3' : Int64} {x3 : Int} {q}, fC m 1 φ s φ h s → x1' = iI x1 → r32 x1 → x2' = iJ x2 → r64 x2 → x3' = iJ x3 → r64 x3 → SL x1 x2 x3 s = some q → gG m 1 φ s lI q (sL 192 x1' x2' x3' h)) {φ : Nat → Nat} {h : eH} {s : fS} {l2' : Int32} {l2 : Int} {l3' : Int32} {l3 : Int} (R : fC m b φ0 σo φ h s) (el2 : l2' = iI l2) (rl2 : r32 l2) (el3 : l3' = iI l3) (rl3 : r32 l3) (hF : FX35_endParagraph_b138 N SL l2 l3 s = some q) : gG m b φ0 σo lU q (fX35_endParagraph_b138 N sL 192 l2' l3' h) := by
  subst el2; subst el3
  unfold FX35_endParagraph_b138 at hF
  unfold fX35_endParagraph_b138
  refine s_gI R (t_192 hm R.S) (Nat.le_of_ble_eq_true rfl) rfl ?_
  refine s_if (i_le rfl (c_lit 0 0 rfl) (R.ri (t_192 hm R.S) (Nat.le_of_ble_eq_true rfl) rfl) ⟨by decide, by decide⟩) hF (fun c2 hF => ?_) (fun c2 hF => ?_)
  ·
    refine s_kok R (t_192 hm R.S) (Nat.le_of_ble_eq_true rfl) ?_
    refine s_call R (Nat.zero_le _) (fun _ hq => SX35_setAt (b := 0) (N := N) hm (R.rf) (c_lit 1984 1984 rfl) ⟨by decide, by decide⟩ (c_lit 0 0 rfl) ⟨by decide, by decide⟩ (c_lit 0 0 rfl) ⟨by decide, by decide⟩ hq) hF (fun f4 rv4 h4 q5 R4 e4 E4 hF => ?_)
    refine s_gI R4 (t_192 hm R4.S) (Nat.le_of_ble_eq_true rfl) rfl ?_
    refine s_pI R4 (t_192 hm R4.S) (Nat.le_of_ble_eq_true rfl) rfl (c_add rfl rfl) (rr_I _) hF (fun h6 σ8 R6 T6 hF => ?_)
    refine s_gI R6 (t_192 hm R6.S) (Nat.le_of_ble_eq_true rfl) rfl ?_
    refine s_gO R6 (t_192 hm R6.S) (Nat.le_of_ble_eq_true rfl) rfl (o_192_6 hm R6.S) ?_
    refine s_kok R6 (t_213 hm R6.S) (Nat.le_of_ble_eq_true rfl) ?_
    refine s_call R6 (Nat.zero_le _) (fun _ hq => SX37_nodes (b := 0) hm (R6.rf) hq) hF (fun f10 rv10 h10 q15 R10 e10 E10 hF => ?_)
    refine s_pI R10 (t_192 hm R10.S) (Nat.le_of_ble_eq_true rfl) rfl (c_add rfl e10.1) (rr_I _) hF (fun h11 σ16 R11 T11 hF => ?_)
    exact SX35_endParagraph_b184 (N := N) (sL := sL) (SL := SL) hm hb @hsL R11 rfl rl2 rfl rl3 (c_lit 0 0 rfl) ⟨by decide, by decide⟩ hF
  ·
    exact g_ret R hF trivial
def FX35_endParagraph_b66 (N : Nat) (SL : Int → Int → Int → fS → Option (Int × fS)) : Nat → Int → Int → Int → fS → Option (Unit × fS)
  | 0, _, _, _, _ => none
  | n + 1, l1, l2, l3, s =>
    if (imul 6 l2) ≤ l3 then
      (FX35_tell N l2 s).bind fun q3 =>
      (FX37_breakUp N q3.2).bind fun q7 =>
      if 0 ≤ q7.1 then
        if (q7.2.i 213 0) ≤ 0 then
          FX35_endParagraph_b138 N SL l2 q7.1 q7.2
        else
          (FX35_fail 16 q7.2).bind fun q15 =>
          FX35_endParagraph_b138 N SL l2 q7.1 q15.2
      else
        (FX35_fail 2 q7.2).bind fun q17 =>
        FX35_endParagraph_b138 N SL l2 q7.1 q17.2
    else
      (uRI s 1000288 (iadd (imul 6 l1) l3)).bind fun x22 =>
      (uQI s 292 l3 x22).bind fun σ24 =>
      FX35_endParagraph_b66 N SL n l1 l2 (iadd l3 1) σ24
theorem SX35_endParagraph_b66 {m b : Nat} {φ0 : Nat → Nat} {σo : fS} (hm : 1 ≤ m) (hb : 1 ≤ b) {N : Nat} {sL : Nat → Int32 → Int64 → Int64 → eH → Option (Int32 × eH)} {SL : Int → Int → Int → fS → Option (Int × fS)} {q : Unit × fS} (hsL : ∀ {φ : Nat → Nat} {h : eH} {s : fS} {x1' : Int32} {x1 : Int} {x2' : Int64} {x2 : Int} {x3' : Int64} {x3 : Int} {q}, fC m 1 φ s φ h s → x1' = iI x1 → r32 x1 → x2' = iJ x2 → r64 x2 → x3' = iJ x3 → r64 x3 → SL x1 x2 x3 s = some q → gG m 1 φ s lI q (sL 192 x1' x2' x3' h)) : ∀ {n : Nat} {φ : Nat → Nat} {h : eH} {s : fS} {l1' : Int32} {l1 : Int} {l2' : Int32} {l2 : Int} {l3' : Int32} {l3 : Int}, fC m b φ0 σo φ h s → l1' = iI l1 → r32 l1 → l2' = iI l2 → r32 l2 → l3' = iI l3 → r32 l3 → FX35_endParagraph_b66 N SL n l1 l2 l3 s = some q → gG m b φ0 σo lU q (fX35_endParagraph_b66 N sL n 192 l1' l2' l3' h) := by
  intro n
  induction n with
 | zero => intro φ h s l1' l1 l2' l2 l3' l3 R el1 rl1 el2 rl2 el3 rl3 hF; simp [FX35_endParagraph_b66] at hF
  | succ n ih =>
    intro φ h s l1' l1 l2' l2 l3' l3 R el1 rl1 el2 rl2 el3 rl3 hF
    subst el1; subst el2; subst el3
    rw [FX35_endParagraph_b66] at hF
    rw [fX35_endParagraph_b66]
    refine s_if (i_le (c_mul (c_lit 6 6 rfl) rfl) rfl (rr_I _) rl3) hF (fun c1 hF => ?_) (fun c1 hF => ?_)
    ·
      refine s_kok R (t_192 hm R.S) (Nat.le_of_ble_eq_true rfl) ?_
      refine s_call R (Nat.zero_le _) (fun _ hq => SX35_tell (b := 0) (N := N) hm (R.rf) rfl rl2 hq) hF (fun f3 rv3 h3 q3 R3 e3 E3 hF => ?_)
      refine s_gO R3 (t_192 hm R3.S) (Nat.le_of_ble_eq_true rfl) rfl (o_192_6 hm R3.S) ?_
      refine s_kok R3 (t_213 hm R3.S) (Nat.le_of_ble_eq_true rfl) ?_
      refine s_call R3 (Nat.zero_le _) (fun _ hq => SX37_breakUp (b := 0) (N := N) hm (R3.rf) hq) hF (fun f6 rv6 h6 q7 R6 e6 E6 hF => ?_)
      refine s_if (i_le (c_lit 0 0 rfl) e6.1 ⟨by decide, by decide⟩ e6.2) hF (fun c7 hF => ?_) (fun c7 hF => ?_)
      ·
        refine s_gO R6 (t_192 hm R6.S) (Nat.le_of_ble_eq_true rfl) rfl (o_192_6 hm R6.S) ?_
        refine s_gI R6 (t_213 hm R6.S) (Nat.le_of_ble_eq_true rfl) rfl ?_
        refine s_if (i_le rfl (c_lit 0 0 rfl) (R6.ri (t_213 hm R6.S) (Nat.le_of_ble_eq_true rfl) rfl) ⟨by decide, by decide⟩) hF (fun c10 hF => ?_) (fun c10 hF => ?_)
        ·
          exact SX35_endParagraph_b138 (N := N) (sL := sL) (SL := SL) hm hb @hsL R6 rfl rl2 e6.1 e6.2 hF
        ·
          refine s_kok R6 (t_192 hm R6.S) (Nat.le_of_ble_eq_true rfl) ?_
          refine s_call R6 (Nat.zero_le _) (fun _ hq => SX35_fail (b := 0) hm (R6.rf) (c_lit 16 16 rfl) ⟨by decide, by decide⟩ hq) hF (fun f12 rv12 h12 q15 R12 e12 E12 hF => ?_)
          exact SX35_endParagraph_b138 (N := N) (sL := sL) (SL := SL) hm hb @hsL R12 rfl rl2 e6.1 e6.2 hF
      ·
        refine s_kok R6 (t_192 hm R6.S) (Nat.le_of_ble_eq_true rfl) ?_
        refine s_call R6 (Nat.zero_le _) (fun _ hq => SX35_fail (b := 0) hm (R6.rf) (c_lit 2 2 rfl) ⟨by decide, by decide⟩ hq) hF (fun f14 rv14 h14 q17 R14 e14 E14 hF => ?_)
        exact SX35_endParagraph_b138 (N := N) (sL := sL) (SL := SL) hm hb @hsL R14 rfl rl2 e6.1 e6.2 hF
    ·
      refine s_gAs R (t_192 hm R.S) (Nat.le_of_ble_eq_true rfl) rfl (o_192_63 hm R.S) (a_292 hm R) ?_
      refine s_gA R (t_192 hm R.S) (Nat.le_of_ble_eq_true rfl) rfl (o_192_55 hm R.S) (fun _ _ => ?_)
      refine s_rI R (u_1000288 hm R.S).1 (u_1000288 hm R.S).2 (by decide) rfl (c_add (c_mul (c_lit 6 6 rfl) rfl) rfl) (rr_I _) hF (fun x22 ra17 hF => ?_)
      refine s_qI R (u_292 hm R.S).1 (u_292 hm R.S).2 (by decide) (a_292 hm R) rfl rl3 rfl ra17 hF (fun h18 σ24 R18 T18 hF => ?_)
      exact ih R18 rfl rl1 rfl rl2 (c_add rfl (c_lit 1 1 rfl)) (rr_I _) hF
def FX35_endParagraph (N : Nat) (SL : Int → Int → Int → fS → Option (Int × fS)) (s : fS) : Option (Unit × fS) :=
  (FX35_endWord N s).bind fun q2 =>
  if (q2.2.i 192 46) ≤ 0 then
    (uRI q2.2 286 (isub (q2.2.i 192 51) 1)).bind fun x10 =>
    (uPI q2.2 192 51 (isub (q2.2.i 192 51) 1)).bind fun σ16 =>
    (uPI σ16 192 56 x10).bind fun σ18 =>
    if ¬ ((isub (q2.2.i 192 56) x10) = 0) then
      if (isub (q2.2.i 192 56) x10) ≤ 2000 then
        FX35_endParagraph_b66 N SL N x10 (isub (q2.2.i 192 56) x10) 0 σ18
      else
        (FX35_fail 2 σ18).bind fun q23 =>
        some ((), q23.2)
    else
      some ((), σ18)
  else
    some ((), q2.2)
theorem SX35_endParagraph {m b : Nat} {φ0 : Nat → Nat} {σo : fS} (hm : 1 ≤ m) (hb : 1 ≤ b) {N : Nat} {sL : Nat → Int32 → Int64 → Int64 → eH → Option (Int32 × eH)} {SL : Int → Int → Int → fS → Option (Int × fS)} {q : Unit × fS} (hsL : ∀ {φ : Nat → Nat} {h : eH} {s : fS} {x1' : Int32} {x1 : Int} {x2' : Int64} {x2 : Int} {x3' : Int64} {x3 : Int} {q}, fC m 1 φ s φ h s → x1' = iI x1 → r32 x1 → x2' = iJ x2 → r64 x2 → x3' = iJ x3 → r64 x3 → SL x1 x2 x3 s = some q → gG m 1 φ s lI q (sL 192 x1' x2' x3' h)) {φ : Nat → Nat} {h : eH} {s : fS} (R : fC m b φ0 σo φ h s) (hF : FX35_endParagraph N SL s = some q) : gG m b φ0 σo lU q (fX35_endParagraph N sL 192 h) := by
  unfold FX35_endParagraph at hF
  unfold fX35_endParagraph
  refine s_kok R (t_192 hm R.S) (Nat.le_of_ble_eq_true rfl) ?_
  refine s_call R hb (fun _ hq => SX35_endWord (b := 1) (N := N) hm (Nat.le_of_ble_eq_true rfl) (R.rf) hq) hF (fun f2 rv2 h2 q2 R2 e2 E2 hF => ?_)
  refine s_gI R2 (t_192 hm R2.S) (Nat.le_of_ble_eq_true rfl) rfl ?_
  refine s_if (i_le rfl (c_lit 0 0 rfl) (R2.ri (t_192 hm R2.S) (Nat.le_of_ble_eq_true rfl) rfl) ⟨by decide, by decide⟩) hF (fun c4 hF => ?_) (fun c4 hF => ?_)
  ·
    refine s_gAs R2 (t_192 hm R2.S) (Nat.le_of_ble_eq_true rfl) rfl (o_192_53 hm R2.S) (a_286 hm R2) ?_
    refine s_gI R2 (t_192 hm R2.S) (Nat.le_of_ble_eq_true rfl) rfl ?_
    refine s_rI R2 (u_286 hm R2.S).1 (u_286 hm R2.S).2 (by decide) (a_286 hm R2) (c_sub rfl (c_lit 1 1 rfl)) (rr_I _) hF (fun x10 ra7 hF => ?_)
    refine s_gI R2 (t_192 hm R2.S) (Nat.le_of_ble_eq_true rfl) rfl ?_
    refine s_gI R2 (t_192 hm R2.S) (Nat.le_of_ble_eq_true rfl) rfl ?_
    refine s_pI R2 (t_192 hm R2.S) (Nat.le_of_ble_eq_true rfl) rfl (c_sub rfl (c_lit 1 1 rfl)) (rr_I _) hF (fun h10 σ16 R10 T10 hF => ?_)
    refine s_pI R10 (t_192 hm R10.S) (Nat.le_of_ble_eq_true rfl) rfl rfl ra7 hF (fun h11 σ18 R11 T11 hF => ?_)
    refine s_if (not_congr (i_eq (c_sub rfl rfl) (c_lit 0 0 rfl) (rr_I _) ⟨by decide, by decide⟩)) hF (fun c12 hF => ?_) (fun c12 hF => ?_)
    ·
      refine s_if (i_le (c_sub rfl rfl) (c_lit 2000 2000 rfl) (rr_I _) ⟨by decide, by decide⟩) hF (fun c13 hF => ?_) (fun c13 hF => ?_)
      ·
        exact SX35_endParagraph_b66 (N := N) (sL := sL) (SL := SL) hm hb @hsL R11 rfl ra7 (c_sub rfl rfl) (rr_I _) (c_lit 0 0 rfl) ⟨by decide, by decide⟩ hF
      ·
        refine s_kok R11 (t_192 hm R11.S) (Nat.le_of_ble_eq_true rfl) ?_
        refine s_call R11 (Nat.zero_le _) (fun _ hq => SX35_fail (b := 0) hm (R11.rf) (c_lit 2 2 rfl) ⟨by decide, by decide⟩ hq) hF (fun f15 rv15 h15 q23 R15 e15 E15 hF => ?_)
        exact g_ret R15 hF trivial
    ·
      exact g_ret R11 hF trivial
  ·
    exact g_ret R2 hF trivial
def FX35_goesTo_b53 (N : Nat) (SL : Int → Int → Int → fS → Option (Int × fS)) (s : fS) : Option (Unit × fS) :=
  some ((), s)
theorem SX35_goesTo_b53 {m b : Nat} {φ0 : Nat → Nat} {σo : fS} (hm : 1 ≤ m) {N : Nat} {sL : Nat → Int32 → Int64 → Int64 → eH → Option (Int32 × eH)} {SL : Int → Int → Int → fS → Option (Int × fS)} {q : Unit × fS} (hsL : ∀ {φ : Nat → Nat} {h : eH} {s : fS} {x1' : Int32} {x1 : Int} {x2' : Int64} {x2 : Int} {x3' : Int64} {x3 : Int} {q}, fC m 1 φ s φ h s → x1' = iI x1 → r32 x1 → x2' = iJ x2 → r64 x2 → x3' = iJ x3 → r64 x3 → SL x1 x2 x3 s = some q → gG m 1 φ s lI q (sL 192 x1' x2' x3' h)) {φ : Nat → Nat} {h : eH} {s : fS} (R : fC m b φ0 σo φ h s) (hF : FX35_goesTo_b53 N SL s = some q) : gG m b φ0 σo lU q (fX35_goesTo_b53 N sL h) := by
  unfold FX35_goesTo_b53 at hF
  unfold fX35_goesTo_b53
  exact g_ret R hF trivial
def FX35_goesTo_b35 (N : Nat) (SL : Int → Int → Int → fS → Option (Int × fS)) (l4 : Int) (s1 : Int) (s2 : Int) (s : fS) : Option (Unit × fS) :=
  (FX35_setAt N s1 s2 l4 s).bind fun q2 =>
  FX35_goesTo_b53 N SL q2.2
theorem SX35_goesTo_b35 {m b : Nat} {φ0 : Nat → Nat} {σo : fS} (hm : 1 ≤ m) {N : Nat} {sL : Nat → Int32 → Int64 → Int64 → eH → Option (Int32 × eH)} {SL : Int → Int → Int → fS → Option (Int × fS)} {q : Unit × fS} (hsL : ∀ {φ : Nat → Nat} {h : eH} {s : fS} {x1' : Int32} {x1 : Int} {x2' : Int64} {x2 : Int} {x3' : Int64} {x3 : Int} {q}, fC m 1 φ s φ h s → x1' = iI x1 → r32 x1 → x2' = iJ x2 → r64 x2 → x3' = iJ x3 → r64 x3 → SL x1 x2 x3 s = some q → gG m 1 φ s lI q (sL 192 x1' x2' x3' h)) {φ : Nat → Nat} {h : eH} {s : fS} {l4' : Int32} {l4 : Int} {s1' : Int32} {s1 : Int} {s2' : Int32} {s2 : Int} (R : fC m b φ0 σo φ h s) (el4 : l4' = iI l4) (rl4 : r32 l4) (es1 : s1' = iI s1) (rs1 : r32 s1) (es2 : s2' = iI s2) (rs2 : r32 s2) (hF : FX35_goesTo_b35 N SL l4 s1 s2 s = some q) : gG m b φ0 σo lU q (fX35_goesTo_b35 N sL l4' 192 s1' s2' h) := by
  subst el4; subst es1; subst es2
  unfold FX35_goesTo_b35 at hF
  unfold fX35_goesTo_b35
  refine s_kok R (t_192 hm R.S) (Nat.le_of_ble_eq_true rfl) ?_
  refine s_call R (Nat.zero_le _) (fun _ hq => SX35_setAt (b := 0) (N := N) hm (R.rf) rfl rs1 rfl rs2 rfl rl4 hq) hF (fun f2 rv2 h2 q2 R2 e2 E2 hF => ?_)
  exact SX35_goesTo_b53 (N := N) (sL := sL) (SL := SL) hm @hsL R2 hF
def FX35_goesTo (N : Nat) (SL : Int → Int → Int → fS → Option (Int × fS)) (p0 : Int) (p1 : Int) (p2 : Int) (p3 : Int) (s : fS) : Option (Unit × fS) :=
  if p1 < 0 then
    if p0 < 0 then
      FX35_goesTo_b53 N SL s
    else
      (FX35_boxItem N SL p0 p2 s).bind fun q4 =>
      FX35_goesTo_b53 N SL q4.2
  else
    (FX35_setAt N (iadd 3299 p1) p0 p3 s).bind fun q6 =>
    if p3 = 0 then
      FX35_goesTo_b35 N SL p3 (iadd 3555 p1) (q6.2.i 192 21) q6.2
    else
      FX35_goesTo_b35 N SL p3 (iadd 3555 p1) 0 q6.2
theorem SX35_goesTo {m b : Nat} {φ0 : Nat → Nat} {σo : fS} (hm : 1 ≤ m) (hb : 1 ≤ b) {N : Nat} {sL : Nat → Int32 → Int64 → Int64 → eH → Option (Int32 × eH)} {SL : Int → Int → Int → fS → Option (Int × fS)} {q : Unit × fS} (hsL : ∀ {φ : Nat → Nat} {h : eH} {s : fS} {x1' : Int32} {x1 : Int} {x2' : Int64} {x2 : Int} {x3' : Int64} {x3 : Int} {q}, fC m 1 φ s φ h s → x1' = iI x1 → r32 x1 → x2' = iJ x2 → r64 x2 → x3' = iJ x3 → r64 x3 → SL x1 x2 x3 s = some q → gG m 1 φ s lI q (sL 192 x1' x2' x3' h)) {φ : Nat → Nat} {h : eH} {s : fS} {p0' : Int32} {p0 : Int} {p1' : Int32} {p1 : Int} {p2' : Int32} {p2 : Int} {p3' : Int32} {p3 : Int} (R : fC m b φ0 σo φ h s) (ep0 : p0' = iI p0) (rp0 : r32 p0) (ep1 : p1' = iI p1) (rp1 : r32 p1) (ep2 : p2' = iI p2) (rp2 : r32 p2) (ep3 : p3' = iI p3) (rp3 : r32 p3) (hF : FX35_goesTo N SL p0 p1 p2 p3 s = some q) : gG m b φ0 σo lU q (fX35_goesTo N sL 192 p0' p1' p2' p3' h) := by
  subst ep0; subst ep1; subst ep2; subst ep3
  unfold FX35_goesTo at hF
  unfold fX35_goesTo
  refine s_if (i_lt rfl (c_lit 0 0 rfl) rp1 ⟨by decide, by decide⟩) hF (fun c1 hF => ?_) (fun c1 hF => ?_)
  ·
    refine s_if (i_lt rfl (c_lit 0 0 rfl) rp0 ⟨by decide, by decide⟩) hF (fun c2 hF => ?_) (fun c2 hF => ?_)
    ·
      exact SX35_goesTo_b53 (N := N) (sL := sL) (SL := SL) hm @hsL R hF
    ·
      refine s_kok R (t_192 hm R.S) (Nat.le_of_ble_eq_true rfl) ?_
      refine s_call R hb (fun _ hq => SX35_boxItem (b := 1) (N := N) (sL := sL) (SL := SL) hm (Nat.le_of_ble_eq_true rfl) @hsL (R.rf) rfl rp0 rfl rp2 hq) hF (fun f4 rv4 h4 q4 R4 e4 E4 hF => ?_)
      exact SX35_goesTo_b53 (N := N) (sL := sL) (SL := SL) hm @hsL R4 hF
  ·
    refine s_kok R (t_192 hm R.S) (Nat.le_of_ble_eq_true rfl) ?_
    refine s_call R (Nat.zero_le _) (fun _ hq => SX35_setAt (b := 0) (N := N) hm (R.rf) (c_add (c_lit 3299 3299 rfl) rfl) (rr_I _) rfl rp0 rfl rp3 hq) hF (fun f6 rv6 h6 q6 R6 e6 E6 hF => ?_)
    refine s_if (i_eq rfl (c_lit 0 0 rfl) rp3 ⟨by decide, by decide⟩) hF (fun c7 hF => ?_) (fun c7 hF => ?_)
    ·
      refine s_gI R6 (t_192 hm R6.S) (Nat.le_of_ble_eq_true rfl) rfl ?_
      exact SX35_goesTo_b35 (N := N) (sL := sL) (SL := SL) hm @hsL R6 rfl rp3 (c_add (c_lit 3555 3555 rfl) rfl) (rr_I _) rfl (R6.ri (t_192 hm R6.S) (Nat.le_of_ble_eq_true rfl) rfl) hF
    ·
      exact SX35_goesTo_b35 (N := N) (sL := sL) (SL := SL) hm @hsL R6 rfl rp3 (c_add (c_lit 3555 3555 rfl) rfl) (rr_I _) (c_lit 0 0 rfl) ⟨by decide, by decide⟩ hF
def FX35_closeBox_b12 (N : Nat) (SL : Int → Int → Int → fS → Option (Int × fS)) (s : fS) : Option (Unit × fS) :=
  if (s.i 192 46) ≤ 0 then
    (uRI s 286 (isub (s.i 192 51) 1)).bind fun x10 =>
    (uRI s 267 (s.i 192 21)).bind fun x18 =>
    (uRI s 268 (s.i 192 21)).bind fun x22 =>
    (uRI s 269 (s.i 192 21)).bind fun x26 =>
    (FX35_pack N 1000288 x10 (s.i 192 56) x18 x22 x26 s).bind fun q29 =>
    if (q29.2.i 192 46) ≤ 0 then
      (uPI q29.2 192 51 (isub (q29.2.i 192 51) 1)).bind fun σ35 =>
      (uPI σ35 192 56 x10).bind fun σ37 =>
      (uPI σ37 192 21 (isub (σ37.i 192 21) 1)).bind fun σ41 =>
      (uRI σ41 270 (s.i 192 21)).bind fun x45 =>
      (uRI σ41 271 (s.i 192 21)).bind fun x49 =>
      (uRI σ41 272 (s.i 192 21)).bind fun x53 =>
      (FX35_goesTo N SL q29.1 x45 x49 x53 σ41).bind fun q56 =>
      some ((), q56.2)
    else
      some ((), q29.2)
  else
    some ((), s)
theorem SX35_closeBox_b12 {m b : Nat} {φ0 : Nat → Nat} {σo : fS} (hm : 1 ≤ m) (hb : 1 ≤ b) {N : Nat} {sL : Nat → Int32 → Int64 → Int64 → eH → Option (Int32 × eH)} {SL : Int → Int → Int → fS → Option (Int × fS)} {q : Unit × fS} (hsL : ∀ {φ : Nat → Nat} {h : eH} {s : fS} {x1' : Int32} {x1 : Int} {x2' : Int64} {x2 : Int} {x3' : Int64} {x3 : Int} {q}, fC m 1 φ s φ h s → x1' = iI x1 → r32 x1 → x2' = iJ x2 → r64 x2 → x3' = iJ x3 → r64 x3 → SL x1 x2 x3 s = some q → gG m 1 φ s lI q (sL 192 x1' x2' x3' h)) {φ : Nat → Nat} {h : eH} {s : fS} (R : fC m b φ0 σo φ h s) (hF : FX35_closeBox_b12 N SL s = some q) : gG m b φ0 σo lU q (fX35_closeBox_b12 N sL 192 h) := by
  unfold FX35_closeBox_b12 at hF
  unfold fX35_closeBox_b12
  refine s_gI R (t_192 hm R.S) (Nat.le_of_ble_eq_true rfl) rfl ?_
  refine s_if (i_le rfl (c_lit 0 0 rfl) (R.ri (t_192 hm R.S) (Nat.le_of_ble_eq_true rfl) rfl) ⟨by decide, by decide⟩) hF (fun c2 hF => ?_) (fun c2 hF => ?_)
  ·
    refine s_gI R (t_192 hm R.S) (Nat.le_of_ble_eq_true rfl) rfl ?_
    refine s_gAs R (t_192 hm R.S) (Nat.le_of_ble_eq_true rfl) rfl (o_192_53 hm R.S) (a_286 hm R) ?_
    refine s_gI R (t_192 hm R.S) (Nat.le_of_ble_eq_true rfl) rfl ?_
    refine s_rI R (u_286 hm R.S).1 (u_286 hm R.S).2 (by decide) (a_286 hm R) (c_sub rfl (c_lit 1 1 rfl)) (rr_I _) hF (fun x10 ra6 hF => ?_)
    refine s_gA R (t_192 hm R.S) (Nat.le_of_ble_eq_true rfl) rfl (o_192_55 hm R.S) (fun _ _ => ?_)
    refine s_gI R (t_192 hm R.S) (Nat.le_of_ble_eq_true rfl) rfl ?_
    refine s_gAs R (t_192 hm R.S) (Nat.le_of_ble_eq_true rfl) rfl (o_192_24 hm R.S) (a_267 hm R) ?_
    refine s_rI R (u_267 hm R.S).1 (u_267 hm R.S).2 (by decide) (a_267 hm R) rfl (R.ri (t_192 hm R.S) (Nat.le_of_ble_eq_true rfl) rfl) hF (fun x18 ra10 hF => ?_)
    refine s_gAs R (t_192 hm R.S) (Nat.le_of_ble_eq_true rfl) rfl (o_192_25 hm R.S) (a_268 hm R) ?_
    refine s_rI R (u_268 hm R.S).1 (u_268 hm R.S).2 (by decide) (a_268 hm R) rfl (R.ri (t_192 hm R.S) (Nat.le_of_ble_eq_true rfl) rfl) hF (fun x22 ra12 hF => ?_)
    refine s_gAs R (t_192 hm R.S) (Nat.le_of_ble_eq_true rfl) rfl (o_192_26 hm R.S) (a_269 hm R) ?_
    refine s_rI R (u_269 hm R.S).1 (u_269 hm R.S).2 (by decide) (a_269 hm R) rfl (R.ri (t_192 hm R.S) (Nat.le_of_ble_eq_true rfl) rfl) hF (fun x26 ra14 hF => ?_)
    refine s_kok R (t_192 hm R.S) (Nat.le_of_ble_eq_true rfl) ?_
    refine s_call R (Nat.zero_le _) (fun _ hq => SX35_pack (b := 0) (N := N) hm (R.rf) rfl (u_1000288 hm R.S).1 rfl ra6 rfl (R.ri (t_192 hm R.S) (Nat.le_of_ble_eq_true rfl) rfl) rfl ra10 rfl ra12 rfl ra14 hq) hF (fun f16 rv16 h16 q29 R16 e16 E16 hF => ?_)
    refine s_gI R16 (t_192 hm R16.S) (Nat.le_of_ble_eq_true rfl) rfl ?_
    refine s_if (i_le rfl (c_lit 0 0 rfl) (R16.ri (t_192 hm R16.S) (Nat.le_of_ble_eq_true rfl) rfl) ⟨by decide, by decide⟩) hF (fun c18 hF => ?_) (fun c18 hF => ?_)
    ·
      refine s_gI R16 (t_192 hm R16.S) (Nat.le_of_ble_eq_true rfl) rfl ?_
      refine s_pI R16 (t_192 hm R16.S) (Nat.le_of_ble_eq_true rfl) rfl (c_sub rfl (c_lit 1 1 rfl)) (rr_I _) hF (fun h20 σ35 R20 T20 hF => ?_)
      refine s_pI R20 (t_192 hm R20.S) (Nat.le_of_ble_eq_true rfl) rfl rfl ra6 hF (fun h21 σ37 R21 T21 hF => ?_)
      refine s_gI R21 (t_192 hm R21.S) (Nat.le_of_ble_eq_true rfl) rfl ?_
      refine s_pI R21 (t_192 hm R21.S) (Nat.le_of_ble_eq_true rfl) rfl (c_sub rfl (c_lit 1 1 rfl)) (rr_I _) hF (fun h23 σ41 R23 T23 hF => ?_)
      refine s_gAs R23 (t_192 hm R23.S) (Nat.le_of_ble_eq_true rfl) rfl (o_192_27 hm R23.S) (a_270 hm R23) ?_
      refine s_rI R23 (u_270 hm R23.S).1 (u_270 hm R23.S).2 (by decide) (a_270 hm R23) rfl (R.ri (t_192 hm R.S) (Nat.le_of_ble_eq_true rfl) rfl) hF (fun x45 ra25 hF => ?_)
      refine s_gAs R23 (t_192 hm R23.S) (Nat.le_of_ble_eq_true rfl) rfl (o_192_28 hm R23.S) (a_271 hm R23) ?_
      refine s_rI R23 (u_271 hm R23.S).1 (u_271 hm R23.S).2 (by decide) (a_271 hm R23) rfl (R.ri (t_192 hm R.S) (Nat.le_of_ble_eq_true rfl) rfl) hF (fun x49 ra27 hF => ?_)
      refine s_gAs R23 (t_192 hm R23.S) (Nat.le_of_ble_eq_true rfl) rfl (o_192_29 hm R23.S) (a_272 hm R23) ?_
      refine s_rI R23 (u_272 hm R23.S).1 (u_272 hm R23.S).2 (by decide) (a_272 hm R23) rfl (R.ri (t_192 hm R.S) (Nat.le_of_ble_eq_true rfl) rfl) hF (fun x53 ra29 hF => ?_)
      refine s_kok R23 (t_192 hm R23.S) (Nat.le_of_ble_eq_true rfl) ?_
      refine s_call R23 hb (fun _ hq => SX35_goesTo (b := 1) (N := N) (sL := sL) (SL := SL) hm (Nat.le_of_ble_eq_true rfl) @hsL (R23.rf) e16.1 e16.2 rfl ra25 rfl ra27 rfl ra29 hq) hF (fun f31 rv31 h31 q56 R31 e31 E31 hF => ?_)
      exact g_ret R31 hF trivial
    ·
      exact g_ret R16 hF trivial
  ·
    exact g_ret R hF trivial
def FX35_closeBox (N : Nat) (SL : Int → Int → Int → fS → Option (Int × fS)) (s : fS) : Option (Unit × fS) :=
  (FX35_mode s).bind fun q2 =>
  if ¬ (q2.1 = 2) then
    FX35_closeBox_b12 N SL q2.2
  else
    (FX35_endParagraph N SL q2.2).bind fun q5 =>
    FX35_closeBox_b12 N SL q5.2
theorem SX35_closeBox {m b : Nat} {φ0 : Nat → Nat} {σo : fS} (hm : 1 ≤ m) (hb : 1 ≤ b) {N : Nat} {sL : Nat → Int32 → Int64 → Int64 → eH → Option (Int32 × eH)} {SL : Int → Int → Int → fS → Option (Int × fS)} {q : Unit × fS} (hsL : ∀ {φ : Nat → Nat} {h : eH} {s : fS} {x1' : Int32} {x1 : Int} {x2' : Int64} {x2 : Int} {x3' : Int64} {x3 : Int} {q}, fC m 1 φ s φ h s → x1' = iI x1 → r32 x1 → x2' = iJ x2 → r64 x2 → x3' = iJ x3 → r64 x3 → SL x1 x2 x3 s = some q → gG m 1 φ s lI q (sL 192 x1' x2' x3' h)) {φ : Nat → Nat} {h : eH} {s : fS} (R : fC m b φ0 σo φ h s) (hF : FX35_closeBox N SL s = some q) : gG m b φ0 σo lU q (fX35_closeBox N sL 192 h) := by
  unfold FX35_closeBox at hF
  unfold fX35_closeBox
  refine s_kok R (t_192 hm R.S) (Nat.le_of_ble_eq_true rfl) ?_
  refine s_call R (Nat.zero_le _) (fun _ hq => SX35_mode (b := 0) hm (R.rf) hq) hF (fun f2 rv2 h2 q2 R2 e2 E2 hF => ?_)
  refine s_if (not_congr (i_eq e2.1 (c_lit 2 2 rfl) e2.2 ⟨by decide, by decide⟩)) hF (fun c3 hF => ?_) (fun c3 hF => ?_)
  ·
    exact SX35_closeBox_b12 (N := N) (sL := sL) (SL := SL) hm hb @hsL R2 hF
  ·
    refine s_kok R2 (t_192 hm R2.S) (Nat.le_of_ble_eq_true rfl) ?_
    refine s_call R2 hb (fun _ hq => SX35_endParagraph (b := 1) (N := N) (sL := sL) (SL := SL) hm (Nat.le_of_ble_eq_true rfl) @hsL (R2.rf) hq) hF (fun f5 rv5 h5 q5 R5 e5 E5 hF => ?_)
    exact SX35_closeBox_b12 (N := N) (sL := sL) (SL := SL) hm hb @hsL R5 hF
def FX35_closeBrace_b59 (N : Nat) (SL : Int → Int → Int → fS → Option (Int × fS)) (s : fS) : Option (Unit × fS) :=
  some ((), s)
theorem SX35_closeBrace_b59 {m b : Nat} {φ0 : Nat → Nat} {σo : fS} (hm : 1 ≤ m) {N : Nat} {sL : Nat → Int32 → Int64 → Int64 → eH → Option (Int32 × eH)} {SL : Int → Int → Int → fS → Option (Int × fS)} {q : Unit × fS} (hsL : ∀ {φ : Nat → Nat} {h : eH} {s : fS} {x1' : Int32} {x1 : Int} {x2' : Int64} {x2 : Int} {x3' : Int64} {x3 : Int} {q}, fC m 1 φ s φ h s → x1' = iI x1 → r32 x1 → x2' = iJ x2 → r64 x2 → x3' = iJ x3 → r64 x3 → SL x1 x2 x3 s = some q → gG m 1 φ s lI q (sL 192 x1' x2' x3' h)) {φ : Nat → Nat} {h : eH} {s : fS} (R : fC m b φ0 σo φ h s) (hF : FX35_closeBrace_b59 N SL s = some q) : gG m b φ0 σo lU q (fX35_closeBrace_b59 N sL h) := by
  unfold FX35_closeBrace_b59 at hF
  unfold fX35_closeBrace_b59
  exact g_ret R hF trivial
def FX35_closeBrace_b20 (N : Nat) (SL : Int → Int → Int → fS → Option (Int × fS)) (s : fS) : Option (Unit × fS) :=
  (FX35_fail 13 s).bind fun q2 =>
  FX35_closeBrace_b59 N SL q2.2
theorem SX35_closeBrace_b20 {m b : Nat} {φ0 : Nat → Nat} {σo : fS} (hm : 1 ≤ m) {N : Nat} {sL : Nat → Int32 → Int64 → Int64 → eH → Option (Int32 × eH)} {SL : Int → Int → Int → fS → Option (Int × fS)} {q : Unit × fS} (hsL : ∀ {φ : Nat → Nat} {h : eH} {s : fS} {x1' : Int32} {x1 : Int} {x2' : Int64} {x2 : Int} {x3' : Int64} {x3 : Int} {q}, fC m 1 φ s φ h s → x1' = iI x1 → r32 x1 → x2' = iJ x2 → r64 x2 → x3' = iJ x3 → r64 x3 → SL x1 x2 x3 s = some q → gG m 1 φ s lI q (sL 192 x1' x2' x3' h)) {φ : Nat → Nat} {h : eH} {s : fS} (R : fC m b φ0 σo φ h s) (hF : FX35_closeBrace_b20 N SL s = some q) : gG m b φ0 σo lU q (fX35_closeBrace_b20 N sL 192 h) := by
  unfold FX35_closeBrace_b20 at hF
  unfold fX35_closeBrace_b20
  refine s_kok R (t_192 hm R.S) (Nat.le_of_ble_eq_true rfl) ?_
  refine s_call R (Nat.zero_le _) (fun _ hq => SX35_fail (b := 0) hm (R.rf) (c_lit 13 13 rfl) ⟨by decide, by decide⟩ hq) hF (fun f2 rv2 h2 q2 R2 e2 E2 hF => ?_)
  exact SX35_closeBrace_b59 (N := N) (sL := sL) (SL := SL) hm @hsL R2 hF
def FX35_closeBrace (N : Nat) (SL : Int → Int → Int → fS → Option (Int × fS)) (s : fS) : Option (Unit × fS) :=
  if (s.i 192 21) = 0 then
    FX35_closeBrace_b20 N SL s
  else
    (uRI s 266 (s.i 192 21)).bind fun x8 =>
    if ¬ (x8 = 2) then
      (uRI s 266 (s.i 192 21)).bind fun x15 =>
      if ¬ (x15 = 1) then
        (FX35_closeBox N SL s).bind fun q19 =>
        FX35_closeBrace_b59 N SL q19.2
      else
        (uPI s 192 21 (isub (s.i 192 21) 1)).bind fun σ22 =>
        FX35_closeBrace_b59 N SL σ22
    else
      FX35_closeBrace_b20 N SL s
theorem SX35_closeBrace {m b : Nat} {φ0 : Nat → Nat} {σo : fS} (hm : 1 ≤ m) (hb : 1 ≤ b) {N : Nat} {sL : Nat → Int32 → Int64 → Int64 → eH → Option (Int32 × eH)} {SL : Int → Int → Int → fS → Option (Int × fS)} {q : Unit × fS} (hsL : ∀ {φ : Nat → Nat} {h : eH} {s : fS} {x1' : Int32} {x1 : Int} {x2' : Int64} {x2 : Int} {x3' : Int64} {x3 : Int} {q}, fC m 1 φ s φ h s → x1' = iI x1 → r32 x1 → x2' = iJ x2 → r64 x2 → x3' = iJ x3 → r64 x3 → SL x1 x2 x3 s = some q → gG m 1 φ s lI q (sL 192 x1' x2' x3' h)) {φ : Nat → Nat} {h : eH} {s : fS} (R : fC m b φ0 σo φ h s) (hF : FX35_closeBrace N SL s = some q) : gG m b φ0 σo lU q (fX35_closeBrace N sL 192 h) := by
  unfold FX35_closeBrace at hF
  unfold fX35_closeBrace
  refine s_gI R (t_192 hm R.S) (Nat.le_of_ble_eq_true rfl) rfl ?_
  refine s_if (i_eq rfl (c_lit 0 0 rfl) (R.ri (t_192 hm R.S) (Nat.le_of_ble_eq_true rfl) rfl) ⟨by decide, by decide⟩) hF (fun c2 hF => ?_) (fun c2 hF => ?_)
  ·
    exact SX35_closeBrace_b20 (N := N) (sL := sL) (SL := SL) hm @hsL R hF
  ·
    refine s_gAs R (t_192 hm R.S) (Nat.le_of_ble_eq_true rfl) rfl (o_192_23 hm R.S) (a_266 hm R) ?_
    refine s_gI R (t_192 hm R.S) (Nat.le_of_ble_eq_true rfl) rfl ?_
    refine s_rI R (u_266 hm R.S).1 (u_266 hm R.S).2 (by decide) (a_266 hm R) rfl (R.ri (t_192 hm R.S) (Nat.le_of_ble_eq_true rfl) rfl) hF (fun x8 ra5 hF => ?_)
    refine s_if (not_congr (i_eq rfl (c_lit 2 2 rfl) ra5 ⟨by decide, by decide⟩)) hF (fun c6 hF => ?_) (fun c6 hF => ?_)
    ·
      refine s_gAs R (t_192 hm R.S) (Nat.le_of_ble_eq_true rfl) rfl (o_192_23 hm R.S) (a_266 hm R) ?_
      refine s_gI R (t_192 hm R.S) (Nat.le_of_ble_eq_true rfl) rfl ?_
      refine s_rI R (u_266 hm R.S).1 (u_266 hm R.S).2 (by decide) (a_266 hm R) rfl (R.ri (t_192 hm R.S) (Nat.le_of_ble_eq_true rfl) rfl) hF (fun x15 ra9 hF => ?_)
      refine s_if (not_congr (i_eq rfl (c_lit 1 1 rfl) ra9 ⟨by decide, by decide⟩)) hF (fun c10 hF => ?_) (fun c10 hF => ?_)
      ·
        refine s_kok R (t_192 hm R.S) (Nat.le_of_ble_eq_true rfl) ?_
        refine s_call R hb (fun _ hq => SX35_closeBox (b := 1) (N := N) (sL := sL) (SL := SL) hm (Nat.le_of_ble_eq_true rfl) @hsL (R.rf) hq) hF (fun f12 rv12 h12 q19 R12 e12 E12 hF => ?_)
        exact SX35_closeBrace_b59 (N := N) (sL := sL) (SL := SL) hm @hsL R12 hF
      ·
        refine s_gI R (t_192 hm R.S) (Nat.le_of_ble_eq_true rfl) rfl ?_
        refine s_pI R (t_192 hm R.S) (Nat.le_of_ble_eq_true rfl) rfl (c_sub rfl (c_lit 1 1 rfl)) (rr_I _) hF (fun h14 σ22 R14 T14 hF => ?_)
        exact SX35_closeBrace_b59 (N := N) (sL := sL) (SL := SL) hm @hsL R14 hF
    ·
      exact SX35_closeBrace_b20 (N := N) (sL := sL) (SL := SL) hm @hsL R hF
def FX35_isExpandable_b19 (s : fS) : Option (Int × fS) :=
  some (0, s)
theorem SX35_isExpandable_b19 {m b : Nat} {φ0 : Nat → Nat} {σo : fS} (hm : 1 ≤ m) {q : Int × fS} {φ : Nat → Nat} {h : eH} {s : fS} (R : fC m b φ0 σo φ h s) (hF : FX35_isExpandable_b19 s = some q) : gG m b φ0 σo lI q (fX35_isExpandable_b19 h) := by
  unfold FX35_isExpandable_b19 at hF
  unfold fX35_isExpandable_b19
  exact g_ret R hF ⟨(c_lit 0 0 rfl), ⟨by decide, by decide⟩⟩
def FX35_isExpandable_b59 (s0 : Int) (s : fS) : Option (Int × fS) :=
  uZ s0 (s0, s)
theorem SX35_isExpandable_b59 {m b : Nat} {φ0 : Nat → Nat} {σo : fS} (hm : 1 ≤ m) {q : Int × fS} {φ : Nat → Nat} {h : eH} {s : fS} {s0' : Int32} {s0 : Int} (R : fC m b φ0 σo φ h s) (es0 : s0' = iI s0) (rs0 : r32 s0) (hF : FX35_isExpandable_b59 s0 s = some q) : gG m b φ0 σo lI q (fX35_isExpandable_b59 s0' h) := by
  subst es0
  unfold FX35_isExpandable_b59 at hF
  unfold fX35_isExpandable_b59
  exact g_z R rfl hF ⟨rfl, rs0⟩
def FX35_isExpandable_b54 (s : fS) : Option (Int × fS) :=
  FX35_isExpandable_b59 1 s
theorem SX35_isExpandable_b54 {m b : Nat} {φ0 : Nat → Nat} {σo : fS} (hm : 1 ≤ m) {q : Int × fS} {φ : Nat → Nat} {h : eH} {s : fS} (R : fC m b φ0 σo φ h s) (hF : FX35_isExpandable_b54 s = some q) : gG m b φ0 σo lI q (fX35_isExpandable_b54 h) := by
  unfold FX35_isExpandable_b54 at hF
  unfold fX35_isExpandable_b54
  exact SX35_isExpandable_b59 hm R (c_lit 1 1 rfl) ⟨by decide, by decide⟩ hF
def FX35_isExpandable_b58 (s : fS) : Option (Int × fS) :=
  FX35_isExpandable_b59 0 s
theorem SX35_isExpandable_b58 {m b : Nat} {φ0 : Nat → Nat} {σo : fS} (hm : 1 ≤ m) {q : Int × fS} {φ : Nat → Nat} {h : eH} {s : fS} (R : fC m b φ0 σo φ h s) (hF : FX35_isExpandable_b58 s = some q) : gG m b φ0 σo lI q (fX35_isExpandable_b58 h) := by
  unfold FX35_isExpandable_b58 at hF
  unfold fX35_isExpandable_b58
  exact SX35_isExpandable_b59 hm R (c_lit 0 0 rfl) ⟨by decide, by decide⟩ hF
def FX35_isExpandable_b41 (l2 : Int) (s : fS) : Option (Int × fS) :=
  if l2 < 100000 then
    FX35_isExpandable_b58 s
  else
    if 2000000 ≤ l2 then
      FX35_isExpandable_b58 s
    else
      FX35_isExpandable_b54 s
theorem SX35_isExpandable_b41 {m b : Nat} {φ0 : Nat → Nat} {σo : fS} (hm : 1 ≤ m) {q : Int × fS} {φ : Nat → Nat} {h : eH} {s : fS} {l2' : Int32} {l2 : Int} (R : fC m b φ0 σo φ h s) (el2 : l2' = iI l2) (rl2 : r32 l2) (hF : FX35_isExpandable_b41 l2 s = some q) : gG m b φ0 σo lI q (fX35_isExpandable_b41 l2' h) := by
  subst el2
  unfold FX35_isExpandable_b41 at hF
  unfold fX35_isExpandable_b41
  refine s_if (i_lt rfl (c_lit 100000 100000 rfl) rl2 ⟨by decide, by decide⟩) hF (fun c1 hF => ?_) (fun c1 hF => ?_)
  ·
    exact SX35_isExpandable_b58 hm R hF
  ·
    refine s_if (i_le (c_lit 2000000 2000000 rfl) rfl ⟨by decide, by decide⟩ rl2) hF (fun c2 hF => ?_) (fun c2 hF => ?_)
    ·
      exact SX35_isExpandable_b58 hm R hF
    ·
      exact SX35_isExpandable_b54 hm R hF
def FX35_isExpandable (p0 : Int) (s : fS) : Option (Int × fS) :=
  if p0 = (-1) then
    FX35_isExpandable_b19 s
  else
    (FX35_isMarked p0 s).bind fun q2 =>
    if ¬ (q2.1 = 0) then
      FX35_isExpandable_b19 q2.2
    else
      (FX35_isCharacter p0 q2.2).bind fun q4 =>
      if q4.1 = 0 then
        (FX35_meaning p0 q4.2).bind fun q7 =>
        if q7.1 < 1000 then
          FX35_isExpandable_b41 q7.1 q7.2
        else
          if q7.1 ≤ 1021 then
            FX35_isExpandable_b54 q7.2
          else
            FX35_isExpandable_b41 q7.1 q7.2
      else
        FX35_isExpandable_b19 q4.2
theorem SX35_isExpandable {m b : Nat} {φ0 : Nat → Nat} {σo : fS} (hm : 1 ≤ m) {q : Int × fS} {φ : Nat → Nat} {h : eH} {s : fS} {p0' : Int32} {p0 : Int} (R : fC m b φ0 σo φ h s) (ep0 : p0' = iI p0) (rp0 : r32 p0) (hF : FX35_isExpandable p0 s = some q) : gG m b φ0 σo lI q (fX35_isExpandable 192 p0' h) := by
  subst ep0
  unfold FX35_isExpandable at hF
  unfold fX35_isExpandable
  refine s_if (i_eq rfl (c_lit (-1) (-1) rfl) rp0 ⟨by decide, by decide⟩) hF (fun c1 hF => ?_) (fun c1 hF => ?_)
  ·
    exact SX35_isExpandable_b19 hm R hF
  ·
    refine s_call R (Nat.zero_le _) (fun _ hq => SX35_isMarked (b := 0) hm (R.rf) rfl rp0 hq) hF (fun f2 rv2 h2 q2 R2 e2 E2 hF => ?_)
    refine s_if (not_congr (i_eq e2.1 (c_lit 0 0 rfl) e2.2 ⟨by decide, by decide⟩)) hF (fun c3 hF => ?_) (fun c3 hF => ?_)
    ·
      exact SX35_isExpandable_b19 hm R2 hF
    ·
      refine s_call R2 (Nat.zero_le _) (fun _ hq => SX35_isCharacter (b := 0) hm (R2.rf) rfl rp0 hq) hF (fun f4 rv4 h4 q4 R4 e4 E4 hF => ?_)
      refine s_if (i_eq e4.1 (c_lit 0 0 rfl) e4.2 ⟨by decide, by decide⟩) hF (fun c5 hF => ?_) (fun c5 hF => ?_)
      ·
        refine s_kok R4 (t_192 hm R4.S) (Nat.le_of_ble_eq_true rfl) ?_
        refine s_call R4 (Nat.zero_le _) (fun _ hq => SX35_meaning (b := 0) hm (R4.rf) rfl rp0 hq) hF (fun f7 rv7 h7 q7 R7 e7 E7 hF => ?_)
        refine s_if (i_lt e7.1 (c_lit 1000 1000 rfl) e7.2 ⟨by decide, by decide⟩) hF (fun c8 hF => ?_) (fun c8 hF => ?_)
        ·
          exact SX35_isExpandable_b41 hm R7 e7.1 e7.2 hF
        ·
          refine s_if (i_le e7.1 (c_lit 1021 1021 rfl) e7.2 ⟨by decide, by decide⟩) hF (fun c9 hF => ?_) (fun c9 hF => ?_)
          ·
            exact SX35_isExpandable_b54 hm R7 hF
          ·
            exact SX35_isExpandable_b41 hm R7 e7.1 e7.2 hF
      ·
        exact SX35_isExpandable_b19 hm R4 hF
def FX35_getExpanded_b5 (N : Nat) (SE : Int → fS → Option (Unit × fS)) : Nat → Int → fS → Option (Int × fS)
  | 0, _, _ => none
  | n + 1, l1, s =>
    (FX35_isExpandable l1 s).bind fun q2 =>
    if q2.1 = 0 then
      some (l1, q2.2)
    else
      (SE l1 q2.2).bind fun q5 =>
      (FX35_get N q5.2).bind fun q7 =>
      FX35_getExpanded_b5 N SE n q7.1 q7.2
theorem SX35_getExpanded_b5 {m b : Nat} {φ0 : Nat → Nat} {σo : fS} (hm : 1 ≤ m) (hb : 1 ≤ b) {N : Nat} {sE : Nat → Int32 → eH → Option (Unit × eH)} {SE : Int → fS → Option (Unit × fS)} {q : Int × fS} (hsE : ∀ {φ : Nat → Nat} {h : eH} {s : fS} {x1' : Int32} {x1 : Int} {q}, fC m 1 φ s φ h s → x1' = iI x1 → r32 x1 → SE x1 s = some q → gG m 1 φ s lU q (sE 192 x1' h)) : ∀ {n : Nat} {φ : Nat → Nat} {h : eH} {s : fS} {l1' : Int32} {l1 : Int}, fC m b φ0 σo φ h s → l1' = iI l1 → r32 l1 → FX35_getExpanded_b5 N SE n l1 s = some q → gG m b φ0 σo lI q (fX35_getExpanded_b5 N sE n 192 l1' h) := by
  intro n
  induction n with
 | zero => intro φ h s l1' l1 R el1 rl1 hF; simp [FX35_getExpanded_b5] at hF
  | succ n ih =>
    intro φ h s l1' l1 R el1 rl1 hF
    subst el1
    rw [FX35_getExpanded_b5] at hF
    rw [fX35_getExpanded_b5]
    refine s_kok R (t_192 hm R.S) (Nat.le_of_ble_eq_true rfl) ?_
    refine s_call R (Nat.zero_le _) (fun _ hq => SX35_isExpandable (b := 0) hm (R.rf) rfl rl1 hq) hF (fun f2 rv2 h2 q2 R2 e2 E2 hF => ?_)
    refine s_if (i_eq e2.1 (c_lit 0 0 rfl) e2.2 ⟨by decide, by decide⟩) hF (fun c3 hF => ?_) (fun c3 hF => ?_)
    ·
      exact g_ret R2 hF ⟨rfl, rl1⟩
    ·
      refine s_kok R2 (t_192 hm R2.S) (Nat.le_of_ble_eq_true rfl) ?_
      refine s_call R2 hb (fun _ hq => hsE (R2.rf) rfl rl1 hq) hF (fun f5 rv5 h5 q5 R5 e5 E5 hF => ?_)
      refine s_kok R5 (t_192 hm R5.S) (Nat.le_of_ble_eq_true rfl) ?_
      refine s_call R5 (Nat.zero_le _) (fun _ hq => SX35_get (b := 0) (N := N) hm (R5.rf) hq) hF (fun f7 rv7 h7 q7 R7 e7 E7 hF => ?_)
      exact ih R7 e7.1 e7.2 hF
def FX35_getExpanded (N : Nat) (SE : Int → fS → Option (Unit × fS)) (s : fS) : Option (Int × fS) :=
  (FX35_get N s).bind fun q2 =>
  FX35_getExpanded_b5 N SE N q2.1 q2.2
theorem SX35_getExpanded {m b : Nat} {φ0 : Nat → Nat} {σo : fS} (hm : 1 ≤ m) (hb : 1 ≤ b) {N : Nat} {sE : Nat → Int32 → eH → Option (Unit × eH)} {SE : Int → fS → Option (Unit × fS)} {q : Int × fS} (hsE : ∀ {φ : Nat → Nat} {h : eH} {s : fS} {x1' : Int32} {x1 : Int} {q}, fC m 1 φ s φ h s → x1' = iI x1 → r32 x1 → SE x1 s = some q → gG m 1 φ s lU q (sE 192 x1' h)) {φ : Nat → Nat} {h : eH} {s : fS} (R : fC m b φ0 σo φ h s) (hF : FX35_getExpanded N SE s = some q) : gG m b φ0 σo lI q (fX35_getExpanded N sE 192 h) := by
  unfold FX35_getExpanded at hF
  unfold fX35_getExpanded
  refine s_kok R (t_192 hm R.S) (Nat.le_of_ble_eq_true rfl) ?_
  refine s_call R (Nat.zero_le _) (fun _ hq => SX35_get (b := 0) (N := N) hm (R.rf) hq) hF (fun f2 rv2 h2 q2 R2 e2 E2 hF => ?_)
  exact SX35_getExpanded_b5 (N := N) (sE := sE) (SE := SE) hm hb @hsE R2 e2.1 e2.2 hF
def FX35_needExpanded_b16 (N : Nat) (SE : Int → fS → Option (Unit × fS)) (l1 : Int) (s : fS) : Option (Int × fS) :=
  some (l1, s)
theorem SX35_needExpanded_b16 {m b : Nat} {φ0 : Nat → Nat} {σo : fS} (hm : 1 ≤ m) {N : Nat} {sE : Nat → Int32 → eH → Option (Unit × eH)} {SE : Int → fS → Option (Unit × fS)} {q : Int × fS} (hsE : ∀ {φ : Nat → Nat} {h : eH} {s : fS} {x1' : Int32} {x1 : Int} {q}, fC m 1 φ s φ h s → x1' = iI x1 → r32 x1 → SE x1 s = some q → gG m 1 φ s lU q (sE 192 x1' h)) {φ : Nat → Nat} {h : eH} {s : fS} {l1' : Int32} {l1 : Int} (R : fC m b φ0 σo φ h s) (el1 : l1' = iI l1) (rl1 : r32 l1) (hF : FX35_needExpanded_b16 N SE l1 s = some q) : gG m b φ0 σo lI q (fX35_needExpanded_b16 N sE l1' h) := by
  subst el1
  unfold FX35_needExpanded_b16 at hF
  unfold fX35_needExpanded_b16
  exact g_ret R hF ⟨rfl, rl1⟩
def FX35_needExpanded (N : Nat) (SE : Int → fS → Option (Unit × fS)) (s : fS) : Option (Int × fS) :=
  (FX35_getExpanded N SE s).bind fun q2 =>
  if ¬ (q2.1 = (-1)) then
    FX35_needExpanded_b16 N SE q2.1 q2.2
  else
    (FX35_fail 9 q2.2).bind fun q5 =>
    FX35_needExpanded_b16 N SE q2.1 q5.2
theorem SX35_needExpanded {m b : Nat} {φ0 : Nat → Nat} {σo : fS} (hm : 1 ≤ m) (hb : 1 ≤ b) {N : Nat} {sE : Nat → Int32 → eH → Option (Unit × eH)} {SE : Int → fS → Option (Unit × fS)} {q : Int × fS} (hsE : ∀ {φ : Nat → Nat} {h : eH} {s : fS} {x1' : Int32} {x1 : Int} {q}, fC m 1 φ s φ h s → x1' = iI x1 → r32 x1 → SE x1 s = some q → gG m 1 φ s lU q (sE 192 x1' h)) {φ : Nat → Nat} {h : eH} {s : fS} (R : fC m b φ0 σo φ h s) (hF : FX35_needExpanded N SE s = some q) : gG m b φ0 σo lI q (fX35_needExpanded N sE 192 h) := by
  unfold FX35_needExpanded at hF
  unfold fX35_needExpanded
  refine s_kok R (t_192 hm R.S) (Nat.le_of_ble_eq_true rfl) ?_
  refine s_call R hb (fun _ hq => SX35_getExpanded (b := 1) (N := N) (sE := sE) (SE := SE) hm (Nat.le_of_ble_eq_true rfl) @hsE (R.rf) hq) hF (fun f2 rv2 h2 q2 R2 e2 E2 hF => ?_)
  refine s_if (not_congr (i_eq e2.1 (c_lit (-1) (-1) rfl) e2.2 ⟨by decide, by decide⟩)) hF (fun c3 hF => ?_) (fun c3 hF => ?_)
  ·
    exact SX35_needExpanded_b16 (N := N) (sE := sE) (SE := SE) hm @hsE R2 e2.1 e2.2 hF
  ·
    refine s_kok R2 (t_192 hm R2.S) (Nat.le_of_ble_eq_true rfl) ?_
    refine s_call R2 (Nat.zero_le _) (fun _ hq => SX35_fail (b := 0) hm (R2.rf) (c_lit 9 9 rfl) ⟨by decide, by decide⟩ hq) hF (fun f5 rv5 h5 q5 R5 e5 E5 hF => ?_)
    exact SX35_needExpanded_b16 (N := N) (sE := sE) (SE := SE) hm @hsE R5 e2.1 e2.2 hF
def FX35_needExpandedNoSpace_b5 (N : Nat) (SE : Int → fS → Option (Unit × fS)) : Nat → Int → fS → Option (Int × fS)
  | 0, _, _ => none
  | n + 1, l1, s =>
    (FX35_isOf l1 10 s).bind fun q1 =>
    if q1.1 = 0 then
      some (l1, q1.2)
    else
      (FX35_needExpanded N SE q1.2).bind fun q4 =>
      FX35_needExpandedNoSpace_b5 N SE n q4.1 q4.2
theorem SX35_needExpandedNoSpace_b5 {m b : Nat} {φ0 : Nat → Nat} {σo : fS} (hm : 1 ≤ m) (hb : 1 ≤ b) {N : Nat} {sE : Nat → Int32 → eH → Option (Unit × eH)} {SE : Int → fS → Option (Unit × fS)} {q : Int × fS} (hsE : ∀ {φ : Nat → Nat} {h : eH} {s : fS} {x1' : Int32} {x1 : Int} {q}, fC m 1 φ s φ h s → x1' = iI x1 → r32 x1 → SE x1 s = some q → gG m 1 φ s lU q (sE 192 x1' h)) : ∀ {n : Nat} {φ : Nat → Nat} {h : eH} {s : fS} {l1' : Int32} {l1 : Int}, fC m b φ0 σo φ h s → l1' = iI l1 → r32 l1 → FX35_needExpandedNoSpace_b5 N SE n l1 s = some q → gG m b φ0 σo lI q (fX35_needExpandedNoSpace_b5 N sE n 192 l1' h) := by
  intro n
  induction n with
 | zero => intro φ h s l1' l1 R el1 rl1 hF; simp [FX35_needExpandedNoSpace_b5] at hF
  | succ n ih =>
    intro φ h s l1' l1 R el1 rl1 hF
    subst el1
    rw [FX35_needExpandedNoSpace_b5] at hF
    rw [fX35_needExpandedNoSpace_b5]
    refine s_call R (Nat.zero_le _) (fun _ hq => SX35_isOf (b := 0) hm (R.rf) rfl rl1 (c_lit 10 10 rfl) ⟨by decide, by decide⟩ hq) hF (fun f1 rv1 h1 q1 R1 e1 E1 hF => ?_)
    refine s_if (i_eq e1.1 (c_lit 0 0 rfl) e1.2 ⟨by decide, by decide⟩) hF (fun c2 hF => ?_) (fun c2 hF => ?_)
    ·
      exact g_ret R1 hF ⟨rfl, rl1⟩
    ·
      refine s_kok R1 (t_192 hm R1.S) (Nat.le_of_ble_eq_true rfl) ?_
      refine s_call R1 hb (fun _ hq => SX35_needExpanded (b := 1) (N := N) (sE := sE) (SE := SE) hm (Nat.le_of_ble_eq_true rfl) @hsE (R1.rf) hq) hF (fun f4 rv4 h4 q4 R4 e4 E4 hF => ?_)
      exact ih R4 e4.1 e4.2 hF
def FX35_needExpandedNoSpace (N : Nat) (SE : Int → fS → Option (Unit × fS)) (s : fS) : Option (Int × fS) :=
  (FX35_needExpanded N SE s).bind fun q2 =>
  FX35_needExpandedNoSpace_b5 N SE N q2.1 q2.2
theorem SX35_needExpandedNoSpace {m b : Nat} {φ0 : Nat → Nat} {σo : fS} (hm : 1 ≤ m) (hb : 1 ≤ b) {N : Nat} {sE : Nat → Int32 → eH → Option (Unit × eH)} {SE : Int → fS → Option (Unit × fS)} {q : Int × fS} (hsE : ∀ {φ : Nat → Nat} {h : eH} {s : fS} {x1' : Int32} {x1 : Int} {q}, fC m 1 φ s φ h s → x1' = iI x1 → r32 x1 → SE x1 s = some q → gG m 1 φ s lU q (sE 192 x1' h)) {φ : Nat → Nat} {h : eH} {s : fS} (R : fC m b φ0 σo φ h s) (hF : FX35_needExpandedNoSpace N SE s = some q) : gG m b φ0 σo lI q (fX35_needExpandedNoSpace N sE 192 h) := by
  unfold FX35_needExpandedNoSpace at hF
  unfold fX35_needExpandedNoSpace
  refine s_kok R (t_192 hm R.S) (Nat.le_of_ble_eq_true rfl) ?_
  refine s_call R hb (fun _ hq => SX35_needExpanded (b := 1) (N := N) (sE := sE) (SE := SE) hm (Nat.le_of_ble_eq_true rfl) @hsE (R.rf) hq) hF (fun f2 rv2 h2 q2 R2 e2 E2 hF => ?_)
  exact SX35_needExpandedNoSpace_b5 (N := N) (sE := sE) (SE := SE) hm hb @hsE R2 e2.1 e2.2 hF
def FX35_is_b16 (s0 : Int) (s : fS) : Option (Int × fS) :=
  uZ s0 (s0, s)
theorem SX35_is_b16 {m b : Nat} {φ0 : Nat → Nat} {σo : fS} (hm : 1 ≤ m) {q : Int × fS} {φ : Nat → Nat} {h : eH} {s : fS} {s0' : Int32} {s0 : Int} (R : fC m b φ0 σo φ h s) (es0 : s0' = iI s0) (rs0 : r32 s0) (hF : FX35_is_b16 s0 s = some q) : gG m b φ0 σo lI q (fX35_is_b16 s0' h) := by
  subst es0
  unfold FX35_is_b16 at hF
  unfold fX35_is_b16
  exact g_z R rfl hF ⟨rfl, rs0⟩
def FX35_is (p0 : Int) (p1 : Int) (p2 : Int) (s : fS) : Option (Int × fS) :=
  if ¬ (p0 = (iadd (imul 256 p1) p2)) then
    FX35_is_b16 0 s
  else
    FX35_is_b16 1 s
theorem SX35_is {m b : Nat} {φ0 : Nat → Nat} {σo : fS} (hm : 1 ≤ m) {q : Int × fS} {φ : Nat → Nat} {h : eH} {s : fS} {p0' : Int32} {p0 : Int} {p1' : Int32} {p1 : Int} {p2' : Int32} {p2 : Int} (R : fC m b φ0 σo φ h s) (ep0 : p0' = iI p0) (rp0 : r32 p0) (ep1 : p1' = iI p1) (rp1 : r32 p1) (ep2 : p2' = iI p2) (rp2 : r32 p2) (hF : FX35_is p0 p1 p2 s = some q) : gG m b φ0 σo lI q (fX35_is p0' p1' p2' h) := by
  subst ep0; subst ep1; subst ep2
  unfold FX35_is at hF
  unfold fX35_is
  refine s_if (not_congr (i_eq rfl (c_add (c_mul (c_lit 256 256 rfl) rfl) rfl) rp0 (rr_I _))) hF (fun c1 hF => ?_) (fun c1 hF => ?_)
  ·
    exact SX35_is_b16 hm R (c_lit 0 0 rfl) ⟨by decide, by decide⟩ hF
  ·
    exact SX35_is_b16 hm R (c_lit 1 1 rfl) ⟨by decide, by decide⟩ hF
def FX35_compare_b113 (N : Nat) (SE : Int → fS → Option (Unit × fS)) (SN : fS → Option (Int × fS)) (s0 : Int) (s : fS) : Option (Int × fS) :=
  uZ s0 (s0, s)
theorem SX35_compare_b113 {m b : Nat} {φ0 : Nat → Nat} {σo : fS} (hm : 1 ≤ m) {N : Nat} {sE : Nat → Int32 → eH → Option (Unit × eH)} {SE : Int → fS → Option (Unit × fS)} {sN : Nat → eH → Option (Int32 × eH)} {SN : fS → Option (Int × fS)} {q : Int × fS} (hsE : ∀ {φ : Nat → Nat} {h : eH} {s : fS} {x1' : Int32} {x1 : Int} {q}, fC m 1 φ s φ h s → x1' = iI x1 → r32 x1 → SE x1 s = some q → gG m 1 φ s lU q (sE 192 x1' h)) (hsN : ∀ {φ : Nat → Nat} {h : eH} {s : fS} {q}, fC m 1 φ s φ h s → SN s = some q → gG m 1 φ s lI q (sN 192 h)) {φ : Nat → Nat} {h : eH} {s : fS} {s0' : Int32} {s0 : Int} (R : fC m b φ0 σo φ h s) (es0 : s0' = iI s0) (rs0 : r32 s0) (hF : FX35_compare_b113 N SE SN s0 s = some q) : gG m b φ0 σo lI q (fX35_compare_b113 N sE sN s0' h) := by
  subst es0
  unfold FX35_compare_b113 at hF
  unfold fX35_compare_b113
  exact g_z R rfl hF ⟨rfl, rs0⟩
def FX35_compare_b108 (N : Nat) (SE : Int → fS → Option (Unit × fS)) (SN : fS → Option (Int × fS)) (s : fS) : Option (Int × fS) :=
  FX35_compare_b113 N SE SN 1 s
theorem SX35_compare_b108 {m b : Nat} {φ0 : Nat → Nat} {σo : fS} (hm : 1 ≤ m) {N : Nat} {sE : Nat → Int32 → eH → Option (Unit × eH)} {SE : Int → fS → Option (Unit × fS)} {sN : Nat → eH → Option (Int32 × eH)} {SN : fS → Option (Int × fS)} {q : Int × fS} (hsE : ∀ {φ : Nat → Nat} {h : eH} {s : fS} {x1' : Int32} {x1 : Int} {q}, fC m 1 φ s φ h s → x1' = iI x1 → r32 x1 → SE x1 s = some q → gG m 1 φ s lU q (sE 192 x1' h)) (hsN : ∀ {φ : Nat → Nat} {h : eH} {s : fS} {q}, fC m 1 φ s φ h s → SN s = some q → gG m 1 φ s lI q (sN 192 h)) {φ : Nat → Nat} {h : eH} {s : fS} (R : fC m b φ0 σo φ h s) (hF : FX35_compare_b108 N SE SN s = some q) : gG m b φ0 σo lI q (fX35_compare_b108 N sE sN h) := by
  unfold FX35_compare_b108 at hF
  unfold fX35_compare_b108
  exact SX35_compare_b113 (N := N) (sE := sE) (SE := SE) (sN := sN) (SN := SN) hm @hsE @hsN R (c_lit 1 1 rfl) ⟨by decide, by decide⟩ hF
def FX35_compare_b112 (N : Nat) (SE : Int → fS → Option (Unit × fS)) (SN : fS → Option (Int × fS)) (s : fS) : Option (Int × fS) :=
  FX35_compare_b113 N SE SN 0 s
theorem SX35_compare_b112 {m b : Nat} {φ0 : Nat → Nat} {σo : fS} (hm : 1 ≤ m) {N : Nat} {sE : Nat → Int32 → eH → Option (Unit × eH)} {SE : Int → fS → Option (Unit × fS)} {sN : Nat → eH → Option (Int32 × eH)} {SN : fS → Option (Int × fS)} {q : Int × fS} (hsE : ∀ {φ : Nat → Nat} {h : eH} {s : fS} {x1' : Int32} {x1 : Int} {q}, fC m 1 φ s φ h s → x1' = iI x1 → r32 x1 → SE x1 s = some q → gG m 1 φ s lU q (sE 192 x1' h)) (hsN : ∀ {φ : Nat → Nat} {h : eH} {s : fS} {q}, fC m 1 φ s φ h s → SN s = some q → gG m 1 φ s lI q (sN 192 h)) {φ : Nat → Nat} {h : eH} {s : fS} (R : fC m b φ0 σo φ h s) (hF : FX35_compare_b112 N SE SN s = some q) : gG m b φ0 σo lI q (fX35_compare_b112 N sE sN h) := by
  unfold FX35_compare_b112 at hF
  unfold fX35_compare_b112
  exact SX35_compare_b113 (N := N) (sE := sE) (SE := SE) (sN := sN) (SN := SN) hm @hsE @hsN R (c_lit 0 0 rfl) ⟨by decide, by decide⟩ hF
def FX35_compare_b62 (N : Nat) (SE : Int → fS → Option (Unit × fS)) (SN : fS → Option (Int × fS)) (l1 : Int) (l3 : Int) (l4 : Int) (s : fS) : Option (Int × fS) :=
  (SN s).bind fun q2 =>
  if ¬ ((q2.2.i 192 46) = 0) then
    FX35_compare_b112 N SE SN q2.2
  else
    if l3 = 0 then
      if l4 = 0 then
        if ¬ (l1 = q2.1) then
          FX35_compare_b112 N SE SN q2.2
        else
          FX35_compare_b108 N SE SN q2.2
      else
        if l1 ≤ q2.1 then
          FX35_compare_b112 N SE SN q2.2
        else
          FX35_compare_b108 N SE SN q2.2
    else
      if q2.1 ≤ l1 then
        FX35_compare_b112 N SE SN q2.2
      else
        FX35_compare_b108 N SE SN q2.2
theorem SX35_compare_b62 {m b : Nat} {φ0 : Nat → Nat} {σo : fS} (hm : 1 ≤ m) (hb : 1 ≤ b) {N : Nat} {sE : Nat → Int32 → eH → Option (Unit × eH)} {SE : Int → fS → Option (Unit × fS)} {sN : Nat → eH → Option (Int32 × eH)} {SN : fS → Option (Int × fS)} {q : Int × fS} (hsE : ∀ {φ : Nat → Nat} {h : eH} {s : fS} {x1' : Int32} {x1 : Int} {q}, fC m 1 φ s φ h s → x1' = iI x1 → r32 x1 → SE x1 s = some q → gG m 1 φ s lU q (sE 192 x1' h)) (hsN : ∀ {φ : Nat → Nat} {h : eH} {s : fS} {q}, fC m 1 φ s φ h s → SN s = some q → gG m 1 φ s lI q (sN 192 h)) {φ : Nat → Nat} {h : eH} {s : fS} {l1' : Int32} {l1 : Int} {l3' : Int32} {l3 : Int} {l4' : Int32} {l4 : Int} (R : fC m b φ0 σo φ h s) (el1 : l1' = iI l1) (rl1 : r32 l1) (el3 : l3' = iI l3) (rl3 : r32 l3) (el4 : l4' = iI l4) (rl4 : r32 l4) (hF : FX35_compare_b62 N SE SN l1 l3 l4 s = some q) : gG m b φ0 σo lI q (fX35_compare_b62 N sE sN 192 l1' l3' l4' h) := by
  subst el1; subst el3; subst el4
  unfold FX35_compare_b62 at hF
  unfold fX35_compare_b62
  refine s_kok R (t_192 hm R.S) (Nat.le_of_ble_eq_true rfl) ?_
  refine s_call R hb (fun _ hq => hsN (R.rf)  hq) hF (fun f2 rv2 h2 q2 R2 e2 E2 hF => ?_)
  refine s_gI R2 (t_192 hm R2.S) (Nat.le_of_ble_eq_true rfl) rfl ?_
  refine s_if (not_congr (i_eq rfl (c_lit 0 0 rfl) (R2.ri (t_192 hm R2.S) (Nat.le_of_ble_eq_true rfl) rfl) ⟨by decide, by decide⟩)) hF (fun c4 hF => ?_) (fun c4 hF => ?_)
  ·
    exact SX35_compare_b112 (N := N) (sE := sE) (SE := SE) (sN := sN) (SN := SN) hm @hsE @hsN R2 hF
  ·
    refine s_if (i_eq rfl (c_lit 0 0 rfl) rl3 ⟨by decide, by decide⟩) hF (fun c5 hF => ?_) (fun c5 hF => ?_)
    ·
      refine s_if (i_eq rfl (c_lit 0 0 rfl) rl4 ⟨by decide, by decide⟩) hF (fun c6 hF => ?_) (fun c6 hF => ?_)
      ·
        refine s_if (not_congr (i_eq rfl e2.1 rl1 e2.2)) hF (fun c7 hF => ?_) (fun c7 hF => ?_)
        ·
          exact SX35_compare_b112 (N := N) (sE := sE) (SE := SE) (sN := sN) (SN := SN) hm @hsE @hsN R2 hF
        ·
          exact SX35_compare_b108 (N := N) (sE := sE) (SE := SE) (sN := sN) (SN := SN) hm @hsE @hsN R2 hF
      ·
        refine s_if (i_le rfl e2.1 rl1 e2.2) hF (fun c8 hF => ?_) (fun c8 hF => ?_)
        ·
          exact SX35_compare_b112 (N := N) (sE := sE) (SE := SE) (sN := sN) (SN := SN) hm @hsE @hsN R2 hF
        ·
          exact SX35_compare_b108 (N := N) (sE := sE) (SE := SE) (sN := sN) (SN := SN) hm @hsE @hsN R2 hF
    ·
      refine s_if (i_le e2.1 rfl e2.2 rl1) hF (fun c9 hF => ?_) (fun c9 hF => ?_)
      ·
        exact SX35_compare_b112 (N := N) (sE := sE) (SE := SE) (sN := sN) (SN := SN) hm @hsE @hsN R2 hF
      ·
        exact SX35_compare_b108 (N := N) (sE := sE) (SE := SE) (sN := sN) (SN := SN) hm @hsE @hsN R2 hF
def FX35_compare (N : Nat) (SE : Int → fS → Option (Unit × fS)) (SN : fS → Option (Int × fS)) (s : fS) : Option (Int × fS) :=
  (SN s).bind fun q2 =>
  (FX35_needExpandedNoSpace N SE q2.2).bind fun q4 =>
  (FX35_is q4.1 12 60 q4.2).bind fun q5 =>
  (FX35_is q4.1 12 62 q5.2).bind fun q6 =>
  if ¬ ((q6.2.i 192 46) = 0) then
    FX35_compare_b62 N SE SN q2.1 q5.1 q6.1 q6.2
  else
    if ¬ (q5.1 = 0) then
      FX35_compare_b62 N SE SN q2.1 q5.1 q6.1 q6.2
    else
      if ¬ (q6.1 = 0) then
        FX35_compare_b62 N SE SN q2.1 q5.1 q6.1 q6.2
      else
        (FX35_is q4.1 12 61 q6.2).bind fun q12 =>
        if ¬ (q12.1 = 0) then
          FX35_compare_b62 N SE SN q2.1 q5.1 q6.1 q12.2
        else
          (FX35_fail 6 q12.2).bind fun q15 =>
          FX35_compare_b62 N SE SN q2.1 q5.1 q6.1 q15.2
theorem SX35_compare {m b : Nat} {φ0 : Nat → Nat} {σo : fS} (hm : 1 ≤ m) (hb : 1 ≤ b) {N : Nat} {sE : Nat → Int32 → eH → Option (Unit × eH)} {SE : Int → fS → Option (Unit × fS)} {sN : Nat → eH → Option (Int32 × eH)} {SN : fS → Option (Int × fS)} {q : Int × fS} (hsE : ∀ {φ : Nat → Nat} {h : eH} {s : fS} {x1' : Int32} {x1 : Int} {q}, fC m 1 φ s φ h s → x1' = iI x1 → r32 x1 → SE x1 s = some q → gG m 1 φ s lU q (sE 192 x1' h)) (hsN : ∀ {φ : Nat → Nat} {h : eH} {s : fS} {q}, fC m 1 φ s φ h s → SN s = some q → gG m 1 φ s lI q (sN 192 h)) {φ : Nat → Nat} {h : eH} {s : fS} (R : fC m b φ0 σo φ h s) (hF : FX35_compare N SE SN s = some q) : gG m b φ0 σo lI q (fX35_compare N sE sN 192 h) := by
  unfold FX35_compare at hF
  unfold fX35_compare
  refine s_kok R (t_192 hm R.S) (Nat.le_of_ble_eq_true rfl) ?_
  refine s_call R hb (fun _ hq => hsN (R.rf)  hq) hF (fun f2 rv2 h2 q2 R2 e2 E2 hF => ?_)
  refine s_kok R2 (t_192 hm R2.S) (Nat.le_of_ble_eq_true rfl) ?_
  refine s_call R2 hb (fun _ hq => SX35_needExpandedNoSpace (b := 1) (N := N) (sE := sE) (SE := SE) hm (Nat.le_of_ble_eq_true rfl) @hsE (R2.rf) hq) hF (fun f4 rv4 h4 q4 R4 e4 E4 hF => ?_)
  refine s_call R4 (Nat.zero_le _) (fun _ hq => SX35_is (b := 0) hm (R4.rf) e4.1 e4.2 (c_lit 12 12 rfl) ⟨by decide, by decide⟩ (c_lit 60 60 rfl) ⟨by decide, by decide⟩ hq) hF (fun f5 rv5 h5 q5 R5 e5 E5 hF => ?_)
  refine s_call R5 (Nat.zero_le _) (fun _ hq => SX35_is (b := 0) hm (R5.rf) e4.1 e4.2 (c_lit 12 12 rfl) ⟨by decide, by decide⟩ (c_lit 62 62 rfl) ⟨by decide, by decide⟩ hq) hF (fun f6 rv6 h6 q6 R6 e6 E6 hF => ?_)
  refine s_gI R6 (t_192 hm R6.S) (Nat.le_of_ble_eq_true rfl) rfl ?_
  refine s_if (not_congr (i_eq rfl (c_lit 0 0 rfl) (R6.ri (t_192 hm R6.S) (Nat.le_of_ble_eq_true rfl) rfl) ⟨by decide, by decide⟩)) hF (fun c8 hF => ?_) (fun c8 hF => ?_)
  ·
    exact SX35_compare_b62 (N := N) (sE := sE) (SE := SE) (sN := sN) (SN := SN) hm hb @hsE @hsN R6 e2.1 e2.2 e5.1 e5.2 e6.1 e6.2 hF
  ·
    refine s_if (not_congr (i_eq e5.1 (c_lit 0 0 rfl) e5.2 ⟨by decide, by decide⟩)) hF (fun c9 hF => ?_) (fun c9 hF => ?_)
    ·
      exact SX35_compare_b62 (N := N) (sE := sE) (SE := SE) (sN := sN) (SN := SN) hm hb @hsE @hsN R6 e2.1 e2.2 e5.1 e5.2 e6.1 e6.2 hF
    ·
      refine s_if (not_congr (i_eq e6.1 (c_lit 0 0 rfl) e6.2 ⟨by decide, by decide⟩)) hF (fun c10 hF => ?_) (fun c10 hF => ?_)
      ·
        exact SX35_compare_b62 (N := N) (sE := sE) (SE := SE) (sN := sN) (SN := SN) hm hb @hsE @hsN R6 e2.1 e2.2 e5.1 e5.2 e6.1 e6.2 hF
      ·
        refine s_call R6 (Nat.zero_le _) (fun _ hq => SX35_is (b := 0) hm (R6.rf) e4.1 e4.2 (c_lit 12 12 rfl) ⟨by decide, by decide⟩ (c_lit 61 61 rfl) ⟨by decide, by decide⟩ hq) hF (fun f11 rv11 h11 q12 R11 e11 E11 hF => ?_)
        refine s_if (not_congr (i_eq e11.1 (c_lit 0 0 rfl) e11.2 ⟨by decide, by decide⟩)) hF (fun c12 hF => ?_) (fun c12 hF => ?_)
        ·
          exact SX35_compare_b62 (N := N) (sE := sE) (SE := SE) (sN := sN) (SN := SN) hm hb @hsE @hsN R11 e2.1 e2.2 e5.1 e5.2 e6.1 e6.2 hF
        ·
          refine s_kok R11 (t_192 hm R11.S) (Nat.le_of_ble_eq_true rfl) ?_
          refine s_call R11 (Nat.zero_le _) (fun _ hq => SX35_fail (b := 0) hm (R11.rf) (c_lit 6 6 rfl) ⟨by decide, by decide⟩ hq) hF (fun f14 rv14 h14 q15 R14 e14 E14 hF => ?_)
          exact SX35_compare_b62 (N := N) (sE := sE) (SE := SE) (sN := sN) (SN := SN) hm hb @hsE @hsN R14 e2.1 e2.2 e5.1 e5.2 e6.1 e6.2 hF
def FX35_signs_b55 (N : Nat) (SE : Int → fS → Option (Unit × fS)) (K7 : Int → Int → fS → Option (Unit × fS)) (s0 : Int) (s : fS) : Option (Unit × fS) :=
  (FX35_needExpanded N SE s).bind fun q2 =>
  K7 s0 q2.1 q2.2
theorem SX35_signs_b55 {m b : Nat} {φ0 : Nat → Nat} {σo : fS} (hm : 1 ≤ m) (hb : 1 ≤ b) {N : Nat} {sE : Nat → Int32 → eH → Option (Unit × eH)} {SE : Int → fS → Option (Unit × fS)} {k7 : Nat → Int32 → Int32 → eH → Option (Unit × eH)} {K7 : Int → Int → fS → Option (Unit × fS)} {q : Unit × fS} (hsE : ∀ {φ : Nat → Nat} {h : eH} {s : fS} {x1' : Int32} {x1 : Int} {q}, fC m 1 φ s φ h s → x1' = iI x1 → r32 x1 → SE x1 s = some q → gG m 1 φ s lU q (sE 192 x1' h)) (hk7 : ∀ {φ : Nat → Nat} {h : eH} {s : fS} {l1' : Int32} {l1 : Int} {l2' : Int32} {l2 : Int}, fC m b φ0 σo φ h s → l1' = iI l1 → r32 l1 → l2' = iI l2 → r32 l2 → K7 l1 l2 s = some q → gG m b φ0 σo lU q (k7 192 l1' l2' h)) {φ : Nat → Nat} {h : eH} {s : fS} {s0' : Int32} {s0 : Int} (R : fC m b φ0 σo φ h s) (es0 : s0' = iI s0) (rs0 : r32 s0) (hF : FX35_signs_b55 N SE K7 s0 s = some q) : gG m b φ0 σo lU q (fX35_signs_b55 N sE k7 192 s0' h) := by
  subst es0
  unfold FX35_signs_b55 at hF
  unfold fX35_signs_b55
  refine s_kok R (t_192 hm R.S) (Nat.le_of_ble_eq_true rfl) ?_
  refine s_call R hb (fun _ hq => SX35_needExpanded (b := 1) (N := N) (sE := sE) (SE := SE) hm (Nat.le_of_ble_eq_true rfl) @hsE (R.rf) hq) hF (fun f2 rv2 h2 q2 R2 e2 E2 hF => ?_)
  exact hk7 R2 rfl rs0 e2.1 e2.2 hF
def FX35_signs_b38 (N : Nat) (SE : Int → fS → Option (Unit × fS)) (K7 : Int → Int → fS → Option (Unit × fS)) (l1 : Int) (l2 : Int) (s : fS) : Option (Unit × fS) :=
  (FX35_is l2 12 45 s).bind fun q1 =>
  if q1.1 = l1 then
    FX35_signs_b55 N SE K7 0 q1.2
  else
    FX35_signs_b55 N SE K7 1 q1.2
theorem SX35_signs_b38 {m b : Nat} {φ0 : Nat → Nat} {σo : fS} (hm : 1 ≤ m) (hb : 1 ≤ b) {N : Nat} {sE : Nat → Int32 → eH → Option (Unit × eH)} {SE : Int → fS → Option (Unit × fS)} {k7 : Nat → Int32 → Int32 → eH → Option (Unit × eH)} {K7 : Int → Int → fS → Option (Unit × fS)} {q : Unit × fS} (hsE : ∀ {φ : Nat → Nat} {h : eH} {s : fS} {x1' : Int32} {x1 : Int} {q}, fC m 1 φ s φ h s → x1' = iI x1 → r32 x1 → SE x1 s = some q → gG m 1 φ s lU q (sE 192 x1' h)) (hk7 : ∀ {φ : Nat → Nat} {h : eH} {s : fS} {l1' : Int32} {l1 : Int} {l2' : Int32} {l2 : Int}, fC m b φ0 σo φ h s → l1' = iI l1 → r32 l1 → l2' = iI l2 → r32 l2 → K7 l1 l2 s = some q → gG m b φ0 σo lU q (k7 192 l1' l2' h)) {φ : Nat → Nat} {h : eH} {s : fS} {l1' : Int32} {l1 : Int} {l2' : Int32} {l2 : Int} (R : fC m b φ0 σo φ h s) (el1 : l1' = iI l1) (rl1 : r32 l1) (el2 : l2' = iI l2) (rl2 : r32 l2) (hF : FX35_signs_b38 N SE K7 l1 l2 s = some q) : gG m b φ0 σo lU q (fX35_signs_b38 N sE k7 192 l1' l2' h) := by
  subst el1; subst el2
  unfold FX35_signs_b38 at hF
  unfold fX35_signs_b38
  refine s_call R (Nat.zero_le _) (fun _ hq => SX35_is (b := 0) hm (R.rf) rfl rl2 (c_lit 12 12 rfl) ⟨by decide, by decide⟩ (c_lit 45 45 rfl) ⟨by decide, by decide⟩ hq) hF (fun f1 rv1 h1 q1 R1 e1 E1 hF => ?_)
  refine s_if (i_eq e1.1 rfl e1.2 rl1) hF (fun c2 hF => ?_) (fun c2 hF => ?_)
  ·
    exact SX35_signs_b55 (N := N) (sE := sE) (SE := SE) (k7 := k7) (K7 := K7) hm hb @hsE @hk7 R1 (c_lit 0 0 rfl) ⟨by decide, by decide⟩ hF
  ·
    exact SX35_signs_b55 (N := N) (sE := sE) (SE := SE) (k7 := k7) (K7 := K7) hm hb @hsE @hk7 R1 (c_lit 1 1 rfl) ⟨by decide, by decide⟩ hF
def FX35_signs_b7 (N : Nat) (SE : Int → fS → Option (Unit × fS)) : Nat → Int → Int → fS → Option (Unit × fS)
  | 0, _, _, _ => none
  | n + 1, l1, l2, s =>
    (FX35_isOf l2 10 s).bind fun q1 =>
    if ¬ (q1.1 = 0) then
      FX35_signs_b38 N SE (FX35_signs_b7 N SE n) l1 l2 q1.2
    else
      (FX35_is l2 12 43 q1.2).bind fun q3 =>
      if ¬ (q3.1 = 0) then
        FX35_signs_b38 N SE (FX35_signs_b7 N SE n) l1 l2 q3.2
      else
        (FX35_is l2 12 45 q3.2).bind fun q5 =>
        if q5.1 = 0 then
          (uPI q5.2 192 121 l2).bind fun σ7 =>
          (uPZ σ7 192 122 l1).bind fun σ9 =>
          some ((), σ9)
        else
          FX35_signs_b38 N SE (FX35_signs_b7 N SE n) l1 l2 q5.2
theorem SX35_signs_b7 {m b : Nat} {φ0 : Nat → Nat} {σo : fS} (hm : 1 ≤ m) (hb : 1 ≤ b) {N : Nat} {sE : Nat → Int32 → eH → Option (Unit × eH)} {SE : Int → fS → Option (Unit × fS)} {q : Unit × fS} (hsE : ∀ {φ : Nat → Nat} {h : eH} {s : fS} {x1' : Int32} {x1 : Int} {q}, fC m 1 φ s φ h s → x1' = iI x1 → r32 x1 → SE x1 s = some q → gG m 1 φ s lU q (sE 192 x1' h)) : ∀ {n : Nat} {φ : Nat → Nat} {h : eH} {s : fS} {l1' : Int32} {l1 : Int} {l2' : Int32} {l2 : Int}, fC m b φ0 σo φ h s → l1' = iI l1 → r32 l1 → l2' = iI l2 → r32 l2 → FX35_signs_b7 N SE n l1 l2 s = some q → gG m b φ0 σo lU q (fX35_signs_b7 N sE n 192 l1' l2' h) := by
  intro n
  induction n with
 | zero => intro φ h s l1' l1 l2' l2 R el1 rl1 el2 rl2 hF; simp [FX35_signs_b7] at hF
  | succ n ih =>
    intro φ h s l1' l1 l2' l2 R el1 rl1 el2 rl2 hF
    subst el1; subst el2
    rw [FX35_signs_b7] at hF
    rw [fX35_signs_b7]
    refine s_call R (Nat.zero_le _) (fun _ hq => SX35_isOf (b := 0) hm (R.rf) rfl rl2 (c_lit 10 10 rfl) ⟨by decide, by decide⟩ hq) hF (fun f1 rv1 h1 q1 R1 e1 E1 hF => ?_)
    refine s_if (not_congr (i_eq e1.1 (c_lit 0 0 rfl) e1.2 ⟨by decide, by decide⟩)) hF (fun c2 hF => ?_) (fun c2 hF => ?_)
    ·
      exact SX35_signs_b38 (N := N) (sE := sE) (SE := SE) (k7 := fX35_signs_b7 N sE n) (K7 := FX35_signs_b7 N SE n) hm hb @hsE @ih R1 rfl rl1 rfl rl2 hF
    ·
      refine s_call R1 (Nat.zero_le _) (fun _ hq => SX35_is (b := 0) hm (R1.rf) rfl rl2 (c_lit 12 12 rfl) ⟨by decide, by decide⟩ (c_lit 43 43 rfl) ⟨by decide, by decide⟩ hq) hF (fun f3 rv3 h3 q3 R3 e3 E3 hF => ?_)
      refine s_if (not_congr (i_eq e3.1 (c_lit 0 0 rfl) e3.2 ⟨by decide, by decide⟩)) hF (fun c4 hF => ?_) (fun c4 hF => ?_)
      ·
        exact SX35_signs_b38 (N := N) (sE := sE) (SE := SE) (k7 := fX35_signs_b7 N sE n) (K7 := FX35_signs_b7 N SE n) hm hb @hsE @ih R3 rfl rl1 rfl rl2 hF
      ·
        refine s_call R3 (Nat.zero_le _) (fun _ hq => SX35_is (b := 0) hm (R3.rf) rfl rl2 (c_lit 12 12 rfl) ⟨by decide, by decide⟩ (c_lit 45 45 rfl) ⟨by decide, by decide⟩ hq) hF (fun f5 rv5 h5 q5 R5 e5 E5 hF => ?_)
        refine s_if (i_eq e5.1 (c_lit 0 0 rfl) e5.2 ⟨by decide, by decide⟩) hF (fun c6 hF => ?_) (fun c6 hF => ?_)
        ·
          refine s_pI R5 (t_192 hm R5.S) (Nat.le_of_ble_eq_true rfl) rfl rfl rl2 hF (fun h7 σ7 R7 T7 hF => ?_)
          refine s_pZ R7 (t_192 hm R7.S) (Nat.le_of_ble_eq_true rfl) rfl rfl rl1 hF (fun h8 σ9 R8 T8 hF => ?_)
          exact g_ret R8 hF trivial
        ·
          exact SX35_signs_b38 (N := N) (sE := sE) (SE := SE) (k7 := fX35_signs_b7 N sE n) (K7 := FX35_signs_b7 N SE n) hm hb @hsE @ih R5 rfl rl1 rfl rl2 hF
def FX35_signs (N : Nat) (SE : Int → fS → Option (Unit × fS)) (s : fS) : Option (Unit × fS) :=
  (FX35_needExpanded N SE s).bind fun q2 =>
  FX35_signs_b7 N SE N 0 q2.1 q2.2
theorem SX35_signs {m b : Nat} {φ0 : Nat → Nat} {σo : fS} (hm : 1 ≤ m) (hb : 1 ≤ b) {N : Nat} {sE : Nat → Int32 → eH → Option (Unit × eH)} {SE : Int → fS → Option (Unit × fS)} {q : Unit × fS} (hsE : ∀ {φ : Nat → Nat} {h : eH} {s : fS} {x1' : Int32} {x1 : Int} {q}, fC m 1 φ s φ h s → x1' = iI x1 → r32 x1 → SE x1 s = some q → gG m 1 φ s lU q (sE 192 x1' h)) {φ : Nat → Nat} {h : eH} {s : fS} (R : fC m b φ0 σo φ h s) (hF : FX35_signs N SE s = some q) : gG m b φ0 σo lU q (fX35_signs N sE 192 h) := by
  unfold FX35_signs at hF
  unfold fX35_signs
  refine s_kok R (t_192 hm R.S) (Nat.le_of_ble_eq_true rfl) ?_
  refine s_call R hb (fun _ hq => SX35_needExpanded (b := 1) (N := N) (sE := sE) (SE := SE) hm (Nat.le_of_ble_eq_true rfl) @hsE (R.rf) hq) hF (fun f2 rv2 h2 q2 R2 e2 E2 hF => ?_)
  exact SX35_signs_b7 (N := N) (sE := sE) (SE := SE) hm hb @hsE R2 (c_lit 0 0 rfl) ⟨by decide, by decide⟩ e2.1 e2.2 hF
def FX35_primitiveOf_b38 (s0 : Int) (s : fS) : Option (Int × fS) :=
  some (s0, s)
theorem SX35_primitiveOf_b38 {m b : Nat} {φ0 : Nat → Nat} {σo : fS} (hm : 1 ≤ m) {q : Int × fS} {φ : Nat → Nat} {h : eH} {s : fS} {s0' : Int32} {s0 : Int} (R : fC m b φ0 σo φ h s) (es0 : s0' = iI s0) (rs0 : r32 s0) (hF : FX35_primitiveOf_b38 s0 s = some q) : gG m b φ0 σo lI q (fX35_primitiveOf_b38 s0' h) := by
  subst es0
  unfold FX35_primitiveOf_b38 at hF
  unfold fX35_primitiveOf_b38
  exact g_ret R hF ⟨rfl, rs0⟩
def FX35_primitiveOf_b37 (s : fS) : Option (Int × fS) :=
  FX35_primitiveOf_b38 (-1) s
theorem SX35_primitiveOf_b37 {m b : Nat} {φ0 : Nat → Nat} {σo : fS} (hm : 1 ≤ m) {q : Int × fS} {φ : Nat → Nat} {h : eH} {s : fS} (R : fC m b φ0 σo φ h s) (hF : FX35_primitiveOf_b37 s = some q) : gG m b φ0 σo lI q (fX35_primitiveOf_b37 h) := by
  unfold FX35_primitiveOf_b37 at hF
  unfold fX35_primitiveOf_b37
  exact SX35_primitiveOf_b38 hm R (c_lit (-1) (-1) rfl) ⟨by decide, by decide⟩ hF
def FX35_primitiveOf_b14 (s0 : Int) (s : fS) : Option (Int × fS) :=
  if s0 < 1000 then
    FX35_primitiveOf_b37 s
  else
    if 1096 ≤ s0 then
      FX35_primitiveOf_b37 s
    else
      FX35_primitiveOf_b38 (isub s0 1000) s
theorem SX35_primitiveOf_b14 {m b : Nat} {φ0 : Nat → Nat} {σo : fS} (hm : 1 ≤ m) {q : Int × fS} {φ : Nat → Nat} {h : eH} {s : fS} {s0' : Int32} {s0 : Int} (R : fC m b φ0 σo φ h s) (es0 : s0' = iI s0) (rs0 : r32 s0) (hF : FX35_primitiveOf_b14 s0 s = some q) : gG m b φ0 σo lI q (fX35_primitiveOf_b14 s0' h) := by
  subst es0
  unfold FX35_primitiveOf_b14 at hF
  unfold fX35_primitiveOf_b14
  refine s_if (i_lt rfl (c_lit 1000 1000 rfl) rs0 ⟨by decide, by decide⟩) hF (fun c1 hF => ?_) (fun c1 hF => ?_)
  ·
    exact SX35_primitiveOf_b37 hm R hF
  ·
    refine s_if (i_le (c_lit 1096 1096 rfl) rfl ⟨by decide, by decide⟩ rs0) hF (fun c2 hF => ?_) (fun c2 hF => ?_)
    ·
      exact SX35_primitiveOf_b37 hm R hF
    ·
      exact SX35_primitiveOf_b38 hm R (c_sub rfl (c_lit 1000 1000 rfl)) (rr_I _) hF
def FX35_primitiveOf (p0 : Int) (s : fS) : Option (Int × fS) :=
  if ¬ (p0 = (-1)) then
    (FX35_meaning p0 s).bind fun q3 =>
    FX35_primitiveOf_b14 q3.1 q3.2
  else
    FX35_primitiveOf_b14 0 s
theorem SX35_primitiveOf {m b : Nat} {φ0 : Nat → Nat} {σo : fS} (hm : 1 ≤ m) {q : Int × fS} {φ : Nat → Nat} {h : eH} {s : fS} {p0' : Int32} {p0 : Int} (R : fC m b φ0 σo φ h s) (ep0 : p0' = iI p0) (rp0 : r32 p0) (hF : FX35_primitiveOf p0 s = some q) : gG m b φ0 σo lI q (fX35_primitiveOf 192 p0' h) := by
  subst ep0
  unfold FX35_primitiveOf at hF
  unfold fX35_primitiveOf
  refine s_if (not_congr (i_eq rfl (c_lit (-1) (-1) rfl) rp0 ⟨by decide, by decide⟩)) hF (fun c1 hF => ?_) (fun c1 hF => ?_)
  ·
    refine s_kok R (t_192 hm R.S) (Nat.le_of_ble_eq_true rfl) ?_
    refine s_call R (Nat.zero_le _) (fun _ hq => SX35_meaning (b := 0) hm (R.rf) rfl rp0 hq) hF (fun f3 rv3 h3 q3 R3 e3 E3 hF => ?_)
    exact SX35_primitiveOf_b14 hm R3 e3.1 e3.2 hF
  ·
    exact SX35_primitiveOf_b14 hm R (c_lit 0 0 rfl) ⟨by decide, by decide⟩ hF
def FX35_isLength_b23 (s0 : Int) (s : fS) : Option (Int × fS) :=
  uZ s0 (s0, s)
theorem SX35_isLength_b23 {m b : Nat} {φ0 : Nat → Nat} {σo : fS} (hm : 1 ≤ m) {q : Int × fS} {φ : Nat → Nat} {h : eH} {s : fS} {s0' : Int32} {s0 : Int} (R : fC m b φ0 σo φ h s) (es0 : s0' = iI s0) (rs0 : r32 s0) (hF : FX35_isLength_b23 s0 s = some q) : gG m b φ0 σo lI q (fX35_isLength_b23 s0' h) := by
  subst es0
  unfold FX35_isLength_b23 at hF
  unfold fX35_isLength_b23
  exact g_z R rfl hF ⟨rfl, rs0⟩
def FX35_isLength_b18 (s : fS) : Option (Int × fS) :=
  FX35_isLength_b23 1 s
theorem SX35_isLength_b18 {m b : Nat} {φ0 : Nat → Nat} {σo : fS} (hm : 1 ≤ m) {q : Int × fS} {φ : Nat → Nat} {h : eH} {s : fS} (R : fC m b φ0 σo φ h s) (hF : FX35_isLength_b18 s = some q) : gG m b φ0 σo lI q (fX35_isLength_b18 h) := by
  unfold FX35_isLength_b18 at hF
  unfold fX35_isLength_b18
  exact SX35_isLength_b23 hm R (c_lit 1 1 rfl) ⟨by decide, by decide⟩ hF
def FX35_isLength_b22 (s : fS) : Option (Int × fS) :=
  FX35_isLength_b23 0 s
theorem SX35_isLength_b22 {m b : Nat} {φ0 : Nat → Nat} {σo : fS} (hm : 1 ≤ m) {q : Int × fS} {φ : Nat → Nat} {h : eH} {s : fS} (R : fC m b φ0 σo φ h s) (hF : FX35_isLength_b22 s = some q) : gG m b φ0 σo lI q (fX35_isLength_b22 h) := by
  unfold FX35_isLength_b22 at hF
  unfold fX35_isLength_b22
  exact SX35_isLength_b23 hm R (c_lit 0 0 rfl) ⟨by decide, by decide⟩ hF
def FX35_isLength (p0 : Int) (s : fS) : Option (Int × fS) :=
  if p0 = 42 then
    FX35_isLength_b18 s
  else
    if p0 < 83 then
      FX35_isLength_b22 s
    else
      if 89 ≤ p0 then
        FX35_isLength_b22 s
      else
        FX35_isLength_b18 s
theorem SX35_isLength {m b : Nat} {φ0 : Nat → Nat} {σo : fS} (hm : 1 ≤ m) {q : Int × fS} {φ : Nat → Nat} {h : eH} {s : fS} {p0' : Int32} {p0 : Int} (R : fC m b φ0 σo φ h s) (ep0 : p0' = iI p0) (rp0 : r32 p0) (hF : FX35_isLength p0 s = some q) : gG m b φ0 σo lI q (fX35_isLength p0' h) := by
  subst ep0
  unfold FX35_isLength at hF
  unfold fX35_isLength
  refine s_if (i_eq rfl (c_lit 42 42 rfl) rp0 ⟨by decide, by decide⟩) hF (fun c1 hF => ?_) (fun c1 hF => ?_)
  ·
    exact SX35_isLength_b18 hm R hF
  ·
    refine s_if (i_lt rfl (c_lit 83 83 rfl) rp0 ⟨by decide, by decide⟩) hF (fun c2 hF => ?_) (fun c2 hF => ?_)
    ·
      exact SX35_isLength_b22 hm R hF
    ·
      refine s_if (i_le (c_lit 89 89 rfl) rfl ⟨by decide, by decide⟩ rp0) hF (fun c3 hF => ?_) (fun c3 hF => ?_)
      ·
        exact SX35_isLength_b22 hm R hF
      ·
        exact SX35_isLength_b18 hm R hF
def FX35_isOfBox_b23 (s0 : Int) (s : fS) : Option (Int × fS) :=
  uZ s0 (s0, s)
theorem SX35_isOfBox_b23 {m b : Nat} {φ0 : Nat → Nat} {σo : fS} (hm : 1 ≤ m) {q : Int × fS} {φ : Nat → Nat} {h : eH} {s : fS} {s0' : Int32} {s0 : Int} (R : fC m b φ0 σo φ h s) (es0 : s0' = iI s0) (rs0 : r32 s0) (hF : FX35_isOfBox_b23 s0 s = some q) : gG m b φ0 σo lI q (fX35_isOfBox_b23 s0' h) := by
  subst es0
  unfold FX35_isOfBox_b23 at hF
  unfold fX35_isOfBox_b23
  exact g_z R rfl hF ⟨rfl, rs0⟩
def FX35_isOfBox_b18 (s : fS) : Option (Int × fS) :=
  FX35_isOfBox_b23 1 s
theorem SX35_isOfBox_b18 {m b : Nat} {φ0 : Nat → Nat} {σo : fS} (hm : 1 ≤ m) {q : Int × fS} {φ : Nat → Nat} {h : eH} {s : fS} (R : fC m b φ0 σo φ h s) (hF : FX35_isOfBox_b18 s = some q) : gG m b φ0 σo lI q (fX35_isOfBox_b18 h) := by
  unfold FX35_isOfBox_b18 at hF
  unfold fX35_isOfBox_b18
  exact SX35_isOfBox_b23 hm R (c_lit 1 1 rfl) ⟨by decide, by decide⟩ hF
def FX35_isOfBox (p0 : Int) (s : fS) : Option (Int × fS) :=
  if p0 = 44 then
    FX35_isOfBox_b18 s
  else
    if p0 = 45 then
      FX35_isOfBox_b18 s
    else
      if ¬ (p0 = 46) then
        FX35_isOfBox_b23 0 s
      else
        FX35_isOfBox_b18 s
theorem SX35_isOfBox {m b : Nat} {φ0 : Nat → Nat} {σo : fS} (hm : 1 ≤ m) {q : Int × fS} {φ : Nat → Nat} {h : eH} {s : fS} {p0' : Int32} {p0 : Int} (R : fC m b φ0 σo φ h s) (ep0 : p0' = iI p0) (rp0 : r32 p0) (hF : FX35_isOfBox p0 s = some q) : gG m b φ0 σo lI q (fX35_isOfBox p0' h) := by
  subst ep0
  unfold FX35_isOfBox at hF
  unfold fX35_isOfBox
  refine s_if (i_eq rfl (c_lit 44 44 rfl) rp0 ⟨by decide, by decide⟩) hF (fun c1 hF => ?_) (fun c1 hF => ?_)
  ·
    exact SX35_isOfBox_b18 hm R hF
  ·
    refine s_if (i_eq rfl (c_lit 45 45 rfl) rp0 ⟨by decide, by decide⟩) hF (fun c2 hF => ?_) (fun c2 hF => ?_)
    ·
      exact SX35_isOfBox_b18 hm R hF
    ·
      refine s_if (not_congr (i_eq rfl (c_lit 46 46 rfl) rp0 ⟨by decide, by decide⟩)) hF (fun c3 hF => ?_) (fun c3 hF => ?_)
      ·
        exact SX35_isOfBox_b23 hm R (c_lit 0 0 rfl) ⟨by decide, by decide⟩ hF
      ·
        exact SX35_isOfBox_b18 hm R hF
def FX35_hasLength_b25 (s0 : Int) (s : fS) : Option (Int × fS) :=
  uZ s0 (s0, s)
theorem SX35_hasLength_b25 {m b : Nat} {φ0 : Nat → Nat} {σo : fS} (hm : 1 ≤ m) {q : Int × fS} {φ : Nat → Nat} {h : eH} {s : fS} {s0' : Int32} {s0 : Int} (R : fC m b φ0 σo φ h s) (es0 : s0' = iI s0) (rs0 : r32 s0) (hF : FX35_hasLength_b25 s0 s = some q) : gG m b φ0 σo lI q (fX35_hasLength_b25 s0' h) := by
  subst es0
  unfold FX35_hasLength_b25 at hF
  unfold fX35_hasLength_b25
  exact g_z R rfl hF ⟨rfl, rs0⟩
def FX35_hasLength_b20 (s : fS) : Option (Int × fS) :=
  FX35_hasLength_b25 1 s
theorem SX35_hasLength_b20 {m b : Nat} {φ0 : Nat → Nat} {σo : fS} (hm : 1 ≤ m) {q : Int × fS} {φ : Nat → Nat} {h : eH} {s : fS} (R : fC m b φ0 σo φ h s) (hF : FX35_hasLength_b20 s = some q) : gG m b φ0 σo lI q (fX35_hasLength_b20 h) := by
  unfold FX35_hasLength_b20 at hF
  unfold fX35_hasLength_b20
  exact SX35_hasLength_b25 hm R (c_lit 1 1 rfl) ⟨by decide, by decide⟩ hF
def FX35_hasLength (p0 : Int) (s : fS) : Option (Int × fS) :=
  (FX35_primitiveOf p0 s).bind fun q2 =>
  (FX35_isLength q2.1 q2.2).bind fun q3 =>
  if ¬ (q3.1 = 0) then
    FX35_hasLength_b20 q3.2
  else
    (FX35_isOfBox q2.1 q3.2).bind fun q5 =>
    if q5.1 = 0 then
      FX35_hasLength_b25 0 q5.2
    else
      FX35_hasLength_b20 q5.2
theorem SX35_hasLength {m b : Nat} {φ0 : Nat → Nat} {σo : fS} (hm : 1 ≤ m) {q : Int × fS} {φ : Nat → Nat} {h : eH} {s : fS} {p0' : Int32} {p0 : Int} (R : fC m b φ0 σo φ h s) (ep0 : p0' = iI p0) (rp0 : r32 p0) (hF : FX35_hasLength p0 s = some q) : gG m b φ0 σo lI q (fX35_hasLength 192 p0' h) := by
  subst ep0
  unfold FX35_hasLength at hF
  unfold fX35_hasLength
  refine s_kok R (t_192 hm R.S) (Nat.le_of_ble_eq_true rfl) ?_
  refine s_call R (Nat.zero_le _) (fun _ hq => SX35_primitiveOf (b := 0) hm (R.rf) rfl rp0 hq) hF (fun f2 rv2 h2 q2 R2 e2 E2 hF => ?_)
  refine s_call R2 (Nat.zero_le _) (fun _ hq => SX35_isLength (b := 0) hm (R2.rf) e2.1 e2.2 hq) hF (fun f3 rv3 h3 q3 R3 e3 E3 hF => ?_)
  refine s_if (not_congr (i_eq e3.1 (c_lit 0 0 rfl) e3.2 ⟨by decide, by decide⟩)) hF (fun c4 hF => ?_) (fun c4 hF => ?_)
  ·
    exact SX35_hasLength_b20 hm R3 hF
  ·
    refine s_call R3 (Nat.zero_le _) (fun _ hq => SX35_isOfBox (b := 0) hm (R3.rf) e2.1 e2.2 hq) hF (fun f5 rv5 h5 q5 R5 e5 E5 hF => ?_)
    refine s_if (i_eq e5.1 (c_lit 0 0 rfl) e5.2 ⟨by decide, by decide⟩) hF (fun c6 hF => ?_) (fun c6 hF => ?_)
    ·
      exact SX35_hasLength_b25 hm R5 (c_lit 0 0 rfl) ⟨by decide, by decide⟩ hF
    ·
      exact SX35_hasLength_b20 hm R5 hF
def FX35_isGlue_b17 (s0 : Int) (s : fS) : Option (Int × fS) :=
  uZ s0 (s0, s)
theorem SX35_isGlue_b17 {m b : Nat} {φ0 : Nat → Nat} {σo : fS} (hm : 1 ≤ m) {q : Int × fS} {φ : Nat → Nat} {h : eH} {s : fS} {s0' : Int32} {s0 : Int} (R : fC m b φ0 σo φ h s) (es0 : s0' = iI s0) (rs0 : r32 s0) (hF : FX35_isGlue_b17 s0 s = some q) : gG m b φ0 σo lI q (fX35_isGlue_b17 s0' h) := by
  subst es0
  unfold FX35_isGlue_b17 at hF
  unfold fX35_isGlue_b17
  exact g_z R rfl hF ⟨rfl, rs0⟩
def FX35_isGlue_b12 (s : fS) : Option (Int × fS) :=
  FX35_isGlue_b17 1 s
theorem SX35_isGlue_b12 {m b : Nat} {φ0 : Nat → Nat} {σo : fS} (hm : 1 ≤ m) {q : Int × fS} {φ : Nat → Nat} {h : eH} {s : fS} (R : fC m b φ0 σo φ h s) (hF : FX35_isGlue_b12 s = some q) : gG m b φ0 σo lI q (fX35_isGlue_b12 h) := by
  unfold FX35_isGlue_b12 at hF
  unfold fX35_isGlue_b12
  exact SX35_isGlue_b17 hm R (c_lit 1 1 rfl) ⟨by decide, by decide⟩ hF
def FX35_isGlue (p0 : Int) (s : fS) : Option (Int × fS) :=
  if p0 = 43 then
    FX35_isGlue_b12 s
  else
    if p0 < 89 then
      FX35_isGlue_b17 0 s
    else
      FX35_isGlue_b12 s
theorem SX35_isGlue {m b : Nat} {φ0 : Nat → Nat} {σo : fS} (hm : 1 ≤ m) {q : Int × fS} {φ : Nat → Nat} {h : eH} {s : fS} {p0' : Int32} {p0 : Int} (R : fC m b φ0 σo φ h s) (ep0 : p0' = iI p0) (rp0 : r32 p0) (hF : FX35_isGlue p0 s = some q) : gG m b φ0 σo lI q (fX35_isGlue p0' h) := by
  subst ep0
  unfold FX35_isGlue at hF
  unfold fX35_isGlue
  refine s_if (i_eq rfl (c_lit 43 43 rfl) rp0 ⟨by decide, by decide⟩) hF (fun c1 hF => ?_) (fun c1 hF => ?_)
  ·
    exact SX35_isGlue_b12 hm R hF
  ·
    refine s_if (i_lt rfl (c_lit 89 89 rfl) rp0 ⟨by decide, by decide⟩) hF (fun c2 hF => ?_) (fun c2 hF => ?_)
    ·
      exact SX35_isGlue_b17 hm R (c_lit 0 0 rfl) ⟨by decide, by decide⟩ hF
    ·
      exact SX35_isGlue_b12 hm R hF
def FX35_hasGlue (p0 : Int) (s : fS) : Option (Int × fS) :=
  (FX35_primitiveOf p0 s).bind fun q2 =>
  (FX35_isGlue q2.1 q2.2).bind fun q3 =>
  uZ q3.1 (q3.1, q3.2)
theorem SX35_hasGlue {m b : Nat} {φ0 : Nat → Nat} {σo : fS} (hm : 1 ≤ m) {q : Int × fS} {φ : Nat → Nat} {h : eH} {s : fS} {p0' : Int32} {p0 : Int} (R : fC m b φ0 σo φ h s) (ep0 : p0' = iI p0) (rp0 : r32 p0) (hF : FX35_hasGlue p0 s = some q) : gG m b φ0 σo lI q (fX35_hasGlue 192 p0' h) := by
  subst ep0
  unfold FX35_hasGlue at hF
  unfold fX35_hasGlue
  refine s_kok R (t_192 hm R.S) (Nat.le_of_ble_eq_true rfl) ?_
  refine s_call R (Nat.zero_le _) (fun _ hq => SX35_primitiveOf (b := 0) hm (R.rf) rfl rp0 hq) hF (fun f2 rv2 h2 q2 R2 e2 E2 hF => ?_)
  refine s_call R2 (Nat.zero_le _) (fun _ hq => SX35_isGlue (b := 0) hm (R2.rf) e2.1 e2.2 hq) hF (fun f3 rv3 h3 q3 R3 e3 E3 hF => ?_)
  exact g_z R3 e3.1 hF ⟨e3.1, e3.2⟩
def FX35_lengthOf_b90 (SN : fS → Option (Int × fS)) (s0 : Int) (s : fS) : Option (Int × fS) :=
  some (s0, s)
theorem SX35_lengthOf_b90 {m b : Nat} {φ0 : Nat → Nat} {σo : fS} (hm : 1 ≤ m) {sN : Nat → eH → Option (Int32 × eH)} {SN : fS → Option (Int × fS)} {q : Int × fS} (hsN : ∀ {φ : Nat → Nat} {h : eH} {s : fS} {q}, fC m 1 φ s φ h s → SN s = some q → gG m 1 φ s lI q (sN 192 h)) {φ : Nat → Nat} {h : eH} {s : fS} {s0' : Int32} {s0 : Int} (R : fC m b φ0 σo φ h s) (es0 : s0' = iI s0) (rs0 : r32 s0) (hF : FX35_lengthOf_b90 SN s0 s = some q) : gG m b φ0 σo lI q (fX35_lengthOf_b90 sN s0' h) := by
  subst es0
  unfold FX35_lengthOf_b90 at hF
  unfold fX35_lengthOf_b90
  exact g_ret R hF ⟨rfl, rs0⟩
def FX35_lengthOf_b50 (SN : fS → Option (Int × fS)) (s : fS) : Option (Int × fS) :=
  FX35_lengthOf_b90 SN 0 s
theorem SX35_lengthOf_b50 {m b : Nat} {φ0 : Nat → Nat} {σo : fS} (hm : 1 ≤ m) {sN : Nat → eH → Option (Int32 × eH)} {SN : fS → Option (Int × fS)} {q : Int × fS} (hsN : ∀ {φ : Nat → Nat} {h : eH} {s : fS} {q}, fC m 1 φ s φ h s → SN s = some q → gG m 1 φ s lI q (sN 192 h)) {φ : Nat → Nat} {h : eH} {s : fS} (R : fC m b φ0 σo φ h s) (hF : FX35_lengthOf_b50 SN s = some q) : gG m b φ0 σo lI q (fX35_lengthOf_b50 sN h) := by
  unfold FX35_lengthOf_b50 at hF
  unfold fX35_lengthOf_b50
  exact SX35_lengthOf_b90 (sN := sN) (SN := SN) hm @hsN R (c_lit 0 0 rfl) ⟨by decide, by decide⟩ hF
def FX35_lengthOf (SN : fS → Option (Int × fS)) (p0 : Int) (s : fS) : Option (Int × fS) :=
  (FX35_primitiveOf p0 s).bind fun q2 =>
  (FX35_isOfBox q2.1 q2.2).bind fun q3 =>
  if ¬ (q3.1 = 0) then
    (FX35_small SN 255 q3.2).bind fun q6 =>
    (FX35_now (iadd 3299 q6.1) q6.2).bind fun q8 =>
    if 0 < (q8.2.i 192 46) then
      FX35_lengthOf_b50 SN q8.2
    else
      if 0 ≤ q8.1 then
        if ¬ (q2.1 = 44) then
          if ¬ (q2.1 = 45) then
            (uRI q8.2 297 q8.1).bind fun x17 =>
            FX35_lengthOf_b90 SN x17 q8.2
          else
            (uRI q8.2 296 q8.1).bind fun x21 =>
            FX35_lengthOf_b90 SN x21 q8.2
        else
          (uRI q8.2 295 q8.1).bind fun x25 =>
          FX35_lengthOf_b90 SN x25 q8.2
      else
        FX35_lengthOf_b50 SN q8.2
  else
    (FX35_at SN q2.1 q3.2).bind fun q28 =>
    (FX35_now q28.1 q28.2).bind fun q30 =>
    some (q30.1, q30.2)
theorem SX35_lengthOf {m b : Nat} {φ0 : Nat → Nat} {σo : fS} (hm : 1 ≤ m) (hb : 1 ≤ b) {sN : Nat → eH → Option (Int32 × eH)} {SN : fS → Option (Int × fS)} {q : Int × fS} (hsN : ∀ {φ : Nat → Nat} {h : eH} {s : fS} {q}, fC m 1 φ s φ h s → SN s = some q → gG m 1 φ s lI q (sN 192 h)) {φ : Nat → Nat} {h : eH} {s : fS} {p0' : Int32} {p0 : Int} (R : fC m b φ0 σo φ h s) (ep0 : p0' = iI p0) (rp0 : r32 p0) (hF : FX35_lengthOf SN p0 s = some q) : gG m b φ0 σo lI q (fX35_lengthOf sN 192 p0' h) := by
  subst ep0
  unfold FX35_lengthOf at hF
  unfold fX35_lengthOf
  refine s_kok R (t_192 hm R.S) (Nat.le_of_ble_eq_true rfl) ?_
  refine s_call R (Nat.zero_le _) (fun _ hq => SX35_primitiveOf (b := 0) hm (R.rf) rfl rp0 hq) hF (fun f2 rv2 h2 q2 R2 e2 E2 hF => ?_)
  refine s_call R2 (Nat.zero_le _) (fun _ hq => SX35_isOfBox (b := 0) hm (R2.rf) e2.1 e2.2 hq) hF (fun f3 rv3 h3 q3 R3 e3 E3 hF => ?_)
  refine s_if (not_congr (i_eq e3.1 (c_lit 0 0 rfl) e3.2 ⟨by decide, by decide⟩)) hF (fun c4 hF => ?_) (fun c4 hF => ?_)
  ·
    refine s_kok R3 (t_192 hm R3.S) (Nat.le_of_ble_eq_true rfl) ?_
    refine s_call R3 hb (fun _ hq => SX35_small (b := 1) (sN := sN) (SN := SN) hm (Nat.le_of_ble_eq_true rfl) @hsN (R3.rf) (c_lit 255 255 rfl) ⟨by decide, by decide⟩ hq) hF (fun f6 rv6 h6 q6 R6 e6 E6 hF => ?_)
    refine s_kok R6 (t_192 hm R6.S) (Nat.le_of_ble_eq_true rfl) ?_
    refine s_call R6 (Nat.zero_le _) (fun _ hq => SX35_now (b := 0) hm (R6.rf) (c_add (c_lit 3299 3299 rfl) e6.1) (rr_I _) hq) hF (fun f8 rv8 h8 q8 R8 e8 E8 hF => ?_)
    refine s_gI R8 (t_192 hm R8.S) (Nat.le_of_ble_eq_true rfl) rfl ?_
    refine s_if (i_lt (c_lit 0 0 rfl) rfl ⟨by decide, by decide⟩ (R8.ri (t_192 hm R8.S) (Nat.le_of_ble_eq_true rfl) rfl)) hF (fun c10 hF => ?_) (fun c10 hF => ?_)
    ·
      exact SX35_lengthOf_b50 (sN := sN) (SN := SN) hm @hsN R8 hF
    ·
      refine s_if (i_le (c_lit 0 0 rfl) e8.1 ⟨by decide, by decide⟩ e8.2) hF (fun c11 hF => ?_) (fun c11 hF => ?_)
      ·
        refine s_if (not_congr (i_eq e2.1 (c_lit 44 44 rfl) e2.2 ⟨by decide, by decide⟩)) hF (fun c12 hF => ?_) (fun c12 hF => ?_)
        ·
          refine s_if (not_congr (i_eq e2.1 (c_lit 45 45 rfl) e2.2 ⟨by decide, by decide⟩)) hF (fun c13 hF => ?_) (fun c13 hF => ?_)
          ·
            refine s_gAs R8 (t_192 hm R8.S) (Nat.le_of_ble_eq_true rfl) rfl (o_192_70 hm R8.S) (a_297 hm R8) ?_
            refine s_rI R8 (u_297 hm R8.S).1 (u_297 hm R8.S).2 (by decide) (a_297 hm R8) e8.1 e8.2 hF (fun x17 ra15 hF => ?_)
            exact SX35_lengthOf_b90 (sN := sN) (SN := SN) hm @hsN R8 rfl ra15 hF
          ·
            refine s_gAs R8 (t_192 hm R8.S) (Nat.le_of_ble_eq_true rfl) rfl (o_192_69 hm R8.S) (a_296 hm R8) ?_
            refine s_rI R8 (u_296 hm R8.S).1 (u_296 hm R8.S).2 (by decide) (a_296 hm R8) e8.1 e8.2 hF (fun x21 ra17 hF => ?_)
            exact SX35_lengthOf_b90 (sN := sN) (SN := SN) hm @hsN R8 rfl ra17 hF
        ·
          refine s_gAs R8 (t_192 hm R8.S) (Nat.le_of_ble_eq_true rfl) rfl (o_192_68 hm R8.S) (a_295 hm R8) ?_
          refine s_rI R8 (u_295 hm R8.S).1 (u_295 hm R8.S).2 (by decide) (a_295 hm R8) e8.1 e8.2 hF (fun x25 ra19 hF => ?_)
          exact SX35_lengthOf_b90 (sN := sN) (SN := SN) hm @hsN R8 rfl ra19 hF
      ·
        exact SX35_lengthOf_b50 (sN := sN) (SN := SN) hm @hsN R8 hF
  ·
    refine s_kok R3 (t_192 hm R3.S) (Nat.le_of_ble_eq_true rfl) ?_
    refine s_call R3 hb (fun _ hq => SX35_at (b := 1) (sN := sN) (SN := SN) hm (Nat.le_of_ble_eq_true rfl) @hsN (R3.rf) e2.1 e2.2 hq) hF (fun f21 rv21 h21 q28 R21 e21 E21 hF => ?_)
    refine s_kok R21 (t_192 hm R21.S) (Nat.le_of_ble_eq_true rfl) ?_
    refine s_call R21 (Nat.zero_le _) (fun _ hq => SX35_now (b := 0) hm (R21.rf) e21.1 e21.2 hq) hF (fun f23 rv23 h23 q30 R23 e23 E23 hF => ?_)
    exact g_ret R23 hF ⟨e23.1, e23.2⟩
def FX35_isDigit_b19 (s0 : Int) (s : fS) : Option (Int × fS) :=
  uZ s0 (s0, s)
theorem SX35_isDigit_b19 {m b : Nat} {φ0 : Nat → Nat} {σo : fS} (hm : 1 ≤ m) {q : Int × fS} {φ : Nat → Nat} {h : eH} {s : fS} {s0' : Int32} {s0 : Int} (R : fC m b φ0 σo φ h s) (es0 : s0' = iI s0) (rs0 : r32 s0) (hF : FX35_isDigit_b19 s0 s = some q) : gG m b φ0 σo lI q (fX35_isDigit_b19 s0' h) := by
  subst es0
  unfold FX35_isDigit_b19 at hF
  unfold fX35_isDigit_b19
  exact g_z R rfl hF ⟨rfl, rs0⟩
def FX35_isDigit_b18 (s : fS) : Option (Int × fS) :=
  FX35_isDigit_b19 0 s
theorem SX35_isDigit_b18 {m b : Nat} {φ0 : Nat → Nat} {σo : fS} (hm : 1 ≤ m) {q : Int × fS} {φ : Nat → Nat} {h : eH} {s : fS} (R : fC m b φ0 σo φ h s) (hF : FX35_isDigit_b18 s = some q) : gG m b φ0 σo lI q (fX35_isDigit_b18 h) := by
  unfold FX35_isDigit_b18 at hF
  unfold fX35_isDigit_b18
  exact SX35_isDigit_b19 hm R (c_lit 0 0 rfl) ⟨by decide, by decide⟩ hF
def FX35_isDigit (p0 : Int) (s : fS) : Option (Int × fS) :=
  if p0 < 3120 then
    FX35_isDigit_b18 s
  else
    if 3129 < p0 then
      FX35_isDigit_b18 s
    else
      FX35_isDigit_b19 1 s
theorem SX35_isDigit {m b : Nat} {φ0 : Nat → Nat} {σo : fS} (hm : 1 ≤ m) {q : Int × fS} {φ : Nat → Nat} {h : eH} {s : fS} {p0' : Int32} {p0 : Int} (R : fC m b φ0 σo φ h s) (ep0 : p0' = iI p0) (rp0 : r32 p0) (hF : FX35_isDigit p0 s = some q) : gG m b φ0 σo lI q (fX35_isDigit p0' h) := by
  subst ep0
  unfold FX35_isDigit at hF
  unfold fX35_isDigit
  refine s_if (i_lt rfl (c_lit 3120 3120 rfl) rp0 ⟨by decide, by decide⟩) hF (fun c1 hF => ?_) (fun c1 hF => ?_)
  ·
    exact SX35_isDigit_b18 hm R hF
  ·
    refine s_if (i_lt (c_lit 3129 3129 rfl) rfl ⟨by decide, by decide⟩ rp0) hF (fun c2 hF => ?_) (fun c2 hF => ?_)
    ·
      exact SX35_isDigit_b18 hm R hF
    ·
      exact SX35_isDigit_b19 hm R (c_lit 1 1 rfl) ⟨by decide, by decide⟩ hF
def FX35_dropSpace_b19 (N : Nat) (SE : Int → fS → Option (Unit × fS)) (s : fS) : Option (Unit × fS) :=
  some ((), s)
theorem SX35_dropSpace_b19 {m b : Nat} {φ0 : Nat → Nat} {σo : fS} (hm : 1 ≤ m) {N : Nat} {sE : Nat → Int32 → eH → Option (Unit × eH)} {SE : Int → fS → Option (Unit × fS)} {q : Unit × fS} (hsE : ∀ {φ : Nat → Nat} {h : eH} {s : fS} {x1' : Int32} {x1 : Int} {q}, fC m 1 φ s φ h s → x1' = iI x1 → r32 x1 → SE x1 s = some q → gG m 1 φ s lU q (sE 192 x1' h)) {φ : Nat → Nat} {h : eH} {s : fS} (R : fC m b φ0 σo φ h s) (hF : FX35_dropSpace_b19 N SE s = some q) : gG m b φ0 σo lU q (fX35_dropSpace_b19 N sE h) := by
  unfold FX35_dropSpace_b19 at hF
  unfold fX35_dropSpace_b19
  exact g_ret R hF trivial
def FX35_dropSpace (N : Nat) (SE : Int → fS → Option (Unit × fS)) (s : fS) : Option (Unit × fS) :=
  (FX35_getExpanded N SE s).bind fun q2 =>
  (FX35_isOf q2.1 10 q2.2).bind fun q3 =>
  if ¬ (q3.1 = 0) then
    FX35_dropSpace_b19 N SE q3.2
  else
    (FX35_put q2.1 q3.2).bind fun q6 =>
    FX35_dropSpace_b19 N SE q6.2
theorem SX35_dropSpace {m b : Nat} {φ0 : Nat → Nat} {σo : fS} (hm : 1 ≤ m) (hb : 1 ≤ b) {N : Nat} {sE : Nat → Int32 → eH → Option (Unit × eH)} {SE : Int → fS → Option (Unit × fS)} {q : Unit × fS} (hsE : ∀ {φ : Nat → Nat} {h : eH} {s : fS} {x1' : Int32} {x1 : Int} {q}, fC m 1 φ s φ h s → x1' = iI x1 → r32 x1 → SE x1 s = some q → gG m 1 φ s lU q (sE 192 x1' h)) {φ : Nat → Nat} {h : eH} {s : fS} (R : fC m b φ0 σo φ h s) (hF : FX35_dropSpace N SE s = some q) : gG m b φ0 σo lU q (fX35_dropSpace N sE 192 h) := by
  unfold FX35_dropSpace at hF
  unfold fX35_dropSpace
  refine s_kok R (t_192 hm R.S) (Nat.le_of_ble_eq_true rfl) ?_
  refine s_call R hb (fun _ hq => SX35_getExpanded (b := 1) (N := N) (sE := sE) (SE := SE) hm (Nat.le_of_ble_eq_true rfl) @hsE (R.rf) hq) hF (fun f2 rv2 h2 q2 R2 e2 E2 hF => ?_)
  refine s_call R2 (Nat.zero_le _) (fun _ hq => SX35_isOf (b := 0) hm (R2.rf) e2.1 e2.2 (c_lit 10 10 rfl) ⟨by decide, by decide⟩ hq) hF (fun f3 rv3 h3 q3 R3 e3 E3 hF => ?_)
  refine s_if (not_congr (i_eq e3.1 (c_lit 0 0 rfl) e3.2 ⟨by decide, by decide⟩)) hF (fun c4 hF => ?_) (fun c4 hF => ?_)
  ·
    exact SX35_dropSpace_b19 (N := N) (sE := sE) (SE := SE) hm @hsE R3 hF
  ·
    refine s_kok R3 (t_192 hm R3.S) (Nat.le_of_ble_eq_true rfl) ?_
    refine s_call R3 (Nat.zero_le _) (fun _ hq => SX35_put (b := 0) hm (R3.rf) e2.1 e2.2 hq) hF (fun f6 rv6 h6 q6 R6 e6 E6 hF => ?_)
    exact SX35_dropSpace_b19 (N := N) (sE := sE) (SE := SE) hm @hsE R6 hF
