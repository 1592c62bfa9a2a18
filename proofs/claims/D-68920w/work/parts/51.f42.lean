set_option maxRecDepth 100000
set_option maxHeartbeats 4000000
def FX35_digits_b52 (N : Nat) (SE : Int → fS → Option (Unit × fS)) (K5 : Int → Int → fS → Option (Int × fS)) (l2 : Int) (s : fS) : Option (Int × fS) :=
  (FX35_getExpanded N SE s).bind fun q2 =>
  K5 l2 q2.1 q2.2
theorem SX35_digits_b52 {m b : Nat} {φ0 : Nat → Nat} {σo : fS} (hm : 1 ≤ m) (hb : 1 ≤ b) {N : Nat} {sE : Nat → Int32 → eH → Option (Unit × eH)} {SE : Int → fS → Option (Unit × fS)} {k5 : Nat → Int64 → Int32 → eH → Option (Int32 × eH)} {K5 : Int → Int → fS → Option (Int × fS)} {q : Int × fS} (hsE : ∀ {φ : Nat → Nat} {h : eH} {s : fS} {x1' : Int32} {x1 : Int} {q}, fC m 1 φ s φ h s → x1' = iI x1 → r32 x1 → SE x1 s = some q → gG m 1 φ s lU q (sE 192 x1' h)) (hk5 : ∀ {φ : Nat → Nat} {h : eH} {s : fS} {l2' : Int64} {l2 : Int} {l4' : Int32} {l4 : Int}, fC m b φ0 σo φ h s → l2' = iJ l2 → r64 l2 → l4' = iI l4 → r32 l4 → K5 l2 l4 s = some q → gG m b φ0 σo lI q (k5 192 l2' l4' h)) {φ : Nat → Nat} {h : eH} {s : fS} {l2' : Int64} {l2 : Int} (R : fC m b φ0 σo φ h s) (el2 : l2' = iJ l2) (rl2 : r64 l2) (hF : FX35_digits_b52 N SE K5 l2 s = some q) : gG m b φ0 σo lI q (fX35_digits_b52 N sE k5 192 l2' h) := by
  subst el2
  unfold FX35_digits_b52 at hF
  unfold fX35_digits_b52
  refine s_kok R (t_192 hm R.S) (Nat.le_of_ble_eq_true rfl) ?_
  refine s_call R hb (fun _ hq => SX35_getExpanded (b := 1) (N := N) (sE := sE) (SE := SE) hm (Nat.le_of_ble_eq_true rfl) @hsE (R.rf) hq) hF (fun f2 rv2 h2 q2 R2 e2 E2 hF => ?_)
  exact hk5 R2 rfl rl2 e2.1 e2.2 hF
def FX35_digits_b97 (N : Nat) (SE : Int → fS → Option (Unit × fS)) (s0 : Int) (s : fS) : Option (Int × fS) :=
  some (s0, s)
theorem SX35_digits_b97 {m b : Nat} {φ0 : Nat → Nat} {σo : fS} (hm : 1 ≤ m) {N : Nat} {sE : Nat → Int32 → eH → Option (Unit × eH)} {SE : Int → fS → Option (Unit × fS)} {q : Int × fS} (hsE : ∀ {φ : Nat → Nat} {h : eH} {s : fS} {x1' : Int32} {x1 : Int} {q}, fC m 1 φ s φ h s → x1' = iI x1 → r32 x1 → SE x1 s = some q → gG m 1 φ s lU q (sE 192 x1' h)) {φ : Nat → Nat} {h : eH} {s : fS} {s0' : Int32} {s0 : Int} (R : fC m b φ0 σo φ h s) (es0 : s0' = iI s0) (rs0 : r32 s0) (hF : FX35_digits_b97 N SE s0 s = some q) : gG m b φ0 σo lI q (fX35_digits_b97 N sE s0' h) := by
  subst es0
  unfold FX35_digits_b97 at hF
  unfold fX35_digits_b97
  exact g_ret R hF ⟨rfl, rs0⟩
def FX35_digits_b84 (N : Nat) (SE : Int → fS → Option (Unit × fS)) (l2 : Int) (s : fS) : Option (Int × fS) :=
  if (s.i 192 46) ≤ 0 then
    FX35_digits_b97 N SE (l2i l2) s
  else
    FX35_digits_b97 N SE 0 s
theorem SX35_digits_b84 {m b : Nat} {φ0 : Nat → Nat} {σo : fS} (hm : 1 ≤ m) {N : Nat} {sE : Nat → Int32 → eH → Option (Unit × eH)} {SE : Int → fS → Option (Unit × fS)} {q : Int × fS} (hsE : ∀ {φ : Nat → Nat} {h : eH} {s : fS} {x1' : Int32} {x1 : Int} {q}, fC m 1 φ s φ h s → x1' = iI x1 → r32 x1 → SE x1 s = some q → gG m 1 φ s lU q (sE 192 x1' h)) {φ : Nat → Nat} {h : eH} {s : fS} {l2' : Int64} {l2 : Int} (R : fC m b φ0 σo φ h s) (el2 : l2' = iJ l2) (rl2 : r64 l2) (hF : FX35_digits_b84 N SE l2 s = some q) : gG m b φ0 σo lI q (fX35_digits_b84 N sE 192 l2' h) := by
  subst el2
  unfold FX35_digits_b84 at hF
  unfold fX35_digits_b84
  refine s_gI R (t_192 hm R.S) (Nat.le_of_ble_eq_true rfl) rfl ?_
  refine s_if (i_le rfl (c_lit 0 0 rfl) (R.ri (t_192 hm R.S) (Nat.le_of_ble_eq_true rfl) rfl) ⟨by decide, by decide⟩) hF (fun c2 hF => ?_) (fun c2 hF => ?_)
  ·
    exact SX35_digits_b97 (N := N) (sE := sE) (SE := SE) hm @hsE R (d_2i rfl) (rr_I _) hF
  ·
    exact SX35_digits_b97 (N := N) (sE := sE) (SE := SE) hm @hsE R (c_lit 0 0 rfl) ⟨by decide, by decide⟩ hF
def FX35_digits_b61 (N : Nat) (SE : Int → fS → Option (Unit × fS)) (l2 : Int) (l4 : Int) (s : fS) : Option (Int × fS) :=
  if ¬ ((s.i 192 46) = 0) then
    FX35_digits_b84 N SE l2 s
  else
    (FX35_isOf l4 10 s).bind fun q4 =>
    if ¬ (q4.1 = 0) then
      FX35_digits_b84 N SE l2 q4.2
    else
      (FX35_put l4 q4.2).bind fun q7 =>
      FX35_digits_b84 N SE l2 q7.2
theorem SX35_digits_b61 {m b : Nat} {φ0 : Nat → Nat} {σo : fS} (hm : 1 ≤ m) {N : Nat} {sE : Nat → Int32 → eH → Option (Unit × eH)} {SE : Int → fS → Option (Unit × fS)} {q : Int × fS} (hsE : ∀ {φ : Nat → Nat} {h : eH} {s : fS} {x1' : Int32} {x1 : Int} {q}, fC m 1 φ s φ h s → x1' = iI x1 → r32 x1 → SE x1 s = some q → gG m 1 φ s lU q (sE 192 x1' h)) {φ : Nat → Nat} {h : eH} {s : fS} {l2' : Int64} {l2 : Int} {l4' : Int32} {l4 : Int} (R : fC m b φ0 σo φ h s) (el2 : l2' = iJ l2) (rl2 : r64 l2) (el4 : l4' = iI l4) (rl4 : r32 l4) (hF : FX35_digits_b61 N SE l2 l4 s = some q) : gG m b φ0 σo lI q (fX35_digits_b61 N sE 192 l2' l4' h) := by
  subst el2; subst el4
  unfold FX35_digits_b61 at hF
  unfold fX35_digits_b61
  refine s_gI R (t_192 hm R.S) (Nat.le_of_ble_eq_true rfl) rfl ?_
  refine s_if (not_congr (i_eq rfl (c_lit 0 0 rfl) (R.ri (t_192 hm R.S) (Nat.le_of_ble_eq_true rfl) rfl) ⟨by decide, by decide⟩)) hF (fun c2 hF => ?_) (fun c2 hF => ?_)
  ·
    exact SX35_digits_b84 (N := N) (sE := sE) (SE := SE) hm @hsE R rfl rl2 hF
  ·
    refine s_call R (Nat.zero_le _) (fun _ hq => SX35_isOf (b := 0) hm (R.rf) rfl rl4 (c_lit 10 10 rfl) ⟨by decide, by decide⟩ hq) hF (fun f3 rv3 h3 q4 R3 e3 E3 hF => ?_)
    refine s_if (not_congr (i_eq e3.1 (c_lit 0 0 rfl) e3.2 ⟨by decide, by decide⟩)) hF (fun c4 hF => ?_) (fun c4 hF => ?_)
    ·
      exact SX35_digits_b84 (N := N) (sE := sE) (SE := SE) hm @hsE R3 rfl rl2 hF
    ·
      refine s_kok R3 (t_192 hm R3.S) (Nat.le_of_ble_eq_true rfl) ?_
      refine s_call R3 (Nat.zero_le _) (fun _ hq => SX35_put (b := 0) hm (R3.rf) rfl rl4 hq) hF (fun f6 rv6 h6 q7 R6 e6 E6 hF => ?_)
      exact SX35_digits_b84 (N := N) (sE := sE) (SE := SE) hm @hsE R6 rfl rl2 hF
def FX35_digits_b5 (N : Nat) (SE : Int → fS → Option (Unit × fS)) : Nat → Int → Int → fS → Option (Int × fS)
  | 0, _, _, _ => none
  | n + 1, l2, l4, s =>
    (FX35_isDigit l4 s).bind fun q1 =>
    if q1.1 = 0 then
      FX35_digits_b61 N SE l2 l4 q1.2
    else
      if ¬ ((q1.2.i 192 46) = 0) then
        FX35_digits_b61 N SE l2 l4 q1.2
      else
        if (lsub (ladd (lmul 10 l2) (irem l4 256)) 48) ≤ 2147483647 then
          FX35_digits_b52 N SE (FX35_digits_b5 N SE n) (lsub (ladd (lmul 10 l2) (irem l4 256)) 48) q1.2
        else
          (FX35_fail 7 q1.2).bind fun q8 =>
          FX35_digits_b52 N SE (FX35_digits_b5 N SE n) (lsub (ladd (lmul 10 l2) (irem l4 256)) 48) q8.2
theorem SX35_digits_b5 {m b : Nat} {φ0 : Nat → Nat} {σo : fS} (hm : 1 ≤ m) (hb : 1 ≤ b) {N : Nat} {sE : Nat → Int32 → eH → Option (Unit × eH)} {SE : Int → fS → Option (Unit × fS)} {q : Int × fS} (hsE : ∀ {φ : Nat → Nat} {h : eH} {s : fS} {x1' : Int32} {x1 : Int} {q}, fC m 1 φ s φ h s → x1' = iI x1 → r32 x1 → SE x1 s = some q → gG m 1 φ s lU q (sE 192 x1' h)) : ∀ {n : Nat} {φ : Nat → Nat} {h : eH} {s : fS} {l2' : Int64} {l2 : Int} {l4' : Int32} {l4 : Int}, fC m b φ0 σo φ h s → l2' = iJ l2 → r64 l2 → l4' = iI l4 → r32 l4 → FX35_digits_b5 N SE n l2 l4 s = some q → gG m b φ0 σo lI q (fX35_digits_b5 N sE n 192 l2' l4' h) := by
  intro n
  induction n with
 | zero => intro φ h s l2' l2 l4' l4 R el2 rl2 el4 rl4 hF; simp [FX35_digits_b5] at hF
  | succ n ih =>
    intro φ h s l2' l2 l4' l4 R el2 rl2 el4 rl4 hF
    subst el2; subst el4
    rw [FX35_digits_b5] at hF
    rw [fX35_digits_b5]
    refine s_call R (Nat.zero_le _) (fun _ hq => SX35_isDigit (b := 0) hm (R.rf) rfl rl4 hq) hF (fun f1 rv1 h1 q1 R1 e1 E1 hF => ?_)
    refine s_if (i_eq e1.1 (c_lit 0 0 rfl) e1.2 ⟨by decide, by decide⟩) hF (fun c2 hF => ?_) (fun c2 hF => ?_)
    ·
      exact SX35_digits_b61 (N := N) (sE := sE) (SE := SE) hm @hsE R1 rfl rl2 rfl rl4 hF
    ·
      refine s_gI R1 (t_192 hm R1.S) (Nat.le_of_ble_eq_true rfl) rfl ?_
      refine s_if (not_congr (i_eq rfl (c_lit 0 0 rfl) (R1.ri (t_192 hm R1.S) (Nat.le_of_ble_eq_true rfl) rfl) ⟨by decide, by decide⟩)) hF (fun c4 hF => ?_) (fun c4 hF => ?_)
      ·
        exact SX35_digits_b61 (N := N) (sE := sE) (SE := SE) hm @hsE R1 rfl rl2 rfl rl4 hF
      ·
        refine s_if (lg_le.trans (j_le (d_sub (d_add (d_mul (d_lit 10 10 rfl) rfl) (c_2l (c_rem rfl (c_lit 256 256 rfl)) (rr_I _))) (d_lit 48 48 rfl)) (d_lit 2147483647 2147483647 rfl) (rr_J _) ⟨by decide, by decide⟩)) hF (fun c5 hF => ?_) (fun c5 hF => ?_)
        ·
          exact SX35_digits_b52 (N := N) (sE := sE) (SE := SE) (k5 := fX35_digits_b5 N sE n) (K5 := FX35_digits_b5 N SE n) hm hb @hsE @ih R1 (d_sub (d_add (d_mul (d_lit 10 10 rfl) rfl) (c_2l (c_rem rfl (c_lit 256 256 rfl)) (rr_I _))) (d_lit 48 48 rfl)) (rr_J _) hF
        ·
          refine s_kok R1 (t_192 hm R1.S) (Nat.le_of_ble_eq_true rfl) ?_
          refine s_call R1 (Nat.zero_le _) (fun _ hq => SX35_fail (b := 0) hm (R1.rf) (c_lit 7 7 rfl) ⟨by decide, by decide⟩ hq) hF (fun f7 rv7 h7 q8 R7 e7 E7 hF => ?_)
          exact SX35_digits_b52 (N := N) (sE := sE) (SE := SE) (k5 := fX35_digits_b5 N sE n) (K5 := FX35_digits_b5 N SE n) hm hb @hsE @ih R7 (d_sub (d_add (d_mul (d_lit 10 10 rfl) rfl) (c_2l (c_rem rfl (c_lit 256 256 rfl)) (rr_I _))) (d_lit 48 48 rfl)) (rr_J _) hF
def FX35_digits (N : Nat) (SE : Int → fS → Option (Unit × fS)) (p0 : Int) (s : fS) : Option (Int × fS) :=
  FX35_digits_b5 N SE N 0 p0 s
theorem SX35_digits {m b : Nat} {φ0 : Nat → Nat} {σo : fS} (hm : 1 ≤ m) (hb : 1 ≤ b) {N : Nat} {sE : Nat → Int32 → eH → Option (Unit × eH)} {SE : Int → fS → Option (Unit × fS)} {q : Int × fS} (hsE : ∀ {φ : Nat → Nat} {h : eH} {s : fS} {x1' : Int32} {x1 : Int} {q}, fC m 1 φ s φ h s → x1' = iI x1 → r32 x1 → SE x1 s = some q → gG m 1 φ s lU q (sE 192 x1' h)) {φ : Nat → Nat} {h : eH} {s : fS} {p0' : Int32} {p0 : Int} (R : fC m b φ0 σo φ h s) (ep0 : p0' = iI p0) (rp0 : r32 p0) (hF : FX35_digits N SE p0 s = some q) : gG m b φ0 σo lI q (fX35_digits N sE 192 p0' h) := by
  subst ep0
  unfold FX35_digits at hF
  unfold fX35_digits
  exact SX35_digits_b5 (N := N) (sE := sE) (SE := SE) hm hb @hsE R (d_lit 0 0 rfl) ⟨by decide, by decide⟩ rfl rp0 hF
def FX35_openGroup_b24 (N : Nat) : Nat → Int → Int → fS → Option (Unit × fS)
  | 0, _, _, _ => none
  | n + 1, l1, l2, s =>
    if 3812 ≤ l2 then
      (uPI s 192 21 (iadd (s.i 192 21) 1)).bind fun σ4 =>
      (uQI σ4 266 (σ4.i 192 21) l1).bind fun σ10 =>
      some ((), σ10)
    else
      (uRI s 265 (iadd (imul 3812 (s.i 192 21)) l2)).bind fun x20 =>
      (uQI s 265 (iadd (imul 3812 (iadd (s.i 192 21) 1)) l2) x20).bind fun σ22 =>
      FX35_openGroup_b24 N n l1 (iadd l2 1) σ22
theorem SX35_openGroup_b24 {m b : Nat} {φ0 : Nat → Nat} {σo : fS} (hm : 1 ≤ m) {N : Nat} {q : Unit × fS} : ∀ {n : Nat} {φ : Nat → Nat} {h : eH} {s : fS} {l1' : Int32} {l1 : Int} {l2' : Int32} {l2 : Int}, fC m b φ0 σo φ h s → l1' = iI l1 → r32 l1 → l2' = iI l2 → r32 l2 → FX35_openGroup_b24 N n l1 l2 s = some q → gG m b φ0 σo lU q (fX35_openGroup_b24 N n 192 l1' l2' h) := by
  intro n
  induction n with
 | zero => intro φ h s l1' l1 l2' l2 R el1 rl1 el2 rl2 hF; simp [FX35_openGroup_b24] at hF
  | succ n ih =>
    intro φ h s l1' l1 l2' l2 R el1 rl1 el2 rl2 hF
    subst el1; subst el2
    rw [FX35_openGroup_b24] at hF
    rw [fX35_openGroup_b24]
    refine s_if (i_le (c_lit 3812 3812 rfl) rfl ⟨by decide, by decide⟩ rl2) hF (fun c1 hF => ?_) (fun c1 hF => ?_)
    ·
      refine s_gI R (t_192 hm R.S) (Nat.le_of_ble_eq_true rfl) rfl ?_
      refine s_pI R (t_192 hm R.S) (Nat.le_of_ble_eq_true rfl) rfl (c_add rfl (c_lit 1 1 rfl)) (rr_I _) hF (fun h3 σ4 R3 T3 hF => ?_)
      refine s_gAs R3 (t_192 hm R3.S) (Nat.le_of_ble_eq_true rfl) rfl (o_192_23 hm R3.S) (a_266 hm R3) ?_
      refine s_gI R3 (t_192 hm R3.S) (Nat.le_of_ble_eq_true rfl) rfl ?_
      refine s_qI R3 (u_266 hm R3.S).1 (u_266 hm R3.S).2 (by decide) (a_266 hm R3) rfl (R3.ri (t_192 hm R3.S) (Nat.le_of_ble_eq_true rfl) rfl) rfl rl1 hF (fun h6 σ10 R6 T6 hF => ?_)
      exact g_ret R6 hF trivial
    ·
      refine s_gAs R (t_192 hm R.S) (Nat.le_of_ble_eq_true rfl) rfl (o_192_22 hm R.S) (a_265 hm R) ?_
      refine s_gI R (t_192 hm R.S) (Nat.le_of_ble_eq_true rfl) rfl ?_
      refine s_gAs R (t_192 hm R.S) (Nat.le_of_ble_eq_true rfl) rfl (o_192_22 hm R.S) (a_265 hm R) ?_
      refine s_gI R (t_192 hm R.S) (Nat.le_of_ble_eq_true rfl) rfl ?_
      refine s_rI R (u_265 hm R.S).1 (u_265 hm R.S).2 (by decide) (a_265 hm R) (c_add (c_mul (c_lit 3812 3812 rfl) rfl) rfl) (rr_I _) hF (fun x20 ra11 hF => ?_)
      refine s_qI R (u_265 hm R.S).1 (u_265 hm R.S).2 (by decide) (a_265 hm R) (c_add (c_mul (c_lit 3812 3812 rfl) (c_add rfl (c_lit 1 1 rfl))) rfl) (rr_I _) rfl ra11 hF (fun h12 σ22 R12 T12 hF => ?_)
      exact ih R12 rfl rl1 (c_add rfl (c_lit 1 1 rfl)) (rr_I _) hF
def FX35_openGroup_b14 (N : Nat) (l1 : Int) (s : fS) : Option (Unit × fS) :=
  if (s.i 192 46) ≤ 0 then
    FX35_openGroup_b24 N N l1 0 s
  else
    some ((), s)
theorem SX35_openGroup_b14 {m b : Nat} {φ0 : Nat → Nat} {σo : fS} (hm : 1 ≤ m) {N : Nat} {q : Unit × fS} {φ : Nat → Nat} {h : eH} {s : fS} {l1' : Int32} {l1 : Int} (R : fC m b φ0 σo φ h s) (el1 : l1' = iI l1) (rl1 : r32 l1) (hF : FX35_openGroup_b14 N l1 s = some q) : gG m b φ0 σo lU q (fX35_openGroup_b14 N 192 l1' h) := by
  subst el1
  unfold FX35_openGroup_b14 at hF
  unfold fX35_openGroup_b14
  refine s_gI R (t_192 hm R.S) (Nat.le_of_ble_eq_true rfl) rfl ?_
  refine s_if (i_le rfl (c_lit 0 0 rfl) (R.ri (t_192 hm R.S) (Nat.le_of_ble_eq_true rfl) rfl) ⟨by decide, by decide⟩) hF (fun c2 hF => ?_) (fun c2 hF => ?_)
  ·
    exact SX35_openGroup_b24 (N := N) hm R rfl rl1 (c_lit 0 0 rfl) ⟨by decide, by decide⟩ hF
  ·
    exact g_ret R hF trivial
def FX35_openGroup (N : Nat) (p0 : Int) (s : fS) : Option (Unit × fS) :=
  if ¬ ((s.i 192 21) = 100) then
    FX35_openGroup_b14 N p0 s
  else
    (FX35_fail 2 s).bind fun q5 =>
    FX35_openGroup_b14 N p0 q5.2
theorem SX35_openGroup {m b : Nat} {φ0 : Nat → Nat} {σo : fS} (hm : 1 ≤ m) {N : Nat} {q : Unit × fS} {φ : Nat → Nat} {h : eH} {s : fS} {p0' : Int32} {p0 : Int} (R : fC m b φ0 σo φ h s) (ep0 : p0' = iI p0) (rp0 : r32 p0) (hF : FX35_openGroup N p0 s = some q) : gG m b φ0 σo lU q (fX35_openGroup N 192 p0' h) := by
  subst ep0
  unfold FX35_openGroup at hF
  unfold fX35_openGroup
  refine s_gI R (t_192 hm R.S) (Nat.le_of_ble_eq_true rfl) rfl ?_
  refine s_if (not_congr (i_eq rfl (c_lit 100 100 rfl) (R.ri (t_192 hm R.S) (Nat.le_of_ble_eq_true rfl) rfl) ⟨by decide, by decide⟩)) hF (fun c2 hF => ?_) (fun c2 hF => ?_)
  ·
    exact SX35_openGroup_b14 (N := N) hm R rfl rp0 hF
  ·
    refine s_kok R (t_192 hm R.S) (Nat.le_of_ble_eq_true rfl) ?_
    refine s_call R (Nat.zero_le _) (fun _ hq => SX35_fail (b := 0) hm (R.rf) (c_lit 2 2 rfl) ⟨by decide, by decide⟩ hq) hF (fun f4 rv4 h4 q5 R4 e4 E4 hF => ?_)
    exact SX35_openGroup_b14 (N := N) hm R4 rfl rp0 hF
def FX35_space_b64 (N : Nat) (SL : Int → Int → Int → fS → Option (Int × fS)) (s1 : Int) (s2 : Int) (s3 : Int) (s4 : Int) (s : fS) : Option (Unit × fS) :=
  (FX35_glueItem N SL s1 s2 s3 s4 s).bind fun q2 =>
  some ((), q2.2)
theorem SX35_space_b64 {m b : Nat} {φ0 : Nat → Nat} {σo : fS} (hm : 1 ≤ m) (hb : 1 ≤ b) {N : Nat} {sL : Nat → Int32 → Int64 → Int64 → eH → Option (Int32 × eH)} {SL : Int → Int → Int → fS → Option (Int × fS)} {q : Unit × fS} (hsL : ∀ {φ : Nat → Nat} {h : eH} {s : fS} {x1' : Int32} {x1 : Int} {x2' : Int64} {x2 : Int} {x3' : Int64} {x3 : Int} {q}, fC m 1 φ s φ h s → x1' = iI x1 → r32 x1 → x2' = iJ x2 → r64 x2 → x3' = iJ x3 → r64 x3 → SL x1 x2 x3 s = some q → gG m 1 φ s lI q (sL 192 x1' x2' x3' h)) {φ : Nat → Nat} {h : eH} {s : fS} {s1' : Int32} {s1 : Int} {s2' : Int32} {s2 : Int} {s3' : Int32} {s3 : Int} {s4' : Int32} {s4 : Int} (R : fC m b φ0 σo φ h s) (es1 : s1' = iI s1) (rs1 : r32 s1) (es2 : s2' = iI s2) (rs2 : r32 s2) (es3 : s3' = iI s3) (rs3 : r32 s3) (es4 : s4' = iI s4) (rs4 : r32 s4) (hF : FX35_space_b64 N SL s1 s2 s3 s4 s = some q) : gG m b φ0 σo lU q (fX35_space_b64 N sL 192 s1' s2' s3' s4' h) := by
  subst es1; subst es2; subst es3; subst es4
  unfold FX35_space_b64 at hF
  unfold fX35_space_b64
  refine s_kok R (t_192 hm R.S) (Nat.le_of_ble_eq_true rfl) ?_
  refine s_call R hb (fun _ hq => SX35_glueItem (b := 1) (N := N) (sL := sL) (SL := SL) hm (Nat.le_of_ble_eq_true rfl) @hsL (R.rf) rfl rs1 rfl rs2 rfl rs3 rfl rs4 hq) hF (fun f2 rv2 h2 q2 R2 e2 E2 hF => ?_)
  exact g_ret R2 hF trivial
def FX35_space_b54 (N : Nat) (SL : Int → Int → Int → fS → Option (Int × fS)) (l3 : Int) (s1 : Int) (s2 : Int) (s : fS) : Option (Unit × fS) :=
  if 0 ≤ l3 then
    FX35_space_b64 N SL s1 s2 0 l3 s
  else
    FX35_space_b64 N SL s1 s2 0 0 s
theorem SX35_space_b54 {m b : Nat} {φ0 : Nat → Nat} {σo : fS} (hm : 1 ≤ m) (hb : 1 ≤ b) {N : Nat} {sL : Nat → Int32 → Int64 → Int64 → eH → Option (Int32 × eH)} {SL : Int → Int → Int → fS → Option (Int × fS)} {q : Unit × fS} (hsL : ∀ {φ : Nat → Nat} {h : eH} {s : fS} {x1' : Int32} {x1 : Int} {x2' : Int64} {x2 : Int} {x3' : Int64} {x3 : Int} {q}, fC m 1 φ s φ h s → x1' = iI x1 → r32 x1 → x2' = iJ x2 → r64 x2 → x3' = iJ x3 → r64 x3 → SL x1 x2 x3 s = some q → gG m 1 φ s lI q (sL 192 x1' x2' x3' h)) {φ : Nat → Nat} {h : eH} {s : fS} {l3' : Int32} {l3 : Int} {s1' : Int32} {s1 : Int} {s2' : Int32} {s2 : Int} (R : fC m b φ0 σo φ h s) (el3 : l3' = iI l3) (rl3 : r32 l3) (es1 : s1' = iI s1) (rs1 : r32 s1) (es2 : s2' = iI s2) (rs2 : r32 s2) (hF : FX35_space_b54 N SL l3 s1 s2 s = some q) : gG m b φ0 σo lU q (fX35_space_b54 N sL l3' 192 s1' s2' h) := by
  subst el3; subst es1; subst es2
  unfold FX35_space_b54 at hF
  unfold fX35_space_b54
  refine s_if (i_le (c_lit 0 0 rfl) rfl ⟨by decide, by decide⟩ rl3) hF (fun c1 hF => ?_) (fun c1 hF => ?_)
  ·
    exact SX35_space_b64 (N := N) (sL := sL) (SL := SL) hm hb @hsL R rfl rs1 rfl rs2 (c_lit 0 0 rfl) ⟨by decide, by decide⟩ rfl rl3 hF
  ·
    exact SX35_space_b64 (N := N) (sL := sL) (SL := SL) hm hb @hsL R rfl rs1 rfl rs2 (c_lit 0 0 rfl) ⟨by decide, by decide⟩ (c_lit 0 0 rfl) ⟨by decide, by decide⟩ hF
def FX35_space (N : Nat) (SL : Int → Int → Int → fS → Option (Int × fS)) (s : fS) : Option (Unit × fS) :=
  (FX35_isVertical s).bind fun q2 =>
  if q2.1 = 0 then
    (FX35_now 3811 q2.2).bind fun q5 =>
    if 0 ≤ q5.1 then
      (FX35_parameter N 3 q5.2).bind fun q8 =>
      (FX35_parameter N 4 q8.2).bind fun q10 =>
      (FX35_parameter N 2 q10.2).bind fun q12 =>
      if 0 ≤ q8.1 then
        FX35_space_b54 N SL q10.1 q12.1 q8.1 q12.2
      else
        FX35_space_b54 N SL q10.1 q12.1 0 q12.2
    else
      (FX35_fail 14 q5.2).bind fun q15 =>
      some ((), q15.2)
  else
    some ((), q2.2)
theorem SX35_space {m b : Nat} {φ0 : Nat → Nat} {σo : fS} (hm : 1 ≤ m) (hb : 1 ≤ b) {N : Nat} {sL : Nat → Int32 → Int64 → Int64 → eH → Option (Int32 × eH)} {SL : Int → Int → Int → fS → Option (Int × fS)} {q : Unit × fS} (hsL : ∀ {φ : Nat → Nat} {h : eH} {s : fS} {x1' : Int32} {x1 : Int} {x2' : Int64} {x2 : Int} {x3' : Int64} {x3 : Int} {q}, fC m 1 φ s φ h s → x1' = iI x1 → r32 x1 → x2' = iJ x2 → r64 x2 → x3' = iJ x3 → r64 x3 → SL x1 x2 x3 s = some q → gG m 1 φ s lI q (sL 192 x1' x2' x3' h)) {φ : Nat → Nat} {h : eH} {s : fS} (R : fC m b φ0 σo φ h s) (hF : FX35_space N SL s = some q) : gG m b φ0 σo lU q (fX35_space N sL 192 h) := by
  unfold FX35_space at hF
  unfold fX35_space
  refine s_kok R (t_192 hm R.S) (Nat.le_of_ble_eq_true rfl) ?_
  refine s_call R (Nat.zero_le _) (fun _ hq => SX35_isVertical (b := 0) hm (R.rf) hq) hF (fun f2 rv2 h2 q2 R2 e2 E2 hF => ?_)
  refine s_if (i_eq e2.1 (c_lit 0 0 rfl) e2.2 ⟨by decide, by decide⟩) hF (fun c3 hF => ?_) (fun c3 hF => ?_)
  ·
    refine s_kok R2 (t_192 hm R2.S) (Nat.le_of_ble_eq_true rfl) ?_
    refine s_call R2 (Nat.zero_le _) (fun _ hq => SX35_now (b := 0) hm (R2.rf) (c_lit 3811 3811 rfl) ⟨by decide, by decide⟩ hq) hF (fun f5 rv5 h5 q5 R5 e5 E5 hF => ?_)
    refine s_if (i_le (c_lit 0 0 rfl) e5.1 ⟨by decide, by decide⟩ e5.2) hF (fun c6 hF => ?_) (fun c6 hF => ?_)
    ·
      refine s_kok R5 (t_192 hm R5.S) (Nat.le_of_ble_eq_true rfl) ?_
      refine s_call R5 (Nat.zero_le _) (fun _ hq => SX35_parameter (b := 0) (N := N) hm (R5.rf) (c_lit 3 3 rfl) ⟨by decide, by decide⟩ hq) hF (fun f8 rv8 h8 q8 R8 e8 E8 hF => ?_)
      refine s_kok R8 (t_192 hm R8.S) (Nat.le_of_ble_eq_true rfl) ?_
      refine s_call R8 (Nat.zero_le _) (fun _ hq => SX35_parameter (b := 0) (N := N) hm (R8.rf) (c_lit 4 4 rfl) ⟨by decide, by decide⟩ hq) hF (fun f10 rv10 h10 q10 R10 e10 E10 hF => ?_)
      refine s_kok R10 (t_192 hm R10.S) (Nat.le_of_ble_eq_true rfl) ?_
      refine s_call R10 (Nat.zero_le _) (fun _ hq => SX35_parameter (b := 0) (N := N) hm (R10.rf) (c_lit 2 2 rfl) ⟨by decide, by decide⟩ hq) hF (fun f12 rv12 h12 q12 R12 e12 E12 hF => ?_)
      refine s_if (i_le (c_lit 0 0 rfl) e8.1 ⟨by decide, by decide⟩ e8.2) hF (fun c13 hF => ?_) (fun c13 hF => ?_)
      ·
        exact SX35_space_b54 (N := N) (sL := sL) (SL := SL) hm hb @hsL R12 e10.1 e10.2 e12.1 e12.2 e8.1 e8.2 hF
      ·
        exact SX35_space_b54 (N := N) (sL := sL) (SL := SL) hm hb @hsL R12 e10.1 e10.2 e12.1 e12.2 (c_lit 0 0 rfl) ⟨by decide, by decide⟩ hF
    ·
      refine s_kok R5 (t_192 hm R5.S) (Nat.le_of_ble_eq_true rfl) ?_
      refine s_call R5 (Nat.zero_le _) (fun _ hq => SX35_fail (b := 0) hm (R5.rf) (c_lit 14 14 rfl) ⟨by decide, by decide⟩ hq) hF (fun f15 rv15 h15 q15 R15 e15 E15 hF => ?_)
      exact g_ret R15 hF trivial
  ·
    exact g_ret R2 hF trivial
def FX35_doCharacter_b18 (N : Nat) (SL : Int → Int → Int → fS → Option (Int × fS)) (l1 : Int) (s : fS) : Option (Unit × fS) :=
  (FX35_character N SL (irem l1 256) s).bind fun q2 =>
  some ((), q2.2)
theorem SX35_doCharacter_b18 {m b : Nat} {φ0 : Nat → Nat} {σo : fS} (hm : 1 ≤ m) (hb : 1 ≤ b) {N : Nat} {sL : Nat → Int32 → Int64 → Int64 → eH → Option (Int32 × eH)} {SL : Int → Int → Int → fS → Option (Int × fS)} {q : Unit × fS} (hsL : ∀ {φ : Nat → Nat} {h : eH} {s : fS} {x1' : Int32} {x1 : Int} {x2' : Int64} {x2 : Int} {x3' : Int64} {x3 : Int} {q}, fC m 1 φ s φ h s → x1' = iI x1 → r32 x1 → x2' = iJ x2 → r64 x2 → x3' = iJ x3 → r64 x3 → SL x1 x2 x3 s = some q → gG m 1 φ s lI q (sL 192 x1' x2' x3' h)) {φ : Nat → Nat} {h : eH} {s : fS} {l1' : Int32} {l1 : Int} (R : fC m b φ0 σo φ h s) (el1 : l1' = iI l1) (rl1 : r32 l1) (hF : FX35_doCharacter_b18 N SL l1 s = some q) : gG m b φ0 σo lU q (fX35_doCharacter_b18 N sL 192 l1' h) := by
  subst el1
  unfold FX35_doCharacter_b18 at hF
  unfold fX35_doCharacter_b18
  refine s_kok R (t_192 hm R.S) (Nat.le_of_ble_eq_true rfl) ?_
  refine s_call R hb (fun _ hq => SX35_character (b := 1) (N := N) (sL := sL) (SL := SL) hm (Nat.le_of_ble_eq_true rfl) @hsL (R.rf) (c_rem rfl (c_lit 256 256 rfl)) (rr_I _) hq) hF (fun f2 rv2 h2 q2 R2 e2 E2 hF => ?_)
  exact g_ret R2 hF trivial
def FX35_doCharacter_b95 (N : Nat) (SL : Int → Int → Int → fS → Option (Int × fS)) (s : fS) : Option (Unit × fS) :=
  some ((), s)
theorem SX35_doCharacter_b95 {m b : Nat} {φ0 : Nat → Nat} {σo : fS} (hm : 1 ≤ m) {N : Nat} {sL : Nat → Int32 → Int64 → Int64 → eH → Option (Int32 × eH)} {SL : Int → Int → Int → fS → Option (Int × fS)} {q : Unit × fS} (hsL : ∀ {φ : Nat → Nat} {h : eH} {s : fS} {x1' : Int32} {x1 : Int} {x2' : Int64} {x2 : Int} {x3' : Int64} {x3 : Int} {q}, fC m 1 φ s φ h s → x1' = iI x1 → r32 x1 → x2' = iJ x2 → r64 x2 → x3' = iJ x3 → r64 x3 → SL x1 x2 x3 s = some q → gG m 1 φ s lI q (sL 192 x1' x2' x3' h)) {φ : Nat → Nat} {h : eH} {s : fS} (R : fC m b φ0 σo φ h s) (hF : FX35_doCharacter_b95 N SL s = some q) : gG m b φ0 σo lU q (fX35_doCharacter_b95 N sL h) := by
  unfold FX35_doCharacter_b95 at hF
  unfold fX35_doCharacter_b95
  exact g_ret R hF trivial
def FX35_doCharacter_b92 (N : Nat) (SL : Int → Int → Int → fS → Option (Int × fS)) (s1 : Int) (s : fS) : Option (Unit × fS) :=
  (FX35_fail s1 s).bind fun q2 =>
  FX35_doCharacter_b95 N SL q2.2
theorem SX35_doCharacter_b92 {m b : Nat} {φ0 : Nat → Nat} {σo : fS} (hm : 1 ≤ m) {N : Nat} {sL : Nat → Int32 → Int64 → Int64 → eH → Option (Int32 × eH)} {SL : Int → Int → Int → fS → Option (Int × fS)} {q : Unit × fS} (hsL : ∀ {φ : Nat → Nat} {h : eH} {s : fS} {x1' : Int32} {x1 : Int} {x2' : Int64} {x2 : Int} {x3' : Int64} {x3 : Int} {q}, fC m 1 φ s φ h s → x1' = iI x1 → r32 x1 → x2' = iJ x2 → r64 x2 → x3' = iJ x3 → r64 x3 → SL x1 x2 x3 s = some q → gG m 1 φ s lI q (sL 192 x1' x2' x3' h)) {φ : Nat → Nat} {h : eH} {s : fS} {s1' : Int32} {s1 : Int} (R : fC m b φ0 σo φ h s) (es1 : s1' = iI s1) (rs1 : r32 s1) (hF : FX35_doCharacter_b92 N SL s1 s = some q) : gG m b φ0 σo lU q (fX35_doCharacter_b92 N sL 192 s1' h) := by
  subst es1
  unfold FX35_doCharacter_b92 at hF
  unfold fX35_doCharacter_b92
  refine s_kok R (t_192 hm R.S) (Nat.le_of_ble_eq_true rfl) ?_
  refine s_call R (Nat.zero_le _) (fun _ hq => SX35_fail (b := 0) hm (R.rf) rfl rs1 hq) hF (fun f2 rv2 h2 q2 R2 e2 E2 hF => ?_)
  exact SX35_doCharacter_b95 (N := N) (sL := sL) (SL := SL) hm @hsL R2 hF
def FX35_doCharacter (N : Nat) (SL : Int → Int → Int → fS → Option (Int × fS)) (p0 : Int) (s : fS) : Option (Unit × fS) :=
  if (idiv p0 256) = 11 then
    FX35_doCharacter_b18 N SL p0 s
  else
    if ¬ ((idiv p0 256) = 12) then
      (FX35_endWord N s).bind fun q4 =>
      if (q4.2.i 192 46) ≤ 0 then
        if ¬ ((idiv p0 256) = 1) then
          if ¬ ((idiv p0 256) = 2) then
            if ¬ ((idiv p0 256) = 10) then
              if ¬ ((idiv p0 256) = 6) then
                FX35_doCharacter_b92 N SL 15 q4.2
              else
                FX35_doCharacter_b92 N SL 12 q4.2
            else
              (FX35_space N SL q4.2).bind fun q13 =>
              FX35_doCharacter_b95 N SL q13.2
          else
            (FX35_closeBrace N SL q4.2).bind fun q15 =>
            FX35_doCharacter_b95 N SL q15.2
        else
          (FX35_openGroup N 1 q4.2).bind fun q17 =>
          FX35_doCharacter_b95 N SL q17.2
      else
        some ((), q4.2)
    else
      FX35_doCharacter_b18 N SL p0 s
theorem SX35_doCharacter {m b : Nat} {φ0 : Nat → Nat} {σo : fS} (hm : 1 ≤ m) (hb : 1 ≤ b) {N : Nat} {sL : Nat → Int32 → Int64 → Int64 → eH → Option (Int32 × eH)} {SL : Int → Int → Int → fS → Option (Int × fS)} {q : Unit × fS} (hsL : ∀ {φ : Nat → Nat} {h : eH} {s : fS} {x1' : Int32} {x1 : Int} {x2' : Int64} {x2 : Int} {x3' : Int64} {x3 : Int} {q}, fC m 1 φ s φ h s → x1' = iI x1 → r32 x1 → x2' = iJ x2 → r64 x2 → x3' = iJ x3 → r64 x3 → SL x1 x2 x3 s = some q → gG m 1 φ s lI q (sL 192 x1' x2' x3' h)) {φ : Nat → Nat} {h : eH} {s : fS} {p0' : Int32} {p0 : Int} (R : fC m b φ0 σo φ h s) (ep0 : p0' = iI p0) (rp0 : r32 p0) (hF : FX35_doCharacter N SL p0 s = some q) : gG m b φ0 σo lU q (fX35_doCharacter N sL 192 p0' h) := by
  subst ep0
  unfold FX35_doCharacter at hF
  unfold fX35_doCharacter
  refine s_if (i_eq (c_div rfl (c_lit 256 256 rfl)) (c_lit 11 11 rfl) (rr_I _) ⟨by decide, by decide⟩) hF (fun c1 hF => ?_) (fun c1 hF => ?_)
  ·
    exact SX35_doCharacter_b18 (N := N) (sL := sL) (SL := SL) hm hb @hsL R rfl rp0 hF
  ·
    refine s_if (not_congr (i_eq (c_div rfl (c_lit 256 256 rfl)) (c_lit 12 12 rfl) (rr_I _) ⟨by decide, by decide⟩)) hF (fun c2 hF => ?_) (fun c2 hF => ?_)
    ·
      refine s_kok R (t_192 hm R.S) (Nat.le_of_ble_eq_true rfl) ?_
      refine s_call R hb (fun _ hq => SX35_endWord (b := 1) (N := N) hm (Nat.le_of_ble_eq_true rfl) (R.rf) hq) hF (fun f4 rv4 h4 q4 R4 e4 E4 hF => ?_)
      refine s_gI R4 (t_192 hm R4.S) (Nat.le_of_ble_eq_true rfl) rfl ?_
      refine s_if (i_le rfl (c_lit 0 0 rfl) (R4.ri (t_192 hm R4.S) (Nat.le_of_ble_eq_true rfl) rfl) ⟨by decide, by decide⟩) hF (fun c6 hF => ?_) (fun c6 hF => ?_)
      ·
        refine s_if (not_congr (i_eq (c_div rfl (c_lit 256 256 rfl)) (c_lit 1 1 rfl) (rr_I _) ⟨by decide, by decide⟩)) hF (fun c7 hF => ?_) (fun c7 hF => ?_)
        ·
          refine s_if (not_congr (i_eq (c_div rfl (c_lit 256 256 rfl)) (c_lit 2 2 rfl) (rr_I _) ⟨by decide, by decide⟩)) hF (fun c8 hF => ?_) (fun c8 hF => ?_)
          ·
            refine s_if (not_congr (i_eq (c_div rfl (c_lit 256 256 rfl)) (c_lit 10 10 rfl) (rr_I _) ⟨by decide, by decide⟩)) hF (fun c9 hF => ?_) (fun c9 hF => ?_)
            ·
              refine s_if (not_congr (i_eq (c_div rfl (c_lit 256 256 rfl)) (c_lit 6 6 rfl) (rr_I _) ⟨by decide, by decide⟩)) hF (fun c10 hF => ?_) (fun c10 hF => ?_)
              ·
                exact SX35_doCharacter_b92 (N := N) (sL := sL) (SL := SL) hm @hsL R4 (c_lit 15 15 rfl) ⟨by decide, by decide⟩ hF
              ·
                exact SX35_doCharacter_b92 (N := N) (sL := sL) (SL := SL) hm @hsL R4 (c_lit 12 12 rfl) ⟨by decide, by decide⟩ hF
            ·
              refine s_kok R4 (t_192 hm R4.S) (Nat.le_of_ble_eq_true rfl) ?_
              refine s_call R4 hb (fun _ hq => SX35_space (b := 1) (N := N) (sL := sL) (SL := SL) hm (Nat.le_of_ble_eq_true rfl) @hsL (R4.rf) hq) hF (fun f12 rv12 h12 q13 R12 e12 E12 hF => ?_)
              exact SX35_doCharacter_b95 (N := N) (sL := sL) (SL := SL) hm @hsL R12 hF
          ·
            refine s_kok R4 (t_192 hm R4.S) (Nat.le_of_ble_eq_true rfl) ?_
            refine s_call R4 hb (fun _ hq => SX35_closeBrace (b := 1) (N := N) (sL := sL) (SL := SL) hm (Nat.le_of_ble_eq_true rfl) @hsL (R4.rf) hq) hF (fun f14 rv14 h14 q15 R14 e14 E14 hF => ?_)
            exact SX35_doCharacter_b95 (N := N) (sL := sL) (SL := SL) hm @hsL R14 hF
        ·
          refine s_kok R4 (t_192 hm R4.S) (Nat.le_of_ble_eq_true rfl) ?_
          refine s_call R4 (Nat.zero_le _) (fun _ hq => SX35_openGroup (b := 0) (N := N) hm (R4.rf) (c_lit 1 1 rfl) ⟨by decide, by decide⟩ hq) hF (fun f16 rv16 h16 q17 R16 e16 E16 hF => ?_)
          exact SX35_doCharacter_b95 (N := N) (sL := sL) (SL := SL) hm @hsL R16 hF
      ·
        exact g_ret R4 hF trivial
    ·
      exact SX35_doCharacter_b18 (N := N) (sL := sL) (SL := SL) hm hb @hsL R rfl rp0 hF
def FX35_needSolid_b24 (N : Nat) (SE : Int → fS → Option (Unit × fS)) (K5 : Int → fS → Option (Int × fS)) (s : fS) : Option (Int × fS) :=
  (FX35_needExpanded N SE s).bind fun q2 =>
  K5 q2.1 q2.2
theorem SX35_needSolid_b24 {m b : Nat} {φ0 : Nat → Nat} {σo : fS} (hm : 1 ≤ m) (hb : 1 ≤ b) {N : Nat} {sE : Nat → Int32 → eH → Option (Unit × eH)} {SE : Int → fS → Option (Unit × fS)} {k5 : Nat → Int32 → eH → Option (Int32 × eH)} {K5 : Int → fS → Option (Int × fS)} {q : Int × fS} (hsE : ∀ {φ : Nat → Nat} {h : eH} {s : fS} {x1' : Int32} {x1 : Int} {q}, fC m 1 φ s φ h s → x1' = iI x1 → r32 x1 → SE x1 s = some q → gG m 1 φ s lU q (sE 192 x1' h)) (hk5 : ∀ {φ : Nat → Nat} {h : eH} {s : fS} {l1' : Int32} {l1 : Int}, fC m b φ0 σo φ h s → l1' = iI l1 → r32 l1 → K5 l1 s = some q → gG m b φ0 σo lI q (k5 192 l1' h)) {φ : Nat → Nat} {h : eH} {s : fS} (R : fC m b φ0 σo φ h s) (hF : FX35_needSolid_b24 N SE K5 s = some q) : gG m b φ0 σo lI q (fX35_needSolid_b24 N sE k5 192 h) := by
  unfold FX35_needSolid_b24 at hF
  unfold fX35_needSolid_b24
  refine s_kok R (t_192 hm R.S) (Nat.le_of_ble_eq_true rfl) ?_
  refine s_call R hb (fun _ hq => SX35_needExpanded (b := 1) (N := N) (sE := sE) (SE := SE) hm (Nat.le_of_ble_eq_true rfl) @hsE (R.rf) hq) hF (fun f2 rv2 h2 q2 R2 e2 E2 hF => ?_)
  exact hk5 R2 e2.1 e2.2 hF
def FX35_needSolid_b5 (N : Nat) (SE : Int → fS → Option (Unit × fS)) : Nat → Int → fS → Option (Int × fS)
  | 0, _, _ => none
  | n + 1, l1, s =>
    (FX35_isOf l1 10 s).bind fun q1 =>
    if ¬ (q1.1 = 0) then
      FX35_needSolid_b24 N SE (FX35_needSolid_b5 N SE n) q1.2
    else
      (FX35_means l1 22 q1.2).bind fun q4 =>
      if q4.1 = 0 then
        some (l1, q4.2)
      else
        FX35_needSolid_b24 N SE (FX35_needSolid_b5 N SE n) q4.2
theorem SX35_needSolid_b5 {m b : Nat} {φ0 : Nat → Nat} {σo : fS} (hm : 1 ≤ m) (hb : 1 ≤ b) {N : Nat} {sE : Nat → Int32 → eH → Option (Unit × eH)} {SE : Int → fS → Option (Unit × fS)} {q : Int × fS} (hsE : ∀ {φ : Nat → Nat} {h : eH} {s : fS} {x1' : Int32} {x1 : Int} {q}, fC m 1 φ s φ h s → x1' = iI x1 → r32 x1 → SE x1 s = some q → gG m 1 φ s lU q (sE 192 x1' h)) : ∀ {n : Nat} {φ : Nat → Nat} {h : eH} {s : fS} {l1' : Int32} {l1 : Int}, fC m b φ0 σo φ h s → l1' = iI l1 → r32 l1 → FX35_needSolid_b5 N SE n l1 s = some q → gG m b φ0 σo lI q (fX35_needSolid_b5 N sE n 192 l1' h) := by
  intro n
  induction n with
 | zero => intro φ h s l1' l1 R el1 rl1 hF; simp [FX35_needSolid_b5] at hF
  | succ n ih =>
    intro φ h s l1' l1 R el1 rl1 hF
    subst el1
    rw [FX35_needSolid_b5] at hF
    rw [fX35_needSolid_b5]
    refine s_call R (Nat.zero_le _) (fun _ hq => SX35_isOf (b := 0) hm (R.rf) rfl rl1 (c_lit 10 10 rfl) ⟨by decide, by decide⟩ hq) hF (fun f1 rv1 h1 q1 R1 e1 E1 hF => ?_)
    refine s_if (not_congr (i_eq e1.1 (c_lit 0 0 rfl) e1.2 ⟨by decide, by decide⟩)) hF (fun c2 hF => ?_) (fun c2 hF => ?_)
    ·
      exact SX35_needSolid_b24 (N := N) (sE := sE) (SE := SE) (k5 := fX35_needSolid_b5 N sE n) (K5 := FX35_needSolid_b5 N SE n) hm hb @hsE @ih R1 hF
    ·
      refine s_kok R1 (t_192 hm R1.S) (Nat.le_of_ble_eq_true rfl) ?_
      refine s_call R1 (Nat.zero_le _) (fun _ hq => SX35_means (b := 0) hm (R1.rf) rfl rl1 (c_lit 22 22 rfl) ⟨by decide, by decide⟩ hq) hF (fun f4 rv4 h4 q4 R4 e4 E4 hF => ?_)
      refine s_if (i_eq e4.1 (c_lit 0 0 rfl) e4.2 ⟨by decide, by decide⟩) hF (fun c5 hF => ?_) (fun c5 hF => ?_)
      ·
        exact g_ret R4 hF ⟨rfl, rl1⟩
      ·
        exact SX35_needSolid_b24 (N := N) (sE := sE) (SE := SE) (k5 := fX35_needSolid_b5 N sE n) (K5 := FX35_needSolid_b5 N SE n) hm hb @hsE @ih R4 hF
def FX35_needSolid (N : Nat) (SE : Int → fS → Option (Unit × fS)) (s : fS) : Option (Int × fS) :=
  (FX35_needExpanded N SE s).bind fun q2 =>
  FX35_needSolid_b5 N SE N q2.1 q2.2
theorem SX35_needSolid {m b : Nat} {φ0 : Nat → Nat} {σo : fS} (hm : 1 ≤ m) (hb : 1 ≤ b) {N : Nat} {sE : Nat → Int32 → eH → Option (Unit × eH)} {SE : Int → fS → Option (Unit × fS)} {q : Int × fS} (hsE : ∀ {φ : Nat → Nat} {h : eH} {s : fS} {x1' : Int32} {x1 : Int} {q}, fC m 1 φ s φ h s → x1' = iI x1 → r32 x1 → SE x1 s = some q → gG m 1 φ s lU q (sE 192 x1' h)) {φ : Nat → Nat} {h : eH} {s : fS} (R : fC m b φ0 σo φ h s) (hF : FX35_needSolid N SE s = some q) : gG m b φ0 σo lI q (fX35_needSolid N sE 192 h) := by
  unfold FX35_needSolid at hF
  unfold fX35_needSolid
  refine s_kok R (t_192 hm R.S) (Nat.le_of_ble_eq_true rfl) ?_
  refine s_call R hb (fun _ hq => SX35_needExpanded (b := 1) (N := N) (sE := sE) (SE := SE) hm (Nat.le_of_ble_eq_true rfl) @hsE (R.rf) hq) hF (fun f2 rv2 h2 q2 R2 e2 E2 hF => ?_)
  exact SX35_needSolid_b5 (N := N) (sE := sE) (SE := SE) hm hb @hsE R2 e2.1 e2.2 hF
def FX35_openBox_b200 (N : Nat) (SE : Int → fS → Option (Unit × fS)) (SN : fS → Option (Int × fS)) (s1 : Int) (s : fS) : Option (Unit × fS) :=
  (FX35_openList s1 s).bind fun q2 =>
  some ((), q2.2)
theorem SX35_openBox_b200 {m b : Nat} {φ0 : Nat → Nat} {σo : fS} (hm : 1 ≤ m) {N : Nat} {sE : Nat → Int32 → eH → Option (Unit × eH)} {SE : Int → fS → Option (Unit × fS)} {sN : Nat → eH → Option (Int32 × eH)} {SN : fS → Option (Int × fS)} {q : Unit × fS} (hsE : ∀ {φ : Nat → Nat} {h : eH} {s : fS} {x1' : Int32} {x1 : Int} {q}, fC m 1 φ s φ h s → x1' = iI x1 → r32 x1 → SE x1 s = some q → gG m 1 φ s lU q (sE 192 x1' h)) (hsN : ∀ {φ : Nat → Nat} {h : eH} {s : fS} {q}, fC m 1 φ s φ h s → SN s = some q → gG m 1 φ s lI q (sN 192 h)) {φ : Nat → Nat} {h : eH} {s : fS} {s1' : Int32} {s1 : Int} (R : fC m b φ0 σo φ h s) (es1 : s1' = iI s1) (rs1 : r32 s1) (hF : FX35_openBox_b200 N SE SN s1 s = some q) : gG m b φ0 σo lU q (fX35_openBox_b200 N sE sN 192 s1' h) := by
  subst es1
  unfold FX35_openBox_b200 at hF
  unfold fX35_openBox_b200
  refine s_kok R (t_192 hm R.S) (Nat.le_of_ble_eq_true rfl) ?_
  refine s_call R (Nat.zero_le _) (fun _ hq => SX35_openList (b := 0) hm (R.rf) rfl rs1 hq) hF (fun f2 rv2 h2 q2 R2 e2 E2 hF => ?_)
  exact g_ret R2 hF trivial
def FX35_openBox_b114 (N : Nat) (SE : Int → fS → Option (Unit × fS)) (SN : fS → Option (Int × fS)) (l1 : Int) (l2 : Int) (l3 : Int) (l4 : Int) (l5 : Int) (l6 : Int) (s : fS) : Option (Unit × fS) :=
  (FX35_openGroup N 3 s).bind fun q2 =>
  if (q2.2.i 192 46) ≤ 0 then
    (uQI q2.2 267 (q2.2.i 192 21) (iand l1 1)).bind fun σ10 =>
    (uQI σ10 268 (σ10.i 192 21) l5).bind fun σ16 =>
    (uQI σ16 269 (σ16.i 192 21) l6).bind fun σ22 =>
    (uQI σ22 270 (σ22.i 192 21) l2).bind fun σ28 =>
    (uQI σ28 271 (σ28.i 192 21) l3).bind fun σ34 =>
    (uQI σ34 272 (σ34.i 192 21) (iand l4 1)).bind fun σ40 =>
    if l1 = 0 then
      FX35_openBox_b200 N SE SN 3 σ40
    else
      FX35_openBox_b200 N SE SN 1 σ40
  else
    some ((), q2.2)
theorem SX35_openBox_b114 {m b : Nat} {φ0 : Nat → Nat} {σo : fS} (hm : 1 ≤ m) {N : Nat} {sE : Nat → Int32 → eH → Option (Unit × eH)} {SE : Int → fS → Option (Unit × fS)} {sN : Nat → eH → Option (Int32 × eH)} {SN : fS → Option (Int × fS)} {q : Unit × fS} (hsE : ∀ {φ : Nat → Nat} {h : eH} {s : fS} {x1' : Int32} {x1 : Int} {q}, fC m 1 φ s φ h s → x1' = iI x1 → r32 x1 → SE x1 s = some q → gG m 1 φ s lU q (sE 192 x1' h)) (hsN : ∀ {φ : Nat → Nat} {h : eH} {s : fS} {q}, fC m 1 φ s φ h s → SN s = some q → gG m 1 φ s lI q (sN 192 h)) {φ : Nat → Nat} {h : eH} {s : fS} {l1' : Int32} {l1 : Int} {l2' : Int32} {l2 : Int} {l3' : Int32} {l3 : Int} {l4' : Int32} {l4 : Int} {l5' : Int32} {l5 : Int} {l6' : Int32} {l6 : Int} (R : fC m b φ0 σo φ h s) (el1 : l1' = iI l1) (rl1 : r32 l1) (el2 : l2' = iI l2) (rl2 : r32 l2) (el3 : l3' = iI l3) (rl3 : r32 l3) (el4 : l4' = iI l4) (rl4 : r32 l4) (el5 : l5' = iI l5) (rl5 : r32 l5) (el6 : l6' = iI l6) (rl6 : r32 l6) (hF : FX35_openBox_b114 N SE SN l1 l2 l3 l4 l5 l6 s = some q) : gG m b φ0 σo lU q (fX35_openBox_b114 N sE sN 192 l1' l2' l3' l4' l5' l6' h) := by
  subst el1; subst el2; subst el3; subst el4; subst el5; subst el6
  unfold FX35_openBox_b114 at hF
  unfold fX35_openBox_b114
  refine s_kok R (t_192 hm R.S) (Nat.le_of_ble_eq_true rfl) ?_
  refine s_call R (Nat.zero_le _) (fun _ hq => SX35_openGroup (b := 0) (N := N) hm (R.rf) (c_lit 3 3 rfl) ⟨by decide, by decide⟩ hq) hF (fun f2 rv2 h2 q2 R2 e2 E2 hF => ?_)
  refine s_gI R2 (t_192 hm R2.S) (Nat.le_of_ble_eq_true rfl) rfl ?_
  refine s_if (i_le rfl (c_lit 0 0 rfl) (R2.ri (t_192 hm R2.S) (Nat.le_of_ble_eq_true rfl) rfl) ⟨by decide, by decide⟩) hF (fun c4 hF => ?_) (fun c4 hF => ?_)
  ·
    refine s_gAs R2 (t_192 hm R2.S) (Nat.le_of_ble_eq_true rfl) rfl (o_192_24 hm R2.S) (a_267 hm R2) ?_
    refine s_gI R2 (t_192 hm R2.S) (Nat.le_of_ble_eq_true rfl) rfl ?_
    refine s_qI R2 (u_267 hm R2.S).1 (u_267 hm R2.S).2 (by decide) (a_267 hm R2) rfl (R2.ri (t_192 hm R2.S) (Nat.le_of_ble_eq_true rfl) rfl) (c_and rfl (c_lit 1 1 rfl)) (rr_I _) hF (fun h7 σ10 R7 T7 hF => ?_)
    refine s_gAs R7 (t_192 hm R7.S) (Nat.le_of_ble_eq_true rfl) rfl (o_192_25 hm R7.S) (a_268 hm R7) ?_
    refine s_gI R7 (t_192 hm R7.S) (Nat.le_of_ble_eq_true rfl) rfl ?_
    refine s_qI R7 (u_268 hm R7.S).1 (u_268 hm R7.S).2 (by decide) (a_268 hm R7) rfl (R7.ri (t_192 hm R7.S) (Nat.le_of_ble_eq_true rfl) rfl) rfl rl5 hF (fun h10 σ16 R10 T10 hF => ?_)
    refine s_gAs R10 (t_192 hm R10.S) (Nat.le_of_ble_eq_true rfl) rfl (o_192_26 hm R10.S) (a_269 hm R10) ?_
    refine s_gI R10 (t_192 hm R10.S) (Nat.le_of_ble_eq_true rfl) rfl ?_
    refine s_qI R10 (u_269 hm R10.S).1 (u_269 hm R10.S).2 (by decide) (a_269 hm R10) rfl (R10.ri (t_192 hm R10.S) (Nat.le_of_ble_eq_true rfl) rfl) rfl rl6 hF (fun h13 σ22 R13 T13 hF => ?_)
    refine s_gAs R13 (t_192 hm R13.S) (Nat.le_of_ble_eq_true rfl) rfl (o_192_27 hm R13.S) (a_270 hm R13) ?_
    refine s_gI R13 (t_192 hm R13.S) (Nat.le_of_ble_eq_true rfl) rfl ?_
    refine s_qI R13 (u_270 hm R13.S).1 (u_270 hm R13.S).2 (by decide) (a_270 hm R13) rfl (R13.ri (t_192 hm R13.S) (Nat.le_of_ble_eq_true rfl) rfl) rfl rl2 hF (fun h16 σ28 R16 T16 hF => ?_)
    refine s_gAs R16 (t_192 hm R16.S) (Nat.le_of_ble_eq_true rfl) rfl (o_192_28 hm R16.S) (a_271 hm R16) ?_
    refine s_gI R16 (t_192 hm R16.S) (Nat.le_of_ble_eq_true rfl) rfl ?_
    refine s_qI R16 (u_271 hm R16.S).1 (u_271 hm R16.S).2 (by decide) (a_271 hm R16) rfl (R16.ri (t_192 hm R16.S) (Nat.le_of_ble_eq_true rfl) rfl) rfl rl3 hF (fun h19 σ34 R19 T19 hF => ?_)
    refine s_gAs R19 (t_192 hm R19.S) (Nat.le_of_ble_eq_true rfl) rfl (o_192_29 hm R19.S) (a_272 hm R19) ?_
    refine s_gI R19 (t_192 hm R19.S) (Nat.le_of_ble_eq_true rfl) rfl ?_
    refine s_qI R19 (u_272 hm R19.S).1 (u_272 hm R19.S).2 (by decide) (a_272 hm R19) rfl (R19.ri (t_192 hm R19.S) (Nat.le_of_ble_eq_true rfl) rfl) (c_and rfl (c_lit 1 1 rfl)) (rr_I _) hF (fun h22 σ40 R22 T22 hF => ?_)
    refine s_if (i_eq rfl (c_lit 0 0 rfl) rl1 ⟨by decide, by decide⟩) hF (fun c23 hF => ?_) (fun c23 hF => ?_)
    ·
      exact SX35_openBox_b200 (N := N) (sE := sE) (SE := SE) (sN := sN) (SN := SN) hm @hsE @hsN R22 (c_lit 3 3 rfl) ⟨by decide, by decide⟩ hF
    ·
      exact SX35_openBox_b200 (N := N) (sE := sE) (SE := SE) (sN := sN) (SN := SN) hm @hsE @hsN R22 (c_lit 1 1 rfl) ⟨by decide, by decide⟩ hF
  ·
    exact g_ret R2 hF trivial
def FX35_openBox_b108 (N : Nat) (SE : Int → fS → Option (Unit × fS)) (SN : fS → Option (Int × fS)) (l1 : Int) (l2 : Int) (l3 : Int) (l4 : Int) (l5 : Int) (l6 : Int) (s : fS) : Option (Unit × fS) :=
  (FX35_fail 6 s).bind fun q2 =>
  FX35_openBox_b114 N SE SN l1 l2 l3 l4 l5 l6 q2.2
theorem SX35_openBox_b108 {m b : Nat} {φ0 : Nat → Nat} {σo : fS} (hm : 1 ≤ m) {N : Nat} {sE : Nat → Int32 → eH → Option (Unit × eH)} {SE : Int → fS → Option (Unit × fS)} {sN : Nat → eH → Option (Int32 × eH)} {SN : fS → Option (Int × fS)} {q : Unit × fS} (hsE : ∀ {φ : Nat → Nat} {h : eH} {s : fS} {x1' : Int32} {x1 : Int} {q}, fC m 1 φ s φ h s → x1' = iI x1 → r32 x1 → SE x1 s = some q → gG m 1 φ s lU q (sE 192 x1' h)) (hsN : ∀ {φ : Nat → Nat} {h : eH} {s : fS} {q}, fC m 1 φ s φ h s → SN s = some q → gG m 1 φ s lI q (sN 192 h)) {φ : Nat → Nat} {h : eH} {s : fS} {l1' : Int32} {l1 : Int} {l2' : Int32} {l2 : Int} {l3' : Int32} {l3 : Int} {l4' : Int32} {l4 : Int} {l5' : Int32} {l5 : Int} {l6' : Int32} {l6 : Int} (R : fC m b φ0 σo φ h s) (el1 : l1' = iI l1) (rl1 : r32 l1) (el2 : l2' = iI l2) (rl2 : r32 l2) (el3 : l3' = iI l3) (rl3 : r32 l3) (el4 : l4' = iI l4) (rl4 : r32 l4) (el5 : l5' = iI l5) (rl5 : r32 l5) (el6 : l6' = iI l6) (rl6 : r32 l6) (hF : FX35_openBox_b108 N SE SN l1 l2 l3 l4 l5 l6 s = some q) : gG m b φ0 σo lU q (fX35_openBox_b108 N sE sN 192 l1' l2' l3' l4' l5' l6' h) := by
  subst el1; subst el2; subst el3; subst el4; subst el5; subst el6
  unfold FX35_openBox_b108 at hF
  unfold fX35_openBox_b108
  refine s_kok R (t_192 hm R.S) (Nat.le_of_ble_eq_true rfl) ?_
  refine s_call R (Nat.zero_le _) (fun _ hq => SX35_fail (b := 0) hm (R.rf) (c_lit 6 6 rfl) ⟨by decide, by decide⟩ hq) hF (fun f2 rv2 h2 q2 R2 e2 E2 hF => ?_)
  exact SX35_openBox_b114 (N := N) (sE := sE) (SE := SE) (sN := sN) (SN := SN) hm @hsE @hsN R2 rfl rl1 rfl rl2 rfl rl3 rfl rl4 rfl rl5 rfl rl6 hF
def FX35_openBox_b51 (N : Nat) (SE : Int → fS → Option (Unit × fS)) (SN : fS → Option (Int × fS)) (l1 : Int) (l2 : Int) (l3 : Int) (l4 : Int) (l5 : Int) (s0 : Int) (s : fS) : Option (Unit × fS) :=
  (FX35_needSolid N SE s).bind fun q2 =>
  if ¬ ((q2.2.i 192 46) = 0) then
    FX35_openBox_b114 N SE SN l1 l2 l3 l4 l5 s0 q2.2
  else
    (FX35_meaning q2.1 q2.2).bind fun q7 =>
    if q7.1 < 2000000 then
      FX35_openBox_b108 N SE SN l1 l2 l3 l4 l5 s0 q7.2
    else
      (FX35_meaning q2.1 q7.2).bind fun q10 =>
      if 3000000 ≤ q10.1 then
        FX35_openBox_b108 N SE SN l1 l2 l3 l4 l5 s0 q10.2
      else
        (FX35_meaning q2.1 q10.2).bind fun q13 =>
        if (idiv (isub q13.1 2000000) 256) = 1 then
          FX35_openBox_b114 N SE SN l1 l2 l3 l4 l5 s0 q13.2
        else
          FX35_openBox_b108 N SE SN l1 l2 l3 l4 l5 s0 q13.2
theorem SX35_openBox_b51 {m b : Nat} {φ0 : Nat → Nat} {σo : fS} (hm : 1 ≤ m) (hb : 1 ≤ b) {N : Nat} {sE : Nat → Int32 → eH → Option (Unit × eH)} {SE : Int → fS → Option (Unit × fS)} {sN : Nat → eH → Option (Int32 × eH)} {SN : fS → Option (Int × fS)} {q : Unit × fS} (hsE : ∀ {φ : Nat → Nat} {h : eH} {s : fS} {x1' : Int32} {x1 : Int} {q}, fC m 1 φ s φ h s → x1' = iI x1 → r32 x1 → SE x1 s = some q → gG m 1 φ s lU q (sE 192 x1' h)) (hsN : ∀ {φ : Nat → Nat} {h : eH} {s : fS} {q}, fC m 1 φ s φ h s → SN s = some q → gG m 1 φ s lI q (sN 192 h)) {φ : Nat → Nat} {h : eH} {s : fS} {l1' : Int32} {l1 : Int} {l2' : Int32} {l2 : Int} {l3' : Int32} {l3 : Int} {l4' : Int32} {l4 : Int} {l5' : Int32} {l5 : Int} {s0' : Int32} {s0 : Int} (R : fC m b φ0 σo φ h s) (el1 : l1' = iI l1) (rl1 : r32 l1) (el2 : l2' = iI l2) (rl2 : r32 l2) (el3 : l3' = iI l3) (rl3 : r32 l3) (el4 : l4' = iI l4) (rl4 : r32 l4) (el5 : l5' = iI l5) (rl5 : r32 l5) (es0 : s0' = iI s0) (rs0 : r32 s0) (hF : FX35_openBox_b51 N SE SN l1 l2 l3 l4 l5 s0 s = some q) : gG m b φ0 σo lU q (fX35_openBox_b51 N sE sN 192 l1' l2' l3' l4' l5' s0' h) := by
  subst el1; subst el2; subst el3; subst el4; subst el5; subst es0
  unfold FX35_openBox_b51 at hF
  unfold fX35_openBox_b51
  refine s_kok R (t_192 hm R.S) (Nat.le_of_ble_eq_true rfl) ?_
  refine s_call R hb (fun _ hq => SX35_needSolid (b := 1) (N := N) (sE := sE) (SE := SE) hm (Nat.le_of_ble_eq_true rfl) @hsE (R.rf) hq) hF (fun f2 rv2 h2 q2 R2 e2 E2 hF => ?_)
  refine s_gI R2 (t_192 hm R2.S) (Nat.le_of_ble_eq_true rfl) rfl ?_
  refine s_if (not_congr (i_eq rfl (c_lit 0 0 rfl) (R2.ri (t_192 hm R2.S) (Nat.le_of_ble_eq_true rfl) rfl) ⟨by decide, by decide⟩)) hF (fun c4 hF => ?_) (fun c4 hF => ?_)
  ·
    exact SX35_openBox_b114 (N := N) (sE := sE) (SE := SE) (sN := sN) (SN := SN) hm @hsE @hsN R2 rfl rl1 rfl rl2 rfl rl3 rfl rl4 rfl rl5 rfl rs0 hF
  ·
    refine s_kok R2 (t_192 hm R2.S) (Nat.le_of_ble_eq_true rfl) ?_
    refine s_call R2 (Nat.zero_le _) (fun _ hq => SX35_meaning (b := 0) hm (R2.rf) e2.1 e2.2 hq) hF (fun f6 rv6 h6 q7 R6 e6 E6 hF => ?_)
    refine s_if (i_lt e6.1 (c_lit 2000000 2000000 rfl) e6.2 ⟨by decide, by decide⟩) hF (fun c7 hF => ?_) (fun c7 hF => ?_)
    ·
      exact SX35_openBox_b108 (N := N) (sE := sE) (SE := SE) (sN := sN) (SN := SN) hm @hsE @hsN R6 rfl rl1 rfl rl2 rfl rl3 rfl rl4 rfl rl5 rfl rs0 hF
    ·
      refine s_kok R6 (t_192 hm R6.S) (Nat.le_of_ble_eq_true rfl) ?_
      refine s_call R6 (Nat.zero_le _) (fun _ hq => SX35_meaning (b := 0) hm (R6.rf) e2.1 e2.2 hq) hF (fun f9 rv9 h9 q10 R9 e9 E9 hF => ?_)
      refine s_if (i_le (c_lit 3000000 3000000 rfl) e9.1 ⟨by decide, by decide⟩ e9.2) hF (fun c10 hF => ?_) (fun c10 hF => ?_)
      ·
        exact SX35_openBox_b108 (N := N) (sE := sE) (SE := SE) (sN := sN) (SN := SN) hm @hsE @hsN R9 rfl rl1 rfl rl2 rfl rl3 rfl rl4 rfl rl5 rfl rs0 hF
      ·
        refine s_kok R9 (t_192 hm R9.S) (Nat.le_of_ble_eq_true rfl) ?_
        refine s_call R9 (Nat.zero_le _) (fun _ hq => SX35_meaning (b := 0) hm (R9.rf) e2.1 e2.2 hq) hF (fun f12 rv12 h12 q13 R12 e12 E12 hF => ?_)
        refine s_if (i_eq (c_div (c_sub e12.1 (c_lit 2000000 2000000 rfl)) (c_lit 256 256 rfl)) (c_lit 1 1 rfl) (rr_I _) ⟨by decide, by decide⟩) hF (fun c13 hF => ?_) (fun c13 hF => ?_)
        ·
          exact SX35_openBox_b114 (N := N) (sE := sE) (SE := SE) (sN := sN) (SN := SN) hm @hsE @hsN R12 rfl rl1 rfl rl2 rfl rl3 rfl rl4 rfl rl5 rfl rs0 hF
        ·
          exact SX35_openBox_b108 (N := N) (sE := sE) (SE := SE) (sN := sN) (SN := SN) hm @hsE @hsN R12 rfl rl1 rfl rl2 rfl rl3 rfl rl4 rfl rl5 rfl rs0 hF
def FX35_openBox_b50 (N : Nat) (SE : Int → fS → Option (Unit × fS)) (SN : fS → Option (Int × fS)) (l1 : Int) (l2 : Int) (l3 : Int) (l4 : Int) (l5 : Int) (s : fS) : Option (Unit × fS) :=
  FX35_openBox_b51 N SE SN l1 l2 l3 l4 l5 0 s
theorem SX35_openBox_b50 {m b : Nat} {φ0 : Nat → Nat} {σo : fS} (hm : 1 ≤ m) (hb : 1 ≤ b) {N : Nat} {sE : Nat → Int32 → eH → Option (Unit × eH)} {SE : Int → fS → Option (Unit × fS)} {sN : Nat → eH → Option (Int32 × eH)} {SN : fS → Option (Int × fS)} {q : Unit × fS} (hsE : ∀ {φ : Nat → Nat} {h : eH} {s : fS} {x1' : Int32} {x1 : Int} {q}, fC m 1 φ s φ h s → x1' = iI x1 → r32 x1 → SE x1 s = some q → gG m 1 φ s lU q (sE 192 x1' h)) (hsN : ∀ {φ : Nat → Nat} {h : eH} {s : fS} {q}, fC m 1 φ s φ h s → SN s = some q → gG m 1 φ s lI q (sN 192 h)) {φ : Nat → Nat} {h : eH} {s : fS} {l1' : Int32} {l1 : Int} {l2' : Int32} {l2 : Int} {l3' : Int32} {l3 : Int} {l4' : Int32} {l4 : Int} {l5' : Int32} {l5 : Int} (R : fC m b φ0 σo φ h s) (el1 : l1' = iI l1) (rl1 : r32 l1) (el2 : l2' = iI l2) (rl2 : r32 l2) (el3 : l3' = iI l3) (rl3 : r32 l3) (el4 : l4' = iI l4) (rl4 : r32 l4) (el5 : l5' = iI l5) (rl5 : r32 l5) (hF : FX35_openBox_b50 N SE SN l1 l2 l3 l4 l5 s = some q) : gG m b φ0 σo lU q (fX35_openBox_b50 N sE sN 192 l1' l2' l3' l4' l5' h) := by
  subst el1; subst el2; subst el3; subst el4; subst el5
  unfold FX35_openBox_b50 at hF
  unfold fX35_openBox_b50
  exact SX35_openBox_b51 (N := N) (sE := sE) (SE := SE) (sN := sN) (SN := SN) hm hb @hsE @hsN R rfl rl1 rfl rl2 rfl rl3 rfl rl4 rfl rl5 (c_lit 0 0 rfl) ⟨by decide, by decide⟩ hF
def FX35_openBox_b29 (N : Nat) (SE : Int → fS → Option (Unit × fS)) (SN : fS → Option (Int × fS)) (l1 : Int) (l2 : Int) (l3 : Int) (l4 : Int) (s0 : Int) (s : fS) : Option (Unit × fS) :=
  if ¬ ((s.i 192 46) = 0) then
    FX35_openBox_b50 N SE SN l1 l2 l3 l4 s0 s
  else
    if s0 ≤ 0 then
      FX35_openBox_b50 N SE SN l1 l2 l3 l4 s0 s
    else
      (FX35_dimension N SE SN s).bind fun q6 =>
      FX35_openBox_b51 N SE SN l1 l2 l3 l4 s0 q6.1 q6.2
theorem SX35_openBox_b29 {m b : Nat} {φ0 : Nat → Nat} {σo : fS} (hm : 1 ≤ m) (hb : 1 ≤ b) {N : Nat} {sE : Nat → Int32 → eH → Option (Unit × eH)} {SE : Int → fS → Option (Unit × fS)} {sN : Nat → eH → Option (Int32 × eH)} {SN : fS → Option (Int × fS)} {q : Unit × fS} (hsE : ∀ {φ : Nat → Nat} {h : eH} {s : fS} {x1' : Int32} {x1 : Int} {q}, fC m 1 φ s φ h s → x1' = iI x1 → r32 x1 → SE x1 s = some q → gG m 1 φ s lU q (sE 192 x1' h)) (hsN : ∀ {φ : Nat → Nat} {h : eH} {s : fS} {q}, fC m 1 φ s φ h s → SN s = some q → gG m 1 φ s lI q (sN 192 h)) {φ : Nat → Nat} {h : eH} {s : fS} {l1' : Int32} {l1 : Int} {l2' : Int32} {l2 : Int} {l3' : Int32} {l3 : Int} {l4' : Int32} {l4 : Int} {s0' : Int32} {s0 : Int} (R : fC m b φ0 σo φ h s) (el1 : l1' = iI l1) (rl1 : r32 l1) (el2 : l2' = iI l2) (rl2 : r32 l2) (el3 : l3' = iI l3) (rl3 : r32 l3) (el4 : l4' = iI l4) (rl4 : r32 l4) (es0 : s0' = iI s0) (rs0 : r32 s0) (hF : FX35_openBox_b29 N SE SN l1 l2 l3 l4 s0 s = some q) : gG m b φ0 σo lU q (fX35_openBox_b29 N sE sN 192 l1' l2' l3' l4' s0' h) := by
  subst el1; subst el2; subst el3; subst el4; subst es0
  unfold FX35_openBox_b29 at hF
  unfold fX35_openBox_b29
  refine s_gI R (t_192 hm R.S) (Nat.le_of_ble_eq_true rfl) rfl ?_
  refine s_if (not_congr (i_eq rfl (c_lit 0 0 rfl) (R.ri (t_192 hm R.S) (Nat.le_of_ble_eq_true rfl) rfl) ⟨by decide, by decide⟩)) hF (fun c2 hF => ?_) (fun c2 hF => ?_)
  ·
    exact SX35_openBox_b50 (N := N) (sE := sE) (SE := SE) (sN := sN) (SN := SN) hm hb @hsE @hsN R rfl rl1 rfl rl2 rfl rl3 rfl rl4 rfl rs0 hF
  ·
    refine s_if (i_le rfl (c_lit 0 0 rfl) rs0 ⟨by decide, by decide⟩) hF (fun c3 hF => ?_) (fun c3 hF => ?_)
    ·
      exact SX35_openBox_b50 (N := N) (sE := sE) (SE := SE) (sN := sN) (SN := SN) hm hb @hsE @hsN R rfl rl1 rfl rl2 rfl rl3 rfl rl4 rfl rs0 hF
    ·
      refine s_kok R (t_192 hm R.S) (Nat.le_of_ble_eq_true rfl) ?_
      refine s_call R hb (fun _ hq => SX35_dimension (b := 1) (N := N) (sE := sE) (SE := SE) (sN := sN) (SN := SN) hm (Nat.le_of_ble_eq_true rfl) @hsE @hsN (R.rf) hq) hF (fun f5 rv5 h5 q6 R5 e5 E5 hF => ?_)
      exact SX35_openBox_b51 (N := N) (sE := sE) (SE := SE) (sN := sN) (SN := SN) hm hb @hsE @hsN R5 rfl rl1 rfl rl2 rfl rl3 rfl rl4 rfl rs0 e5.1 e5.2 hF
def FX35_openBox (N : Nat) (SE : Int → fS → Option (Unit × fS)) (SN : fS → Option (Int × fS)) (p0 : Int) (p1 : Int) (p2 : Int) (p3 : Int) (s : fS) : Option (Unit × fS) :=
  (FX35_keyword N SE 1000000139 s).bind fun q2 =>
  if q2.1 = 0 then
    (FX35_keyword N SE 1000000140 q2.2).bind fun q5 =>
    if q5.1 = 0 then
      FX35_openBox_b29 N SE SN p0 p1 p2 p3 0 q5.2
    else
      FX35_openBox_b29 N SE SN p0 p1 p2 p3 2 q5.2
  else
    FX35_openBox_b29 N SE SN p0 p1 p2 p3 1 q2.2
theorem SX35_openBox {m b : Nat} {φ0 : Nat → Nat} {σo : fS} (hm : 1 ≤ m) (hb : 1 ≤ b) {N : Nat} {sE : Nat → Int32 → eH → Option (Unit × eH)} {SE : Int → fS → Option (Unit × fS)} {sN : Nat → eH → Option (Int32 × eH)} {SN : fS → Option (Int × fS)} {q : Unit × fS} (hsE : ∀ {φ : Nat → Nat} {h : eH} {s : fS} {x1' : Int32} {x1 : Int} {q}, fC m 1 φ s φ h s → x1' = iI x1 → r32 x1 → SE x1 s = some q → gG m 1 φ s lU q (sE 192 x1' h)) (hsN : ∀ {φ : Nat → Nat} {h : eH} {s : fS} {q}, fC m 1 φ s φ h s → SN s = some q → gG m 1 φ s lI q (sN 192 h)) {φ : Nat → Nat} {h : eH} {s : fS} {p0' : Int32} {p0 : Int} {p1' : Int32} {p1 : Int} {p2' : Int32} {p2 : Int} {p3' : Int32} {p3 : Int} (R : fC m b φ0 σo φ h s) (ep0 : p0' = iI p0) (rp0 : r32 p0) (ep1 : p1' = iI p1) (rp1 : r32 p1) (ep2 : p2' = iI p2) (rp2 : r32 p2) (ep3 : p3' = iI p3) (rp3 : r32 p3) (hF : FX35_openBox N SE SN p0 p1 p2 p3 s = some q) : gG m b φ0 σo lU q (fX35_openBox N sE sN 192 p0' p1' p2' p3' h) := by
  subst ep0; subst ep1; subst ep2; subst ep3
  unfold FX35_openBox at hF
  unfold fX35_openBox
  refine s_kok R (t_192 hm R.S) (Nat.le_of_ble_eq_true rfl) ?_
  refine s_call R hb (fun _ hq => SX35_keyword (b := 1) (N := N) (sE := sE) (SE := SE) hm (Nat.le_of_ble_eq_true rfl) @hsE (R.rf) hq) hF (fun f2 rv2 h2 q2 R2 e2 E2 hF => ?_)
  refine s_if (i_eq e2.1 (c_lit 0 0 rfl) e2.2 ⟨by decide, by decide⟩) hF (fun c3 hF => ?_) (fun c3 hF => ?_)
  ·
    refine s_kok R2 (t_192 hm R2.S) (Nat.le_of_ble_eq_true rfl) ?_
    refine s_call R2 hb (fun _ hq => SX35_keyword (b := 1) (N := N) (sE := sE) (SE := SE) hm (Nat.le_of_ble_eq_true rfl) @hsE (R2.rf) hq) hF (fun f5 rv5 h5 q5 R5 e5 E5 hF => ?_)
    refine s_if (i_eq e5.1 (c_lit 0 0 rfl) e5.2 ⟨by decide, by decide⟩) hF (fun c6 hF => ?_) (fun c6 hF => ?_)
    ·
      exact SX35_openBox_b29 (N := N) (sE := sE) (SE := SE) (sN := sN) (SN := SN) hm hb @hsE @hsN R5 rfl rp0 rfl rp1 rfl rp2 rfl rp3 (c_lit 0 0 rfl) ⟨by decide, by decide⟩ hF
    ·
      exact SX35_openBox_b29 (N := N) (sE := sE) (SE := SE) (sN := sN) (SN := SN) hm hb @hsE @hsN R5 rfl rp0 rfl rp1 rfl rp2 rfl rp3 (c_lit 2 2 rfl) ⟨by decide, by decide⟩ hF
  ·
    exact SX35_openBox_b29 (N := N) (sE := sE) (SE := SE) (sN := sN) (SN := SN) hm hb @hsE @hsN R2 rfl rp0 rfl rp1 rfl rp2 rfl rp3 (c_lit 1 1 rfl) ⟨by decide, by decide⟩ hF
def FX35_readFrom_b146 (N : Nat) (SE : Int → fS → Option (Unit × fS)) (SL : Int → Int → Int → fS → Option (Int × fS)) (SN : fS → Option (Int × fS)) (s : fS) : Option (Unit × fS) :=
  some ((), s)
theorem SX35_readFrom_b146 {m b : Nat} {φ0 : Nat → Nat} {σo : fS} (hm : 1 ≤ m) {N : Nat} {sE : Nat → Int32 → eH → Option (Unit × eH)} {SE : Int → fS → Option (Unit × fS)} {sL : Nat → Int32 → Int64 → Int64 → eH → Option (Int32 × eH)} {SL : Int → Int → Int → fS → Option (Int × fS)} {sN : Nat → eH → Option (Int32 × eH)} {SN : fS → Option (Int × fS)} {q : Unit × fS} (hsE : ∀ {φ : Nat → Nat} {h : eH} {s : fS} {x1' : Int32} {x1 : Int} {q}, fC m 1 φ s φ h s → x1' = iI x1 → r32 x1 → SE x1 s = some q → gG m 1 φ s lU q (sE 192 x1' h)) (hsL : ∀ {φ : Nat → Nat} {h : eH} {s : fS} {x1' : Int32} {x1 : Int} {x2' : Int64} {x2 : Int} {x3' : Int64} {x3 : Int} {q}, fC m 1 φ s φ h s → x1' = iI x1 → r32 x1 → x2' = iJ x2 → r64 x2 → x3' = iJ x3 → r64 x3 → SL x1 x2 x3 s = some q → gG m 1 φ s lI q (sL 192 x1' x2' x3' h)) (hsN : ∀ {φ : Nat → Nat} {h : eH} {s : fS} {q}, fC m 1 φ s φ h s → SN s = some q → gG m 1 φ s lI q (sN 192 h)) {φ : Nat → Nat} {h : eH} {s : fS} (R : fC m b φ0 σo φ h s) (hF : FX35_readFrom_b146 N SE SL SN s = some q) : gG m b φ0 σo lU q (fX35_readFrom_b146 N sE sL sN h) := by
  unfold FX35_readFrom_b146 at hF
  unfold fX35_readFrom_b146
  exact g_ret R hF trivial
def FX35_readFrom_b93 (N : Nat) (SE : Int → fS → Option (Unit × fS)) (SL : Int → Int → Int → fS → Option (Int × fS)) (SN : fS → Option (Int × fS)) (l2 : Int) (l3 : Int) (l4 : Int) (l6 : Int) (s : fS) : Option (Unit × fS) :=
  (FX35_goesTo N SL l6 l2 l3 l4 s).bind fun q2 =>
  FX35_readFrom_b146 N SE SL SN q2.2
theorem SX35_readFrom_b93 {m b : Nat} {φ0 : Nat → Nat} {σo : fS} (hm : 1 ≤ m) (hb : 1 ≤ b) {N : Nat} {sE : Nat → Int32 → eH → Option (Unit × eH)} {SE : Int → fS → Option (Unit × fS)} {sL : Nat → Int32 → Int64 → Int64 → eH → Option (Int32 × eH)} {SL : Int → Int → Int → fS → Option (Int × fS)} {sN : Nat → eH → Option (Int32 × eH)} {SN : fS → Option (Int × fS)} {q : Unit × fS} (hsE : ∀ {φ : Nat → Nat} {h : eH} {s : fS} {x1' : Int32} {x1 : Int} {q}, fC m 1 φ s φ h s → x1' = iI x1 → r32 x1 → SE x1 s = some q → gG m 1 φ s lU q (sE 192 x1' h)) (hsL : ∀ {φ : Nat → Nat} {h : eH} {s : fS} {x1' : Int32} {x1 : Int} {x2' : Int64} {x2 : Int} {x3' : Int64} {x3 : Int} {q}, fC m 1 φ s φ h s → x1' = iI x1 → r32 x1 → x2' = iJ x2 → r64 x2 → x3' = iJ x3 → r64 x3 → SL x1 x2 x3 s = some q → gG m 1 φ s lI q (sL 192 x1' x2' x3' h)) (hsN : ∀ {φ : Nat → Nat} {h : eH} {s : fS} {q}, fC m 1 φ s φ h s → SN s = some q → gG m 1 φ s lI q (sN 192 h)) {φ : Nat → Nat} {h : eH} {s : fS} {l2' : Int32} {l2 : Int} {l3' : Int32} {l3 : Int} {l4' : Int32} {l4 : Int} {l6' : Int32} {l6 : Int} (R : fC m b φ0 σo φ h s) (el2 : l2' = iI l2) (rl2 : r32 l2) (el3 : l3' = iI l3) (rl3 : r32 l3) (el4 : l4' = iI l4) (rl4 : r32 l4) (el6 : l6' = iI l6) (rl6 : r32 l6) (hF : FX35_readFrom_b93 N SE SL SN l2 l3 l4 l6 s = some q) : gG m b φ0 σo lU q (fX35_readFrom_b93 N sE sL sN 192 l2' l3' l4' l6' h) := by
  subst el2; subst el3; subst el4; subst el6
  unfold FX35_readFrom_b93 at hF
  unfold fX35_readFrom_b93
  refine s_kok R (t_192 hm R.S) (Nat.le_of_ble_eq_true rfl) ?_
  refine s_call R hb (fun _ hq => SX35_goesTo (b := 1) (N := N) (sL := sL) (SL := SL) hm (Nat.le_of_ble_eq_true rfl) @hsL (R.rf) rfl rl6 rfl rl2 rfl rl3 rfl rl4 hq) hF (fun f2 rv2 h2 q2 R2 e2 E2 hF => ?_)
  exact SX35_readFrom_b146 (N := N) (sE := sE) (SE := SE) (sL := sL) (SL := SL) (sN := sN) (SN := SN) hm @hsE @hsL @hsN R2 hF
def FX35_readFrom_b53 (N : Nat) (SE : Int → fS → Option (Unit × fS)) (SL : Int → Int → Int → fS → Option (Int × fS)) (SN : fS → Option (Int × fS)) : Nat → Int → Int → Int → Int → Int → Int → Int → fS → Option (Unit × fS)
  | 0, _, _, _, _, _, _, _, _ => none
  | n + 1, l1, l2, l3, l4, l5, l6, l7, s =>
    if (s.i 192 21) < l7 then
      FX35_readFrom_b93 N SE SL SN l2 l3 l4 l6 s
    else
      if ¬ (l1 = 49) then
        FX35_readFrom_b93 N SE SL SN l2 l3 l4 l6 s
      else
        (uQI s 265 (iadd (iadd (imul 3812 l7) 3299) l5) (-1)).bind fun σ7 =>
        FX35_readFrom_b53 N SE SL SN n l1 l2 l3 l4 l5 l6 (iadd l7 1) σ7
theorem SX35_readFrom_b53 {m b : Nat} {φ0 : Nat → Nat} {σo : fS} (hm : 1 ≤ m) (hb : 1 ≤ b) {N : Nat} {sE : Nat → Int32 → eH → Option (Unit × eH)} {SE : Int → fS → Option (Unit × fS)} {sL : Nat → Int32 → Int64 → Int64 → eH → Option (Int32 × eH)} {SL : Int → Int → Int → fS → Option (Int × fS)} {sN : Nat → eH → Option (Int32 × eH)} {SN : fS → Option (Int × fS)} {q : Unit × fS} (hsE : ∀ {φ : Nat → Nat} {h : eH} {s : fS} {x1' : Int32} {x1 : Int} {q}, fC m 1 φ s φ h s → x1' = iI x1 → r32 x1 → SE x1 s = some q → gG m 1 φ s lU q (sE 192 x1' h)) (hsL : ∀ {φ : Nat → Nat} {h : eH} {s : fS} {x1' : Int32} {x1 : Int} {x2' : Int64} {x2 : Int} {x3' : Int64} {x3 : Int} {q}, fC m 1 φ s φ h s → x1' = iI x1 → r32 x1 → x2' = iJ x2 → r64 x2 → x3' = iJ x3 → r64 x3 → SL x1 x2 x3 s = some q → gG m 1 φ s lI q (sL 192 x1' x2' x3' h)) (hsN : ∀ {φ : Nat → Nat} {h : eH} {s : fS} {q}, fC m 1 φ s φ h s → SN s = some q → gG m 1 φ s lI q (sN 192 h)) : ∀ {n : Nat} {φ : Nat → Nat} {h : eH} {s : fS} {l1' : Int32} {l1 : Int} {l2' : Int32} {l2 : Int} {l3' : Int32} {l3 : Int} {l4' : Int32} {l4 : Int} {l5' : Int32} {l5 : Int} {l6' : Int32} {l6 : Int} {l7' : Int32} {l7 : Int}, fC m b φ0 σo φ h s → l1' = iI l1 → r32 l1 → l2' = iI l2 → r32 l2 → l3' = iI l3 → r32 l3 → l4' = iI l4 → r32 l4 → l5' = iI l5 → r32 l5 → l6' = iI l6 → r32 l6 → l7' = iI l7 → r32 l7 → FX35_readFrom_b53 N SE SL SN n l1 l2 l3 l4 l5 l6 l7 s = some q → gG m b φ0 σo lU q (fX35_readFrom_b53 N sE sL sN n 192 l1' l2' l3' l4' l5' l6' l7' h) := by
  intro n
  induction n with
 | zero => intro φ h s l1' l1 l2' l2 l3' l3 l4' l4 l5' l5 l6' l6 l7' l7 R el1 rl1 el2 rl2 el3 rl3 el4 rl4 el5 rl5 el6 rl6 el7 rl7 hF; simp [FX35_readFrom_b53] at hF
  | succ n ih =>
    intro φ h s l1' l1 l2' l2 l3' l3 l4' l4 l5' l5 l6' l6 l7' l7 R el1 rl1 el2 rl2 el3 rl3 el4 rl4 el5 rl5 el6 rl6 el7 rl7 hF
    subst el1; subst el2; subst el3; subst el4; subst el5; subst el6; subst el7
    rw [FX35_readFrom_b53] at hF
    rw [fX35_readFrom_b53]
    refine s_gI R (t_192 hm R.S) (Nat.le_of_ble_eq_true rfl) rfl ?_
    refine s_if (i_lt rfl rfl (R.ri (t_192 hm R.S) (Nat.le_of_ble_eq_true rfl) rfl) rl7) hF (fun c2 hF => ?_) (fun c2 hF => ?_)
    ·
      exact SX35_readFrom_b93 (N := N) (sE := sE) (SE := SE) (sL := sL) (SL := SL) (sN := sN) (SN := SN) hm hb @hsE @hsL @hsN R rfl rl2 rfl rl3 rfl rl4 rfl rl6 hF
    ·
      refine s_if (not_congr (i_eq rfl (c_lit 49 49 rfl) rl1 ⟨by decide, by decide⟩)) hF (fun c3 hF => ?_) (fun c3 hF => ?_)
      ·
        exact SX35_readFrom_b93 (N := N) (sE := sE) (SE := SE) (sL := sL) (SL := SL) (sN := sN) (SN := SN) hm hb @hsE @hsL @hsN R rfl rl2 rfl rl3 rfl rl4 rfl rl6 hF
      ·
        refine s_gAs R (t_192 hm R.S) (Nat.le_of_ble_eq_true rfl) rfl (o_192_22 hm R.S) (a_265 hm R) ?_
        refine s_qI R (u_265 hm R.S).1 (u_265 hm R.S).2 (by decide) (a_265 hm R) (c_add (c_add (c_mul (c_lit 3812 3812 rfl) rfl) (c_lit 3299 3299 rfl)) rfl) (rr_I _) (c_lit (-1) (-1) rfl) ⟨by decide, by decide⟩ hF (fun h5 σ7 R5 T5 hF => ?_)
        exact ih R5 rfl rl1 rfl rl2 rfl rl3 rfl rl4 rfl rl5 rfl rl6 (c_add rfl (c_lit 1 1 rfl)) (rr_I _) hF
def FX35_readFrom_b12 (N : Nat) (SE : Int → fS → Option (Unit × fS)) (SL : Int → Int → Int → fS → Option (Int × fS)) (SN : fS → Option (Int × fS)) (l1 : Int) (l2 : Int) (l3 : Int) (l4 : Int) (s : fS) : Option (Unit × fS) :=
  (FX35_small SN 255 s).bind fun q2 =>
  if (q2.2.i 192 46) ≤ 0 then
    (FX35_now (iadd 3299 q2.1) q2.2).bind fun q7 =>
    (FX35_now (iadd 3555 q2.1) q7.2).bind fun q9 =>
    FX35_readFrom_b53 N SE SL SN N l1 l2 l3 l4 q2.1 q7.1 q9.1 q9.2
  else
    some ((), q2.2)
theorem SX35_readFrom_b12 {m b : Nat} {φ0 : Nat → Nat} {σo : fS} (hm : 1 ≤ m) (hb : 1 ≤ b) {N : Nat} {sE : Nat → Int32 → eH → Option (Unit × eH)} {SE : Int → fS → Option (Unit × fS)} {sL : Nat → Int32 → Int64 → Int64 → eH → Option (Int32 × eH)} {SL : Int → Int → Int → fS → Option (Int × fS)} {sN : Nat → eH → Option (Int32 × eH)} {SN : fS → Option (Int × fS)} {q : Unit × fS} (hsE : ∀ {φ : Nat → Nat} {h : eH} {s : fS} {x1' : Int32} {x1 : Int} {q}, fC m 1 φ s φ h s → x1' = iI x1 → r32 x1 → SE x1 s = some q → gG m 1 φ s lU q (sE 192 x1' h)) (hsL : ∀ {φ : Nat → Nat} {h : eH} {s : fS} {x1' : Int32} {x1 : Int} {x2' : Int64} {x2 : Int} {x3' : Int64} {x3 : Int} {q}, fC m 1 φ s φ h s → x1' = iI x1 → r32 x1 → x2' = iJ x2 → r64 x2 → x3' = iJ x3 → r64 x3 → SL x1 x2 x3 s = some q → gG m 1 φ s lI q (sL 192 x1' x2' x3' h)) (hsN : ∀ {φ : Nat → Nat} {h : eH} {s : fS} {q}, fC m 1 φ s φ h s → SN s = some q → gG m 1 φ s lI q (sN 192 h)) {φ : Nat → Nat} {h : eH} {s : fS} {l1' : Int32} {l1 : Int} {l2' : Int32} {l2 : Int} {l3' : Int32} {l3 : Int} {l4' : Int32} {l4 : Int} (R : fC m b φ0 σo φ h s) (el1 : l1' = iI l1) (rl1 : r32 l1) (el2 : l2' = iI l2) (rl2 : r32 l2) (el3 : l3' = iI l3) (rl3 : r32 l3) (el4 : l4' = iI l4) (rl4 : r32 l4) (hF : FX35_readFrom_b12 N SE SL SN l1 l2 l3 l4 s = some q) : gG m b φ0 σo lU q (fX35_readFrom_b12 N sE sL sN 192 l1' l2' l3' l4' h) := by
  subst el1; subst el2; subst el3; subst el4
  unfold FX35_readFrom_b12 at hF
  unfold fX35_readFrom_b12
  refine s_kok R (t_192 hm R.S) (Nat.le_of_ble_eq_true rfl) ?_
  refine s_call R hb (fun _ hq => SX35_small (b := 1) (sN := sN) (SN := SN) hm (Nat.le_of_ble_eq_true rfl) @hsN (R.rf) (c_lit 255 255 rfl) ⟨by decide, by decide⟩ hq) hF (fun f2 rv2 h2 q2 R2 e2 E2 hF => ?_)
  refine s_gI R2 (t_192 hm R2.S) (Nat.le_of_ble_eq_true rfl) rfl ?_
  refine s_if (i_le rfl (c_lit 0 0 rfl) (R2.ri (t_192 hm R2.S) (Nat.le_of_ble_eq_true rfl) rfl) ⟨by decide, by decide⟩) hF (fun c4 hF => ?_) (fun c4 hF => ?_)
  ·
    refine s_kok R2 (t_192 hm R2.S) (Nat.le_of_ble_eq_true rfl) ?_
    refine s_call R2 (Nat.zero_le _) (fun _ hq => SX35_now (b := 0) hm (R2.rf) (c_add (c_lit 3299 3299 rfl) e2.1) (rr_I _) hq) hF (fun f6 rv6 h6 q7 R6 e6 E6 hF => ?_)
    refine s_kok R6 (t_192 hm R6.S) (Nat.le_of_ble_eq_true rfl) ?_
    refine s_call R6 (Nat.zero_le _) (fun _ hq => SX35_now (b := 0) hm (R6.rf) (c_add (c_lit 3555 3555 rfl) e2.1) (rr_I _) hq) hF (fun f8 rv8 h8 q9 R8 e8 E8 hF => ?_)
    exact SX35_readFrom_b53 (N := N) (sE := sE) (SE := SE) (sL := sL) (SL := SL) (sN := sN) (SN := SN) hm hb @hsE @hsL @hsN R8 rfl rl1 rfl rl2 rfl rl3 rfl rl4 e2.1 e2.2 e6.1 e6.2 e8.1 e8.2 hF
  ·
    exact g_ret R2 hF trivial
def FX35_readFrom_b130 (N : Nat) (SE : Int → fS → Option (Unit × fS)) (SL : Int → Int → Int → fS → Option (Int × fS)) (SN : fS → Option (Int × fS)) (l2 : Int) (l3 : Int) (l4 : Int) (s1 : Int) (s : fS) : Option (Unit × fS) :=
  (FX35_openBox N SE SN s1 l2 l3 l4 s).bind fun q2 =>
  FX35_readFrom_b146 N SE SL SN q2.2
theorem SX35_readFrom_b130 {m b : Nat} {φ0 : Nat → Nat} {σo : fS} (hm : 1 ≤ m) (hb : 1 ≤ b) {N : Nat} {sE : Nat → Int32 → eH → Option (Unit × eH)} {SE : Int → fS → Option (Unit × fS)} {sL : Nat → Int32 → Int64 → Int64 → eH → Option (Int32 × eH)} {SL : Int → Int → Int → fS → Option (Int × fS)} {sN : Nat → eH → Option (Int32 × eH)} {SN : fS → Option (Int × fS)} {q : Unit × fS} (hsE : ∀ {φ : Nat → Nat} {h : eH} {s : fS} {x1' : Int32} {x1 : Int} {q}, fC m 1 φ s φ h s → x1' = iI x1 → r32 x1 → SE x1 s = some q → gG m 1 φ s lU q (sE 192 x1' h)) (hsL : ∀ {φ : Nat → Nat} {h : eH} {s : fS} {x1' : Int32} {x1 : Int} {x2' : Int64} {x2 : Int} {x3' : Int64} {x3 : Int} {q}, fC m 1 φ s φ h s → x1' = iI x1 → r32 x1 → x2' = iJ x2 → r64 x2 → x3' = iJ x3 → r64 x3 → SL x1 x2 x3 s = some q → gG m 1 φ s lI q (sL 192 x1' x2' x3' h)) (hsN : ∀ {φ : Nat → Nat} {h : eH} {s : fS} {q}, fC m 1 φ s φ h s → SN s = some q → gG m 1 φ s lI q (sN 192 h)) {φ : Nat → Nat} {h : eH} {s : fS} {l2' : Int32} {l2 : Int} {l3' : Int32} {l3 : Int} {l4' : Int32} {l4 : Int} {s1' : Int32} {s1 : Int} (R : fC m b φ0 σo φ h s) (el2 : l2' = iI l2) (rl2 : r32 l2) (el3 : l3' = iI l3) (rl3 : r32 l3) (el4 : l4' = iI l4) (rl4 : r32 l4) (es1 : s1' = iI s1) (rs1 : r32 s1) (hF : FX35_readFrom_b130 N SE SL SN l2 l3 l4 s1 s = some q) : gG m b φ0 σo lU q (fX35_readFrom_b130 N sE sL sN l2' l3' l4' 192 s1' h) := by
  subst el2; subst el3; subst el4; subst es1
  unfold FX35_readFrom_b130 at hF
  unfold fX35_readFrom_b130
  refine s_kok R (t_192 hm R.S) (Nat.le_of_ble_eq_true rfl) ?_
  refine s_call R hb (fun _ hq => SX35_openBox (b := 1) (N := N) (sE := sE) (SE := SE) (sN := sN) (SN := SN) hm (Nat.le_of_ble_eq_true rfl) @hsE @hsN (R.rf) rfl rs1 rfl rl2 rfl rl3 rfl rl4 hq) hF (fun f2 rv2 h2 q2 R2 e2 E2 hF => ?_)
  exact SX35_readFrom_b146 (N := N) (sE := sE) (SE := SE) (sL := sL) (SL := SL) (sN := sN) (SN := SN) hm @hsE @hsL @hsN R2 hF
def FX35_readFrom_b118 (N : Nat) (SE : Int → fS → Option (Unit × fS)) (SL : Int → Int → Int → fS → Option (Int × fS)) (SN : fS → Option (Int × fS)) (l1 : Int) (l2 : Int) (l3 : Int) (l4 : Int) (s : fS) : Option (Unit × fS) :=
  if ¬ (l1 = 48) then
    FX35_readFrom_b130 N SE SL SN l2 l3 l4 0 s
  else
    FX35_readFrom_b130 N SE SL SN l2 l3 l4 1 s
theorem SX35_readFrom_b118 {m b : Nat} {φ0 : Nat → Nat} {σo : fS} (hm : 1 ≤ m) (hb : 1 ≤ b) {N : Nat} {sE : Nat → Int32 → eH → Option (Unit × eH)} {SE : Int → fS → Option (Unit × fS)} {sL : Nat → Int32 → Int64 → Int64 → eH → Option (Int32 × eH)} {SL : Int → Int → Int → fS → Option (Int × fS)} {sN : Nat → eH → Option (Int32 × eH)} {SN : fS → Option (Int × fS)} {q : Unit × fS} (hsE : ∀ {φ : Nat → Nat} {h : eH} {s : fS} {x1' : Int32} {x1 : Int} {q}, fC m 1 φ s φ h s → x1' = iI x1 → r32 x1 → SE x1 s = some q → gG m 1 φ s lU q (sE 192 x1' h)) (hsL : ∀ {φ : Nat → Nat} {h : eH} {s : fS} {x1' : Int32} {x1 : Int} {x2' : Int64} {x2 : Int} {x3' : Int64} {x3 : Int} {q}, fC m 1 φ s φ h s → x1' = iI x1 → r32 x1 → x2' = iJ x2 → r64 x2 → x3' = iJ x3 → r64 x3 → SL x1 x2 x3 s = some q → gG m 1 φ s lI q (sL 192 x1' x2' x3' h)) (hsN : ∀ {φ : Nat → Nat} {h : eH} {s : fS} {q}, fC m 1 φ s φ h s → SN s = some q → gG m 1 φ s lI q (sN 192 h)) {φ : Nat → Nat} {h : eH} {s : fS} {l1' : Int32} {l1 : Int} {l2' : Int32} {l2 : Int} {l3' : Int32} {l3 : Int} {l4' : Int32} {l4 : Int} (R : fC m b φ0 σo φ h s) (el1 : l1' = iI l1) (rl1 : r32 l1) (el2 : l2' = iI l2) (rl2 : r32 l2) (el3 : l3' = iI l3) (rl3 : r32 l3) (el4 : l4' = iI l4) (rl4 : r32 l4) (hF : FX35_readFrom_b118 N SE SL SN l1 l2 l3 l4 s = some q) : gG m b φ0 σo lU q (fX35_readFrom_b118 N sE sL sN 192 l1' l2' l3' l4' h) := by
  subst el1; subst el2; subst el3; subst el4
  unfold FX35_readFrom_b118 at hF
  unfold fX35_readFrom_b118
  refine s_if (not_congr (i_eq rfl (c_lit 48 48 rfl) rl1 ⟨by decide, by decide⟩)) hF (fun c1 hF => ?_) (fun c1 hF => ?_)
  ·
    exact SX35_readFrom_b130 (N := N) (sE := sE) (SE := SE) (sL := sL) (SL := SL) (sN := sN) (SN := SN) hm hb @hsE @hsL @hsN R rfl rl2 rfl rl3 rfl rl4 (c_lit 0 0 rfl) ⟨by decide, by decide⟩ hF
  ·
    exact SX35_readFrom_b130 (N := N) (sE := sE) (SE := SE) (sL := sL) (SL := SL) (sN := sN) (SN := SN) hm hb @hsE @hsL @hsN R rfl rl2 rfl rl3 rfl rl4 (c_lit 1 1 rfl) ⟨by decide, by decide⟩ hF
def FX35_readFrom (N : Nat) (SE : Int → fS → Option (Unit × fS)) (SL : Int → Int → Int → fS → Option (Int × fS)) (SN : fS → Option (Int × fS)) (p0 : Int) (p1 : Int) (p2 : Int) (p3 : Int) (s : fS) : Option (Unit × fS) :=
  if p0 = 49 then
    FX35_readFrom_b12 N SE SL SN p0 p1 p2 p3 s
  else
    if ¬ (p0 = 50) then
      if p0 = 47 then
        FX35_readFrom_b118 N SE SL SN p0 p1 p2 p3 s
      else
        if ¬ (p0 = 48) then
          (FX35_fail 6 s).bind fun q6 =>
          FX35_readFrom_b146 N SE SL SN q6.2
        else
          FX35_readFrom_b118 N SE SL SN p0 p1 p2 p3 s
    else
      FX35_readFrom_b12 N SE SL SN p0 p1 p2 p3 s
theorem SX35_readFrom {m b : Nat} {φ0 : Nat → Nat} {σo : fS} (hm : 1 ≤ m) (hb : 1 ≤ b) {N : Nat} {sE : Nat → Int32 → eH → Option (Unit × eH)} {SE : Int → fS → Option (Unit × fS)} {sL : Nat → Int32 → Int64 → Int64 → eH → Option (Int32 × eH)} {SL : Int → Int → Int → fS → Option (Int × fS)} {sN : Nat → eH → Option (Int32 × eH)} {SN : fS → Option (Int × fS)} {q : Unit × fS} (hsE : ∀ {φ : Nat → Nat} {h : eH} {s : fS} {x1' : Int32} {x1 : Int} {q}, fC m 1 φ s φ h s → x1' = iI x1 → r32 x1 → SE x1 s = some q → gG m 1 φ s lU q (sE 192 x1' h)) (hsL : ∀ {φ : Nat → Nat} {h : eH} {s : fS} {x1' : Int32} {x1 : Int} {x2' : Int64} {x2 : Int} {x3' : Int64} {x3 : Int} {q}, fC m 1 φ s φ h s → x1' = iI x1 → r32 x1 → x2' = iJ x2 → r64 x2 → x3' = iJ x3 → r64 x3 → SL x1 x2 x3 s = some q → gG m 1 φ s lI q (sL 192 x1' x2' x3' h)) (hsN : ∀ {φ : Nat → Nat} {h : eH} {s : fS} {q}, fC m 1 φ s φ h s → SN s = some q → gG m 1 φ s lI q (sN 192 h)) {φ : Nat → Nat} {h : eH} {s : fS} {p0' : Int32} {p0 : Int} {p1' : Int32} {p1 : Int} {p2' : Int32} {p2 : Int} {p3' : Int32} {p3 : Int} (R : fC m b φ0 σo φ h s) (ep0 : p0' = iI p0) (rp0 : r32 p0) (ep1 : p1' = iI p1) (rp1 : r32 p1) (ep2 : p2' = iI p2) (rp2 : r32 p2) (ep3 : p3' = iI p3) (rp3 : r32 p3) (hF : FX35_readFrom N SE SL SN p0 p1 p2 p3 s = some q) : gG m b φ0 σo lU q (fX35_readFrom N sE sL sN 192 p0' p1' p2' p3' h) := by
  subst ep0; subst ep1; subst ep2; subst ep3
  unfold FX35_readFrom at hF
  unfold fX35_readFrom
  refine s_if (i_eq rfl (c_lit 49 49 rfl) rp0 ⟨by decide, by decide⟩) hF (fun c1 hF => ?_) (fun c1 hF => ?_)
  ·
    exact SX35_readFrom_b12 (N := N) (sE := sE) (SE := SE) (sL := sL) (SL := SL) (sN := sN) (SN := SN) hm hb @hsE @hsL @hsN R rfl rp0 rfl rp1 rfl rp2 rfl rp3 hF
  ·
    refine s_if (not_congr (i_eq rfl (c_lit 50 50 rfl) rp0 ⟨by decide, by decide⟩)) hF (fun c2 hF => ?_) (fun c2 hF => ?_)
    ·
      refine s_if (i_eq rfl (c_lit 47 47 rfl) rp0 ⟨by decide, by decide⟩) hF (fun c3 hF => ?_) (fun c3 hF => ?_)
      ·
        exact SX35_readFrom_b118 (N := N) (sE := sE) (SE := SE) (sL := sL) (SL := SL) (sN := sN) (SN := SN) hm hb @hsE @hsL @hsN R rfl rp0 rfl rp1 rfl rp2 rfl rp3 hF
      ·
        refine s_if (not_congr (i_eq rfl (c_lit 48 48 rfl) rp0 ⟨by decide, by decide⟩)) hF (fun c4 hF => ?_) (fun c4 hF => ?_)
        ·
          refine s_kok R (t_192 hm R.S) (Nat.le_of_ble_eq_true rfl) ?_
          refine s_call R (Nat.zero_le _) (fun _ hq => SX35_fail (b := 0) hm (R.rf) (c_lit 6 6 rfl) ⟨by decide, by decide⟩ hq) hF (fun f6 rv6 h6 q6 R6 e6 E6 hF => ?_)
          exact SX35_readFrom_b146 (N := N) (sE := sE) (SE := SE) (sL := sL) (SL := SL) (sN := sN) (SN := SN) hm @hsE @hsL @hsN R6 hF
        ·
          exact SX35_readFrom_b118 (N := N) (sE := sE) (SE := SE) (sL := sL) (SL := SL) (sN := sN) (SN := SN) hm hb @hsE @hsL @hsN R rfl rp0 rfl rp1 rfl rp2 rfl rp3 hF
    ·
      exact SX35_readFrom_b12 (N := N) (sE := sE) (SE := SE) (sL := sL) (SL := SL) (sN := sN) (SN := SN) hm hb @hsE @hsL @hsN R rfl rp0 rfl rp1 rfl rp2 rfl rp3 hF
def FX35_horizontally_b24 (N : Nat) (SL : Int → Int → Int → fS → Option (Int × fS)) (s0 : Int) (s : fS) : Option (Int × fS) :=
  uZ s0 (s0, s)
theorem SX35_horizontally_b24 {m b : Nat} {φ0 : Nat → Nat} {σo : fS} (hm : 1 ≤ m) {N : Nat} {sL : Nat → Int32 → Int64 → Int64 → eH → Option (Int32 × eH)} {SL : Int → Int → Int → fS → Option (Int × fS)} {q : Int × fS} (hsL : ∀ {φ : Nat → Nat} {h : eH} {s : fS} {x1' : Int32} {x1 : Int} {x2' : Int64} {x2 : Int} {x3' : Int64} {x3 : Int} {q}, fC m 1 φ s φ h s → x1' = iI x1 → r32 x1 → x2' = iJ x2 → r64 x2 → x3' = iJ x3 → r64 x3 → SL x1 x2 x3 s = some q → gG m 1 φ s lI q (sL 192 x1' x2' x3' h)) {φ : Nat → Nat} {h : eH} {s : fS} {s0' : Int32} {s0 : Int} (R : fC m b φ0 σo φ h s) (es0 : s0' = iI s0) (rs0 : r32 s0) (hF : FX35_horizontally_b24 N SL s0 s = some q) : gG m b φ0 σo lI q (fX35_horizontally_b24 N sL s0' h) := by
  subst es0
  unfold FX35_horizontally_b24 at hF
  unfold fX35_horizontally_b24
  exact g_z R rfl hF ⟨rfl, rs0⟩
def FX35_horizontally_b12 (N : Nat) (SL : Int → Int → Int → fS → Option (Int × fS)) (s : fS) : Option (Int × fS) :=
  if ¬ ((s.i 192 46) = 0) then
    FX35_horizontally_b24 N SL 0 s
  else
    FX35_horizontally_b24 N SL 1 s
theorem SX35_horizontally_b12 {m b : Nat} {φ0 : Nat → Nat} {σo : fS} (hm : 1 ≤ m) {N : Nat} {sL : Nat → Int32 → Int64 → Int64 → eH → Option (Int32 × eH)} {SL : Int → Int → Int → fS → Option (Int × fS)} {q : Int × fS} (hsL : ∀ {φ : Nat → Nat} {h : eH} {s : fS} {x1' : Int32} {x1 : Int} {x2' : Int64} {x2 : Int} {x3' : Int64} {x3 : Int} {q}, fC m 1 φ s φ h s → x1' = iI x1 → r32 x1 → x2' = iJ x2 → r64 x2 → x3' = iJ x3 → r64 x3 → SL x1 x2 x3 s = some q → gG m 1 φ s lI q (sL 192 x1' x2' x3' h)) {φ : Nat → Nat} {h : eH} {s : fS} (R : fC m b φ0 σo φ h s) (hF : FX35_horizontally_b12 N SL s = some q) : gG m b φ0 σo lI q (fX35_horizontally_b12 N sL 192 h) := by
  unfold FX35_horizontally_b12 at hF
  unfold fX35_horizontally_b12
  refine s_gI R (t_192 hm R.S) (Nat.le_of_ble_eq_true rfl) rfl ?_
  refine s_if (not_congr (i_eq rfl (c_lit 0 0 rfl) (R.ri (t_192 hm R.S) (Nat.le_of_ble_eq_true rfl) rfl) ⟨by decide, by decide⟩)) hF (fun c2 hF => ?_) (fun c2 hF => ?_)
  ·
    exact SX35_horizontally_b24 (N := N) (sL := sL) (SL := SL) hm @hsL R (c_lit 0 0 rfl) ⟨by decide, by decide⟩ hF
  ·
    exact SX35_horizontally_b24 (N := N) (sL := sL) (SL := SL) hm @hsL R (c_lit 1 1 rfl) ⟨by decide, by decide⟩ hF
def FX35_horizontally (N : Nat) (SL : Int → Int → Int → fS → Option (Int × fS)) (s : fS) : Option (Int × fS) :=
  (FX35_isVertical s).bind fun q2 =>
  if q2.1 = 0 then
    FX35_horizontally_b12 N SL q2.2
  else
    (FX35_beginParagraph N SL 1 q2.2).bind fun q5 =>
    FX35_horizontally_b12 N SL q5.2
theorem SX35_horizontally {m b : Nat} {φ0 : Nat → Nat} {σo : fS} (hm : 1 ≤ m) (hb : 1 ≤ b) {N : Nat} {sL : Nat → Int32 → Int64 → Int64 → eH → Option (Int32 × eH)} {SL : Int → Int → Int → fS → Option (Int × fS)} {q : Int × fS} (hsL : ∀ {φ : Nat → Nat} {h : eH} {s : fS} {x1' : Int32} {x1 : Int} {x2' : Int64} {x2 : Int} {x3' : Int64} {x3 : Int} {q}, fC m 1 φ s φ h s → x1' = iI x1 → r32 x1 → x2' = iJ x2 → r64 x2 → x3' = iJ x3 → r64 x3 → SL x1 x2 x3 s = some q → gG m 1 φ s lI q (sL 192 x1' x2' x3' h)) {φ : Nat → Nat} {h : eH} {s : fS} (R : fC m b φ0 σo φ h s) (hF : FX35_horizontally N SL s = some q) : gG m b φ0 σo lI q (fX35_horizontally N sL 192 h) := by
  unfold FX35_horizontally at hF
  unfold fX35_horizontally
  refine s_kok R (t_192 hm R.S) (Nat.le_of_ble_eq_true rfl) ?_
  refine s_call R (Nat.zero_le _) (fun _ hq => SX35_isVertical (b := 0) hm (R.rf) hq) hF (fun f2 rv2 h2 q2 R2 e2 E2 hF => ?_)
  refine s_if (i_eq e2.1 (c_lit 0 0 rfl) e2.2 ⟨by decide, by decide⟩) hF (fun c3 hF => ?_) (fun c3 hF => ?_)
  ·
    exact SX35_horizontally_b12 (N := N) (sL := sL) (SL := SL) hm @hsL R2 hF
  ·
    refine s_kok R2 (t_192 hm R2.S) (Nat.le_of_ble_eq_true rfl) ?_
    refine s_call R2 hb (fun _ hq => SX35_beginParagraph (b := 1) (N := N) (sL := sL) (SL := SL) hm (Nat.le_of_ble_eq_true rfl) @hsL (R2.rf) (c_lit 1 1 rfl) ⟨by decide, by decide⟩ hq) hF (fun f5 rv5 h5 q5 R5 e5 E5 hF => ?_)
    exact SX35_horizontally_b12 (N := N) (sL := sL) (SL := SL) hm @hsL R5 hF
def FX35_readGlue_b125 (N : Nat) (SE : Int → fS → Option (Unit × fS)) (SN : fS → Option (Int × fS)) (s : fS) : Option (Unit × fS) :=
  some ((), s)
theorem SX35_readGlue_b125 {m b : Nat} {φ0 : Nat → Nat} {σo : fS} (hm : 1 ≤ m) {N : Nat} {sE : Nat → Int32 → eH → Option (Unit × eH)} {SE : Int → fS → Option (Unit × fS)} {sN : Nat → eH → Option (Int32 × eH)} {SN : fS → Option (Int × fS)} {q : Unit × fS} (hsE : ∀ {φ : Nat → Nat} {h : eH} {s : fS} {x1' : Int32} {x1 : Int} {q}, fC m 1 φ s φ h s → x1' = iI x1 → r32 x1 → SE x1 s = some q → gG m 1 φ s lU q (sE 192 x1' h)) (hsN : ∀ {φ : Nat → Nat} {h : eH} {s : fS} {q}, fC m 1 φ s φ h s → SN s = some q → gG m 1 φ s lI q (sN 192 h)) {φ : Nat → Nat} {h : eH} {s : fS} (R : fC m b φ0 σo φ h s) (hF : FX35_readGlue_b125 N SE SN s = some q) : gG m b φ0 σo lU q (fX35_readGlue_b125 N sE sN h) := by
  unfold FX35_readGlue_b125 at hF
  unfold fX35_readGlue_b125
  exact g_ret R hF trivial
def FX35_readGlue_b119 (N : Nat) (SE : Int → fS → Option (Unit × fS)) (SN : fS → Option (Int × fS)) (s : fS) : Option (Unit × fS) :=
  (FX35_fail 7 s).bind fun q2 =>
  FX35_readGlue_b125 N SE SN q2.2
theorem SX35_readGlue_b119 {m b : Nat} {φ0 : Nat → Nat} {σo : fS} (hm : 1 ≤ m) {N : Nat} {sE : Nat → Int32 → eH → Option (Unit × eH)} {SE : Int → fS → Option (Unit × fS)} {sN : Nat → eH → Option (Int32 × eH)} {SN : fS → Option (Int × fS)} {q : Unit × fS} (hsE : ∀ {φ : Nat → Nat} {h : eH} {s : fS} {x1' : Int32} {x1 : Int} {q}, fC m 1 φ s φ h s → x1' = iI x1 → r32 x1 → SE x1 s = some q → gG m 1 φ s lU q (sE 192 x1' h)) (hsN : ∀ {φ : Nat → Nat} {h : eH} {s : fS} {q}, fC m 1 φ s φ h s → SN s = some q → gG m 1 φ s lI q (sN 192 h)) {φ : Nat → Nat} {h : eH} {s : fS} (R : fC m b φ0 σo φ h s) (hF : FX35_readGlue_b119 N SE SN s = some q) : gG m b φ0 σo lU q (fX35_readGlue_b119 N sE sN 192 h) := by
  unfold FX35_readGlue_b119 at hF
  unfold fX35_readGlue_b119
  refine s_kok R (t_192 hm R.S) (Nat.le_of_ble_eq_true rfl) ?_
  refine s_call R (Nat.zero_le _) (fun _ hq => SX35_fail (b := 0) hm (R.rf) (c_lit 7 7 rfl) ⟨by decide, by decide⟩ hq) hF (fun f2 rv2 h2 q2 R2 e2 E2 hF => ?_)
  exact SX35_readGlue_b125 (N := N) (sE := sE) (SE := SE) (sN := sN) (SN := SN) hm @hsE @hsN R2 hF
def FX35_readGlue_b58 (N : Nat) (SE : Int → fS → Option (Unit × fS)) (SN : fS → Option (Int × fS)) (l1 : Int) (l3 : Int) (s1 : Int) (s : fS) : Option (Unit × fS) :=
  (uPI s 192 114 s1).bind fun σ1 =>
  (FX35_now (iadd l3 1) σ1).bind fun q4 =>
  (uPI q4.2 192 115 q4.1).bind fun σ5 =>
  (FX35_now (iadd l3 2) σ5).bind fun q8 =>
  (uPI q8.2 192 116 q8.1).bind fun σ9 =>
  (FX35_now (iadd l3 3) σ9).bind fun q12 =>
  (uPI q12.2 192 117 q12.1).bind fun σ13 =>
  if ¬ ((σ13.i 192 46) = 0) then
    FX35_readGlue_b125 N SE SN σ13
  else
    if l1 = 0 then
      FX35_readGlue_b125 N SE SN σ13
    else
      if ¬ ((σ13.i 192 115) = 0) then
        FX35_readGlue_b119 N SE SN σ13
      else
        if (σ13.i 192 117) = 0 then
          FX35_readGlue_b125 N SE SN σ13
        else
          FX35_readGlue_b119 N SE SN σ13
theorem SX35_readGlue_b58 {m b : Nat} {φ0 : Nat → Nat} {σo : fS} (hm : 1 ≤ m) {N : Nat} {sE : Nat → Int32 → eH → Option (Unit × eH)} {SE : Int → fS → Option (Unit × fS)} {sN : Nat → eH → Option (Int32 × eH)} {SN : fS → Option (Int × fS)} {q : Unit × fS} (hsE : ∀ {φ : Nat → Nat} {h : eH} {s : fS} {x1' : Int32} {x1 : Int} {q}, fC m 1 φ s φ h s → x1' = iI x1 → r32 x1 → SE x1 s = some q → gG m 1 φ s lU q (sE 192 x1' h)) (hsN : ∀ {φ : Nat → Nat} {h : eH} {s : fS} {q}, fC m 1 φ s φ h s → SN s = some q → gG m 1 φ s lI q (sN 192 h)) {φ : Nat → Nat} {h : eH} {s : fS} {l1' : Int32} {l1 : Int} {l3' : Int32} {l3 : Int} {s1' : Int32} {s1 : Int} (R : fC m b φ0 σo φ h s) (el1 : l1' = iI l1) (rl1 : r32 l1) (el3 : l3' = iI l3) (rl3 : r32 l3) (es1 : s1' = iI s1) (rs1 : r32 s1) (hF : FX35_readGlue_b58 N SE SN l1 l3 s1 s = some q) : gG m b φ0 σo lU q (fX35_readGlue_b58 N sE sN 192 l1' l3' 192 s1' h) := by
  subst el1; subst el3; subst es1
  unfold FX35_readGlue_b58 at hF
  unfold fX35_readGlue_b58
  refine s_pI R (t_192 hm R.S) (Nat.le_of_ble_eq_true rfl) rfl rfl rs1 hF (fun h1 σ1 R1 T1 hF => ?_)
  refine s_kok R1 (t_192 hm R1.S) (Nat.le_of_ble_eq_true rfl) ?_
  refine s_call R1 (Nat.zero_le _) (fun _ hq => SX35_now (b := 0) hm (R1.rf) (c_add rfl (c_lit 1 1 rfl)) (rr_I _) hq) hF (fun f3 rv3 h3 q4 R3 e3 E3 hF => ?_)
  refine s_pI R3 (t_192 hm R3.S) (Nat.le_of_ble_eq_true rfl) rfl e3.1 e3.2 hF (fun h4 σ5 R4 T4 hF => ?_)
  refine s_kok R4 (t_192 hm R4.S) (Nat.le_of_ble_eq_true rfl) ?_
  refine s_call R4 (Nat.zero_le _) (fun _ hq => SX35_now (b := 0) hm (R4.rf) (c_add rfl (c_lit 2 2 rfl)) (rr_I _) hq) hF (fun f6 rv6 h6 q8 R6 e6 E6 hF => ?_)
  refine s_pI R6 (t_192 hm R6.S) (Nat.le_of_ble_eq_true rfl) rfl e6.1 e6.2 hF (fun h7 σ9 R7 T7 hF => ?_)
  refine s_kok R7 (t_192 hm R7.S) (Nat.le_of_ble_eq_true rfl) ?_
  refine s_call R7 (Nat.zero_le _) (fun _ hq => SX35_now (b := 0) hm (R7.rf) (c_add rfl (c_lit 3 3 rfl)) (rr_I _) hq) hF (fun f9 rv9 h9 q12 R9 e9 E9 hF => ?_)
  refine s_pI R9 (t_192 hm R9.S) (Nat.le_of_ble_eq_true rfl) rfl e9.1 e9.2 hF (fun h10 σ13 R10 T10 hF => ?_)
  refine s_gI R10 (t_192 hm R10.S) (Nat.le_of_ble_eq_true rfl) rfl ?_
  refine s_if (not_congr (i_eq rfl (c_lit 0 0 rfl) (R10.ri (t_192 hm R10.S) (Nat.le_of_ble_eq_true rfl) rfl) ⟨by decide, by decide⟩)) hF (fun c12 hF => ?_) (fun c12 hF => ?_)
  ·
    exact SX35_readGlue_b125 (N := N) (sE := sE) (SE := SE) (sN := sN) (SN := SN) hm @hsE @hsN R10 hF
  ·
    refine s_if (i_eq rfl (c_lit 0 0 rfl) rl1 ⟨by decide, by decide⟩) hF (fun c13 hF => ?_) (fun c13 hF => ?_)
    ·
      exact SX35_readGlue_b125 (N := N) (sE := sE) (SE := SE) (sN := sN) (SN := SN) hm @hsE @hsN R10 hF
    ·
      refine s_gI R10 (t_192 hm R10.S) (Nat.le_of_ble_eq_true rfl) rfl ?_
      refine s_if (not_congr (i_eq rfl (c_lit 0 0 rfl) (R10.ri (t_192 hm R10.S) (Nat.le_of_ble_eq_true rfl) rfl) ⟨by decide, by decide⟩)) hF (fun c15 hF => ?_) (fun c15 hF => ?_)
      ·
        exact SX35_readGlue_b119 (N := N) (sE := sE) (SE := SE) (sN := sN) (SN := SN) hm @hsE @hsN R10 hF
      ·
        refine s_gI R10 (t_192 hm R10.S) (Nat.le_of_ble_eq_true rfl) rfl ?_
        refine s_if (i_eq rfl (c_lit 0 0 rfl) (R10.ri (t_192 hm R10.S) (Nat.le_of_ble_eq_true rfl) rfl) ⟨by decide, by decide⟩) hF (fun c17 hF => ?_) (fun c17 hF => ?_)
        ·
          exact SX35_readGlue_b125 (N := N) (sE := sE) (SE := SE) (sN := sN) (SN := SN) hm @hsE @hsN R10 hF
        ·
          exact SX35_readGlue_b119 (N := N) (sE := sE) (SE := SE) (sN := sN) (SN := SN) hm @hsE @hsN R10 hF
def FX35_readGlue_b267 (N : Nat) (SE : Int → fS → Option (Unit × fS)) (SN : fS → Option (Int × fS)) (l6 : Int) (s1 : Int) (s : fS) : Option (Unit × fS) :=
  (uPI s 192 116 s1).bind fun σ1 =>
  (uPI σ1 192 117 l6).bind fun σ3 =>
  some ((), σ3)
theorem SX35_readGlue_b267 {m b : Nat} {φ0 : Nat → Nat} {σo : fS} (hm : 1 ≤ m) {N : Nat} {sE : Nat → Int32 → eH → Option (Unit × eH)} {SE : Int → fS → Option (Unit × fS)} {sN : Nat → eH → Option (Int32 × eH)} {SN : fS → Option (Int × fS)} {q : Unit × fS} (hsE : ∀ {φ : Nat → Nat} {h : eH} {s : fS} {x1' : Int32} {x1 : Int} {q}, fC m 1 φ s φ h s → x1' = iI x1 → r32 x1 → SE x1 s = some q → gG m 1 φ s lU q (sE 192 x1' h)) (hsN : ∀ {φ : Nat → Nat} {h : eH} {s : fS} {q}, fC m 1 φ s φ h s → SN s = some q → gG m 1 φ s lI q (sN 192 h)) {φ : Nat → Nat} {h : eH} {s : fS} {l6' : Int32} {l6 : Int} {s1' : Int32} {s1 : Int} (R : fC m b φ0 σo φ h s) (el6 : l6' = iI l6) (rl6 : r32 l6) (es1 : s1' = iI s1) (rs1 : r32 s1) (hF : FX35_readGlue_b267 N SE SN l6 s1 s = some q) : gG m b φ0 σo lU q (fX35_readGlue_b267 N sE sN 192 l6' 192 s1' h) := by
  subst el6; subst es1
  unfold FX35_readGlue_b267 at hF
  unfold fX35_readGlue_b267
  refine s_pI R (t_192 hm R.S) (Nat.le_of_ble_eq_true rfl) rfl rfl rs1 hF (fun h1 σ1 R1 T1 hF => ?_)
  refine s_pI R1 (t_192 hm R1.S) (Nat.le_of_ble_eq_true rfl) rfl rfl rl6 hF (fun h2 σ3 R2 T2 hF => ?_)
  exact g_ret R2 hF trivial
def FX35_readGlue_b244 (N : Nat) (SE : Int → fS → Option (Unit × fS)) (SN : fS → Option (Int × fS)) (l3 : Int) (l4 : Int) (l5 : Int) (l6 : Int) (s : fS) : Option (Unit × fS) :=
  (uPI s 192 114 l3).bind fun σ1 =>
  (uPI σ1 192 115 l4).bind fun σ3 =>
  if ¬ (l4 = 0) then
    FX35_readGlue_b267 N SE SN l6 l5 σ3
  else
    FX35_readGlue_b267 N SE SN l6 0 σ3
theorem SX35_readGlue_b244 {m b : Nat} {φ0 : Nat → Nat} {σo : fS} (hm : 1 ≤ m) {N : Nat} {sE : Nat → Int32 → eH → Option (Unit × eH)} {SE : Int → fS → Option (Unit × fS)} {sN : Nat → eH → Option (Int32 × eH)} {SN : fS → Option (Int × fS)} {q : Unit × fS} (hsE : ∀ {φ : Nat → Nat} {h : eH} {s : fS} {x1' : Int32} {x1 : Int} {q}, fC m 1 φ s φ h s → x1' = iI x1 → r32 x1 → SE x1 s = some q → gG m 1 φ s lU q (sE 192 x1' h)) (hsN : ∀ {φ : Nat → Nat} {h : eH} {s : fS} {q}, fC m 1 φ s φ h s → SN s = some q → gG m 1 φ s lI q (sN 192 h)) {φ : Nat → Nat} {h : eH} {s : fS} {l3' : Int32} {l3 : Int} {l4' : Int32} {l4 : Int} {l5' : Int32} {l5 : Int} {l6' : Int32} {l6 : Int} (R : fC m b φ0 σo φ h s) (el3 : l3' = iI l3) (rl3 : r32 l3) (el4 : l4' = iI l4) (rl4 : r32 l4) (el5 : l5' = iI l5) (rl5 : r32 l5) (el6 : l6' = iI l6) (rl6 : r32 l6) (hF : FX35_readGlue_b244 N SE SN l3 l4 l5 l6 s = some q) : gG m b φ0 σo lU q (fX35_readGlue_b244 N sE sN 192 l3' l4' l5' l6' h) := by
  subst el3; subst el4; subst el5; subst el6
  unfold FX35_readGlue_b244 at hF
  unfold fX35_readGlue_b244
  refine s_pI R (t_192 hm R.S) (Nat.le_of_ble_eq_true rfl) rfl rfl rl3 hF (fun h1 σ1 R1 T1 hF => ?_)
  refine s_pI R1 (t_192 hm R1.S) (Nat.le_of_ble_eq_true rfl) rfl rfl rl4 hF (fun h2 σ3 R2 T2 hF => ?_)
  refine s_if (not_congr (i_eq rfl (c_lit 0 0 rfl) rl4 ⟨by decide, by decide⟩)) hF (fun c3 hF => ?_) (fun c3 hF => ?_)
  ·
    exact SX35_readGlue_b267 (N := N) (sE := sE) (SE := SE) (sN := sN) (SN := SN) hm @hsE @hsN R2 rfl rl6 rfl rl5 hF
  ·
    exact SX35_readGlue_b267 (N := N) (sE := sE) (SE := SE) (sN := sN) (SN := SN) hm @hsE @hsN R2 rfl rl6 (c_lit 0 0 rfl) ⟨by decide, by decide⟩ hF
def FX35_readGlue_b203 (N : Nat) (SE : Int → fS → Option (Unit × fS)) (SN : fS → Option (Int × fS)) (l3 : Int) (l4 : Int) (l5 : Int) (l6 : Int) (s : fS) : Option (Unit × fS) :=
  if ¬ ((s.i 192 46) = 0) then
    FX35_readGlue_b244 N SE SN l3 l4 l5 l6 s
  else
    (FX35_keyword N SE 1000000138 s).bind fun q5 =>
    if q5.1 = 0 then
      FX35_readGlue_b244 N SE SN l3 l4 l5 l6 q5.2
    else
      (FX35_dimension N SE SN q5.2).bind fun q8 =>
      if ¬ ((q8.2.i 192 46) = 0) then
        FX35_readGlue_b244 N SE SN l3 l4 l5 q8.1 q8.2
      else
        if 0 ≤ q8.1 then
          FX35_readGlue_b244 N SE SN l3 l4 l5 q8.1 q8.2
        else
          (FX35_fail 7 q8.2).bind fun q14 =>
          FX35_readGlue_b244 N SE SN l3 l4 l5 q8.1 q14.2
theorem SX35_readGlue_b203 {m b : Nat} {φ0 : Nat → Nat} {σo : fS} (hm : 1 ≤ m) (hb : 1 ≤ b) {N : Nat} {sE : Nat → Int32 → eH → Option (Unit × eH)} {SE : Int → fS → Option (Unit × fS)} {sN : Nat → eH → Option (Int32 × eH)} {SN : fS → Option (Int × fS)} {q : Unit × fS} (hsE : ∀ {φ : Nat → Nat} {h : eH} {s : fS} {x1' : Int32} {x1 : Int} {q}, fC m 1 φ s φ h s → x1' = iI x1 → r32 x1 → SE x1 s = some q → gG m 1 φ s lU q (sE 192 x1' h)) (hsN : ∀ {φ : Nat → Nat} {h : eH} {s : fS} {q}, fC m 1 φ s φ h s → SN s = some q → gG m 1 φ s lI q (sN 192 h)) {φ : Nat → Nat} {h : eH} {s : fS} {l3' : Int32} {l3 : Int} {l4' : Int32} {l4 : Int} {l5' : Int32} {l5 : Int} {l6' : Int32} {l6 : Int} (R : fC m b φ0 σo φ h s) (el3 : l3' = iI l3) (rl3 : r32 l3) (el4 : l4' = iI l4) (rl4 : r32 l4) (el5 : l5' = iI l5) (rl5 : r32 l5) (el6 : l6' = iI l6) (rl6 : r32 l6) (hF : FX35_readGlue_b203 N SE SN l3 l4 l5 l6 s = some q) : gG m b φ0 σo lU q (fX35_readGlue_b203 N sE sN 192 l3' l4' l5' l6' h) := by
  subst el3; subst el4; subst el5; subst el6
  unfold FX35_readGlue_b203 at hF
  unfold fX35_readGlue_b203
  refine s_gI R (t_192 hm R.S) (Nat.le_of_ble_eq_true rfl) rfl ?_
  refine s_if (not_congr (i_eq rfl (c_lit 0 0 rfl) (R.ri (t_192 hm R.S) (Nat.le_of_ble_eq_true rfl) rfl) ⟨by decide, by decide⟩)) hF (fun c2 hF => ?_) (fun c2 hF => ?_)
  ·
    exact SX35_readGlue_b244 (N := N) (sE := sE) (SE := SE) (sN := sN) (SN := SN) hm @hsE @hsN R rfl rl3 rfl rl4 rfl rl5 rfl rl6 hF
  ·
    refine s_kok R (t_192 hm R.S) (Nat.le_of_ble_eq_true rfl) ?_
    refine s_call R hb (fun _ hq => SX35_keyword (b := 1) (N := N) (sE := sE) (SE := SE) hm (Nat.le_of_ble_eq_true rfl) @hsE (R.rf) hq) hF (fun f4 rv4 h4 q5 R4 e4 E4 hF => ?_)
    refine s_if (i_eq e4.1 (c_lit 0 0 rfl) e4.2 ⟨by decide, by decide⟩) hF (fun c5 hF => ?_) (fun c5 hF => ?_)
    ·
      exact SX35_readGlue_b244 (N := N) (sE := sE) (SE := SE) (sN := sN) (SN := SN) hm @hsE @hsN R4 rfl rl3 rfl rl4 rfl rl5 rfl rl6 hF
    ·
      refine s_kok R4 (t_192 hm R4.S) (Nat.le_of_ble_eq_true rfl) ?_
      refine s_call R4 hb (fun _ hq => SX35_dimension (b := 1) (N := N) (sE := sE) (SE := SE) (sN := sN) (SN := SN) hm (Nat.le_of_ble_eq_true rfl) @hsE @hsN (R4.rf) hq) hF (fun f7 rv7 h7 q8 R7 e7 E7 hF => ?_)
      refine s_gI R7 (t_192 hm R7.S) (Nat.le_of_ble_eq_true rfl) rfl ?_
      refine s_if (not_congr (i_eq rfl (c_lit 0 0 rfl) (R7.ri (t_192 hm R7.S) (Nat.le_of_ble_eq_true rfl) rfl) ⟨by decide, by decide⟩)) hF (fun c9 hF => ?_) (fun c9 hF => ?_)
      ·
        exact SX35_readGlue_b244 (N := N) (sE := sE) (SE := SE) (sN := sN) (SN := SN) hm @hsE @hsN R7 rfl rl3 rfl rl4 rfl rl5 e7.1 e7.2 hF
      ·
        refine s_if (i_le (c_lit 0 0 rfl) e7.1 ⟨by decide, by decide⟩ e7.2) hF (fun c10 hF => ?_) (fun c10 hF => ?_)
        ·
          exact SX35_readGlue_b244 (N := N) (sE := sE) (SE := SE) (sN := sN) (SN := SN) hm @hsE @hsN R7 rfl rl3 rfl rl4 rfl rl5 e7.1 e7.2 hF
        ·
          refine s_kok R7 (t_192 hm R7.S) (Nat.le_of_ble_eq_true rfl) ?_
          refine s_call R7 (Nat.zero_le _) (fun _ hq => SX35_fail (b := 0) hm (R7.rf) (c_lit 7 7 rfl) ⟨by decide, by decide⟩ hq) hF (fun f12 rv12 h12 q14 R12 e12 E12 hF => ?_)
          exact SX35_readGlue_b244 (N := N) (sE := sE) (SE := SE) (sN := sN) (SN := SN) hm @hsE @hsN R12 rfl rl3 rfl rl4 rfl rl5 e7.1 e7.2 hF
def FX35_readGlue_b126 (N : Nat) (SE : Int → fS → Option (Unit × fS)) (SN : fS → Option (Int × fS)) (l1 : Int) (l2 : Int) (s : fS) : Option (Unit × fS) :=
  (FX35_sizeFrom N SE SN l2 l1 0 s).bind fun q2 =>
  if ¬ ((q2.2.i 192 46) = 0) then
    FX35_readGlue_b203 N SE SN q2.1 0 0 0 q2.2
  else
    (FX35_keyword N SE 1000000137 q2.2).bind fun q7 =>
    if q7.1 = 0 then
      FX35_readGlue_b203 N SE SN q2.1 0 0 0 q7.2
    else
      (FX35_signs N SE q7.2).bind fun q10 =>
      (FX35_sizeFrom N SE SN (q10.2.i 192 121) (q10.2.i 192 122) 1 q10.2).bind fun q16 =>
      if ¬ ((q16.2.i 192 46) = 0) then
        FX35_readGlue_b203 N SE SN q2.1 q16.1 (q16.2.i 192 120) 0 q16.2
      else
        if 0 ≤ q16.1 then
          FX35_readGlue_b203 N SE SN q2.1 q16.1 (q16.2.i 192 120) 0 q16.2
        else
          (FX35_fail 7 q16.2).bind fun q24 =>
          FX35_readGlue_b203 N SE SN q2.1 q16.1 (q16.2.i 192 120) 0 q24.2
theorem SX35_readGlue_b126 {m b : Nat} {φ0 : Nat → Nat} {σo : fS} (hm : 1 ≤ m) (hb : 1 ≤ b) {N : Nat} {sE : Nat → Int32 → eH → Option (Unit × eH)} {SE : Int → fS → Option (Unit × fS)} {sN : Nat → eH → Option (Int32 × eH)} {SN : fS → Option (Int × fS)} {q : Unit × fS} (hsE : ∀ {φ : Nat → Nat} {h : eH} {s : fS} {x1' : Int32} {x1 : Int} {q}, fC m 1 φ s φ h s → x1' = iI x1 → r32 x1 → SE x1 s = some q → gG m 1 φ s lU q (sE 192 x1' h)) (hsN : ∀ {φ : Nat → Nat} {h : eH} {s : fS} {q}, fC m 1 φ s φ h s → SN s = some q → gG m 1 φ s lI q (sN 192 h)) {φ : Nat → Nat} {h : eH} {s : fS} {l1' : Int32} {l1 : Int} {l2' : Int32} {l2 : Int} (R : fC m b φ0 σo φ h s) (el1 : l1' = iI l1) (rl1 : r32 l1) (el2 : l2' = iI l2) (rl2 : r32 l2) (hF : FX35_readGlue_b126 N SE SN l1 l2 s = some q) : gG m b φ0 σo lU q (fX35_readGlue_b126 N sE sN 192 l1' l2' h) := by
  subst el1; subst el2
  unfold FX35_readGlue_b126 at hF
  unfold fX35_readGlue_b126
  refine s_kok R (t_192 hm R.S) (Nat.le_of_ble_eq_true rfl) ?_
  refine s_call R hb (fun _ hq => SX35_sizeFrom (b := 1) (N := N) (sE := sE) (SE := SE) (sN := sN) (SN := SN) hm (Nat.le_of_ble_eq_true rfl) @hsE @hsN (R.rf) rfl rl2 rfl rl1 (c_lit 0 0 rfl) ⟨by decide, by decide⟩ hq) hF (fun f2 rv2 h2 q2 R2 e2 E2 hF => ?_)
  refine s_gI R2 (t_192 hm R2.S) (Nat.le_of_ble_eq_true rfl) rfl ?_
  refine s_if (not_congr (i_eq rfl (c_lit 0 0 rfl) (R2.ri (t_192 hm R2.S) (Nat.le_of_ble_eq_true rfl) rfl) ⟨by decide, by decide⟩)) hF (fun c4 hF => ?_) (fun c4 hF => ?_)
  ·
    exact SX35_readGlue_b203 (N := N) (sE := sE) (SE := SE) (sN := sN) (SN := SN) hm hb @hsE @hsN R2 e2.1 e2.2 (c_lit 0 0 rfl) ⟨by decide, by decide⟩ (c_lit 0 0 rfl) ⟨by decide, by decide⟩ (c_lit 0 0 rfl) ⟨by decide, by decide⟩ hF
  ·
    refine s_kok R2 (t_192 hm R2.S) (Nat.le_of_ble_eq_true rfl) ?_
    refine s_call R2 hb (fun _ hq => SX35_keyword (b := 1) (N := N) (sE := sE) (SE := SE) hm (Nat.le_of_ble_eq_true rfl) @hsE (R2.rf) hq) hF (fun f6 rv6 h6 q7 R6 e6 E6 hF => ?_)
    refine s_if (i_eq e6.1 (c_lit 0 0 rfl) e6.2 ⟨by decide, by decide⟩) hF (fun c7 hF => ?_) (fun c7 hF => ?_)
    ·
      exact SX35_readGlue_b203 (N := N) (sE := sE) (SE := SE) (sN := sN) (SN := SN) hm hb @hsE @hsN R6 e2.1 e2.2 (c_lit 0 0 rfl) ⟨by decide, by decide⟩ (c_lit 0 0 rfl) ⟨by decide, by decide⟩ (c_lit 0 0 rfl) ⟨by decide, by decide⟩ hF
    ·
      refine s_kok R6 (t_192 hm R6.S) (Nat.le_of_ble_eq_true rfl) ?_
      refine s_call R6 hb (fun _ hq => SX35_signs (b := 1) (N := N) (sE := sE) (SE := SE) hm (Nat.le_of_ble_eq_true rfl) @hsE (R6.rf) hq) hF (fun f9 rv9 h9 q10 R9 e9 E9 hF => ?_)
      refine s_gI R9 (t_192 hm R9.S) (Nat.le_of_ble_eq_true rfl) rfl ?_
      refine s_gI R9 (t_192 hm R9.S) (Nat.le_of_ble_eq_true rfl) rfl ?_
      refine s_kok R9 (t_192 hm R9.S) (Nat.le_of_ble_eq_true rfl) ?_
      refine s_call R9 hb (fun _ hq => SX35_sizeFrom (b := 1) (N := N) (sE := sE) (SE := SE) (sN := sN) (SN := SN) hm (Nat.le_of_ble_eq_true rfl) @hsE @hsN (R9.rf) rfl (R9.ri (t_192 hm R9.S) (Nat.le_of_ble_eq_true rfl) rfl) rfl (R9.ri (t_192 hm R9.S) (Nat.le_of_ble_eq_true rfl) rfl) (c_lit 1 1 rfl) ⟨by decide, by decide⟩ hq) hF (fun f13 rv13 h13 q16 R13 e13 E13 hF => ?_)
      refine s_gI R13 (t_192 hm R13.S) (Nat.le_of_ble_eq_true rfl) rfl ?_
      refine s_gI R13 (t_192 hm R13.S) (Nat.le_of_ble_eq_true rfl) rfl ?_
      refine s_if (not_congr (i_eq rfl (c_lit 0 0 rfl) (R13.ri (t_192 hm R13.S) (Nat.le_of_ble_eq_true rfl) rfl) ⟨by decide, by decide⟩)) hF (fun c16 hF => ?_) (fun c16 hF => ?_)
      ·
        exact SX35_readGlue_b203 (N := N) (sE := sE) (SE := SE) (sN := sN) (SN := SN) hm hb @hsE @hsN R13 e2.1 e2.2 e13.1 e13.2 rfl (R13.ri (t_192 hm R13.S) (Nat.le_of_ble_eq_true rfl) rfl) (c_lit 0 0 rfl) ⟨by decide, by decide⟩ hF
      ·
        refine s_if (i_le (c_lit 0 0 rfl) e13.1 ⟨by decide, by decide⟩ e13.2) hF (fun c17 hF => ?_) (fun c17 hF => ?_)
        ·
          exact SX35_readGlue_b203 (N := N) (sE := sE) (SE := SE) (sN := sN) (SN := SN) hm hb @hsE @hsN R13 e2.1 e2.2 e13.1 e13.2 rfl (R13.ri (t_192 hm R13.S) (Nat.le_of_ble_eq_true rfl) rfl) (c_lit 0 0 rfl) ⟨by decide, by decide⟩ hF
        ·
          refine s_kok R13 (t_192 hm R13.S) (Nat.le_of_ble_eq_true rfl) ?_
          refine s_call R13 (Nat.zero_le _) (fun _ hq => SX35_fail (b := 0) hm (R13.rf) (c_lit 7 7 rfl) ⟨by decide, by decide⟩ hq) hF (fun f19 rv19 h19 q24 R19 e19 E19 hF => ?_)
          exact SX35_readGlue_b203 (N := N) (sE := sE) (SE := SE) (sN := sN) (SN := SN) hm hb @hsE @hsN R19 e2.1 e2.2 e13.1 e13.2 rfl (R13.ri (t_192 hm R13.S) (Nat.le_of_ble_eq_true rfl) rfl) (c_lit 0 0 rfl) ⟨by decide, by decide⟩ hF
def FX35_readGlue (N : Nat) (SE : Int → fS → Option (Unit × fS)) (SN : fS → Option (Int × fS)) (s : fS) : Option (Unit × fS) :=
  (FX35_signs N SE s).bind fun q2 =>
  if ¬ ((q2.2.i 192 46) = 0) then
    FX35_readGlue_b126 N SE SN (q2.2.i 192 122) (q2.2.i 192 121) q2.2
  else
    (FX35_hasGlue (q2.2.i 192 121) q2.2).bind fun q11 =>
    if q11.1 = 0 then
      FX35_readGlue_b126 N SE SN (q2.2.i 192 122) (q2.2.i 192 121) q11.2
    else
      (FX35_primitiveOf (q2.2.i 192 121) q11.2).bind fun q14 =>
      (FX35_at SN q14.1 q14.2).bind fun q16 =>
      if (q2.2.i 192 122) = 0 then
        (FX35_now q16.1 q16.2).bind fun q19 =>
        FX35_readGlue_b58 N SE SN (q2.2.i 192 122) q16.1 q19.1 q19.2
      else
        (FX35_now q16.1 q16.2).bind fun q21 =>
        FX35_readGlue_b58 N SE SN (q2.2.i 192 122) q16.1 (ineg q21.1) q21.2
theorem SX35_readGlue {m b : Nat} {φ0 : Nat → Nat} {σo : fS} (hm : 1 ≤ m) (hb : 1 ≤ b) {N : Nat} {sE : Nat → Int32 → eH → Option (Unit × eH)} {SE : Int → fS → Option (Unit × fS)} {sN : Nat → eH → Option (Int32 × eH)} {SN : fS → Option (Int × fS)} {q : Unit × fS} (hsE : ∀ {φ : Nat → Nat} {h : eH} {s : fS} {x1' : Int32} {x1 : Int} {q}, fC m 1 φ s φ h s → x1' = iI x1 → r32 x1 → SE x1 s = some q → gG m 1 φ s lU q (sE 192 x1' h)) (hsN : ∀ {φ : Nat → Nat} {h : eH} {s : fS} {q}, fC m 1 φ s φ h s → SN s = some q → gG m 1 φ s lI q (sN 192 h)) {φ : Nat → Nat} {h : eH} {s : fS} (R : fC m b φ0 σo φ h s) (hF : FX35_readGlue N SE SN s = some q) : gG m b φ0 σo lU q (fX35_readGlue N sE sN 192 h) := by
  unfold FX35_readGlue at hF
  unfold fX35_readGlue
  refine s_kok R (t_192 hm R.S) (Nat.le_of_ble_eq_true rfl) ?_
  refine s_call R hb (fun _ hq => SX35_signs (b := 1) (N := N) (sE := sE) (SE := SE) hm (Nat.le_of_ble_eq_true rfl) @hsE (R.rf) hq) hF (fun f2 rv2 h2 q2 R2 e2 E2 hF => ?_)
  refine s_gI R2 (t_192 hm R2.S) (Nat.le_of_ble_eq_true rfl) rfl ?_
  refine s_gI R2 (t_192 hm R2.S) (Nat.le_of_ble_eq_true rfl) rfl ?_
  refine s_gI R2 (t_192 hm R2.S) (Nat.le_of_ble_eq_true rfl) rfl ?_
  refine s_if (not_congr (i_eq rfl (c_lit 0 0 rfl) (R2.ri (t_192 hm R2.S) (Nat.le_of_ble_eq_true rfl) rfl) ⟨by decide, by decide⟩)) hF (fun c6 hF => ?_) (fun c6 hF => ?_)
  ·
    exact SX35_readGlue_b126 (N := N) (sE := sE) (SE := SE) (sN := sN) (SN := SN) hm hb @hsE @hsN R2 rfl (R2.ri (t_192 hm R2.S) (Nat.le_of_ble_eq_true rfl) rfl) rfl (R2.ri (t_192 hm R2.S) (Nat.le_of_ble_eq_true rfl) rfl) hF
  ·
    refine s_kok R2 (t_192 hm R2.S) (Nat.le_of_ble_eq_true rfl) ?_
    refine s_call R2 (Nat.zero_le _) (fun _ hq => SX35_hasGlue (b := 0) hm (R2.rf) rfl (R2.ri (t_192 hm R2.S) (Nat.le_of_ble_eq_true rfl) rfl) hq) hF (fun f8 rv8 h8 q11 R8 e8 E8 hF => ?_)
    refine s_if (i_eq e8.1 (c_lit 0 0 rfl) e8.2 ⟨by decide, by decide⟩) hF (fun c9 hF => ?_) (fun c9 hF => ?_)
    ·
      exact SX35_readGlue_b126 (N := N) (sE := sE) (SE := SE) (sN := sN) (SN := SN) hm hb @hsE @hsN R8 rfl (R2.ri (t_192 hm R2.S) (Nat.le_of_ble_eq_true rfl) rfl) rfl (R2.ri (t_192 hm R2.S) (Nat.le_of_ble_eq_true rfl) rfl) hF
    ·
      refine s_kok R8 (t_192 hm R8.S) (Nat.le_of_ble_eq_true rfl) ?_
      refine s_call R8 (Nat.zero_le _) (fun _ hq => SX35_primitiveOf (b := 0) hm (R8.rf) rfl (R2.ri (t_192 hm R2.S) (Nat.le_of_ble_eq_true rfl) rfl) hq) hF (fun f11 rv11 h11 q14 R11 e11 E11 hF => ?_)
      refine s_kok R11 (t_192 hm R11.S) (Nat.le_of_ble_eq_true rfl) ?_
      refine s_call R11 hb (fun _ hq => SX35_at (b := 1) (sN := sN) (SN := SN) hm (Nat.le_of_ble_eq_true rfl) @hsN (R11.rf) e11.1 e11.2 hq) hF (fun f13 rv13 h13 q16 R13 e13 E13 hF => ?_)
      refine s_if (i_eq rfl (c_lit 0 0 rfl) (R2.ri (t_192 hm R2.S) (Nat.le_of_ble_eq_true rfl) rfl) ⟨by decide, by decide⟩) hF (fun c14 hF => ?_) (fun c14 hF => ?_)
      ·
        refine s_kok R13 (t_192 hm R13.S) (Nat.le_of_ble_eq_true rfl) ?_
        refine s_call R13 (Nat.zero_le _) (fun _ hq => SX35_now (b := 0) hm (R13.rf) e13.1 e13.2 hq) hF (fun f16 rv16 h16 q19 R16 e16 E16 hF => ?_)
        exact SX35_readGlue_b58 (N := N) (sE := sE) (SE := SE) (sN := sN) (SN := SN) hm @hsE @hsN R16 rfl (R2.ri (t_192 hm R2.S) (Nat.le_of_ble_eq_true rfl) rfl) e13.1 e13.2 e16.1 e16.2 hF
      ·
        refine s_kok R13 (t_192 hm R13.S) (Nat.le_of_ble_eq_true rfl) ?_
        refine s_call R13 (Nat.zero_le _) (fun _ hq => SX35_now (b := 0) hm (R13.rf) e13.1 e13.2 hq) hF (fun f18 rv18 h18 q21 R18 e18 E18 hF => ?_)
        exact SX35_readGlue_b58 (N := N) (sE := sE) (SE := SE) (sN := sN) (SN := SN) hm @hsE @hsN R18 rfl (R2.ri (t_192 hm R2.S) (Nat.le_of_ble_eq_true rfl) rfl) e13.1 e13.2 (c_neg e18.1) (rr_I _) hF
def FX35_skip_b31 (N : Nat) (SE : Int → fS → Option (Unit × fS)) (SL : Int → Int → Int → fS → Option (Int × fS)) (SN : fS → Option (Int × fS)) (s : fS) : Option (Unit × fS) :=
  some ((), s)
theorem SX35_skip_b31 {m b : Nat} {φ0 : Nat → Nat} {σo : fS} (hm : 1 ≤ m) {N : Nat} {sE : Nat → Int32 → eH → Option (Unit × eH)} {SE : Int → fS → Option (Unit × fS)} {sL : Nat → Int32 → Int64 → Int64 → eH → Option (Int32 × eH)} {SL : Int → Int → Int → fS → Option (Int × fS)} {sN : Nat → eH → Option (Int32 × eH)} {SN : fS → Option (Int × fS)} {q : Unit × fS} (hsE : ∀ {φ : Nat → Nat} {h : eH} {s : fS} {x1' : Int32} {x1 : Int} {q}, fC m 1 φ s φ h s → x1' = iI x1 → r32 x1 → SE x1 s = some q → gG m 1 φ s lU q (sE 192 x1' h)) (hsL : ∀ {φ : Nat → Nat} {h : eH} {s : fS} {x1' : Int32} {x1 : Int} {x2' : Int64} {x2 : Int} {x3' : Int64} {x3 : Int} {q}, fC m 1 φ s φ h s → x1' = iI x1 → r32 x1 → x2' = iJ x2 → r64 x2 → x3' = iJ x3 → r64 x3 → SL x1 x2 x3 s = some q → gG m 1 φ s lI q (sL 192 x1' x2' x3' h)) (hsN : ∀ {φ : Nat → Nat} {h : eH} {s : fS} {q}, fC m 1 φ s φ h s → SN s = some q → gG m 1 φ s lI q (sN 192 h)) {φ : Nat → Nat} {h : eH} {s : fS} (R : fC m b φ0 σo φ h s) (hF : FX35_skip_b31 N SE SL SN s = some q) : gG m b φ0 σo lU q (fX35_skip_b31 N sE sL sN h) := by
  unfold FX35_skip_b31 at hF
  unfold fX35_skip_b31
  exact g_ret R hF trivial
def FX35_skip (N : Nat) (SE : Int → fS → Option (Unit × fS)) (SL : Int → Int → Int → fS → Option (Int × fS)) (SN : fS → Option (Int × fS)) (s : fS) : Option (Unit × fS) :=
  (FX35_readGlue N SE SN s).bind fun q2 =>
  if ¬ ((q2.2.i 192 46) = 0) then
    FX35_skip_b31 N SE SL SN q2.2
  else
    (FX35_glueItem N SL (q2.2.i 192 114) (q2.2.i 192 115) (q2.2.i 192 116) (q2.2.i 192 117) q2.2).bind fun q15 =>
    FX35_skip_b31 N SE SL SN q15.2
theorem SX35_skip {m b : Nat} {φ0 : Nat → Nat} {σo : fS} (hm : 1 ≤ m) (hb : 1 ≤ b) {N : Nat} {sE : Nat → Int32 → eH → Option (Unit × eH)} {SE : Int → fS → Option (Unit × fS)} {sL : Nat → Int32 → Int64 → Int64 → eH → Option (Int32 × eH)} {SL : Int → Int → Int → fS → Option (Int × fS)} {sN : Nat → eH → Option (Int32 × eH)} {SN : fS → Option (Int × fS)} {q : Unit × fS} (hsE : ∀ {φ : Nat → Nat} {h : eH} {s : fS} {x1' : Int32} {x1 : Int} {q}, fC m 1 φ s φ h s → x1' = iI x1 → r32 x1 → SE x1 s = some q → gG m 1 φ s lU q (sE 192 x1' h)) (hsL : ∀ {φ : Nat → Nat} {h : eH} {s : fS} {x1' : Int32} {x1 : Int} {x2' : Int64} {x2 : Int} {x3' : Int64} {x3 : Int} {q}, fC m 1 φ s φ h s → x1' = iI x1 → r32 x1 → x2' = iJ x2 → r64 x2 → x3' = iJ x3 → r64 x3 → SL x1 x2 x3 s = some q → gG m 1 φ s lI q (sL 192 x1' x2' x3' h)) (hsN : ∀ {φ : Nat → Nat} {h : eH} {s : fS} {q}, fC m 1 φ s φ h s → SN s = some q → gG m 1 φ s lI q (sN 192 h)) {φ : Nat → Nat} {h : eH} {s : fS} (R : fC m b φ0 σo φ h s) (hF : FX35_skip N SE SL SN s = some q) : gG m b φ0 σo lU q (fX35_skip N sE sL sN 192 h) := by
  unfold FX35_skip at hF
  unfold fX35_skip
  refine s_kok R (t_192 hm R.S) (Nat.le_of_ble_eq_true rfl) ?_
  refine s_call R hb (fun _ hq => SX35_readGlue (b := 1) (N := N) (sE := sE) (SE := SE) (sN := sN) (SN := SN) hm (Nat.le_of_ble_eq_true rfl) @hsE @hsN (R.rf) hq) hF (fun f2 rv2 h2 q2 R2 e2 E2 hF => ?_)
  refine s_gI R2 (t_192 hm R2.S) (Nat.le_of_ble_eq_true rfl) rfl ?_
  refine s_if (not_congr (i_eq rfl (c_lit 0 0 rfl) (R2.ri (t_192 hm R2.S) (Nat.le_of_ble_eq_true rfl) rfl) ⟨by decide, by decide⟩)) hF (fun c4 hF => ?_) (fun c4 hF => ?_)
  ·
    exact SX35_skip_b31 (N := N) (sE := sE) (SE := SE) (sL := sL) (SL := SL) (sN := sN) (SN := SN) hm @hsE @hsL @hsN R2 hF
  ·
    refine s_gI R2 (t_192 hm R2.S) (Nat.le_of_ble_eq_true rfl) rfl ?_
    refine s_gI R2 (t_192 hm R2.S) (Nat.le_of_ble_eq_true rfl) rfl ?_
    refine s_gI R2 (t_192 hm R2.S) (Nat.le_of_ble_eq_true rfl) rfl ?_
    refine s_gI R2 (t_192 hm R2.S) (Nat.le_of_ble_eq_true rfl) rfl ?_
    refine s_kok R2 (t_192 hm R2.S) (Nat.le_of_ble_eq_true rfl) ?_
    refine s_call R2 hb (fun _ hq => SX35_glueItem (b := 1) (N := N) (sL := sL) (SL := SL) hm (Nat.le_of_ble_eq_true rfl) @hsL (R2.rf) rfl (R2.ri (t_192 hm R2.S) (Nat.le_of_ble_eq_true rfl) rfl) rfl (R2.ri (t_192 hm R2.S) (Nat.le_of_ble_eq_true rfl) rfl) rfl (R2.ri (t_192 hm R2.S) (Nat.le_of_ble_eq_true rfl) rfl) rfl (R2.ri (t_192 hm R2.S) (Nat.le_of_ble_eq_true rfl) rfl) hq) hF (fun f10 rv10 h10 q15 R10 e10 E10 hF => ?_)
    exact SX35_skip_b31 (N := N) (sE := sE) (SE := SE) (sL := sL) (SL := SL) (sN := sN) (SN := SN) hm @hsE @hsL @hsN R10 hF
def FX35_vertically_b41 (N : Nat) (SL : Int → Int → Int → fS → Option (Int × fS)) (s0 : Int) (s : fS) : Option (Int × fS) :=
  uZ s0 (s0, s)
theorem SX35_vertically_b41 {m b : Nat} {φ0 : Nat → Nat} {σo : fS} (hm : 1 ≤ m) {N : Nat} {sL : Nat → Int32 → Int64 → Int64 → eH → Option (Int32 × eH)} {SL : Int → Int → Int → fS → Option (Int × fS)} {q : Int × fS} (hsL : ∀ {φ : Nat → Nat} {h : eH} {s : fS} {x1' : Int32} {x1 : Int} {x2' : Int64} {x2 : Int} {x3' : Int64} {x3 : Int} {q}, fC m 1 φ s φ h s → x1' = iI x1 → r32 x1 → x2' = iJ x2 → r64 x2 → x3' = iJ x3 → r64 x3 → SL x1 x2 x3 s = some q → gG m 1 φ s lI q (sL 192 x1' x2' x3' h)) {φ : Nat → Nat} {h : eH} {s : fS} {s0' : Int32} {s0 : Int} (R : fC m b φ0 σo φ h s) (es0 : s0' = iI s0) (rs0 : r32 s0) (hF : FX35_vertically_b41 N SL s0 s = some q) : gG m b φ0 σo lI q (fX35_vertically_b41 N sL s0' h) := by
  subst es0
  unfold FX35_vertically_b41 at hF
  unfold fX35_vertically_b41
  exact g_z R rfl hF ⟨rfl, rs0⟩
def FX35_vertically_b29 (N : Nat) (SL : Int → Int → Int → fS → Option (Int × fS)) (s : fS) : Option (Int × fS) :=
  if ¬ ((s.i 192 46) = 0) then
    FX35_vertically_b41 N SL 0 s
  else
    FX35_vertically_b41 N SL 1 s
theorem SX35_vertically_b29 {m b : Nat} {φ0 : Nat → Nat} {σo : fS} (hm : 1 ≤ m) {N : Nat} {sL : Nat → Int32 → Int64 → Int64 → eH → Option (Int32 × eH)} {SL : Int → Int → Int → fS → Option (Int × fS)} {q : Int × fS} (hsL : ∀ {φ : Nat → Nat} {h : eH} {s : fS} {x1' : Int32} {x1 : Int} {x2' : Int64} {x2 : Int} {x3' : Int64} {x3 : Int} {q}, fC m 1 φ s φ h s → x1' = iI x1 → r32 x1 → x2' = iJ x2 → r64 x2 → x3' = iJ x3 → r64 x3 → SL x1 x2 x3 s = some q → gG m 1 φ s lI q (sL 192 x1' x2' x3' h)) {φ : Nat → Nat} {h : eH} {s : fS} (R : fC m b φ0 σo φ h s) (hF : FX35_vertically_b29 N SL s = some q) : gG m b φ0 σo lI q (fX35_vertically_b29 N sL 192 h) := by
  unfold FX35_vertically_b29 at hF
  unfold fX35_vertically_b29
  refine s_gI R (t_192 hm R.S) (Nat.le_of_ble_eq_true rfl) rfl ?_
  refine s_if (not_congr (i_eq rfl (c_lit 0 0 rfl) (R.ri (t_192 hm R.S) (Nat.le_of_ble_eq_true rfl) rfl) ⟨by decide, by decide⟩)) hF (fun c2 hF => ?_) (fun c2 hF => ?_)
  ·
    exact SX35_vertically_b41 (N := N) (sL := sL) (SL := SL) hm @hsL R (c_lit 0 0 rfl) ⟨by decide, by decide⟩ hF
  ·
    exact SX35_vertically_b41 (N := N) (sL := sL) (SL := SL) hm @hsL R (c_lit 1 1 rfl) ⟨by decide, by decide⟩ hF
def FX35_vertically (N : Nat) (SL : Int → Int → Int → fS → Option (Int × fS)) (s : fS) : Option (Int × fS) :=
  (FX35_mode s).bind fun q2 =>
  if ¬ (q2.1 = 3) then
    (FX35_mode q2.2).bind fun q5 =>
    if ¬ (q5.1 = 2) then
      FX35_vertically_b29 N SL q5.2
    else
      (FX35_endParagraph N SL q5.2).bind fun q8 =>
      FX35_vertically_b29 N SL q8.2
  else
    (FX35_fail 15 q2.2).bind fun q10 =>
    FX35_vertically_b29 N SL q10.2
theorem SX35_vertically {m b : Nat} {φ0 : Nat → Nat} {σo : fS} (hm : 1 ≤ m) (hb : 1 ≤ b) {N : Nat} {sL : Nat → Int32 → Int64 → Int64 → eH → Option (Int32 × eH)} {SL : Int → Int → Int → fS → Option (Int × fS)} {q : Int × fS} (hsL : ∀ {φ : Nat → Nat} {h : eH} {s : fS} {x1' : Int32} {x1 : Int} {x2' : Int64} {x2 : Int} {x3' : Int64} {x3 : Int} {q}, fC m 1 φ s φ h s → x1' = iI x1 → r32 x1 → x2' = iJ x2 → r64 x2 → x3' = iJ x3 → r64 x3 → SL x1 x2 x3 s = some q → gG m 1 φ s lI q (sL 192 x1' x2' x3' h)) {φ : Nat → Nat} {h : eH} {s : fS} (R : fC m b φ0 σo φ h s) (hF : FX35_vertically N SL s = some q) : gG m b φ0 σo lI q (fX35_vertically N sL 192 h) := by
  unfold FX35_vertically at hF
  unfold fX35_vertically
  refine s_kok R (t_192 hm R.S) (Nat.le_of_ble_eq_true rfl) ?_
  refine s_call R (Nat.zero_le _) (fun _ hq => SX35_mode (b := 0) hm (R.rf) hq) hF (fun f2 rv2 h2 q2 R2 e2 E2 hF => ?_)
  refine s_if (not_congr (i_eq e2.1 (c_lit 3 3 rfl) e2.2 ⟨by decide, by decide⟩)) hF (fun c3 hF => ?_) (fun c3 hF => ?_)
  ·
    refine s_kok R2 (t_192 hm R2.S) (Nat.le_of_ble_eq_true rfl) ?_
    refine s_call R2 (Nat.zero_le _) (fun _ hq => SX35_mode (b := 0) hm (R2.rf) hq) hF (fun f5 rv5 h5 q5 R5 e5 E5 hF => ?_)
    refine s_if (not_congr (i_eq e5.1 (c_lit 2 2 rfl) e5.2 ⟨by decide, by decide⟩)) hF (fun c6 hF => ?_) (fun c6 hF => ?_)
    ·
      exact SX35_vertically_b29 (N := N) (sL := sL) (SL := SL) hm @hsL R5 hF
    ·
      refine s_kok R5 (t_192 hm R5.S) (Nat.le_of_ble_eq_true rfl) ?_
      refine s_call R5 hb (fun _ hq => SX35_endParagraph (b := 1) (N := N) (sL := sL) (SL := SL) hm (Nat.le_of_ble_eq_true rfl) @hsL (R5.rf) hq) hF (fun f8 rv8 h8 q8 R8 e8 E8 hF => ?_)
      exact SX35_vertically_b29 (N := N) (sL := sL) (SL := SL) hm @hsL R8 hF
  ·
    refine s_kok R2 (t_192 hm R2.S) (Nat.le_of_ble_eq_true rfl) ?_
    refine s_call R2 (Nat.zero_le _) (fun _ hq => SX35_fail (b := 0) hm (R2.rf) (c_lit 15 15 rfl) ⟨by decide, by decide⟩ hq) hF (fun f10 rv10 h10 q10 R10 e10 E10 hF => ?_)
    exact SX35_vertically_b29 (N := N) (sL := sL) (SL := SL) hm @hsL R10 hF
def FX35_kernItem_b31 (N : Nat) (SL : Int → Int → Int → fS → Option (Int × fS)) (s : fS) : Option (Unit × fS) :=
  some ((), s)
theorem SX35_kernItem_b31 {m b : Nat} {φ0 : Nat → Nat} {σo : fS} (hm : 1 ≤ m) {N : Nat} {sL : Nat → Int32 → Int64 → Int64 → eH → Option (Int32 × eH)} {SL : Int → Int → Int → fS → Option (Int × fS)} {q : Unit × fS} (hsL : ∀ {φ : Nat → Nat} {h : eH} {s : fS} {x1' : Int32} {x1 : Int} {x2' : Int64} {x2 : Int} {x3' : Int64} {x3 : Int} {q}, fC m 1 φ s φ h s → x1' = iI x1 → r32 x1 → x2' = iJ x2 → r64 x2 → x3' = iJ x3 → r64 x3 → SL x1 x2 x3 s = some q → gG m 1 φ s lI q (sL 192 x1' x2' x3' h)) {φ : Nat → Nat} {h : eH} {s : fS} (R : fC m b φ0 σo φ h s) (hF : FX35_kernItem_b31 N SL s = some q) : gG m b φ0 σo lU q (fX35_kernItem_b31 N sL h) := by
  unfold FX35_kernItem_b31 at hF
  unfold fX35_kernItem_b31
  exact g_ret R hF trivial
def FX35_kernItem (N : Nat) (SL : Int → Int → Int → fS → Option (Int × fS)) (p0 : Int) (s : fS) : Option (Unit × fS) :=
  (FX35_mode s).bind fun q2 =>
  if ¬ (q2.1 = 0) then
    (FX35_item N 3 p0 1 0 0 0 q2.2).bind fun q5 =>
    FX35_kernItem_b31 N SL q5.2
  else
    (FX35_outer N SL 3 p0 0 0 0 (-1) 0 q2.2).bind fun q7 =>
    FX35_kernItem_b31 N SL q7.2
theorem SX35_kernItem {m b : Nat} {φ0 : Nat → Nat} {σo : fS} (hm : 1 ≤ m) (hb : 1 ≤ b) {N : Nat} {sL : Nat → Int32 → Int64 → Int64 → eH → Option (Int32 × eH)} {SL : Int → Int → Int → fS → Option (Int × fS)} {q : Unit × fS} (hsL : ∀ {φ : Nat → Nat} {h : eH} {s : fS} {x1' : Int32} {x1 : Int} {x2' : Int64} {x2 : Int} {x3' : Int64} {x3 : Int} {q}, fC m 1 φ s φ h s → x1' = iI x1 → r32 x1 → x2' = iJ x2 → r64 x2 → x3' = iJ x3 → r64 x3 → SL x1 x2 x3 s = some q → gG m 1 φ s lI q (sL 192 x1' x2' x3' h)) {φ : Nat → Nat} {h : eH} {s : fS} {p0' : Int32} {p0 : Int} (R : fC m b φ0 σo φ h s) (ep0 : p0' = iI p0) (rp0 : r32 p0) (hF : FX35_kernItem N SL p0 s = some q) : gG m b φ0 σo lU q (fX35_kernItem N sL 192 p0' h) := by
  subst ep0
  unfold FX35_kernItem at hF
  unfold fX35_kernItem
  refine s_kok R (t_192 hm R.S) (Nat.le_of_ble_eq_true rfl) ?_
  refine s_call R (Nat.zero_le _) (fun _ hq => SX35_mode (b := 0) hm (R.rf) hq) hF (fun f2 rv2 h2 q2 R2 e2 E2 hF => ?_)
  refine s_if (not_congr (i_eq e2.1 (c_lit 0 0 rfl) e2.2 ⟨by decide, by decide⟩)) hF (fun c3 hF => ?_) (fun c3 hF => ?_)
  ·
    refine s_kok R2 (t_192 hm R2.S) (Nat.le_of_ble_eq_true rfl) ?_
    refine s_call R2 hb (fun _ hq => SX35_item (b := 1) (N := N) hm (Nat.le_of_ble_eq_true rfl) (R2.rf) (c_lit 3 3 rfl) ⟨by decide, by decide⟩ rfl rp0 (c_lit 1 1 rfl) ⟨by decide, by decide⟩ (c_lit 0 0 rfl) ⟨by decide, by decide⟩ (c_lit 0 0 rfl) ⟨by decide, by decide⟩ (c_lit 0 0 rfl) ⟨by decide, by decide⟩ hq) hF (fun f5 rv5 h5 q5 R5 e5 E5 hF => ?_)
    exact SX35_kernItem_b31 (N := N) (sL := sL) (SL := SL) hm @hsL R5 hF
  ·
    refine s_kok R2 (t_192 hm R2.S) (Nat.le_of_ble_eq_true rfl) ?_
    refine s_call R2 hb (fun _ hq => SX35_outer (b := 1) (N := N) (sL := sL) (SL := SL) hm (Nat.le_of_ble_eq_true rfl) @hsL (R2.rf) (c_lit 3 3 rfl) ⟨by decide, by decide⟩ rfl rp0 (c_lit 0 0 rfl) ⟨by decide, by decide⟩ (c_lit 0 0 rfl) ⟨by decide, by decide⟩ (c_lit 0 0 rfl) ⟨by decide, by decide⟩ (c_lit (-1) (-1) rfl) ⟨by decide, by decide⟩ (c_lit 0 0 rfl) ⟨by decide, by decide⟩ hq) hF (fun f7 rv7 h7 q7 R7 e7 E7 hF => ?_)
    exact SX35_kernItem_b31 (N := N) (sL := sL) (SL := SL) hm @hsL R7 hF
def FX35_ruleItem_b74 (N : Nat) (SL : Int → Int → Int → fS → Option (Int × fS)) (s : fS) : Option (Unit × fS) :=
  some ((), s)
theorem SX35_ruleItem_b74 {m b : Nat} {φ0 : Nat → Nat} {σo : fS} (hm : 1 ≤ m) {N : Nat} {sL : Nat → Int32 → Int64 → Int64 → eH → Option (Int32 × eH)} {SL : Int → Int → Int → fS → Option (Int × fS)} {q : Unit × fS} (hsL : ∀ {φ : Nat → Nat} {h : eH} {s : fS} {x1' : Int32} {x1 : Int} {x2' : Int64} {x2 : Int} {x3' : Int64} {x3 : Int} {q}, fC m 1 φ s φ h s → x1' = iI x1 → r32 x1 → x2' = iJ x2 → r64 x2 → x3' = iJ x3 → r64 x3 → SL x1 x2 x3 s = some q → gG m 1 φ s lI q (sL 192 x1' x2' x3' h)) {φ : Nat → Nat} {h : eH} {s : fS} (R : fC m b φ0 σo φ h s) (hF : FX35_ruleItem_b74 N SL s = some q) : gG m b φ0 σo lU q (fX35_ruleItem_b74 N sL h) := by
  unfold FX35_ruleItem_b74 at hF
  unfold fX35_ruleItem_b74
  exact g_ret R hF trivial
def FX35_ruleItem_b53 (N : Nat) (SL : Int → Int → Int → fS → Option (Int × fS)) (s : fS) : Option (Unit × fS) :=
  (FX35_isVertical s).bind fun q2 =>
  if q2.1 = 0 then
    FX35_ruleItem_b74 N SL q2.2
  else
    (uQI q2.2 287 (isub (q2.2.i 192 51) 1) (-2147483647)).bind fun σ8 =>
    FX35_ruleItem_b74 N SL σ8
theorem SX35_ruleItem_b53 {m b : Nat} {φ0 : Nat → Nat} {σo : fS} (hm : 1 ≤ m) {N : Nat} {sL : Nat → Int32 → Int64 → Int64 → eH → Option (Int32 × eH)} {SL : Int → Int → Int → fS → Option (Int × fS)} {q : Unit × fS} (hsL : ∀ {φ : Nat → Nat} {h : eH} {s : fS} {x1' : Int32} {x1 : Int} {x2' : Int64} {x2 : Int} {x3' : Int64} {x3 : Int} {q}, fC m 1 φ s φ h s → x1' = iI x1 → r32 x1 → x2' = iJ x2 → r64 x2 → x3' = iJ x3 → r64 x3 → SL x1 x2 x3 s = some q → gG m 1 φ s lI q (sL 192 x1' x2' x3' h)) {φ : Nat → Nat} {h : eH} {s : fS} (R : fC m b φ0 σo φ h s) (hF : FX35_ruleItem_b53 N SL s = some q) : gG m b φ0 σo lU q (fX35_ruleItem_b53 N sL 192 h) := by
  unfold FX35_ruleItem_b53 at hF
  unfold fX35_ruleItem_b53
  refine s_kok R (t_192 hm R.S) (Nat.le_of_ble_eq_true rfl) ?_
  refine s_call R (Nat.zero_le _) (fun _ hq => SX35_isVertical (b := 0) hm (R.rf) hq) hF (fun f2 rv2 h2 q2 R2 e2 E2 hF => ?_)
  refine s_if (i_eq e2.1 (c_lit 0 0 rfl) e2.2 ⟨by decide, by decide⟩) hF (fun c3 hF => ?_) (fun c3 hF => ?_)
  ·
    exact SX35_ruleItem_b74 (N := N) (sL := sL) (SL := SL) hm @hsL R2 hF
  ·
    refine s_gAs R2 (t_192 hm R2.S) (Nat.le_of_ble_eq_true rfl) rfl (o_192_54 hm R2.S) (a_287 hm R2) ?_
    refine s_gI R2 (t_192 hm R2.S) (Nat.le_of_ble_eq_true rfl) rfl ?_
    refine s_qI R2 (u_287 hm R2.S).1 (u_287 hm R2.S).2 (by decide) (a_287 hm R2) (c_sub rfl (c_lit 1 1 rfl)) (rr_I _) (c_lit (-2147483647) (-2147483647) rfl) ⟨by decide, by decide⟩ hF (fun h6 σ8 R6 T6 hF => ?_)
    exact SX35_ruleItem_b74 (N := N) (sL := sL) (SL := SL) hm @hsL R6 hF
def FX35_ruleItem_b34 (N : Nat) (SL : Int → Int → Int → fS → Option (Int × fS)) (l1 : Int) (s1 : Int) (s2 : Int) (s3 : Int) (s4 : Int) (s : fS) : Option (Unit × fS) :=
  (FX35_outer N SL s1 s2 s3 s4 0 (-1) l1 s).bind fun q2 =>
  FX35_ruleItem_b53 N SL q2.2
theorem SX35_ruleItem_b34 {m b : Nat} {φ0 : Nat → Nat} {σo : fS} (hm : 1 ≤ m) (hb : 1 ≤ b) {N : Nat} {sL : Nat → Int32 → Int64 → Int64 → eH → Option (Int32 × eH)} {SL : Int → Int → Int → fS → Option (Int × fS)} {q : Unit × fS} (hsL : ∀ {φ : Nat → Nat} {h : eH} {s : fS} {x1' : Int32} {x1 : Int} {x2' : Int64} {x2 : Int} {x3' : Int64} {x3 : Int} {q}, fC m 1 φ s φ h s → x1' = iI x1 → r32 x1 → x2' = iJ x2 → r64 x2 → x3' = iJ x3 → r64 x3 → SL x1 x2 x3 s = some q → gG m 1 φ s lI q (sL 192 x1' x2' x3' h)) {φ : Nat → Nat} {h : eH} {s : fS} {l1' : Int32} {l1 : Int} {s1' : Int32} {s1 : Int} {s2' : Int32} {s2 : Int} {s3' : Int32} {s3 : Int} {s4' : Int32} {s4 : Int} (R : fC m b φ0 σo φ h s) (el1 : l1' = iI l1) (rl1 : r32 l1) (es1 : s1' = iI s1) (rs1 : r32 s1) (es2 : s2' = iI s2) (rs2 : r32 s2) (es3 : s3' = iI s3) (rs3 : r32 s3) (es4 : s4' = iI s4) (rs4 : r32 s4) (hF : FX35_ruleItem_b34 N SL l1 s1 s2 s3 s4 s = some q) : gG m b φ0 σo lU q (fX35_ruleItem_b34 N sL 192 l1' 192 s1' s2' s3' s4' h) := by
  subst el1; subst es1; subst es2; subst es3; subst es4
  unfold FX35_ruleItem_b34 at hF
  unfold fX35_ruleItem_b34
  refine s_kok R (t_192 hm R.S) (Nat.le_of_ble_eq_true rfl) ?_
  refine s_call R hb (fun _ hq => SX35_outer (b := 1) (N := N) (sL := sL) (SL := SL) hm (Nat.le_of_ble_eq_true rfl) @hsL (R.rf) rfl rs1 rfl rs2 rfl rs3 rfl rs4 (c_lit 0 0 rfl) ⟨by decide, by decide⟩ (c_lit (-1) (-1) rfl) ⟨by decide, by decide⟩ rfl rl1 hq) hF (fun f2 rv2 h2 q2 R2 e2 E2 hF => ?_)
  exact SX35_ruleItem_b53 (N := N) (sL := sL) (SL := SL) hm @hsL R2 hF
def FX35_ruleItem_b22 (N : Nat) (SL : Int → Int → Int → fS → Option (Int × fS)) (l1 : Int) (l3 : Int) (s1 : Int) (s2 : Int) (s3 : Int) (s : fS) : Option (Unit × fS) :=
  if ¬ (l3 = (-1073741824)) then
    FX35_ruleItem_b34 N SL l1 s1 s2 s3 l3 s
  else
    FX35_ruleItem_b34 N SL l1 s1 s2 s3 0 s
theorem SX35_ruleItem_b22 {m b : Nat} {φ0 : Nat → Nat} {σo : fS} (hm : 1 ≤ m) (hb : 1 ≤ b) {N : Nat} {sL : Nat → Int32 → Int64 → Int64 → eH → Option (Int32 × eH)} {SL : Int → Int → Int → fS → Option (Int × fS)} {q : Unit × fS} (hsL : ∀ {φ : Nat → Nat} {h : eH} {s : fS} {x1' : Int32} {x1 : Int} {x2' : Int64} {x2 : Int} {x3' : Int64} {x3 : Int} {q}, fC m 1 φ s φ h s → x1' = iI x1 → r32 x1 → x2' = iJ x2 → r64 x2 → x3' = iJ x3 → r64 x3 → SL x1 x2 x3 s = some q → gG m 1 φ s lI q (sL 192 x1' x2' x3' h)) {φ : Nat → Nat} {h : eH} {s : fS} {l1' : Int32} {l1 : Int} {l3' : Int32} {l3 : Int} {s1' : Int32} {s1 : Int} {s2' : Int32} {s2 : Int} {s3' : Int32} {s3 : Int} (R : fC m b φ0 σo φ h s) (el1 : l1' = iI l1) (rl1 : r32 l1) (el3 : l3' = iI l3) (rl3 : r32 l3) (es1 : s1' = iI s1) (rs1 : r32 s1) (es2 : s2' = iI s2) (rs2 : r32 s2) (es3 : s3' = iI s3) (rs3 : r32 s3) (hF : FX35_ruleItem_b22 N SL l1 l3 s1 s2 s3 s = some q) : gG m b φ0 σo lU q (fX35_ruleItem_b22 N sL 192 l1' l3' 192 s1' s2' s3' h) := by
  subst el1; subst el3; subst es1; subst es2; subst es3
  unfold FX35_ruleItem_b22 at hF
  unfold fX35_ruleItem_b22
  refine s_if (not_congr (i_eq rfl (c_lit (-1073741824) (-1073741824) rfl) rl3 ⟨by decide, by decide⟩)) hF (fun c1 hF => ?_) (fun c1 hF => ?_)
  ·
    exact SX35_ruleItem_b34 (N := N) (sL := sL) (SL := SL) hm hb @hsL R rfl rl1 rfl rs1 rfl rs2 rfl rs3 rfl rl3 hF
  ·
    exact SX35_ruleItem_b34 (N := N) (sL := sL) (SL := SL) hm hb @hsL R rfl rl1 rfl rs1 rfl rs2 rfl rs3 (c_lit 0 0 rfl) ⟨by decide, by decide⟩ hF
def FX35_ruleItem (N : Nat) (SL : Int → Int → Int → fS → Option (Int × fS)) (p0 : Int) (p1 : Int) (p2 : Int) (s : fS) : Option (Unit × fS) :=
  (FX35_mode s).bind fun q2 =>
  if ¬ (q2.1 = 0) then
    (FX35_item N 1 p0 p1 p2 0 0 q2.2).bind fun q5 =>
    FX35_ruleItem_b53 N SL q5.2
  else
    if ¬ (p1 = (-1073741824)) then
      FX35_ruleItem_b22 N SL p0 p2 5 0 p1 q2.2
    else
      FX35_ruleItem_b22 N SL p0 p2 5 0 0 q2.2
theorem SX35_ruleItem {m b : Nat} {φ0 : Nat → Nat} {σo : fS} (hm : 1 ≤ m) (hb : 1 ≤ b) {N : Nat} {sL : Nat → Int32 → Int64 → Int64 → eH → Option (Int32 × eH)} {SL : Int → Int → Int → fS → Option (Int × fS)} {q : Unit × fS} (hsL : ∀ {φ : Nat → Nat} {h : eH} {s : fS} {x1' : Int32} {x1 : Int} {x2' : Int64} {x2 : Int} {x3' : Int64} {x3 : Int} {q}, fC m 1 φ s φ h s → x1' = iI x1 → r32 x1 → x2' = iJ x2 → r64 x2 → x3' = iJ x3 → r64 x3 → SL x1 x2 x3 s = some q → gG m 1 φ s lI q (sL 192 x1' x2' x3' h)) {φ : Nat → Nat} {h : eH} {s : fS} {p0' : Int32} {p0 : Int} {p1' : Int32} {p1 : Int} {p2' : Int32} {p2 : Int} (R : fC m b φ0 σo φ h s) (ep0 : p0' = iI p0) (rp0 : r32 p0) (ep1 : p1' = iI p1) (rp1 : r32 p1) (ep2 : p2' = iI p2) (rp2 : r32 p2) (hF : FX35_ruleItem N SL p0 p1 p2 s = some q) : gG m b φ0 σo lU q (fX35_ruleItem N sL 192 p0' p1' p2' h) := by
  subst ep0; subst ep1; subst ep2
  unfold FX35_ruleItem at hF
  unfold fX35_ruleItem
  refine s_kok R (t_192 hm R.S) (Nat.le_of_ble_eq_true rfl) ?_
  refine s_call R (Nat.zero_le _) (fun _ hq => SX35_mode (b := 0) hm (R.rf) hq) hF (fun f2 rv2 h2 q2 R2 e2 E2 hF => ?_)
  refine s_if (not_congr (i_eq e2.1 (c_lit 0 0 rfl) e2.2 ⟨by decide, by decide⟩)) hF (fun c3 hF => ?_) (fun c3 hF => ?_)
  ·
    refine s_kok R2 (t_192 hm R2.S) (Nat.le_of_ble_eq_true rfl) ?_
    refine s_call R2 hb (fun _ hq => SX35_item (b := 1) (N := N) hm (Nat.le_of_ble_eq_true rfl) (R2.rf) (c_lit 1 1 rfl) ⟨by decide, by decide⟩ rfl rp0 rfl rp1 rfl rp2 (c_lit 0 0 rfl) ⟨by decide, by decide⟩ (c_lit 0 0 rfl) ⟨by decide, by decide⟩ hq) hF (fun f5 rv5 h5 q5 R5 e5 E5 hF => ?_)
    exact SX35_ruleItem_b53 (N := N) (sL := sL) (SL := SL) hm @hsL R5 hF
  ·
    refine s_if (not_congr (i_eq rfl (c_lit (-1073741824) (-1073741824) rfl) rp1 ⟨by decide, by decide⟩)) hF (fun c6 hF => ?_) (fun c6 hF => ?_)
    ·
      exact SX35_ruleItem_b22 (N := N) (sL := sL) (SL := SL) hm hb @hsL R2 rfl rp0 rfl rp2 (c_lit 5 5 rfl) ⟨by decide, by decide⟩ (c_lit 0 0 rfl) ⟨by decide, by decide⟩ rfl rp1 hF
    ·
      exact SX35_ruleItem_b22 (N := N) (sL := sL) (SL := SL) hm hb @hsL R2 rfl rp0 rfl rp2 (c_lit 5 5 rfl) ⟨by decide, by decide⟩ (c_lit 0 0 rfl) ⟨by decide, by decide⟩ (c_lit 0 0 rfl) ⟨by decide, by decide⟩ hF
def FX35_rule_b95 (N : Nat) (SE : Int → fS → Option (Unit × fS)) (SL : Int → Int → Int → fS → Option (Int × fS)) (SN : fS → Option (Int × fS)) (K12 : Int → Int → Int → Int → fS → Option (Unit × fS)) (l4 : Int) (l5 : Int) (l6 : Int) (s : fS) : Option (Unit × fS) :=
  K12 l4 l5 l6 0 s
theorem SX35_rule_b95 {m b : Nat} {φ0 : Nat → Nat} {σo : fS} (hm : 1 ≤ m) (hb : 1 ≤ b) {N : Nat} {sE : Nat → Int32 → eH → Option (Unit × eH)} {SE : Int → fS → Option (Unit × fS)} {sL : Nat → Int32 → Int64 → Int64 → eH → Option (Int32 × eH)} {SL : Int → Int → Int → fS → Option (Int × fS)} {sN : Nat → eH → Option (Int32 × eH)} {SN : fS → Option (Int × fS)} {k12 : Nat → Int32 → Int32 → Int32 → Int32 → eH → Option (Unit × eH)} {K12 : Int → Int → Int → Int → fS → Option (Unit × fS)} {q : Unit × fS} (hsE : ∀ {φ : Nat → Nat} {h : eH} {s : fS} {x1' : Int32} {x1 : Int} {q}, fC m 1 φ s φ h s → x1' = iI x1 → r32 x1 → SE x1 s = some q → gG m 1 φ s lU q (sE 192 x1' h)) (hsL : ∀ {φ : Nat → Nat} {h : eH} {s : fS} {x1' : Int32} {x1 : Int} {x2' : Int64} {x2 : Int} {x3' : Int64} {x3 : Int} {q}, fC m 1 φ s φ h s → x1' = iI x1 → r32 x1 → x2' = iJ x2 → r64 x2 → x3' = iJ x3 → r64 x3 → SL x1 x2 x3 s = some q → gG m 1 φ s lI q (sL 192 x1' x2' x3' h)) (hsN : ∀ {φ : Nat → Nat} {h : eH} {s : fS} {q}, fC m 1 φ s φ h s → SN s = some q → gG m 1 φ s lI q (sN 192 h)) (hk12 : ∀ {φ : Nat → Nat} {h : eH} {s : fS} {l4' : Int32} {l4 : Int} {l5' : Int32} {l5 : Int} {l6' : Int32} {l6 : Int} {l7' : Int32} {l7 : Int}, fC m b φ0 σo φ h s → l4' = iI l4 → r32 l4 → l5' = iI l5 → r32 l5 → l6' = iI l6 → r32 l6 → l7' = iI l7 → r32 l7 → K12 l4 l5 l6 l7 s = some q → gG m b φ0 σo lU q (k12 192 l4' l5' l6' l7' h)) {φ : Nat → Nat} {h : eH} {s : fS} {l4' : Int32} {l4 : Int} {l5' : Int32} {l5 : Int} {l6' : Int32} {l6 : Int} (R : fC m b φ0 σo φ h s) (el4 : l4' = iI l4) (rl4 : r32 l4) (el5 : l5' = iI l5) (rl5 : r32 l5) (el6 : l6' = iI l6) (rl6 : r32 l6) (hF : FX35_rule_b95 N SE SL SN K12 l4 l5 l6 s = some q) : gG m b φ0 σo lU q (fX35_rule_b95 N sE sL sN k12 192 l4' l5' l6' h) := by
  subst el4; subst el5; subst el6
  unfold FX35_rule_b95 at hF
  unfold fX35_rule_b95
  exact hk12 R rfl rl4 rfl rl5 rfl rl6 (c_lit 0 0 rfl) ⟨by decide, by decide⟩ hF
def FX35_rule_b69 (N : Nat) (SE : Int → fS → Option (Unit × fS)) (SL : Int → Int → Int → fS → Option (Int × fS)) (SN : fS → Option (Int × fS)) (K12 : Int → Int → Int → Int → fS → Option (Unit × fS)) (l4 : Int) (l5 : Int) (l6 : Int) (l7 : Int) (s : fS) : Option (Unit × fS) :=
  if ¬ ((s.i 192 46) = 0) then
    FX35_rule_b95 N SE SL SN K12 l4 l5 l6 s
  else
    (FX35_keyword N SE 1000000143 s).bind fun q5 =>
    if q5.1 = 0 then
      FX35_rule_b95 N SE SL SN K12 l4 l5 l6 q5.2
    else
      (FX35_dimension N SE SN q5.2).bind fun q8 =>
      K12 l4 l5 q8.1 l7 q8.2
theorem SX35_rule_b69 {m b : Nat} {φ0 : Nat → Nat} {σo : fS} (hm : 1 ≤ m) (hb : 1 ≤ b) {N : Nat} {sE : Nat → Int32 → eH → Option (Unit × eH)} {SE : Int → fS → Option (Unit × fS)} {sL : Nat → Int32 → Int64 → Int64 → eH → Option (Int32 × eH)} {SL : Int → Int → Int → fS → Option (Int × fS)} {sN : Nat → eH → Option (Int32 × eH)} {SN : fS → Option (Int × fS)} {k12 : Nat → Int32 → Int32 → Int32 → Int32 → eH → Option (Unit × eH)} {K12 : Int → Int → Int → Int → fS → Option (Unit × fS)} {q : Unit × fS} (hsE : ∀ {φ : Nat → Nat} {h : eH} {s : fS} {x1' : Int32} {x1 : Int} {q}, fC m 1 φ s φ h s → x1' = iI x1 → r32 x1 → SE x1 s = some q → gG m 1 φ s lU q (sE 192 x1' h)) (hsL : ∀ {φ : Nat → Nat} {h : eH} {s : fS} {x1' : Int32} {x1 : Int} {x2' : Int64} {x2 : Int} {x3' : Int64} {x3 : Int} {q}, fC m 1 φ s φ h s → x1' = iI x1 → r32 x1 → x2' = iJ x2 → r64 x2 → x3' = iJ x3 → r64 x3 → SL x1 x2 x3 s = some q → gG m 1 φ s lI q (sL 192 x1' x2' x3' h)) (hsN : ∀ {φ : Nat → Nat} {h : eH} {s : fS} {q}, fC m 1 φ s φ h s → SN s = some q → gG m 1 φ s lI q (sN 192 h)) (hk12 : ∀ {φ : Nat → Nat} {h : eH} {s : fS} {l4' : Int32} {l4 : Int} {l5' : Int32} {l5 : Int} {l6' : Int32} {l6 : Int} {l7' : Int32} {l7 : Int}, fC m b φ0 σo φ h s → l4' = iI l4 → r32 l4 → l5' = iI l5 → r32 l5 → l6' = iI l6 → r32 l6 → l7' = iI l7 → r32 l7 → K12 l4 l5 l6 l7 s = some q → gG m b φ0 σo lU q (k12 192 l4' l5' l6' l7' h)) {φ : Nat → Nat} {h : eH} {s : fS} {l4' : Int32} {l4 : Int} {l5' : Int32} {l5 : Int} {l6' : Int32} {l6 : Int} {l7' : Int32} {l7 : Int} (R : fC m b φ0 σo φ h s) (el4 : l4' = iI l4) (rl4 : r32 l4) (el5 : l5' = iI l5) (rl5 : r32 l5) (el6 : l6' = iI l6) (rl6 : r32 l6) (el7 : l7' = iI l7) (rl7 : r32 l7) (hF : FX35_rule_b69 N SE SL SN K12 l4 l5 l6 l7 s = some q) : gG m b φ0 σo lU q (fX35_rule_b69 N sE sL sN k12 192 l4' l5' l6' l7' h) := by
  subst el4; subst el5; subst el6; subst el7
  unfold FX35_rule_b69 at hF
  unfold fX35_rule_b69
  refine s_gI R (t_192 hm R.S) (Nat.le_of_ble_eq_true rfl) rfl ?_
  refine s_if (not_congr (i_eq rfl (c_lit 0 0 rfl) (R.ri (t_192 hm R.S) (Nat.le_of_ble_eq_true rfl) rfl) ⟨by decide, by decide⟩)) hF (fun c2 hF => ?_) (fun c2 hF => ?_)
  ·
    exact SX35_rule_b95 (N := N) (sE := sE) (SE := SE) (sL := sL) (SL := SL) (sN := sN) (SN := SN) (k12 := k12) (K12 := K12) hm hb @hsE @hsL @hsN @hk12 R rfl rl4 rfl rl5 rfl rl6 hF
  ·
    refine s_kok R (t_192 hm R.S) (Nat.le_of_ble_eq_true rfl) ?_
    refine s_call R hb (fun _ hq => SX35_keyword (b := 1) (N := N) (sE := sE) (SE := SE) hm (Nat.le_of_ble_eq_true rfl) @hsE (R.rf) hq) hF (fun f4 rv4 h4 q5 R4 e4 E4 hF => ?_)
    refine s_if (i_eq e4.1 (c_lit 0 0 rfl) e4.2 ⟨by decide, by decide⟩) hF (fun c5 hF => ?_) (fun c5 hF => ?_)
    ·
      exact SX35_rule_b95 (N := N) (sE := sE) (SE := SE) (sL := sL) (SL := SL) (sN := sN) (SN := SN) (k12 := k12) (K12 := K12) hm hb @hsE @hsL @hsN @hk12 R4 rfl rl4 rfl rl5 rfl rl6 hF
    ·
      refine s_kok R4 (t_192 hm R4.S) (Nat.le_of_ble_eq_true rfl) ?_
      refine s_call R4 hb (fun _ hq => SX35_dimension (b := 1) (N := N) (sE := sE) (SE := SE) (sN := sN) (SN := SN) hm (Nat.le_of_ble_eq_true rfl) @hsE @hsN (R4.rf) hq) hF (fun f7 rv7 h7 q8 R7 e7 E7 hF => ?_)
      exact hk12 R7 rfl rl4 rfl rl5 e7.1 e7.2 rfl rl7 hF
def FX35_rule_b118 (N : Nat) (SE : Int → fS → Option (Unit × fS)) (SL : Int → Int → Int → fS → Option (Int × fS)) (SN : fS → Option (Int × fS)) (s : fS) : Option (Unit × fS) :=
  some ((), s)
theorem SX35_rule_b118 {m b : Nat} {φ0 : Nat → Nat} {σo : fS} (hm : 1 ≤ m) {N : Nat} {sE : Nat → Int32 → eH → Option (Unit × eH)} {SE : Int → fS → Option (Unit × fS)} {sL : Nat → Int32 → Int64 → Int64 → eH → Option (Int32 × eH)} {SL : Int → Int → Int → fS → Option (Int × fS)} {sN : Nat → eH → Option (Int32 × eH)} {SN : fS → Option (Int × fS)} {q : Unit × fS} (hsE : ∀ {φ : Nat → Nat} {h : eH} {s : fS} {x1' : Int32} {x1 : Int} {q}, fC m 1 φ s φ h s → x1' = iI x1 → r32 x1 → SE x1 s = some q → gG m 1 φ s lU q (sE 192 x1' h)) (hsL : ∀ {φ : Nat → Nat} {h : eH} {s : fS} {x1' : Int32} {x1 : Int} {x2' : Int64} {x2 : Int} {x3' : Int64} {x3 : Int} {q}, fC m 1 φ s φ h s → x1' = iI x1 → r32 x1 → x2' = iJ x2 → r64 x2 → x3' = iJ x3 → r64 x3 → SL x1 x2 x3 s = some q → gG m 1 φ s lI q (sL 192 x1' x2' x3' h)) (hsN : ∀ {φ : Nat → Nat} {h : eH} {s : fS} {q}, fC m 1 φ s φ h s → SN s = some q → gG m 1 φ s lI q (sN 192 h)) {φ : Nat → Nat} {h : eH} {s : fS} (R : fC m b φ0 σo φ h s) (hF : FX35_rule_b118 N SE SL SN s = some q) : gG m b φ0 σo lU q (fX35_rule_b118 N sE sL sN h) := by
  unfold FX35_rule_b118 at hF
  unfold fX35_rule_b118
  exact g_ret R hF trivial
def FX35_rule_b101 (N : Nat) (SE : Int → fS → Option (Unit × fS)) (SL : Int → Int → Int → fS → Option (Int × fS)) (SN : fS → Option (Int × fS)) (l4 : Int) (l5 : Int) (l6 : Int) (s : fS) : Option (Unit × fS) :=
  if ¬ ((s.i 192 46) = 0) then
    FX35_rule_b118 N SE SL SN s
  else
    (FX35_ruleItem N SL l4 l5 l6 s).bind fun q5 =>
    FX35_rule_b118 N SE SL SN q5.2
theorem SX35_rule_b101 {m b : Nat} {φ0 : Nat → Nat} {σo : fS} (hm : 1 ≤ m) (hb : 1 ≤ b) {N : Nat} {sE : Nat → Int32 → eH → Option (Unit × eH)} {SE : Int → fS → Option (Unit × fS)} {sL : Nat → Int32 → Int64 → Int64 → eH → Option (Int32 × eH)} {SL : Int → Int → Int → fS → Option (Int × fS)} {sN : Nat → eH → Option (Int32 × eH)} {SN : fS → Option (Int × fS)} {q : Unit × fS} (hsE : ∀ {φ : Nat → Nat} {h : eH} {s : fS} {x1' : Int32} {x1 : Int} {q}, fC m 1 φ s φ h s → x1' = iI x1 → r32 x1 → SE x1 s = some q → gG m 1 φ s lU q (sE 192 x1' h)) (hsL : ∀ {φ : Nat → Nat} {h : eH} {s : fS} {x1' : Int32} {x1 : Int} {x2' : Int64} {x2 : Int} {x3' : Int64} {x3 : Int} {q}, fC m 1 φ s φ h s → x1' = iI x1 → r32 x1 → x2' = iJ x2 → r64 x2 → x3' = iJ x3 → r64 x3 → SL x1 x2 x3 s = some q → gG m 1 φ s lI q (sL 192 x1' x2' x3' h)) (hsN : ∀ {φ : Nat → Nat} {h : eH} {s : fS} {q}, fC m 1 φ s φ h s → SN s = some q → gG m 1 φ s lI q (sN 192 h)) {φ : Nat → Nat} {h : eH} {s : fS} {l4' : Int32} {l4 : Int} {l5' : Int32} {l5 : Int} {l6' : Int32} {l6 : Int} (R : fC m b φ0 σo φ h s) (el4 : l4' = iI l4) (rl4 : r32 l4) (el5 : l5' = iI l5) (rl5 : r32 l5) (el6 : l6' = iI l6) (rl6 : r32 l6) (hF : FX35_rule_b101 N SE SL SN l4 l5 l6 s = some q) : gG m b φ0 σo lU q (fX35_rule_b101 N sE sL sN 192 l4' l5' l6' h) := by
  subst el4; subst el5; subst el6
  unfold FX35_rule_b101 at hF
  unfold fX35_rule_b101
  refine s_gI R (t_192 hm R.S) (Nat.le_of_ble_eq_true rfl) rfl ?_
  refine s_if (not_congr (i_eq rfl (c_lit 0 0 rfl) (R.ri (t_192 hm R.S) (Nat.le_of_ble_eq_true rfl) rfl) ⟨by decide, by decide⟩)) hF (fun c2 hF => ?_) (fun c2 hF => ?_)
  ·
    exact SX35_rule_b118 (N := N) (sE := sE) (SE := SE) (sL := sL) (SL := SL) (sN := sN) (SN := SN) hm @hsE @hsL @hsN R hF
  ·
    refine s_kok R (t_192 hm R.S) (Nat.le_of_ble_eq_true rfl) ?_
    refine s_call R hb (fun _ hq => SX35_ruleItem (b := 1) (N := N) (sL := sL) (SL := SL) hm (Nat.le_of_ble_eq_true rfl) @hsL (R.rf) rfl rl4 rfl rl5 rfl rl6 hq) hF (fun f4 rv4 h4 q5 R4 e4 E4 hF => ?_)
    exact SX35_rule_b118 (N := N) (sE := sE) (SE := SE) (sL := sL) (SL := SL) (sN := sN) (SN := SN) hm @hsE @hsL @hsN R4 hF
def FX35_rule_b12 (N : Nat) (SE : Int → fS → Option (Unit × fS)) (SL : Int → Int → Int → fS → Option (Int × fS)) (SN : fS → Option (Int × fS)) : Nat → Int → Int → Int → Int → fS → Option (Unit × fS)
  | 0, _, _, _, _, _ => none
  | n + 1, l4, l5, l6, l7, s =>
    if l7 = 0 then
      FX35_rule_b101 N SE SL SN l4 l5 l6 s
    else
      if ¬ ((s.i 192 46) = 0) then
        FX35_rule_b101 N SE SL SN l4 l5 l6 s
      else
        (FX35_keyword N SE 1000000141 s).bind fun q6 =>
        if q6.1 = 0 then
          if ¬ ((q6.2.i 192 46) = 0) then
            FX35_rule_b69 N SE SL SN (FX35_rule_b12 N SE SL SN n) l4 l5 l6 l7 q6.2
          else
            (FX35_keyword N SE 1000000142 q6.2).bind fun q12 =>
            if q12.1 = 0 then
              FX35_rule_b69 N SE SL SN (FX35_rule_b12 N SE SL SN n) l4 l5 l6 l7 q12.2
            else
              (FX35_dimension N SE SN q12.2).bind fun q15 =>
              FX35_rule_b12 N SE SL SN n l4 q15.1 l6 l7 q15.2
        else
          (FX35_dimension N SE SN q6.2).bind fun q17 =>
          FX35_rule_b12 N SE SL SN n q17.1 l5 l6 l7 q17.2
theorem SX35_rule_b12 {m b : Nat} {φ0 : Nat → Nat} {σo : fS} (hm : 1 ≤ m) (hb : 1 ≤ b) {N : Nat} {sE : Nat → Int32 → eH → Option (Unit × eH)} {SE : Int → fS → Option (Unit × fS)} {sL : Nat → Int32 → Int64 → Int64 → eH → Option (Int32 × eH)} {SL : Int → Int → Int → fS → Option (Int × fS)} {sN : Nat → eH → Option (Int32 × eH)} {SN : fS → Option (Int × fS)} {q : Unit × fS} (hsE : ∀ {φ : Nat → Nat} {h : eH} {s : fS} {x1' : Int32} {x1 : Int} {q}, fC m 1 φ s φ h s → x1' = iI x1 → r32 x1 → SE x1 s = some q → gG m 1 φ s lU q (sE 192 x1' h)) (hsL : ∀ {φ : Nat → Nat} {h : eH} {s : fS} {x1' : Int32} {x1 : Int} {x2' : Int64} {x2 : Int} {x3' : Int64} {x3 : Int} {q}, fC m 1 φ s φ h s → x1' = iI x1 → r32 x1 → x2' = iJ x2 → r64 x2 → x3' = iJ x3 → r64 x3 → SL x1 x2 x3 s = some q → gG m 1 φ s lI q (sL 192 x1' x2' x3' h)) (hsN : ∀ {φ : Nat → Nat} {h : eH} {s : fS} {q}, fC m 1 φ s φ h s → SN s = some q → gG m 1 φ s lI q (sN 192 h)) : ∀ {n : Nat} {φ : Nat → Nat} {h : eH} {s : fS} {l4' : Int32} {l4 : Int} {l5' : Int32} {l5 : Int} {l6' : Int32} {l6 : Int} {l7' : Int32} {l7 : Int}, fC m b φ0 σo φ h s → l4' = iI l4 → r32 l4 → l5' = iI l5 → r32 l5 → l6' = iI l6 → r32 l6 → l7' = iI l7 → r32 l7 → FX35_rule_b12 N SE SL SN n l4 l5 l6 l7 s = some q → gG m b φ0 σo lU q (fX35_rule_b12 N sE sL sN n 192 l4' l5' l6' l7' h) := by
  intro n
  induction n with
 | zero => intro φ h s l4' l4 l5' l5 l6' l6 l7' l7 R el4 rl4 el5 rl5 el6 rl6 el7 rl7 hF; simp [FX35_rule_b12] at hF
  | succ n ih =>
    intro φ h s l4' l4 l5' l5 l6' l6 l7' l7 R el4 rl4 el5 rl5 el6 rl6 el7 rl7 hF
    subst el4; subst el5; subst el6; subst el7
    rw [FX35_rule_b12] at hF
    rw [fX35_rule_b12]
    refine s_if (i_eq rfl (c_lit 0 0 rfl) rl7 ⟨by decide, by decide⟩) hF (fun c1 hF => ?_) (fun c1 hF => ?_)
    ·
      exact SX35_rule_b101 (N := N) (sE := sE) (SE := SE) (sL := sL) (SL := SL) (sN := sN) (SN := SN) hm hb @hsE @hsL @hsN R rfl rl4 rfl rl5 rfl rl6 hF
    ·
      refine s_gI R (t_192 hm R.S) (Nat.le_of_ble_eq_true rfl) rfl ?_
      refine s_if (not_congr (i_eq rfl (c_lit 0 0 rfl) (R.ri (t_192 hm R.S) (Nat.le_of_ble_eq_true rfl) rfl) ⟨by decide, by decide⟩)) hF (fun c3 hF => ?_) (fun c3 hF => ?_)
      ·
        exact SX35_rule_b101 (N := N) (sE := sE) (SE := SE) (sL := sL) (SL := SL) (sN := sN) (SN := SN) hm hb @hsE @hsL @hsN R rfl rl4 rfl rl5 rfl rl6 hF
      ·
        refine s_kok R (t_192 hm R.S) (Nat.le_of_ble_eq_true rfl) ?_
        refine s_call R hb (fun _ hq => SX35_keyword (b := 1) (N := N) (sE := sE) (SE := SE) hm (Nat.le_of_ble_eq_true rfl) @hsE (R.rf) hq) hF (fun f5 rv5 h5 q6 R5 e5 E5 hF => ?_)
        refine s_if (i_eq e5.1 (c_lit 0 0 rfl) e5.2 ⟨by decide, by decide⟩) hF (fun c6 hF => ?_) (fun c6 hF => ?_)
        ·
          refine s_gI R5 (t_192 hm R5.S) (Nat.le_of_ble_eq_true rfl) rfl ?_
          refine s_if (not_congr (i_eq rfl (c_lit 0 0 rfl) (R5.ri (t_192 hm R5.S) (Nat.le_of_ble_eq_true rfl) rfl) ⟨by decide, by decide⟩)) hF (fun c8 hF => ?_) (fun c8 hF => ?_)
          ·
            exact SX35_rule_b69 (N := N) (sE := sE) (SE := SE) (sL := sL) (SL := SL) (sN := sN) (SN := SN) (k12 := fX35_rule_b12 N sE sL sN n) (K12 := FX35_rule_b12 N SE SL SN n) hm hb @hsE @hsL @hsN @ih R5 rfl rl4 rfl rl5 rfl rl6 rfl rl7 hF
          ·
            refine s_kok R5 (t_192 hm R5.S) (Nat.le_of_ble_eq_true rfl) ?_
            refine s_call R5 hb (fun _ hq => SX35_keyword (b := 1) (N := N) (sE := sE) (SE := SE) hm (Nat.le_of_ble_eq_true rfl) @hsE (R5.rf) hq) hF (fun f10 rv10 h10 q12 R10 e10 E10 hF => ?_)
            refine s_if (i_eq e10.1 (c_lit 0 0 rfl) e10.2 ⟨by decide, by decide⟩) hF (fun c11 hF => ?_) (fun c11 hF => ?_)
            ·
              exact SX35_rule_b69 (N := N) (sE := sE) (SE := SE) (sL := sL) (SL := SL) (sN := sN) (SN := SN) (k12 := fX35_rule_b12 N sE sL sN n) (K12 := FX35_rule_b12 N SE SL SN n) hm hb @hsE @hsL @hsN @ih R10 rfl rl4 rfl rl5 rfl rl6 rfl rl7 hF
            ·
              refine s_kok R10 (t_192 hm R10.S) (Nat.le_of_ble_eq_true rfl) ?_
              refine s_call R10 hb (fun _ hq => SX35_dimension (b := 1) (N := N) (sE := sE) (SE := SE) (sN := sN) (SN := SN) hm (Nat.le_of_ble_eq_true rfl) @hsE @hsN (R10.rf) hq) hF (fun f13 rv13 h13 q15 R13 e13 E13 hF => ?_)
              exact ih R13 rfl rl4 e13.1 e13.2 rfl rl6 rfl rl7 hF
        ·
          refine s_kok R5 (t_192 hm R5.S) (Nat.le_of_ble_eq_true rfl) ?_
          refine s_call R5 hb (fun _ hq => SX35_dimension (b := 1) (N := N) (sE := sE) (SE := SE) (sN := sN) (SN := SN) hm (Nat.le_of_ble_eq_true rfl) @hsE @hsN (R5.rf) hq) hF (fun f15 rv15 h15 q17 R15 e15 E15 hF => ?_)
          exact ih R15 e15.1 e15.2 rfl rl5 rfl rl6 rfl rl7 hF
def FX35_rule (N : Nat) (SE : Int → fS → Option (Unit × fS)) (SL : Int → Int → Int → fS → Option (Int × fS)) (SN : fS → Option (Int × fS)) (p0 : Int) (p1 : Int) (p2 : Int) (s : fS) : Option (Unit × fS) :=
  FX35_rule_b12 N SE SL SN N p0 p1 p2 1 s
theorem SX35_rule {m b : Nat} {φ0 : Nat → Nat} {σo : fS} (hm : 1 ≤ m) (hb : 1 ≤ b) {N : Nat} {sE : Nat → Int32 → eH → Option (Unit × eH)} {SE : Int → fS → Option (Unit × fS)} {sL : Nat → Int32 → Int64 → Int64 → eH → Option (Int32 × eH)} {SL : Int → Int → Int → fS → Option (Int × fS)} {sN : Nat → eH → Option (Int32 × eH)} {SN : fS → Option (Int × fS)} {q : Unit × fS} (hsE : ∀ {φ : Nat → Nat} {h : eH} {s : fS} {x1' : Int32} {x1 : Int} {q}, fC m 1 φ s φ h s → x1' = iI x1 → r32 x1 → SE x1 s = some q → gG m 1 φ s lU q (sE 192 x1' h)) (hsL : ∀ {φ : Nat → Nat} {h : eH} {s : fS} {x1' : Int32} {x1 : Int} {x2' : Int64} {x2 : Int} {x3' : Int64} {x3 : Int} {q}, fC m 1 φ s φ h s → x1' = iI x1 → r32 x1 → x2' = iJ x2 → r64 x2 → x3' = iJ x3 → r64 x3 → SL x1 x2 x3 s = some q → gG m 1 φ s lI q (sL 192 x1' x2' x3' h)) (hsN : ∀ {φ : Nat → Nat} {h : eH} {s : fS} {q}, fC m 1 φ s φ h s → SN s = some q → gG m 1 φ s lI q (sN 192 h)) {φ : Nat → Nat} {h : eH} {s : fS} {p0' : Int32} {p0 : Int} {p1' : Int32} {p1 : Int} {p2' : Int32} {p2 : Int} (R : fC m b φ0 σo φ h s) (ep0 : p0' = iI p0) (rp0 : r32 p0) (ep1 : p1' = iI p1) (rp1 : r32 p1) (ep2 : p2' = iI p2) (rp2 : r32 p2) (hF : FX35_rule N SE SL SN p0 p1 p2 s = some q) : gG m b φ0 σo lU q (fX35_rule N sE sL sN 192 p0' p1' p2' h) := by
  subst ep0; subst ep1; subst ep2
  unfold FX35_rule at hF
  unfold fX35_rule
  exact SX35_rule_b12 (N := N) (sE := sE) (SE := SE) (sL := sL) (SL := SL) (sN := sN) (SN := SN) hm hb @hsE @hsL @hsN R rfl rp0 rfl rp1 rfl rp2 (c_lit 1 1 rfl) ⟨by decide, by decide⟩ hF
def FX35_indent_b52 (N : Nat) (SL : Int → Int → Int → fS → Option (Int × fS)) (s : fS) : Option (Unit × fS) :=
  some ((), s)
theorem SX35_indent_b52 {m b : Nat} {φ0 : Nat → Nat} {σo : fS} (hm : 1 ≤ m) {N : Nat} {sL : Nat → Int32 → Int64 → Int64 → eH → Option (Int32 × eH)} {SL : Int → Int → Int → fS → Option (Int × fS)} {q : Unit × fS} (hsL : ∀ {φ : Nat → Nat} {h : eH} {s : fS} {x1' : Int32} {x1 : Int} {x2' : Int64} {x2 : Int} {x3' : Int64} {x3 : Int} {q}, fC m 1 φ s φ h s → x1' = iI x1 → r32 x1 → x2' = iJ x2 → r64 x2 → x3' = iJ x3 → r64 x3 → SL x1 x2 x3 s = some q → gG m 1 φ s lI q (sL 192 x1' x2' x3' h)) {φ : Nat → Nat} {h : eH} {s : fS} (R : fC m b φ0 σo φ h s) (hF : FX35_indent_b52 N SL s = some q) : gG m b φ0 σo lU q (fX35_indent_b52 N sL h) := by
  unfold FX35_indent_b52 at hF
  unfold fX35_indent_b52
  exact g_ret R hF trivial
def FX35_indent (N : Nat) (SL : Int → Int → Int → fS → Option (Int × fS)) (s : fS) : Option (Unit × fS) :=
  (FX35_isVertical s).bind fun q2 =>
  if q2.1 = 0 then
    (FX35_now 2243 q2.2).bind fun q11 =>
    (FX35_pack N 1000288 (q2.2.i 192 56) (q2.2.i 192 56) 0 1 q11.1 q11.2).bind fun q13 =>
    if ¬ ((q13.2.i 192 46) = 0) then
      FX35_indent_b52 N SL q13.2
    else
      (FX35_boxItem N SL q13.1 0 q13.2).bind fun q18 =>
      FX35_indent_b52 N SL q18.2
  else
    (FX35_beginParagraph N SL 1 q2.2).bind fun q20 =>
    some ((), q20.2)
theorem SX35_indent {m b : Nat} {φ0 : Nat → Nat} {σo : fS} (hm : 1 ≤ m) (hb : 1 ≤ b) {N : Nat} {sL : Nat → Int32 → Int64 → Int64 → eH → Option (Int32 × eH)} {SL : Int → Int → Int → fS → Option (Int × fS)} {q : Unit × fS} (hsL : ∀ {φ : Nat → Nat} {h : eH} {s : fS} {x1' : Int32} {x1 : Int} {x2' : Int64} {x2 : Int} {x3' : Int64} {x3 : Int} {q}, fC m 1 φ s φ h s → x1' = iI x1 → r32 x1 → x2' = iJ x2 → r64 x2 → x3' = iJ x3 → r64 x3 → SL x1 x2 x3 s = some q → gG m 1 φ s lI q (sL 192 x1' x2' x3' h)) {φ : Nat → Nat} {h : eH} {s : fS} (R : fC m b φ0 σo φ h s) (hF : FX35_indent N SL s = some q) : gG m b φ0 σo lU q (fX35_indent N sL 192 h) := by
  unfold FX35_indent at hF
  unfold fX35_indent
  refine s_kok R (t_192 hm R.S) (Nat.le_of_ble_eq_true rfl) ?_
  refine s_call R (Nat.zero_le _) (fun _ hq => SX35_isVertical (b := 0) hm (R.rf) hq) hF (fun f2 rv2 h2 q2 R2 e2 E2 hF => ?_)
  refine s_if (i_eq e2.1 (c_lit 0 0 rfl) e2.2 ⟨by decide, by decide⟩) hF (fun c3 hF => ?_) (fun c3 hF => ?_)
  ·
    refine s_gA R2 (t_192 hm R2.S) (Nat.le_of_ble_eq_true rfl) rfl (o_192_55 hm R2.S) (fun _ _ => ?_)
    refine s_gI R2 (t_192 hm R2.S) (Nat.le_of_ble_eq_true rfl) rfl ?_
    refine s_gI R2 (t_192 hm R2.S) (Nat.le_of_ble_eq_true rfl) rfl ?_
    refine s_kok R2 (t_192 hm R2.S) (Nat.le_of_ble_eq_true rfl) ?_
    refine s_call R2 (Nat.zero_le _) (fun _ hq => SX35_now (b := 0) hm (R2.rf) (c_lit 2243 2243 rfl) ⟨by decide, by decide⟩ hq) hF (fun f8 rv8 h8 q11 R8 e8 E8 hF => ?_)
    refine s_kok R8 (t_192 hm R8.S) (Nat.le_of_ble_eq_true rfl) ?_
    refine s_call R8 (Nat.zero_le _) (fun _ hq => SX35_pack (b := 0) (N := N) hm (R8.rf) (rfl.trans (E8.k0 rfl _ (u_1000288 hm R2.S).1).1.symm) (u_1000288 hm R8.S).1 rfl (R2.ri (t_192 hm R2.S) (Nat.le_of_ble_eq_true rfl) rfl) rfl (R2.ri (t_192 hm R2.S) (Nat.le_of_ble_eq_true rfl) rfl) (c_lit 0 0 rfl) ⟨by decide, by decide⟩ (c_lit 1 1 rfl) ⟨by decide, by decide⟩ e8.1 e8.2 hq) hF (fun f10 rv10 h10 q13 R10 e10 E10 hF => ?_)
    refine s_gI R10 (t_192 hm R10.S) (Nat.le_of_ble_eq_true rfl) rfl ?_
    refine s_if (not_congr (i_eq rfl (c_lit 0 0 rfl) (R10.ri (t_192 hm R10.S) (Nat.le_of_ble_eq_true rfl) rfl) ⟨by decide, by decide⟩)) hF (fun c12 hF => ?_) (fun c12 hF => ?_)
    ·
      exact SX35_indent_b52 (N := N) (sL := sL) (SL := SL) hm @hsL R10 hF
    ·
      refine s_kok R10 (t_192 hm R10.S) (Nat.le_of_ble_eq_true rfl) ?_
      refine s_call R10 hb (fun _ hq => SX35_boxItem (b := 1) (N := N) (sL := sL) (SL := SL) hm (Nat.le_of_ble_eq_true rfl) @hsL (R10.rf) e10.1 e10.2 (c_lit 0 0 rfl) ⟨by decide, by decide⟩ hq) hF (fun f14 rv14 h14 q18 R14 e14 E14 hF => ?_)
      exact SX35_indent_b52 (N := N) (sL := sL) (SL := SL) hm @hsL R14 hF
  ·
    refine s_kok R2 (t_192 hm R2.S) (Nat.le_of_ble_eq_true rfl) ?_
    refine s_call R2 hb (fun _ hq => SX35_beginParagraph (b := 1) (N := N) (sL := sL) (SL := SL) hm (Nat.le_of_ble_eq_true rfl) @hsL (R2.rf) (c_lit 1 1 rfl) ⟨by decide, by decide⟩ hq) hF (fun f16 rv16 h16 q20 R16 e16 E16 hF => ?_)
    exact g_ret R16 hF trivial
def FX35_readBox_b26 (N : Nat) (SE : Int → fS → Option (Unit × fS)) (SL : Int → Int → Int → fS → Option (Int × fS)) (SN : fS → Option (Int × fS)) (s : fS) : Option (Unit × fS) :=
  some ((), s)
theorem SX35_readBox_b26 {m b : Nat} {φ0 : Nat → Nat} {σo : fS} (hm : 1 ≤ m) {N : Nat} {sE : Nat → Int32 → eH → Option (Unit × eH)} {SE : Int → fS → Option (Unit × fS)} {sL : Nat → Int32 → Int64 → Int64 → eH → Option (Int32 × eH)} {SL : Int → Int → Int → fS → Option (Int × fS)} {sN : Nat → eH → Option (Int32 × eH)} {SN : fS → Option (Int × fS)} {q : Unit × fS} (hsE : ∀ {φ : Nat → Nat} {h : eH} {s : fS} {x1' : Int32} {x1 : Int} {q}, fC m 1 φ s φ h s → x1' = iI x1 → r32 x1 → SE x1 s = some q → gG m 1 φ s lU q (sE 192 x1' h)) (hsL : ∀ {φ : Nat → Nat} {h : eH} {s : fS} {x1' : Int32} {x1 : Int} {x2' : Int64} {x2 : Int} {x3' : Int64} {x3 : Int} {q}, fC m 1 φ s φ h s → x1' = iI x1 → r32 x1 → x2' = iJ x2 → r64 x2 → x3' = iJ x3 → r64 x3 → SL x1 x2 x3 s = some q → gG m 1 φ s lI q (sL 192 x1' x2' x3' h)) (hsN : ∀ {φ : Nat → Nat} {h : eH} {s : fS} {q}, fC m 1 φ s φ h s → SN s = some q → gG m 1 φ s lI q (sN 192 h)) {φ : Nat → Nat} {h : eH} {s : fS} (R : fC m b φ0 σo φ h s) (hF : FX35_readBox_b26 N SE SL SN s = some q) : gG m b φ0 σo lU q (fX35_readBox_b26 N sE sL sN h) := by
  unfold FX35_readBox_b26 at hF
  unfold fX35_readBox_b26
  exact g_ret R hF trivial
def FX35_readBox (N : Nat) (SE : Int → fS → Option (Unit × fS)) (SL : Int → Int → Int → fS → Option (Int × fS)) (SN : fS → Option (Int × fS)) (p0 : Int) (p1 : Int) (p2 : Int) (s : fS) : Option (Unit × fS) :=
  (FX35_needSolid N SE s).bind fun q2 =>
  (FX35_primitiveOf q2.1 q2.2).bind fun q4 =>
  if ¬ ((q4.2.i 192 46) = 0) then
    FX35_readBox_b26 N SE SL SN q4.2
  else
    (FX35_readFrom N SE SL SN q4.1 p0 p1 p2 q4.2).bind fun q9 =>
    FX35_readBox_b26 N SE SL SN q9.2
theorem SX35_readBox {m b : Nat} {φ0 : Nat → Nat} {σo : fS} (hm : 1 ≤ m) (hb : 1 ≤ b) {N : Nat} {sE : Nat → Int32 → eH → Option (Unit × eH)} {SE : Int → fS → Option (Unit × fS)} {sL : Nat → Int32 → Int64 → Int64 → eH → Option (Int32 × eH)} {SL : Int → Int → Int → fS → Option (Int × fS)} {sN : Nat → eH → Option (Int32 × eH)} {SN : fS → Option (Int × fS)} {q : Unit × fS} (hsE : ∀ {φ : Nat → Nat} {h : eH} {s : fS} {x1' : Int32} {x1 : Int} {q}, fC m 1 φ s φ h s → x1' = iI x1 → r32 x1 → SE x1 s = some q → gG m 1 φ s lU q (sE 192 x1' h)) (hsL : ∀ {φ : Nat → Nat} {h : eH} {s : fS} {x1' : Int32} {x1 : Int} {x2' : Int64} {x2 : Int} {x3' : Int64} {x3 : Int} {q}, fC m 1 φ s φ h s → x1' = iI x1 → r32 x1 → x2' = iJ x2 → r64 x2 → x3' = iJ x3 → r64 x3 → SL x1 x2 x3 s = some q → gG m 1 φ s lI q (sL 192 x1' x2' x3' h)) (hsN : ∀ {φ : Nat → Nat} {h : eH} {s : fS} {q}, fC m 1 φ s φ h s → SN s = some q → gG m 1 φ s lI q (sN 192 h)) {φ : Nat → Nat} {h : eH} {s : fS} {p0' : Int32} {p0 : Int} {p1' : Int32} {p1 : Int} {p2' : Int32} {p2 : Int} (R : fC m b φ0 σo φ h s) (ep0 : p0' = iI p0) (rp0 : r32 p0) (ep1 : p1' = iI p1) (rp1 : r32 p1) (ep2 : p2' = iI p2) (rp2 : r32 p2) (hF : FX35_readBox N SE SL SN p0 p1 p2 s = some q) : gG m b φ0 σo lU q (fX35_readBox N sE sL sN 192 p0' p1' p2' h) := by
  subst ep0; subst ep1; subst ep2
  unfold FX35_readBox at hF
  unfold fX35_readBox
  refine s_kok R (t_192 hm R.S) (Nat.le_of_ble_eq_true rfl) ?_
  refine s_call R hb (fun _ hq => SX35_needSolid (b := 1) (N := N) (sE := sE) (SE := SE) hm (Nat.le_of_ble_eq_true rfl) @hsE (R.rf) hq) hF (fun f2 rv2 h2 q2 R2 e2 E2 hF => ?_)
  refine s_kok R2 (t_192 hm R2.S) (Nat.le_of_ble_eq_true rfl) ?_
  refine s_call R2 (Nat.zero_le _) (fun _ hq => SX35_primitiveOf (b := 0) hm (R2.rf) e2.1 e2.2 hq) hF (fun f4 rv4 h4 q4 R4 e4 E4 hF => ?_)
  refine s_gI R4 (t_192 hm R4.S) (Nat.le_of_ble_eq_true rfl) rfl ?_
  refine s_if (not_congr (i_eq rfl (c_lit 0 0 rfl) (R4.ri (t_192 hm R4.S) (Nat.le_of_ble_eq_true rfl) rfl) ⟨by decide, by decide⟩)) hF (fun c6 hF => ?_) (fun c6 hF => ?_)
  ·
    exact SX35_readBox_b26 (N := N) (sE := sE) (SE := SE) (sL := sL) (SL := SL) (sN := sN) (SN := SN) hm @hsE @hsL @hsN R4 hF
  ·
    refine s_kok R4 (t_192 hm R4.S) (Nat.le_of_ble_eq_true rfl) ?_
    refine s_call R4 hb (fun _ hq => SX35_readFrom (b := 1) (N := N) (sE := sE) (SE := SE) (sL := sL) (SL := SL) (sN := sN) (SN := SN) hm (Nat.le_of_ble_eq_true rfl) @hsE @hsL @hsN (R4.rf) e4.1 e4.2 rfl rp0 rfl rp1 rfl rp2 hq) hF (fun f8 rv8 h8 q9 R8 e8 E8 hF => ?_)
    exact SX35_readBox_b26 (N := N) (sE := sE) (SE := SE) (sL := sL) (SL := SL) (sN := sN) (SN := SN) hm @hsE @hsL @hsN R8 hF
def FX35_shifted_b39 (N : Nat) (SE : Int → fS → Option (Unit × fS)) (SL : Int → Int → Int → fS → Option (Int × fS)) (SN : fS → Option (Int × fS)) (s : fS) : Option (Unit × fS) :=
  some ((), s)
theorem SX35_shifted_b39 {m b : Nat} {φ0 : Nat → Nat} {σo : fS} (hm : 1 ≤ m) {N : Nat} {sE : Nat → Int32 → eH → Option (Unit × eH)} {SE : Int → fS → Option (Unit × fS)} {sL : Nat → Int32 → Int64 → Int64 → eH → Option (Int32 × eH)} {SL : Int → Int → Int → fS → Option (Int × fS)} {sN : Nat → eH → Option (Int32 × eH)} {SN : fS → Option (Int × fS)} {q : Unit × fS} (hsE : ∀ {φ : Nat → Nat} {h : eH} {s : fS} {x1' : Int32} {x1 : Int} {q}, fC m 1 φ s φ h s → x1' = iI x1 → r32 x1 → SE x1 s = some q → gG m 1 φ s lU q (sE 192 x1' h)) (hsL : ∀ {φ : Nat → Nat} {h : eH} {s : fS} {x1' : Int32} {x1 : Int} {x2' : Int64} {x2 : Int} {x3' : Int64} {x3 : Int} {q}, fC m 1 φ s φ h s → x1' = iI x1 → r32 x1 → x2' = iJ x2 → r64 x2 → x3' = iJ x3 → r64 x3 → SL x1 x2 x3 s = some q → gG m 1 φ s lI q (sL 192 x1' x2' x3' h)) (hsN : ∀ {φ : Nat → Nat} {h : eH} {s : fS} {q}, fC m 1 φ s φ h s → SN s = some q → gG m 1 φ s lI q (sN 192 h)) {φ : Nat → Nat} {h : eH} {s : fS} (R : fC m b φ0 σo φ h s) (hF : FX35_shifted_b39 N SE SL SN s = some q) : gG m b φ0 σo lU q (fX35_shifted_b39 N sE sL sN h) := by
  unfold FX35_shifted_b39 at hF
  unfold fX35_shifted_b39
  exact g_ret R hF trivial
def FX35_shifted_b35 (N : Nat) (SE : Int → fS → Option (Unit × fS)) (SL : Int → Int → Int → fS → Option (Int × fS)) (SN : fS → Option (Int × fS)) (s1 : Int) (s2 : Int) (s : fS) : Option (Unit × fS) :=
  (FX35_readBox N SE SL SN s1 s2 0 s).bind fun q2 =>
  FX35_shifted_b39 N SE SL SN q2.2
theorem SX35_shifted_b35 {m b : Nat} {φ0 : Nat → Nat} {σo : fS} (hm : 1 ≤ m) (hb : 1 ≤ b) {N : Nat} {sE : Nat → Int32 → eH → Option (Unit × eH)} {SE : Int → fS → Option (Unit × fS)} {sL : Nat → Int32 → Int64 → Int64 → eH → Option (Int32 × eH)} {SL : Int → Int → Int → fS → Option (Int × fS)} {sN : Nat → eH → Option (Int32 × eH)} {SN : fS → Option (Int × fS)} {q : Unit × fS} (hsE : ∀ {φ : Nat → Nat} {h : eH} {s : fS} {x1' : Int32} {x1 : Int} {q}, fC m 1 φ s φ h s → x1' = iI x1 → r32 x1 → SE x1 s = some q → gG m 1 φ s lU q (sE 192 x1' h)) (hsL : ∀ {φ : Nat → Nat} {h : eH} {s : fS} {x1' : Int32} {x1 : Int} {x2' : Int64} {x2 : Int} {x3' : Int64} {x3 : Int} {q}, fC m 1 φ s φ h s → x1' = iI x1 → r32 x1 → x2' = iJ x2 → r64 x2 → x3' = iJ x3 → r64 x3 → SL x1 x2 x3 s = some q → gG m 1 φ s lI q (sL 192 x1' x2' x3' h)) (hsN : ∀ {φ : Nat → Nat} {h : eH} {s : fS} {q}, fC m 1 φ s φ h s → SN s = some q → gG m 1 φ s lI q (sN 192 h)) {φ : Nat → Nat} {h : eH} {s : fS} {s1' : Int32} {s1 : Int} {s2' : Int32} {s2 : Int} (R : fC m b φ0 σo φ h s) (es1 : s1' = iI s1) (rs1 : r32 s1) (es2 : s2' = iI s2) (rs2 : r32 s2) (hF : FX35_shifted_b35 N SE SL SN s1 s2 s = some q) : gG m b φ0 σo lU q (fX35_shifted_b35 N sE sL sN 192 s1' s2' h) := by
  subst es1; subst es2
  unfold FX35_shifted_b35 at hF
  unfold fX35_shifted_b35
  refine s_kok R (t_192 hm R.S) (Nat.le_of_ble_eq_true rfl) ?_
  refine s_call R hb (fun _ hq => SX35_readBox (b := 1) (N := N) (sE := sE) (SE := SE) (sL := sL) (SL := SL) (sN := sN) (SN := SN) hm (Nat.le_of_ble_eq_true rfl) @hsE @hsL @hsN (R.rf) rfl rs1 rfl rs2 (c_lit 0 0 rfl) ⟨by decide, by decide⟩ hq) hF (fun f2 rv2 h2 q2 R2 e2 E2 hF => ?_)
  exact SX35_shifted_b39 (N := N) (sE := sE) (SE := SE) (sL := sL) (SL := SL) (sN := sN) (SN := SN) hm @hsE @hsL @hsN R2 hF
def FX35_shifted (N : Nat) (SE : Int → fS → Option (Unit × fS)) (SL : Int → Int → Int → fS → Option (Int × fS)) (SN : fS → Option (Int × fS)) (p0 : Int) (p1 : Int) (s : fS) : Option (Unit × fS) :=
  if p0 = 0 then
    (FX35_dimension N SE SN s).bind fun q3 =>
    if ¬ ((q3.2.i 192 46) = 0) then
      FX35_shifted_b39 N SE SL SN q3.2
    else
      if p1 = 0 then
        FX35_shifted_b35 N SE SL SN (-1) q3.1 q3.2
      else
        FX35_shifted_b35 N SE SL SN (-1) (ineg q3.1) q3.2
  else
    (FX35_fail 15 s).bind fun q9 =>
    some ((), q9.2)
theorem SX35_shifted {m b : Nat} {φ0 : Nat → Nat} {σo : fS} (hm : 1 ≤ m) (hb : 1 ≤ b) {N : Nat} {sE : Nat → Int32 → eH → Option (Unit × eH)} {SE : Int → fS → Option (Unit × fS)} {sL : Nat → Int32 → Int64 → Int64 → eH → Option (Int32 × eH)} {SL : Int → Int → Int → fS → Option (Int × fS)} {sN : Nat → eH → Option (Int32 × eH)} {SN : fS → Option (Int × fS)} {q : Unit × fS} (hsE : ∀ {φ : Nat → Nat} {h : eH} {s : fS} {x1' : Int32} {x1 : Int} {q}, fC m 1 φ s φ h s → x1' = iI x1 → r32 x1 → SE x1 s = some q → gG m 1 φ s lU q (sE 192 x1' h)) (hsL : ∀ {φ : Nat → Nat} {h : eH} {s : fS} {x1' : Int32} {x1 : Int} {x2' : Int64} {x2 : Int} {x3' : Int64} {x3 : Int} {q}, fC m 1 φ s φ h s → x1' = iI x1 → r32 x1 → x2' = iJ x2 → r64 x2 → x3' = iJ x3 → r64 x3 → SL x1 x2 x3 s = some q → gG m 1 φ s lI q (sL 192 x1' x2' x3' h)) (hsN : ∀ {φ : Nat → Nat} {h : eH} {s : fS} {q}, fC m 1 φ s φ h s → SN s = some q → gG m 1 φ s lI q (sN 192 h)) {φ : Nat → Nat} {h : eH} {s : fS} {p0' : Int32} {p0 : Int} {p1' : Int32} {p1 : Int} (R : fC m b φ0 σo φ h s) (ep0 : p0' = iI p0) (rp0 : r32 p0) (ep1 : p1' = iI p1) (rp1 : r32 p1) (hF : FX35_shifted N SE SL SN p0 p1 s = some q) : gG m b φ0 σo lU q (fX35_shifted N sE sL sN 192 p0' p1' h) := by
  subst ep0; subst ep1
  unfold FX35_shifted at hF
  unfold fX35_shifted
  refine s_if (i_eq rfl (c_lit 0 0 rfl) rp0 ⟨by decide, by decide⟩) hF (fun c1 hF => ?_) (fun c1 hF => ?_)
  ·
    refine s_kok R (t_192 hm R.S) (Nat.le_of_ble_eq_true rfl) ?_
    refine s_call R hb (fun _ hq => SX35_dimension (b := 1) (N := N) (sE := sE) (SE := SE) (sN := sN) (SN := SN) hm (Nat.le_of_ble_eq_true rfl) @hsE @hsN (R.rf) hq) hF (fun f3 rv3 h3 q3 R3 e3 E3 hF => ?_)
    refine s_gI R3 (t_192 hm R3.S) (Nat.le_of_ble_eq_true rfl) rfl ?_
    refine s_if (not_congr (i_eq rfl (c_lit 0 0 rfl) (R3.ri (t_192 hm R3.S) (Nat.le_of_ble_eq_true rfl) rfl) ⟨by decide, by decide⟩)) hF (fun c5 hF => ?_) (fun c5 hF => ?_)
    ·
      exact SX35_shifted_b39 (N := N) (sE := sE) (SE := SE) (sL := sL) (SL := SL) (sN := sN) (SN := SN) hm @hsE @hsL @hsN R3 hF
    ·
      refine s_if (i_eq rfl (c_lit 0 0 rfl) rp1 ⟨by decide, by decide⟩) hF (fun c6 hF => ?_) (fun c6 hF => ?_)
      ·
        exact SX35_shifted_b35 (N := N) (sE := sE) (SE := SE) (sL := sL) (SL := SL) (sN := sN) (SN := SN) hm hb @hsE @hsL @hsN R3 (c_lit (-1) (-1) rfl) ⟨by decide, by decide⟩ e3.1 e3.2 hF
      ·
        exact SX35_shifted_b35 (N := N) (sE := sE) (SE := SE) (sL := sL) (SL := SL) (sN := sN) (SN := SN) hm hb @hsE @hsL @hsN R3 (c_lit (-1) (-1) rfl) ⟨by decide, by decide⟩ (c_neg e3.1) (rr_I _) hF
  ·
    refine s_kok R (t_192 hm R.S) (Nat.le_of_ble_eq_true rfl) ?_
    refine s_call R (Nat.zero_le _) (fun _ hq => SX35_fail (b := 0) hm (R.rf) (c_lit 15 15 rfl) ⟨by decide, by decide⟩ hq) hF (fun f8 rv8 h8 q9 R8 e8 E8 hF => ?_)
    exact g_ret R8 hF trivial
def FX35_soft_b78 (N : Nat) (s1 : Int) (s2 : Int) (s3 : Int) (s4 : Int) (s : fS) : Option (Unit × fS) :=
  (FX35_item N s1 s2 s3 s4 0 0 s).bind fun q2 =>
  some ((), q2.2)
theorem SX35_soft_b78 {m b : Nat} {φ0 : Nat → Nat} {σo : fS} (hm : 1 ≤ m) (hb : 1 ≤ b) {N : Nat} {q : Unit × fS} {φ : Nat → Nat} {h : eH} {s : fS} {s1' : Int32} {s1 : Int} {s2' : Int32} {s2 : Int} {s3' : Int32} {s3 : Int} {s4' : Int32} {s4 : Int} (R : fC m b φ0 σo φ h s) (es1 : s1' = iI s1) (rs1 : r32 s1) (es2 : s2' = iI s2) (rs2 : r32 s2) (es3 : s3' = iI s3) (rs3 : r32 s3) (es4 : s4' = iI s4) (rs4 : r32 s4) (hF : FX35_soft_b78 N s1 s2 s3 s4 s = some q) : gG m b φ0 σo lU q (fX35_soft_b78 N 192 s1' s2' s3' s4' h) := by
  subst es1; subst es2; subst es3; subst es4
  unfold FX35_soft_b78 at hF
  unfold fX35_soft_b78
  refine s_kok R (t_192 hm R.S) (Nat.le_of_ble_eq_true rfl) ?_
  refine s_call R hb (fun _ hq => SX35_item (b := 1) (N := N) hm (Nat.le_of_ble_eq_true rfl) (R.rf) rfl rs1 rfl rs2 rfl rs3 rfl rs4 (c_lit 0 0 rfl) ⟨by decide, by decide⟩ (c_lit 0 0 rfl) ⟨by decide, by decide⟩ hq) hF (fun f2 rv2 h2 q2 R2 e2 E2 hF => ?_)
  exact g_ret R2 hF trivial
def FX35_soft_b52 (N : Nat) (l1 : Int) (l2 : Int) (s1 : Int) (s2 : Int) (s : fS) : Option (Unit × fS) :=
  if l2 = 0 then
    FX35_soft_b78 N s1 s2 0 0 s
  else
    (FX35_metrics l1 s).bind fun q3 =>
    (uRI q3.2 284 l1).bind fun x6 =>
    (uK 42 q3.2 q3.1).bind fun _ =>
    (FX40_of N q3.1 45 0 x6 q3.2).bind fun q9 =>
    FX35_soft_b78 N s1 s2 0 q9.1 q9.2
theorem SX35_soft_b52 {m b : Nat} {φ0 : Nat → Nat} {σo : fS} (hm : 1 ≤ m) (hb : 1 ≤ b) {N : Nat} {q : Unit × fS} {φ : Nat → Nat} {h : eH} {s : fS} {l1' : Int32} {l1 : Int} {l2' : Int32} {l2 : Int} {s1' : Int32} {s1 : Int} {s2' : Int32} {s2 : Int} (R : fC m b φ0 σo φ h s) (el1 : l1' = iI l1) (rl1 : r32 l1) (el2 : l2' = iI l2) (rl2 : r32 l2) (es1 : s1' = iI s1) (rs1 : r32 s1) (es2 : s2' = iI s2) (rs2 : r32 s2) (hF : FX35_soft_b52 N l1 l2 s1 s2 s = some q) : gG m b φ0 σo lU q (fX35_soft_b52 N 192 l1' l2' 192 s1' s2' h) := by
  subst el1; subst el2; subst es1; subst es2
  unfold FX35_soft_b52 at hF
  unfold fX35_soft_b52
  refine s_if (i_eq rfl (c_lit 0 0 rfl) rl2 ⟨by decide, by decide⟩) hF (fun c1 hF => ?_) (fun c1 hF => ?_)
  ·
    exact SX35_soft_b78 (N := N) hm hb R rfl rs1 rfl rs2 (c_lit 0 0 rfl) ⟨by decide, by decide⟩ (c_lit 0 0 rfl) ⟨by decide, by decide⟩ hF
  ·
    refine s_kok R (t_192 hm R.S) (Nat.le_of_ble_eq_true rfl) ?_
    refine s_call R (Nat.zero_le _) (fun _ hq => SX35_metrics (b := 0) hm (R.rf) rfl rl1 hq) hF (fun f3 rv3 h3 q3 R3 e3 E3 hF => ?_)
    obtain rfl : rv3 = _ := e3
    refine s_gAs R3 (t_192 hm R3.S) (Nat.le_of_ble_eq_true rfl) rfl (o_192_50 hm R3.S) (a_284 hm R3) ?_
    refine s_rI R3 (u_284 hm R3.S).1 (u_284 hm R3.S).2 (by decide) (a_284 hm R3) rfl rl1 hF (fun x6 ra5 hF => ?_)
    refine s_K hF (fun t7 hF => ?_)
    refine s_kok R3 t7 (Nat.le_of_ble_eq_true rfl) ?_
    refine s_call R3 (Nat.zero_le _) (fun _ hq => SX40_of (b := 0) (N := N) hm (R3.rf) (c_lit 45 45 rfl) ⟨by decide, by decide⟩ (c_lit 0 0 rfl) ⟨by decide, by decide⟩ rfl ra5 hq) hF (fun f8 rv8 h8 q9 R8 e8 E8 hF => ?_)
    exact SX35_soft_b78 (N := N) hm hb R8 rfl rs1 rfl rs2 (c_lit 0 0 rfl) ⟨by decide, by decide⟩ e8.1 e8.2 hF
def FX35_soft_b39 (N : Nat) (l1 : Int) (s0 : Int) (s : fS) : Option (Unit × fS) :=
  if s0 = 0 then
    FX35_soft_b52 N l1 s0 6 (-1) s
  else
    FX35_soft_b52 N l1 s0 6 l1 s
theorem SX35_soft_b39 {m b : Nat} {φ0 : Nat → Nat} {σo : fS} (hm : 1 ≤ m) (hb : 1 ≤ b) {N : Nat} {q : Unit × fS} {φ : Nat → Nat} {h : eH} {s : fS} {l1' : Int32} {l1 : Int} {s0' : Int32} {s0 : Int} (R : fC m b φ0 σo φ h s) (el1 : l1' = iI l1) (rl1 : r32 l1) (es0 : s0' = iI s0) (rs0 : r32 s0) (hF : FX35_soft_b39 N l1 s0 s = some q) : gG m b φ0 σo lU q (fX35_soft_b39 N 192 l1' s0' h) := by
  subst el1; subst es0
  unfold FX35_soft_b39 at hF
  unfold fX35_soft_b39
  refine s_if (i_eq rfl (c_lit 0 0 rfl) rs0 ⟨by decide, by decide⟩) hF (fun c1 hF => ?_) (fun c1 hF => ?_)
  ·
    exact SX35_soft_b52 (N := N) hm hb R rfl rl1 rfl rs0 (c_lit 6 6 rfl) ⟨by decide, by decide⟩ (c_lit (-1) (-1) rfl) ⟨by decide, by decide⟩ hF
  ·
    exact SX35_soft_b52 (N := N) hm hb R rfl rl1 rfl rs0 (c_lit 6 6 rfl) ⟨by decide, by decide⟩ rfl rl1 hF
def FX35_soft_b38 (N : Nat) (l1 : Int) (s : fS) : Option (Unit × fS) :=
  FX35_soft_b39 N l1 0 s
theorem SX35_soft_b38 {m b : Nat} {φ0 : Nat → Nat} {σo : fS} (hm : 1 ≤ m) (hb : 1 ≤ b) {N : Nat} {q : Unit × fS} {φ : Nat → Nat} {h : eH} {s : fS} {l1' : Int32} {l1 : Int} (R : fC m b φ0 σo φ h s) (el1 : l1' = iI l1) (rl1 : r32 l1) (hF : FX35_soft_b38 N l1 s = some q) : gG m b φ0 σo lU q (fX35_soft_b38 N 192 l1' h) := by
  subst el1
  unfold FX35_soft_b38 at hF
  unfold fX35_soft_b38
  exact SX35_soft_b39 (N := N) hm hb R rfl rl1 (c_lit 0 0 rfl) ⟨by decide, by decide⟩ hF
def FX35_soft (N : Nat) (s : fS) : Option (Unit × fS) :=
  (FX35_mode s).bind fun q2 =>
  if q2.1 = 2 then
    (FX35_now 3811 q2.2).bind fun q5 =>
    if q5.1 < 0 then
      FX35_soft_b38 N q5.1 q5.2
    else
      (FX35_metrics q5.1 q5.2).bind fun q8 =>
      (uK 42 q8.2 q8.1).bind fun _ =>
      (FX40_isThere_2 N q8.1 45 q8.2).bind fun q10 =>
      if q10.1 = 0 then
        FX35_soft_b38 N q5.1 q10.2
      else
        FX35_soft_b39 N q5.1 1 q10.2
  else
    some ((), q2.2)
theorem SX35_soft {m b : Nat} {φ0 : Nat → Nat} {σo : fS} (hm : 1 ≤ m) (hb : 1 ≤ b) {N : Nat} {q : Unit × fS} {φ : Nat → Nat} {h : eH} {s : fS} (R : fC m b φ0 σo φ h s) (hF : FX35_soft N s = some q) : gG m b φ0 σo lU q (fX35_soft N 192 h) := by
  unfold FX35_soft at hF
  unfold fX35_soft
  refine s_kok R (t_192 hm R.S) (Nat.le_of_ble_eq_true rfl) ?_
  refine s_call R (Nat.zero_le _) (fun _ hq => SX35_mode (b := 0) hm (R.rf) hq) hF (fun f2 rv2 h2 q2 R2 e2 E2 hF => ?_)
  refine s_if (i_eq e2.1 (c_lit 2 2 rfl) e2.2 ⟨by decide, by decide⟩) hF (fun c3 hF => ?_) (fun c3 hF => ?_)
  ·
    refine s_kok R2 (t_192 hm R2.S) (Nat.le_of_ble_eq_true rfl) ?_
    refine s_call R2 (Nat.zero_le _) (fun _ hq => SX35_now (b := 0) hm (R2.rf) (c_lit 3811 3811 rfl) ⟨by decide, by decide⟩ hq) hF (fun f5 rv5 h5 q5 R5 e5 E5 hF => ?_)
    refine s_if (i_lt e5.1 (c_lit 0 0 rfl) e5.2 ⟨by decide, by decide⟩) hF (fun c6 hF => ?_) (fun c6 hF => ?_)
    ·
      exact SX35_soft_b38 (N := N) hm hb R5 e5.1 e5.2 hF
    ·
      refine s_kok R5 (t_192 hm R5.S) (Nat.le_of_ble_eq_true rfl) ?_
      refine s_call R5 (Nat.zero_le _) (fun _ hq => SX35_metrics (b := 0) hm (R5.rf) e5.1 e5.2 hq) hF (fun f8 rv8 h8 q8 R8 e8 E8 hF => ?_)
      obtain rfl : rv8 = _ := e8
      refine s_K hF (fun t10 hF => ?_)
      refine s_kok R8 t10 (Nat.le_of_ble_eq_true rfl) ?_
      refine s_call R8 (Nat.zero_le _) (fun _ hq => SX40_isThere_2 (b := 0) (N := N) hm (R8.rf) (c_lit 45 45 rfl) ⟨by decide, by decide⟩ hq) hF (fun f11 rv11 h11 q10 R11 e11 E11 hF => ?_)
      refine s_if (i_eq e11.1 (c_lit 0 0 rfl) e11.2 ⟨by decide, by decide⟩) hF (fun c12 hF => ?_) (fun c12 hF => ?_)
      ·
        exact SX35_soft_b38 (N := N) hm hb R11 e5.1 e5.2 hF
      ·
        exact SX35_soft_b39 (N := N) hm hb R11 e5.1 e5.2 (c_lit 1 1 rfl) ⟨by decide, by decide⟩ hF
  ·
    exact g_ret R2 hF trivial
def FX35_doMore_b143 (N : Nat) (SE : Int → fS → Option (Unit × fS)) (SL : Int → Int → Int → fS → Option (Int × fS)) (SN : fS → Option (Int × fS)) (s : fS) : Option (Unit × fS) :=
  some ((), s)
theorem SX35_doMore_b143 {m b : Nat} {φ0 : Nat → Nat} {σo : fS} (hm : 1 ≤ m) {N : Nat} {sE : Nat → Int32 → eH → Option (Unit × eH)} {SE : Int → fS → Option (Unit × fS)} {sL : Nat → Int32 → Int64 → Int64 → eH → Option (Int32 × eH)} {SL : Int → Int → Int → fS → Option (Int × fS)} {sN : Nat → eH → Option (Int32 × eH)} {SN : fS → Option (Int × fS)} {q : Unit × fS} (hsE : ∀ {φ : Nat → Nat} {h : eH} {s : fS} {x1' : Int32} {x1 : Int} {q}, fC m 1 φ s φ h s → x1' = iI x1 → r32 x1 → SE x1 s = some q → gG m 1 φ s lU q (sE 192 x1' h)) (hsL : ∀ {φ : Nat → Nat} {h : eH} {s : fS} {x1' : Int32} {x1 : Int} {x2' : Int64} {x2 : Int} {x3' : Int64} {x3 : Int} {q}, fC m 1 φ s φ h s → x1' = iI x1 → r32 x1 → x2' = iJ x2 → r64 x2 → x3' = iJ x3 → r64 x3 → SL x1 x2 x3 s = some q → gG m 1 φ s lI q (sL 192 x1' x2' x3' h)) (hsN : ∀ {φ : Nat → Nat} {h : eH} {s : fS} {q}, fC m 1 φ s φ h s → SN s = some q → gG m 1 φ s lI q (sN 192 h)) {φ : Nat → Nat} {h : eH} {s : fS} (R : fC m b φ0 σo φ h s) (hF : FX35_doMore_b143 N SE SL SN s = some q) : gG m b φ0 σo lU q (fX35_doMore_b143 N sE sL sN h) := by
  unfold FX35_doMore_b143 at hF
  unfold fX35_doMore_b143
  exact g_ret R hF trivial
def FX35_doMore_b82 (N : Nat) (SE : Int → fS → Option (Unit × fS)) (SL : Int → Int → Int → fS → Option (Int × fS)) (SN : fS → Option (Int × fS)) (s1 : Int) (s2 : Int) (s : fS) : Option (Unit × fS) :=
  (FX35_shifted N SE SL SN s1 s2 s).bind fun q2 =>
  FX35_doMore_b143 N SE SL SN q2.2
theorem SX35_doMore_b82 {m b : Nat} {φ0 : Nat → Nat} {σo : fS} (hm : 1 ≤ m) (hb : 1 ≤ b) {N : Nat} {sE : Nat → Int32 → eH → Option (Unit × eH)} {SE : Int → fS → Option (Unit × fS)} {sL : Nat → Int32 → Int64 → Int64 → eH → Option (Int32 × eH)} {SL : Int → Int → Int → fS → Option (Int × fS)} {sN : Nat → eH → Option (Int32 × eH)} {SN : fS → Option (Int × fS)} {q : Unit × fS} (hsE : ∀ {φ : Nat → Nat} {h : eH} {s : fS} {x1' : Int32} {x1 : Int} {q}, fC m 1 φ s φ h s → x1' = iI x1 → r32 x1 → SE x1 s = some q → gG m 1 φ s lU q (sE 192 x1' h)) (hsL : ∀ {φ : Nat → Nat} {h : eH} {s : fS} {x1' : Int32} {x1 : Int} {x2' : Int64} {x2 : Int} {x3' : Int64} {x3 : Int} {q}, fC m 1 φ s φ h s → x1' = iI x1 → r32 x1 → x2' = iJ x2 → r64 x2 → x3' = iJ x3 → r64 x3 → SL x1 x2 x3 s = some q → gG m 1 φ s lI q (sL 192 x1' x2' x3' h)) (hsN : ∀ {φ : Nat → Nat} {h : eH} {s : fS} {q}, fC m 1 φ s φ h s → SN s = some q → gG m 1 φ s lI q (sN 192 h)) {φ : Nat → Nat} {h : eH} {s : fS} {s1' : Int32} {s1 : Int} {s2' : Int32} {s2 : Int} (R : fC m b φ0 σo φ h s) (es1 : s1' = iI s1) (rs1 : r32 s1) (es2 : s2' = iI s2) (rs2 : r32 s2) (hF : FX35_doMore_b82 N SE SL SN s1 s2 s = some q) : gG m b φ0 σo lU q (fX35_doMore_b82 N sE sL sN 192 s1' s2' h) := by
  subst es1; subst es2
  unfold FX35_doMore_b82 at hF
  unfold fX35_doMore_b82
  refine s_kok R (t_192 hm R.S) (Nat.le_of_ble_eq_true rfl) ?_
  refine s_call R hb (fun _ hq => SX35_shifted (b := 1) (N := N) (sE := sE) (SE := SE) (sL := sL) (SL := SL) (sN := sN) (SN := SN) hm (Nat.le_of_ble_eq_true rfl) @hsE @hsL @hsN (R.rf) rfl rs1 rfl rs2 hq) hF (fun f2 rv2 h2 q2 R2 e2 E2 hF => ?_)
  exact SX35_doMore_b143 (N := N) (sE := sE) (SE := SE) (sL := sL) (SL := SL) (sN := sN) (SN := SN) hm @hsE @hsL @hsN R2 hF
def FX35_doMore_b112 (N : Nat) (SE : Int → fS → Option (Unit × fS)) (SL : Int → Int → Int → fS → Option (Int × fS)) (SN : fS → Option (Int × fS)) (s1 : Int) (s2 : Int) (s : fS) : Option (Unit × fS) :=
  (FX35_shifted N SE SL SN s1 s2 s).bind fun q2 =>
  FX35_doMore_b143 N SE SL SN q2.2
theorem SX35_doMore_b112 {m b : Nat} {φ0 : Nat → Nat} {σo : fS} (hm : 1 ≤ m) (hb : 1 ≤ b) {N : Nat} {sE : Nat → Int32 → eH → Option (Unit × eH)} {SE : Int → fS → Option (Unit × fS)} {sL : Nat → Int32 → Int64 → Int64 → eH → Option (Int32 × eH)} {SL : Int → Int → Int → fS → Option (Int × fS)} {sN : Nat → eH → Option (Int32 × eH)} {SN : fS → Option (Int × fS)} {q : Unit × fS} (hsE : ∀ {φ : Nat → Nat} {h : eH} {s : fS} {x1' : Int32} {x1 : Int} {q}, fC m 1 φ s φ h s → x1' = iI x1 → r32 x1 → SE x1 s = some q → gG m 1 φ s lU q (sE 192 x1' h)) (hsL : ∀ {φ : Nat → Nat} {h : eH} {s : fS} {x1' : Int32} {x1 : Int} {x2' : Int64} {x2 : Int} {x3' : Int64} {x3 : Int} {q}, fC m 1 φ s φ h s → x1' = iI x1 → r32 x1 → x2' = iJ x2 → r64 x2 → x3' = iJ x3 → r64 x3 → SL x1 x2 x3 s = some q → gG m 1 φ s lI q (sL 192 x1' x2' x3' h)) (hsN : ∀ {φ : Nat → Nat} {h : eH} {s : fS} {q}, fC m 1 φ s φ h s → SN s = some q → gG m 1 φ s lI q (sN 192 h)) {φ : Nat → Nat} {h : eH} {s : fS} {s1' : Int32} {s1 : Int} {s2' : Int32} {s2 : Int} (R : fC m b φ0 σo φ h s) (es1 : s1' = iI s1) (rs1 : r32 s1) (es2 : s2' = iI s2) (rs2 : r32 s2) (hF : FX35_doMore_b112 N SE SL SN s1 s2 s = some q) : gG m b φ0 σo lU q (fX35_doMore_b112 N sE sL sN 192 s1' s2' h) := by
  subst es1; subst es2
  unfold FX35_doMore_b112 at hF
  unfold fX35_doMore_b112
  refine s_kok R (t_192 hm R.S) (Nat.le_of_ble_eq_true rfl) ?_
  refine s_call R hb (fun _ hq => SX35_shifted (b := 1) (N := N) (sE := sE) (SE := SE) (sL := sL) (SL := SL) (sN := sN) (SN := SN) hm (Nat.le_of_ble_eq_true rfl) @hsE @hsL @hsN (R.rf) rfl rs1 rfl rs2 hq) hF (fun f2 rv2 h2 q2 R2 e2 E2 hF => ?_)
  exact SX35_doMore_b143 (N := N) (sE := sE) (SE := SE) (sL := sL) (SL := SL) (sN := sN) (SN := SN) hm @hsE @hsL @hsN R2 hF
def FX35_doMore_b101 (N : Nat) (SE : Int → fS → Option (Unit × fS)) (SL : Int → Int → Int → fS → Option (Int × fS)) (SN : fS → Option (Int × fS)) (l1 : Int) (s1 : Int) (s : fS) : Option (Unit × fS) :=
  if ¬ (l1 = 66) then
    FX35_doMore_b112 N SE SL SN s1 0 s
  else
    FX35_doMore_b112 N SE SL SN s1 1 s
theorem SX35_doMore_b101 {m b : Nat} {φ0 : Nat → Nat} {σo : fS} (hm : 1 ≤ m) (hb : 1 ≤ b) {N : Nat} {sE : Nat → Int32 → eH → Option (Unit × eH)} {SE : Int → fS → Option (Unit × fS)} {sL : Nat → Int32 → Int64 → Int64 → eH → Option (Int32 × eH)} {SL : Int → Int → Int → fS → Option (Int × fS)} {sN : Nat → eH → Option (Int32 × eH)} {SN : fS → Option (Int × fS)} {q : Unit × fS} (hsE : ∀ {φ : Nat → Nat} {h : eH} {s : fS} {x1' : Int32} {x1 : Int} {q}, fC m 1 φ s φ h s → x1' = iI x1 → r32 x1 → SE x1 s = some q → gG m 1 φ s lU q (sE 192 x1' h)) (hsL : ∀ {φ : Nat → Nat} {h : eH} {s : fS} {x1' : Int32} {x1 : Int} {x2' : Int64} {x2 : Int} {x3' : Int64} {x3 : Int} {q}, fC m 1 φ s φ h s → x1' = iI x1 → r32 x1 → x2' = iJ x2 → r64 x2 → x3' = iJ x3 → r64 x3 → SL x1 x2 x3 s = some q → gG m 1 φ s lI q (sL 192 x1' x2' x3' h)) (hsN : ∀ {φ : Nat → Nat} {h : eH} {s : fS} {q}, fC m 1 φ s φ h s → SN s = some q → gG m 1 φ s lI q (sN 192 h)) {φ : Nat → Nat} {h : eH} {s : fS} {l1' : Int32} {l1 : Int} {s1' : Int32} {s1 : Int} (R : fC m b φ0 σo φ h s) (el1 : l1' = iI l1) (rl1 : r32 l1) (es1 : s1' = iI s1) (rs1 : r32 s1) (hF : FX35_doMore_b101 N SE SL SN l1 s1 s = some q) : gG m b φ0 σo lU q (fX35_doMore_b101 N sE sL sN l1' 192 s1' h) := by
  subst el1; subst es1
  unfold FX35_doMore_b101 at hF
  unfold fX35_doMore_b101
  refine s_if (not_congr (i_eq rfl (c_lit 66 66 rfl) rl1 ⟨by decide, by decide⟩)) hF (fun c1 hF => ?_) (fun c1 hF => ?_)
  ·
    exact SX35_doMore_b112 (N := N) (sE := sE) (SE := SE) (sL := sL) (SL := SL) (sN := sN) (SN := SN) hm hb @hsE @hsL @hsN R rfl rs1 (c_lit 0 0 rfl) ⟨by decide, by decide⟩ hF
  ·
    exact SX35_doMore_b112 (N := N) (sE := sE) (SE := SE) (sL := sL) (SL := SL) (sN := sN) (SN := SN) hm hb @hsE @hsL @hsN R rfl rs1 (c_lit 1 1 rfl) ⟨by decide, by decide⟩ hF
def FX35_doMore (N : Nat) (SE : Int → fS → Option (Unit × fS)) (SL : Int → Int → Int → fS → Option (Int × fS)) (SN : fS → Option (Int × fS)) (p0 : Int) (s : fS) : Option (Unit × fS) :=
  if p0 = 62 then
    (FX35_indent N SL s).bind fun q3 =>
    FX35_doMore_b143 N SE SL SN q3.2
  else
    if p0 = 63 then
      (FX35_isVertical s).bind fun q6 =>
      if q6.1 = 0 then
        FX35_doMore_b143 N SE SL SN q6.2
      else
        (FX35_beginParagraph N SL 0 q6.2).bind fun q9 =>
        FX35_doMore_b143 N SE SL SN q9.2
    else
      if p0 = 64 then
        (FX35_isVertical s).bind fun q12 =>
        if ¬ (p0 = 64) then
          FX35_doMore_b82 N SE SL SN q12.1 0 q12.2
        else
          FX35_doMore_b82 N SE SL SN q12.1 1 q12.2
      else
        if p0 = 65 then
          (FX35_isVertical s).bind fun q16 =>
          if ¬ (p0 = 64) then
            FX35_doMore_b82 N SE SL SN q16.1 0 q16.2
          else
            FX35_doMore_b82 N SE SL SN q16.1 1 q16.2
        else
          if p0 = 66 then
            (FX35_isVertical s).bind fun q20 =>
            if ¬ (q20.1 = 0) then
              FX35_doMore_b101 N SE SL SN p0 0 q20.2
            else
              FX35_doMore_b101 N SE SL SN p0 1 q20.2
          else
            if p0 = 67 then
              (FX35_isVertical s).bind fun q24 =>
              if ¬ (q24.1 = 0) then
                FX35_doMore_b101 N SE SL SN p0 0 q24.2
              else
                FX35_doMore_b101 N SE SL SN p0 1 q24.2
            else
              if p0 = 68 then
                (FX35_horizontally N SL s).bind fun q28 =>
                if q28.1 = 0 then
                  FX35_doMore_b143 N SE SL SN q28.2
                else
                  (FX35_soft N q28.2).bind fun q31 =>
                  FX35_doMore_b143 N SE SL SN q31.2
              else
                (FX35_horizontally N SL s).bind fun q33 =>
                if q33.1 = 0 then
                  FX35_doMore_b143 N SE SL SN q33.2
                else
                  (FX35_space N SL q33.2).bind fun q36 =>
                  FX35_doMore_b143 N SE SL SN q36.2
theorem SX35_doMore {m b : Nat} {φ0 : Nat → Nat} {σo : fS} (hm : 1 ≤ m) (hb : 1 ≤ b) {N : Nat} {sE : Nat → Int32 → eH → Option (Unit × eH)} {SE : Int → fS → Option (Unit × fS)} {sL : Nat → Int32 → Int64 → Int64 → eH → Option (Int32 × eH)} {SL : Int → Int → Int → fS → Option (Int × fS)} {sN : Nat → eH → Option (Int32 × eH)} {SN : fS → Option (Int × fS)} {q : Unit × fS} (hsE : ∀ {φ : Nat → Nat} {h : eH} {s : fS} {x1' : Int32} {x1 : Int} {q}, fC m 1 φ s φ h s → x1' = iI x1 → r32 x1 → SE x1 s = some q → gG m 1 φ s lU q (sE 192 x1' h)) (hsL : ∀ {φ : Nat → Nat} {h : eH} {s : fS} {x1' : Int32} {x1 : Int} {x2' : Int64} {x2 : Int} {x3' : Int64} {x3 : Int} {q}, fC m 1 φ s φ h s → x1' = iI x1 → r32 x1 → x2' = iJ x2 → r64 x2 → x3' = iJ x3 → r64 x3 → SL x1 x2 x3 s = some q → gG m 1 φ s lI q (sL 192 x1' x2' x3' h)) (hsN : ∀ {φ : Nat → Nat} {h : eH} {s : fS} {q}, fC m 1 φ s φ h s → SN s = some q → gG m 1 φ s lI q (sN 192 h)) {φ : Nat → Nat} {h : eH} {s : fS} {p0' : Int32} {p0 : Int} (R : fC m b φ0 σo φ h s) (ep0 : p0' = iI p0) (rp0 : r32 p0) (hF : FX35_doMore N SE SL SN p0 s = some q) : gG m b φ0 σo lU q (fX35_doMore N sE sL sN 192 p0' h) := by
  subst ep0
  unfold FX35_doMore at hF
  unfold fX35_doMore
  refine s_if (i_eq rfl (c_lit 62 62 rfl) rp0 ⟨by decide, by decide⟩) hF (fun c1 hF => ?_) (fun c1 hF => ?_)
  ·
    refine s_kok R (t_192 hm R.S) (Nat.le_of_ble_eq_true rfl) ?_
    refine s_call R hb (fun _ hq => SX35_indent (b := 1) (N := N) (sL := sL) (SL := SL) hm (Nat.le_of_ble_eq_true rfl) @hsL (R.rf) hq) hF (fun f3 rv3 h3 q3 R3 e3 E3 hF => ?_)
    exact SX35_doMore_b143 (N := N) (sE := sE) (SE := SE) (sL := sL) (SL := SL) (sN := sN) (SN := SN) hm @hsE @hsL @hsN R3 hF
  ·
    refine s_if (i_eq rfl (c_lit 63 63 rfl) rp0 ⟨by decide, by decide⟩) hF (fun c4 hF => ?_) (fun c4 hF => ?_)
    ·
      refine s_kok R (t_192 hm R.S) (Nat.le_of_ble_eq_true rfl) ?_
      refine s_call R (Nat.zero_le _) (fun _ hq => SX35_isVertical (b := 0) hm (R.rf) hq) hF (fun f6 rv6 h6 q6 R6 e6 E6 hF => ?_)
      refine s_if (i_eq e6.1 (c_lit 0 0 rfl) e6.2 ⟨by decide, by decide⟩) hF (fun c7 hF => ?_) (fun c7 hF => ?_)
      ·
        exact SX35_doMore_b143 (N := N) (sE := sE) (SE := SE) (sL := sL) (SL := SL) (sN := sN) (SN := SN) hm @hsE @hsL @hsN R6 hF
      ·
        refine s_kok R6 (t_192 hm R6.S) (Nat.le_of_ble_eq_true rfl) ?_
        refine s_call R6 hb (fun _ hq => SX35_beginParagraph (b := 1) (N := N) (sL := sL) (SL := SL) hm (Nat.le_of_ble_eq_true rfl) @hsL (R6.rf) (c_lit 0 0 rfl) ⟨by decide, by decide⟩ hq) hF (fun f9 rv9 h9 q9 R9 e9 E9 hF => ?_)
        exact SX35_doMore_b143 (N := N) (sE := sE) (SE := SE) (sL := sL) (SL := SL) (sN := sN) (SN := SN) hm @hsE @hsL @hsN R9 hF
    ·
      refine s_if (i_eq rfl (c_lit 64 64 rfl) rp0 ⟨by decide, by decide⟩) hF (fun c10 hF => ?_) (fun c10 hF => ?_)
      ·
        refine s_kok R (t_192 hm R.S) (Nat.le_of_ble_eq_true rfl) ?_
        refine s_call R (Nat.zero_le _) (fun _ hq => SX35_isVertical (b := 0) hm (R.rf) hq) hF (fun f12 rv12 h12 q12 R12 e12 E12 hF => ?_)
        refine s_if (not_congr (i_eq rfl (c_lit 64 64 rfl) rp0 ⟨by decide, by decide⟩)) hF (fun c13 hF => ?_) (fun c13 hF => ?_)
        ·
          exact SX35_doMore_b82 (N := N) (sE := sE) (SE := SE) (sL := sL) (SL := SL) (sN := sN) (SN := SN) hm hb @hsE @hsL @hsN R12 e12.1 e12.2 (c_lit 0 0 rfl) ⟨by decide, by decide⟩ hF
        ·
          exact SX35_doMore_b82 (N := N) (sE := sE) (SE := SE) (sL := sL) (SL := SL) (sN := sN) (SN := SN) hm hb @hsE @hsL @hsN R12 e12.1 e12.2 (c_lit 1 1 rfl) ⟨by decide, by decide⟩ hF
      ·
        refine s_if (i_eq rfl (c_lit 65 65 rfl) rp0 ⟨by decide, by decide⟩) hF (fun c14 hF => ?_) (fun c14 hF => ?_)
        ·
          refine s_kok R (t_192 hm R.S) (Nat.le_of_ble_eq_true rfl) ?_
          refine s_call R (Nat.zero_le _) (fun _ hq => SX35_isVertical (b := 0) hm (R.rf) hq) hF (fun f16 rv16 h16 q16 R16 e16 E16 hF => ?_)
          refine s_if (not_congr (i_eq rfl (c_lit 64 64 rfl) rp0 ⟨by decide, by decide⟩)) hF (fun c17 hF => ?_) (fun c17 hF => ?_)
          ·
            exact SX35_doMore_b82 (N := N) (sE := sE) (SE := SE) (sL := sL) (SL := SL) (sN := sN) (SN := SN) hm hb @hsE @hsL @hsN R16 e16.1 e16.2 (c_lit 0 0 rfl) ⟨by decide, by decide⟩ hF
          ·
            exact SX35_doMore_b82 (N := N) (sE := sE) (SE := SE) (sL := sL) (SL := SL) (sN := sN) (SN := SN) hm hb @hsE @hsL @hsN R16 e16.1 e16.2 (c_lit 1 1 rfl) ⟨by decide, by decide⟩ hF
        ·
          refine s_if (i_eq rfl (c_lit 66 66 rfl) rp0 ⟨by decide, by decide⟩) hF (fun c18 hF => ?_) (fun c18 hF => ?_)
          ·
            refine s_kok R (t_192 hm R.S) (Nat.le_of_ble_eq_true rfl) ?_
            refine s_call R (Nat.zero_le _) (fun _ hq => SX35_isVertical (b := 0) hm (R.rf) hq) hF (fun f20 rv20 h20 q20 R20 e20 E20 hF => ?_)
            refine s_if (not_congr (i_eq e20.1 (c_lit 0 0 rfl) e20.2 ⟨by decide, by decide⟩)) hF (fun c21 hF => ?_) (fun c21 hF => ?_)
            ·
              exact SX35_doMore_b101 (N := N) (sE := sE) (SE := SE) (sL := sL) (SL := SL) (sN := sN) (SN := SN) hm hb @hsE @hsL @hsN R20 rfl rp0 (c_lit 0 0 rfl) ⟨by decide, by decide⟩ hF
            ·
              exact SX35_doMore_b101 (N := N) (sE := sE) (SE := SE) (sL := sL) (SL := SL) (sN := sN) (SN := SN) hm hb @hsE @hsL @hsN R20 rfl rp0 (c_lit 1 1 rfl) ⟨by decide, by decide⟩ hF
          ·
            refine s_if (i_eq rfl (c_lit 67 67 rfl) rp0 ⟨by decide, by decide⟩) hF (fun c22 hF => ?_) (fun c22 hF => ?_)
            ·
              refine s_kok R (t_192 hm R.S) (Nat.le_of_ble_eq_true rfl) ?_
              refine s_call R (Nat.zero_le _) (fun _ hq => SX35_isVertical (b := 0) hm (R.rf) hq) hF (fun f24 rv24 h24 q24 R24 e24 E24 hF => ?_)
              refine s_if (not_congr (i_eq e24.1 (c_lit 0 0 rfl) e24.2 ⟨by decide, by decide⟩)) hF (fun c25 hF => ?_) (fun c25 hF => ?_)
              ·
                exact SX35_doMore_b101 (N := N) (sE := sE) (SE := SE) (sL := sL) (SL := SL) (sN := sN) (SN := SN) hm hb @hsE @hsL @hsN R24 rfl rp0 (c_lit 0 0 rfl) ⟨by decide, by decide⟩ hF
              ·
                exact SX35_doMore_b101 (N := N) (sE := sE) (SE := SE) (sL := sL) (SL := SL) (sN := sN) (SN := SN) hm hb @hsE @hsL @hsN R24 rfl rp0 (c_lit 1 1 rfl) ⟨by decide, by decide⟩ hF
            ·
              refine s_if (i_eq rfl (c_lit 68 68 rfl) rp0 ⟨by decide, by decide⟩) hF (fun c26 hF => ?_) (fun c26 hF => ?_)
              ·
                refine s_kok R (t_192 hm R.S) (Nat.le_of_ble_eq_true rfl) ?_
                refine s_call R hb (fun _ hq => SX35_horizontally (b := 1) (N := N) (sL := sL) (SL := SL) hm (Nat.le_of_ble_eq_true rfl) @hsL (R.rf) hq) hF (fun f28 rv28 h28 q28 R28 e28 E28 hF => ?_)
                refine s_if (i_eq e28.1 (c_lit 0 0 rfl) e28.2 ⟨by decide, by decide⟩) hF (fun c29 hF => ?_) (fun c29 hF => ?_)
                ·
                  exact SX35_doMore_b143 (N := N) (sE := sE) (SE := SE) (sL := sL) (SL := SL) (sN := sN) (SN := SN) hm @hsE @hsL @hsN R28 hF
                ·
                  refine s_kok R28 (t_192 hm R28.S) (Nat.le_of_ble_eq_true rfl) ?_
                  refine s_call R28 hb (fun _ hq => SX35_soft (b := 1) (N := N) hm (Nat.le_of_ble_eq_true rfl) (R28.rf) hq) hF (fun f31 rv31 h31 q31 R31 e31 E31 hF => ?_)
                  exact SX35_doMore_b143 (N := N) (sE := sE) (SE := SE) (sL := sL) (SL := SL) (sN := sN) (SN := SN) hm @hsE @hsL @hsN R31 hF
              ·
                refine s_kok R (t_192 hm R.S) (Nat.le_of_ble_eq_true rfl) ?_
                refine s_call R hb (fun _ hq => SX35_horizontally (b := 1) (N := N) (sL := sL) (SL := SL) hm (Nat.le_of_ble_eq_true rfl) @hsL (R.rf) hq) hF (fun f33 rv33 h33 q33 R33 e33 E33 hF => ?_)
                refine s_if (i_eq e33.1 (c_lit 0 0 rfl) e33.2 ⟨by decide, by decide⟩) hF (fun c34 hF => ?_) (fun c34 hF => ?_)
                ·
                  exact SX35_doMore_b143 (N := N) (sE := sE) (SE := SE) (sL := sL) (SL := SL) (sN := sN) (SN := SN) hm @hsE @hsL @hsN R33 hF
                ·
                  refine s_kok R33 (t_192 hm R33.S) (Nat.le_of_ble_eq_true rfl) ?_
                  refine s_call R33 hb (fun _ hq => SX35_space (b := 1) (N := N) (sL := sL) (SL := SL) hm (Nat.le_of_ble_eq_true rfl) @hsL (R33.rf) hq) hF (fun f36 rv36 h36 q36 R36 e36 E36 hF => ?_)
                  exact SX35_doMore_b143 (N := N) (sE := sE) (SE := SE) (sL := sL) (SL := SL) (sN := sN) (SN := SN) hm @hsE @hsL @hsN R36 hF
def FX35_doList_b263 (N : Nat) (SE : Int → fS → Option (Unit × fS)) (SL : Int → Int → Int → fS → Option (Int × fS)) (SN : fS → Option (Int × fS)) (s : fS) : Option (Unit × fS) :=
  some ((), s)
theorem SX35_doList_b263 {m b : Nat} {φ0 : Nat → Nat} {σo : fS} (hm : 1 ≤ m) {N : Nat} {sE : Nat → Int32 → eH → Option (Unit × eH)} {SE : Int → fS → Option (Unit × fS)} {sL : Nat → Int32 → Int64 → Int64 → eH → Option (Int32 × eH)} {SL : Int → Int → Int → fS → Option (Int × fS)} {sN : Nat → eH → Option (Int32 × eH)} {SN : fS → Option (Int × fS)} {q : Unit × fS} (hsE : ∀ {φ : Nat → Nat} {h : eH} {s : fS} {x1' : Int32} {x1 : Int} {q}, fC m 1 φ s φ h s → x1' = iI x1 → r32 x1 → SE x1 s = some q → gG m 1 φ s lU q (sE 192 x1' h)) (hsL : ∀ {φ : Nat → Nat} {h : eH} {s : fS} {x1' : Int32} {x1 : Int} {x2' : Int64} {x2 : Int} {x3' : Int64} {x3 : Int} {q}, fC m 1 φ s φ h s → x1' = iI x1 → r32 x1 → x2' = iJ x2 → r64 x2 → x3' = iJ x3 → r64 x3 → SL x1 x2 x3 s = some q → gG m 1 φ s lI q (sL 192 x1' x2' x3' h)) (hsN : ∀ {φ : Nat → Nat} {h : eH} {s : fS} {q}, fC m 1 φ s φ h s → SN s = some q → gG m 1 φ s lI q (sN 192 h)) {φ : Nat → Nat} {h : eH} {s : fS} (R : fC m b φ0 σo φ h s) (hF : FX35_doList_b263 N SE SL SN s = some q) : gG m b φ0 σo lU q (fX35_doList_b263 N sE sL sN h) := by
  unfold FX35_doList_b263 at hF
  unfold fX35_doList_b263
  exact g_ret R hF trivial
def FX35_doList_b137 (N : Nat) (SE : Int → fS → Option (Unit × fS)) (SL : Int → Int → Int → fS → Option (Int × fS)) (SN : fS → Option (Int × fS)) (s1 : Int) (s2 : Int) (s3 : Int) (s : fS) : Option (Unit × fS) :=
  (FX35_glueItem N SL s1 s2 s3 0 s).bind fun q2 =>
  FX35_doList_b263 N SE SL SN q2.2
theorem SX35_doList_b137 {m b : Nat} {φ0 : Nat → Nat} {σo : fS} (hm : 1 ≤ m) (hb : 1 ≤ b) {N : Nat} {sE : Nat → Int32 → eH → Option (Unit × eH)} {SE : Int → fS → Option (Unit × fS)} {sL : Nat → Int32 → Int64 → Int64 → eH → Option (Int32 × eH)} {SL : Int → Int → Int → fS → Option (Int × fS)} {sN : Nat → eH → Option (Int32 × eH)} {SN : fS → Option (Int × fS)} {q : Unit × fS} (hsE : ∀ {φ : Nat → Nat} {h : eH} {s : fS} {x1' : Int32} {x1 : Int} {q}, fC m 1 φ s φ h s → x1' = iI x1 → r32 x1 → SE x1 s = some q → gG m 1 φ s lU q (sE 192 x1' h)) (hsL : ∀ {φ : Nat → Nat} {h : eH} {s : fS} {x1' : Int32} {x1 : Int} {x2' : Int64} {x2 : Int} {x3' : Int64} {x3 : Int} {q}, fC m 1 φ s φ h s → x1' = iI x1 → r32 x1 → x2' = iJ x2 → r64 x2 → x3' = iJ x3 → r64 x3 → SL x1 x2 x3 s = some q → gG m 1 φ s lI q (sL 192 x1' x2' x3' h)) (hsN : ∀ {φ : Nat → Nat} {h : eH} {s : fS} {q}, fC m 1 φ s φ h s → SN s = some q → gG m 1 φ s lI q (sN 192 h)) {φ : Nat → Nat} {h : eH} {s : fS} {s1' : Int32} {s1 : Int} {s2' : Int32} {s2 : Int} {s3' : Int32} {s3 : Int} (R : fC m b φ0 σo φ h s) (es1 : s1' = iI s1) (rs1 : r32 s1) (es2 : s2' = iI s2) (rs2 : r32 s2) (es3 : s3' = iI s3) (rs3 : r32 s3) (hF : FX35_doList_b137 N SE SL SN s1 s2 s3 s = some q) : gG m b φ0 σo lU q (fX35_doList_b137 N sE sL sN 192 s1' s2' s3' h) := by
  subst es1; subst es2; subst es3
  unfold FX35_doList_b137 at hF
  unfold fX35_doList_b137
  refine s_kok R (t_192 hm R.S) (Nat.le_of_ble_eq_true rfl) ?_
  refine s_call R hb (fun _ hq => SX35_glueItem (b := 1) (N := N) (sL := sL) (SL := SL) hm (Nat.le_of_ble_eq_true rfl) @hsL (R.rf) rfl rs1 rfl rs2 rfl rs3 (c_lit 0 0 rfl) ⟨by decide, by decide⟩ hq) hF (fun f2 rv2 h2 q2 R2 e2 E2 hF => ?_)
  exact SX35_doList_b263 (N := N) (sE := sE) (SE := SE) (sL := sL) (SL := SL) (sN := sN) (SN := SN) hm @hsE @hsL @hsN R2 hF
def FX35_doList_b166 (N : Nat) (SE : Int → fS → Option (Unit × fS)) (SL : Int → Int → Int → fS → Option (Int × fS)) (SN : fS → Option (Int × fS)) (s1 : Int) (s2 : Int) (s3 : Int) (s : fS) : Option (Unit × fS) :=
  (FX35_glueItem N SL s1 s2 s3 0 s).bind fun q2 =>
  FX35_doList_b263 N SE SL SN q2.2
theorem SX35_doList_b166 {m b : Nat} {φ0 : Nat → Nat} {σo : fS} (hm : 1 ≤ m) (hb : 1 ≤ b) {N : Nat} {sE : Nat → Int32 → eH → Option (Unit × eH)} {SE : Int → fS → Option (Unit × fS)} {sL : Nat → Int32 → Int64 → Int64 → eH → Option (Int32 × eH)} {SL : Int → Int → Int → fS → Option (Int × fS)} {sN : Nat → eH → Option (Int32 × eH)} {SN : fS → Option (Int × fS)} {q : Unit × fS} (hsE : ∀ {φ : Nat → Nat} {h : eH} {s : fS} {x1' : Int32} {x1 : Int} {q}, fC m 1 φ s φ h s → x1' = iI x1 → r32 x1 → SE x1 s = some q → gG m 1 φ s lU q (sE 192 x1' h)) (hsL : ∀ {φ : Nat → Nat} {h : eH} {s : fS} {x1' : Int32} {x1 : Int} {x2' : Int64} {x2 : Int} {x3' : Int64} {x3 : Int} {q}, fC m 1 φ s φ h s → x1' = iI x1 → r32 x1 → x2' = iJ x2 → r64 x2 → x3' = iJ x3 → r64 x3 → SL x1 x2 x3 s = some q → gG m 1 φ s lI q (sL 192 x1' x2' x3' h)) (hsN : ∀ {φ : Nat → Nat} {h : eH} {s : fS} {q}, fC m 1 φ s φ h s → SN s = some q → gG m 1 φ s lI q (sN 192 h)) {φ : Nat → Nat} {h : eH} {s : fS} {s1' : Int32} {s1 : Int} {s2' : Int32} {s2 : Int} {s3' : Int32} {s3 : Int} (R : fC m b φ0 σo φ h s) (es1 : s1' = iI s1) (rs1 : r32 s1) (es2 : s2' = iI s2) (rs2 : r32 s2) (es3 : s3' = iI s3) (rs3 : r32 s3) (hF : FX35_doList_b166 N SE SL SN s1 s2 s3 s = some q) : gG m b φ0 σo lU q (fX35_doList_b166 N sE sL sN 192 s1' s2' s3' h) := by
  subst es1; subst es2; subst es3
  unfold FX35_doList_b166 at hF
  unfold fX35_doList_b166
  refine s_kok R (t_192 hm R.S) (Nat.le_of_ble_eq_true rfl) ?_
  refine s_call R hb (fun _ hq => SX35_glueItem (b := 1) (N := N) (sL := sL) (SL := SL) hm (Nat.le_of_ble_eq_true rfl) @hsL (R.rf) rfl rs1 rfl rs2 rfl rs3 (c_lit 0 0 rfl) ⟨by decide, by decide⟩ hq) hF (fun f2 rv2 h2 q2 R2 e2 E2 hF => ?_)
  exact SX35_doList_b263 (N := N) (sE := sE) (SE := SE) (sL := sL) (SL := SL) (sN := sN) (SN := SN) hm @hsE @hsL @hsN R2 hF
def FX35_doList (N : Nat) (SE : Int → fS → Option (Unit × fS)) (SL : Int → Int → Int → fS → Option (Int × fS)) (SN : fS → Option (Int × fS)) (p0 : Int) (s : fS) : Option (Unit × fS) :=
  if p0 = 47 then
    (FX35_readFrom N SE SL SN p0 (-1) 0 0 s).bind fun q3 =>
    FX35_doList_b263 N SE SL SN q3.2
  else
    if p0 = 48 then
      (FX35_readFrom N SE SL SN p0 (-1) 0 0 s).bind fun q6 =>
      FX35_doList_b263 N SE SL SN q6.2
    else
      if p0 = 49 then
        (FX35_readFrom N SE SL SN p0 (-1) 0 0 s).bind fun q9 =>
        FX35_doList_b263 N SE SL SN q9.2
      else
        if p0 = 50 then
          (FX35_readFrom N SE SL SN p0 (-1) 0 0 s).bind fun q12 =>
          FX35_doList_b263 N SE SL SN q12.2
        else
          if p0 = 51 then
            (FX35_doMore N SE SL SN p0 s).bind fun q15 =>
            FX35_doList_b263 N SE SL SN q15.2
          else
            if p0 = 52 then
              (FX35_horizontally N SL s).bind fun q18 =>
              if q18.1 = 0 then
                FX35_doList_b263 N SE SL SN q18.2
              else
                (FX35_skip N SE SL SN q18.2).bind fun q21 =>
                FX35_doList_b263 N SE SL SN q21.2
            else
              if p0 = 53 then
                (FX35_horizontally N SL s).bind fun q24 =>
                if q24.1 = 0 then
                  FX35_doList_b263 N SE SL SN q24.2
                else
                  if ¬ (p0 = 53) then
                    FX35_doList_b137 N SE SL SN 0 65536 2 q24.2
                  else
                    FX35_doList_b137 N SE SL SN 0 65536 1 q24.2
              else
                if p0 = 54 then
                  (FX35_horizontally N SL s).bind fun q29 =>
                  if q29.1 = 0 then
                    FX35_doList_b263 N SE SL SN q29.2
                  else
                    if ¬ (p0 = 53) then
                      FX35_doList_b137 N SE SL SN 0 65536 2 q29.2
                    else
                      FX35_doList_b137 N SE SL SN 0 65536 1 q29.2
                else
                  if p0 = 55 then
                    (FX35_vertically N SL s).bind fun q34 =>
                    if q34.1 = 0 then
                      FX35_doList_b263 N SE SL SN q34.2
                    else
                      (FX35_skip N SE SL SN q34.2).bind fun q37 =>
                      FX35_doList_b263 N SE SL SN q37.2
                  else
                    if p0 = 56 then
                      (FX35_vertically N SL s).bind fun q40 =>
                      if q40.1 = 0 then
                        FX35_doList_b263 N SE SL SN q40.2
                      else
                        if ¬ (p0 = 56) then
                          FX35_doList_b166 N SE SL SN 0 65536 2 q40.2
                        else
                          FX35_doList_b166 N SE SL SN 0 65536 1 q40.2
                    else
                      if p0 = 57 then
                        (FX35_vertically N SL s).bind fun q45 =>
                        if q45.1 = 0 then
                          FX35_doList_b263 N SE SL SN q45.2
                        else
                          if ¬ (p0 = 56) then
                            FX35_doList_b166 N SE SL SN 0 65536 2 q45.2
                          else
                            FX35_doList_b166 N SE SL SN 0 65536 1 q45.2
                      else
                        if p0 = 58 then
                          (FX35_dimension N SE SN s).bind fun q50 =>
                          if ¬ ((q50.2.i 192 46) = 0) then
                            FX35_doList_b263 N SE SL SN q50.2
                          else
                            (FX35_kernItem N SL q50.1 q50.2).bind fun q55 =>
                            FX35_doList_b263 N SE SL SN q55.2
                        else
                          if p0 = 59 then
                            (SN s).bind fun q58 =>
                            if ¬ ((q58.2.i 192 46) = 0) then
                              FX35_doList_b263 N SE SL SN q58.2
                            else
                              (FX35_penaltyItem N SL q58.1 q58.2).bind fun q63 =>
                              FX35_doList_b263 N SE SL SN q63.2
                          else
                            if p0 = 60 then
                              (FX35_vertically N SL s).bind fun q66 =>
                              if q66.1 = 0 then
                                FX35_doList_b263 N SE SL SN q66.2
                              else
                                (FX35_rule N SE SL SN (-1073741824) 26214 0 q66.2).bind fun q69 =>
                                FX35_doList_b263 N SE SL SN q69.2
                            else
                              if p0 = 61 then
                                (FX35_horizontally N SL s).bind fun q72 =>
                                if q72.1 = 0 then
                                  FX35_doList_b263 N SE SL SN q72.2
                                else
                                  (FX35_rule N SE SL SN 26214 (-1073741824) (-1073741824) q72.2).bind fun q75 =>
                                  FX35_doList_b263 N SE SL SN q75.2
                              else
                                (FX35_doMore N SE SL SN p0 s).bind fun q77 =>
                                FX35_doList_b263 N SE SL SN q77.2
theorem SX35_doList {m b : Nat} {φ0 : Nat → Nat} {σo : fS} (hm : 1 ≤ m) (hb : 1 ≤ b) {N : Nat} {sE : Nat → Int32 → eH → Option (Unit × eH)} {SE : Int → fS → Option (Unit × fS)} {sL : Nat → Int32 → Int64 → Int64 → eH → Option (Int32 × eH)} {SL : Int → Int → Int → fS → Option (Int × fS)} {sN : Nat → eH → Option (Int32 × eH)} {SN : fS → Option (Int × fS)} {q : Unit × fS} (hsE : ∀ {φ : Nat → Nat} {h : eH} {s : fS} {x1' : Int32} {x1 : Int} {q}, fC m 1 φ s φ h s → x1' = iI x1 → r32 x1 → SE x1 s = some q → gG m 1 φ s lU q (sE 192 x1' h)) (hsL : ∀ {φ : Nat → Nat} {h : eH} {s : fS} {x1' : Int32} {x1 : Int} {x2' : Int64} {x2 : Int} {x3' : Int64} {x3 : Int} {q}, fC m 1 φ s φ h s → x1' = iI x1 → r32 x1 → x2' = iJ x2 → r64 x2 → x3' = iJ x3 → r64 x3 → SL x1 x2 x3 s = some q → gG m 1 φ s lI q (sL 192 x1' x2' x3' h)) (hsN : ∀ {φ : Nat → Nat} {h : eH} {s : fS} {q}, fC m 1 φ s φ h s → SN s = some q → gG m 1 φ s lI q (sN 192 h)) {φ : Nat → Nat} {h : eH} {s : fS} {p0' : Int32} {p0 : Int} (R : fC m b φ0 σo φ h s) (ep0 : p0' = iI p0) (rp0 : r32 p0) (hF : FX35_doList N SE SL SN p0 s = some q) : gG m b φ0 σo lU q (fX35_doList N sE sL sN 192 p0' h) := by
  subst ep0
  unfold FX35_doList at hF
  unfold fX35_doList
  refine s_if (i_eq rfl (c_lit 47 47 rfl) rp0 ⟨by decide, by decide⟩) hF (fun c1 hF => ?_) (fun c1 hF => ?_)
  ·
    refine s_kok R (t_192 hm R.S) (Nat.le_of_ble_eq_true rfl) ?_
    refine s_call R hb (fun _ hq => SX35_readFrom (b := 1) (N := N) (sE := sE) (SE := SE) (sL := sL) (SL := SL) (sN := sN) (SN := SN) hm (Nat.le_of_ble_eq_true rfl) @hsE @hsL @hsN (R.rf) rfl rp0 (c_lit (-1) (-1) rfl) ⟨by decide, by decide⟩ (c_lit 0 0 rfl) ⟨by decide, by decide⟩ (c_lit 0 0 rfl) ⟨by decide, by decide⟩ hq) hF (fun f3 rv3 h3 q3 R3 e3 E3 hF => ?_)
    exact SX35_doList_b263 (N := N) (sE := sE) (SE := SE) (sL := sL) (SL := SL) (sN := sN) (SN := SN) hm @hsE @hsL @hsN R3 hF
  ·
    refine s_if (i_eq rfl (c_lit 48 48 rfl) rp0 ⟨by decide, by decide⟩) hF (fun c4 hF => ?_) (fun c4 hF => ?_)
    ·
      refine s_kok R (t_192 hm R.S) (Nat.le_of_ble_eq_true rfl) ?_
      refine s_call R hb (fun _ hq => SX35_readFrom (b := 1) (N := N) (sE := sE) (SE := SE) (sL := sL) (SL := SL) (sN := sN) (SN := SN) hm (Nat.le_of_ble_eq_true rfl) @hsE @hsL @hsN (R.rf) rfl rp0 (c_lit (-1) (-1) rfl) ⟨by decide, by decide⟩ (c_lit 0 0 rfl) ⟨by decide, by decide⟩ (c_lit 0 0 rfl) ⟨by decide, by decide⟩ hq) hF (fun f6 rv6 h6 q6 R6 e6 E6 hF => ?_)
      exact SX35_doList_b263 (N := N) (sE := sE) (SE := SE) (sL := sL) (SL := SL) (sN := sN) (SN := SN) hm @hsE @hsL @hsN R6 hF
    ·
      refine s_if (i_eq rfl (c_lit 49 49 rfl) rp0 ⟨by decide, by decide⟩) hF (fun c7 hF => ?_) (fun c7 hF => ?_)
      ·
        refine s_kok R (t_192 hm R.S) (Nat.le_of_ble_eq_true rfl) ?_
        refine s_call R hb (fun _ hq => SX35_readFrom (b := 1) (N := N) (sE := sE) (SE := SE) (sL := sL) (SL := SL) (sN := sN) (SN := SN) hm (Nat.le_of_ble_eq_true rfl) @hsE @hsL @hsN (R.rf) rfl rp0 (c_lit (-1) (-1) rfl) ⟨by decide, by decide⟩ (c_lit 0 0 rfl) ⟨by decide, by decide⟩ (c_lit 0 0 rfl) ⟨by decide, by decide⟩ hq) hF (fun f9 rv9 h9 q9 R9 e9 E9 hF => ?_)
        exact SX35_doList_b263 (N := N) (sE := sE) (SE := SE) (sL := sL) (SL := SL) (sN := sN) (SN := SN) hm @hsE @hsL @hsN R9 hF
      ·
        refine s_if (i_eq rfl (c_lit 50 50 rfl) rp0 ⟨by decide, by decide⟩) hF (fun c10 hF => ?_) (fun c10 hF => ?_)
        ·
          refine s_kok R (t_192 hm R.S) (Nat.le_of_ble_eq_true rfl) ?_
          refine s_call R hb (fun _ hq => SX35_readFrom (b := 1) (N := N) (sE := sE) (SE := SE) (sL := sL) (SL := SL) (sN := sN) (SN := SN) hm (Nat.le_of_ble_eq_true rfl) @hsE @hsL @hsN (R.rf) rfl rp0 (c_lit (-1) (-1) rfl) ⟨by decide, by decide⟩ (c_lit 0 0 rfl) ⟨by decide, by decide⟩ (c_lit 0 0 rfl) ⟨by decide, by decide⟩ hq) hF (fun f12 rv12 h12 q12 R12 e12 E12 hF => ?_)
          exact SX35_doList_b263 (N := N) (sE := sE) (SE := SE) (sL := sL) (SL := SL) (sN := sN) (SN := SN) hm @hsE @hsL @hsN R12 hF
        ·
          refine s_if (i_eq rfl (c_lit 51 51 rfl) rp0 ⟨by decide, by decide⟩) hF (fun c13 hF => ?_) (fun c13 hF => ?_)
          ·
            refine s_kok R (t_192 hm R.S) (Nat.le_of_ble_eq_true rfl) ?_
            refine s_call R hb (fun _ hq => SX35_doMore (b := 1) (N := N) (sE := sE) (SE := SE) (sL := sL) (SL := SL) (sN := sN) (SN := SN) hm (Nat.le_of_ble_eq_true rfl) @hsE @hsL @hsN (R.rf) rfl rp0 hq) hF (fun f15 rv15 h15 q15 R15 e15 E15 hF => ?_)
            exact SX35_doList_b263 (N := N) (sE := sE) (SE := SE) (sL := sL) (SL := SL) (sN := sN) (SN := SN) hm @hsE @hsL @hsN R15 hF
          ·
            refine s_if (i_eq rfl (c_lit 52 52 rfl) rp0 ⟨by decide, by decide⟩) hF (fun c16 hF => ?_) (fun c16 hF => ?_)
            ·
              refine s_kok R (t_192 hm R.S) (Nat.le_of_ble_eq_true rfl) ?_
              refine s_call R hb (fun _ hq => SX35_horizontally (b := 1) (N := N) (sL := sL) (SL := SL) hm (Nat.le_of_ble_eq_true rfl) @hsL (R.rf) hq) hF (fun f18 rv18 h18 q18 R18 e18 E18 hF => ?_)
              refine s_if (i_eq e18.1 (c_lit 0 0 rfl) e18.2 ⟨by decide, by decide⟩) hF (fun c19 hF => ?_) (fun c19 hF => ?_)
              ·
                exact SX35_doList_b263 (N := N) (sE := sE) (SE := SE) (sL := sL) (SL := SL) (sN := sN) (SN := SN) hm @hsE @hsL @hsN R18 hF
              ·
                refine s_kok R18 (t_192 hm R18.S) (Nat.le_of_ble_eq_true rfl) ?_
                refine s_call R18 hb (fun _ hq => SX35_skip (b := 1) (N := N) (sE := sE) (SE := SE) (sL := sL) (SL := SL) (sN := sN) (SN := SN) hm (Nat.le_of_ble_eq_true rfl) @hsE @hsL @hsN (R18.rf) hq) hF (fun f21 rv21 h21 q21 R21 e21 E21 hF => ?_)
                exact SX35_doList_b263 (N := N) (sE := sE) (SE := SE) (sL := sL) (SL := SL) (sN := sN) (SN := SN) hm @hsE @hsL @hsN R21 hF
            ·
              refine s_if (i_eq rfl (c_lit 53 53 rfl) rp0 ⟨by decide, by decide⟩) hF (fun c22 hF => ?_) (fun c22 hF => ?_)
              ·
                refine s_kok R (t_192 hm R.S) (Nat.le_of_ble_eq_true rfl) ?_
                refine s_call R hb (fun _ hq => SX35_horizontally (b := 1) (N := N) (sL := sL) (SL := SL) hm (Nat.le_of_ble_eq_true rfl) @hsL (R.rf) hq) hF (fun f24 rv24 h24 q24 R24 e24 E24 hF => ?_)
                refine s_if (i_eq e24.1 (c_lit 0 0 rfl) e24.2 ⟨by decide, by decide⟩) hF (fun c25 hF => ?_) (fun c25 hF => ?_)
                ·
                  exact SX35_doList_b263 (N := N) (sE := sE) (SE := SE) (sL := sL) (SL := SL) (sN := sN) (SN := SN) hm @hsE @hsL @hsN R24 hF
                ·
                  refine s_if (not_congr (i_eq rfl (c_lit 53 53 rfl) rp0 ⟨by decide, by decide⟩)) hF (fun c26 hF => ?_) (fun c26 hF => ?_)
                  ·
                    exact SX35_doList_b137 (N := N) (sE := sE) (SE := SE) (sL := sL) (SL := SL) (sN := sN) (SN := SN) hm hb @hsE @hsL @hsN R24 (c_lit 0 0 rfl) ⟨by decide, by decide⟩ (c_lit 65536 65536 rfl) ⟨by decide, by decide⟩ (c_lit 2 2 rfl) ⟨by decide, by decide⟩ hF
                  ·
                    exact SX35_doList_b137 (N := N) (sE := sE) (SE := SE) (sL := sL) (SL := SL) (sN := sN) (SN := SN) hm hb @hsE @hsL @hsN R24 (c_lit 0 0 rfl) ⟨by decide, by decide⟩ (c_lit 65536 65536 rfl) ⟨by decide, by decide⟩ (c_lit 1 1 rfl) ⟨by decide, by decide⟩ hF
              ·
                refine s_if (i_eq rfl (c_lit 54 54 rfl) rp0 ⟨by decide, by decide⟩) hF (fun c27 hF => ?_) (fun c27 hF => ?_)
                ·
                  refine s_kok R (t_192 hm R.S) (Nat.le_of_ble_eq_true rfl) ?_
                  refine s_call R hb (fun _ hq => SX35_horizontally (b := 1) (N := N) (sL := sL) (SL := SL) hm (Nat.le_of_ble_eq_true rfl) @hsL (R.rf) hq) hF (fun f29 rv29 h29 q29 R29 e29 E29 hF => ?_)
                  refine s_if (i_eq e29.1 (c_lit 0 0 rfl) e29.2 ⟨by decide, by decide⟩) hF (fun c30 hF => ?_) (fun c30 hF => ?_)
                  ·
                    exact SX35_doList_b263 (N := N) (sE := sE) (SE := SE) (sL := sL) (SL := SL) (sN := sN) (SN := SN) hm @hsE @hsL @hsN R29 hF
                  ·
                    refine s_if (not_congr (i_eq rfl (c_lit 53 53 rfl) rp0 ⟨by decide, by decide⟩)) hF (fun c31 hF => ?_) (fun c31 hF => ?_)
                    ·
                      exact SX35_doList_b137 (N := N) (sE := sE) (SE := SE) (sL := sL) (SL := SL) (sN := sN) (SN := SN) hm hb @hsE @hsL @hsN R29 (c_lit 0 0 rfl) ⟨by decide, by decide⟩ (c_lit 65536 65536 rfl) ⟨by decide, by decide⟩ (c_lit 2 2 rfl) ⟨by decide, by decide⟩ hF
                    ·
                      exact SX35_doList_b137 (N := N) (sE := sE) (SE := SE) (sL := sL) (SL := SL) (sN := sN) (SN := SN) hm hb @hsE @hsL @hsN R29 (c_lit 0 0 rfl) ⟨by decide, by decide⟩ (c_lit 65536 65536 rfl) ⟨by decide, by decide⟩ (c_lit 1 1 rfl) ⟨by decide, by decide⟩ hF
                ·
                  refine s_if (i_eq rfl (c_lit 55 55 rfl) rp0 ⟨by decide, by decide⟩) hF (fun c32 hF => ?_) (fun c32 hF => ?_)
                  ·
                    refine s_kok R (t_192 hm R.S) (Nat.le_of_ble_eq_true rfl) ?_
                    refine s_call R hb (fun _ hq => SX35_vertically (b := 1) (N := N) (sL := sL) (SL := SL) hm (Nat.le_of_ble_eq_true rfl) @hsL (R.rf) hq) hF (fun f34 rv34 h34 q34 R34 e34 E34 hF => ?_)
                    refine s_if (i_eq e34.1 (c_lit 0 0 rfl) e34.2 ⟨by decide, by decide⟩) hF (fun c35 hF => ?_) (fun c35 hF => ?_)
                    ·
                      exact SX35_doList_b263 (N := N) (sE := sE) (SE := SE) (sL := sL) (SL := SL) (sN := sN) (SN := SN) hm @hsE @hsL @hsN R34 hF
                    ·
                      refine s_kok R34 (t_192 hm R34.S) (Nat.le_of_ble_eq_true rfl) ?_
                      refine s_call R34 hb (fun _ hq => SX35_skip (b := 1) (N := N) (sE := sE) (SE := SE) (sL := sL) (SL := SL) (sN := sN) (SN := SN) hm (Nat.le_of_ble_eq_true rfl) @hsE @hsL @hsN (R34.rf) hq) hF (fun f37 rv37 h37 q37 R37 e37 E37 hF => ?_)
                      exact SX35_doList_b263 (N := N) (sE := sE) (SE := SE) (sL := sL) (SL := SL) (sN := sN) (SN := SN) hm @hsE @hsL @hsN R37 hF
                  ·
                    refine s_if (i_eq rfl (c_lit 56 56 rfl) rp0 ⟨by decide, by decide⟩) hF (fun c38 hF => ?_) (fun c38 hF => ?_)
                    ·
                      refine s_kok R (t_192 hm R.S) (Nat.le_of_ble_eq_true rfl) ?_
                      refine s_call R hb (fun _ hq => SX35_vertically (b := 1) (N := N) (sL := sL) (SL := SL) hm (Nat.le_of_ble_eq_true rfl) @hsL (R.rf) hq) hF (fun f40 rv40 h40 q40 R40 e40 E40 hF => ?_)
                      refine s_if (i_eq e40.1 (c_lit 0 0 rfl) e40.2 ⟨by decide, by decide⟩) hF (fun c41 hF => ?_) (fun c41 hF => ?_)
                      ·
                        exact SX35_doList_b263 (N := N) (sE := sE) (SE := SE) (sL := sL) (SL := SL) (sN := sN) (SN := SN) hm @hsE @hsL @hsN R40 hF
                      ·
                        refine s_if (not_congr (i_eq rfl (c_lit 56 56 rfl) rp0 ⟨by decide, by decide⟩)) hF (fun c42 hF => ?_) (fun c42 hF => ?_)
                        ·
                          exact SX35_doList_b166 (N := N) (sE := sE) (SE := SE) (sL := sL) (SL := SL) (sN := sN) (SN := SN) hm hb @hsE @hsL @hsN R40 (c_lit 0 0 rfl) ⟨by decide, by decide⟩ (c_lit 65536 65536 rfl) ⟨by decide, by decide⟩ (c_lit 2 2 rfl) ⟨by decide, by decide⟩ hF
                        ·
                          exact SX35_doList_b166 (N := N) (sE := sE) (SE := SE) (sL := sL) (SL := SL) (sN := sN) (SN := SN) hm hb @hsE @hsL @hsN R40 (c_lit 0 0 rfl) ⟨by decide, by decide⟩ (c_lit 65536 65536 rfl) ⟨by decide, by decide⟩ (c_lit 1 1 rfl) ⟨by decide, by decide⟩ hF
                    ·
                      refine s_if (i_eq rfl (c_lit 57 57 rfl) rp0 ⟨by decide, by decide⟩) hF (fun c43 hF => ?_) (fun c43 hF => ?_)
                      ·
                        refine s_kok R (t_192 hm R.S) (Nat.le_of_ble_eq_true rfl) ?_
                        refine s_call R hb (fun _ hq => SX35_vertically (b := 1) (N := N) (sL := sL) (SL := SL) hm (Nat.le_of_ble_eq_true rfl) @hsL (R.rf) hq) hF (fun f45 rv45 h45 q45 R45 e45 E45 hF => ?_)
                        refine s_if (i_eq e45.1 (c_lit 0 0 rfl) e45.2 ⟨by decide, by decide⟩) hF (fun c46 hF => ?_) (fun c46 hF => ?_)
                        ·
                          exact SX35_doList_b263 (N := N) (sE := sE) (SE := SE) (sL := sL) (SL := SL) (sN := sN) (SN := SN) hm @hsE @hsL @hsN R45 hF
                        ·
                          refine s_if (not_congr (i_eq rfl (c_lit 56 56 rfl) rp0 ⟨by decide, by decide⟩)) hF (fun c47 hF => ?_) (fun c47 hF => ?_)
                          ·
                            exact SX35_doList_b166 (N := N) (sE := sE) (SE := SE) (sL := sL) (SL := SL) (sN := sN) (SN := SN) hm hb @hsE @hsL @hsN R45 (c_lit 0 0 rfl) ⟨by decide, by decide⟩ (c_lit 65536 65536 rfl) ⟨by decide, by decide⟩ (c_lit 2 2 rfl) ⟨by decide, by decide⟩ hF
                          ·
                            exact SX35_doList_b166 (N := N) (sE := sE) (SE := SE) (sL := sL) (SL := SL) (sN := sN) (SN := SN) hm hb @hsE @hsL @hsN R45 (c_lit 0 0 rfl) ⟨by decide, by decide⟩ (c_lit 65536 65536 rfl) ⟨by decide, by decide⟩ (c_lit 1 1 rfl) ⟨by decide, by decide⟩ hF
                      ·
                        refine s_if (i_eq rfl (c_lit 58 58 rfl) rp0 ⟨by decide, by decide⟩) hF (fun c48 hF => ?_) (fun c48 hF => ?_)
                        ·
                          refine s_kok R (t_192 hm R.S) (Nat.le_of_ble_eq_true rfl) ?_
                          refine s_call R hb (fun _ hq => SX35_dimension (b := 1) (N := N) (sE := sE) (SE := SE) (sN := sN) (SN := SN) hm (Nat.le_of_ble_eq_true rfl) @hsE @hsN (R.rf) hq) hF (fun f50 rv50 h50 q50 R50 e50 E50 hF => ?_)
                          refine s_gI R50 (t_192 hm R50.S) (Nat.le_of_ble_eq_true rfl) rfl ?_
                          refine s_if (not_congr (i_eq rfl (c_lit 0 0 rfl) (R50.ri (t_192 hm R50.S) (Nat.le_of_ble_eq_true rfl) rfl) ⟨by decide, by decide⟩)) hF (fun c52 hF => ?_) (fun c52 hF => ?_)
                          ·
                            exact SX35_doList_b263 (N := N) (sE := sE) (SE := SE) (sL := sL) (SL := SL) (sN := sN) (SN := SN) hm @hsE @hsL @hsN R50 hF
                          ·
                            refine s_kok R50 (t_192 hm R50.S) (Nat.le_of_ble_eq_true rfl) ?_
                            refine s_call R50 hb (fun _ hq => SX35_kernItem (b := 1) (N := N) (sL := sL) (SL := SL) hm (Nat.le_of_ble_eq_true rfl) @hsL (R50.rf) e50.1 e50.2 hq) hF (fun f54 rv54 h54 q55 R54 e54 E54 hF => ?_)
                            exact SX35_doList_b263 (N := N) (sE := sE) (SE := SE) (sL := sL) (SL := SL) (sN := sN) (SN := SN) hm @hsE @hsL @hsN R54 hF
                        ·
                          refine s_if (i_eq rfl (c_lit 59 59 rfl) rp0 ⟨by decide, by decide⟩) hF (fun c55 hF => ?_) (fun c55 hF => ?_)
                          ·
                            refine s_kok R (t_192 hm R.S) (Nat.le_of_ble_eq_true rfl) ?_
                            refine s_call R hb (fun _ hq => hsN (R.rf)  hq) hF (fun f57 rv57 h57 q58 R57 e57 E57 hF => ?_)
                            refine s_gI R57 (t_192 hm R57.S) (Nat.le_of_ble_eq_true rfl) rfl ?_
                            refine s_if (not_congr (i_eq rfl (c_lit 0 0 rfl) (R57.ri (t_192 hm R57.S) (Nat.le_of_ble_eq_true rfl) rfl) ⟨by decide, by decide⟩)) hF (fun c59 hF => ?_) (fun c59 hF => ?_)
                            ·
                              exact SX35_doList_b263 (N := N) (sE := sE) (SE := SE) (sL := sL) (SL := SL) (sN := sN) (SN := SN) hm @hsE @hsL @hsN R57 hF
                            ·
                              refine s_kok R57 (t_192 hm R57.S) (Nat.le_of_ble_eq_true rfl) ?_
                              refine s_call R57 hb (fun _ hq => SX35_penaltyItem (b := 1) (N := N) (sL := sL) (SL := SL) hm (Nat.le_of_ble_eq_true rfl) @hsL (R57.rf) (c_2l e57.1 e57.2) (r32.w e57.2) hq) hF (fun f61 rv61 h61 q63 R61 e61 E61 hF => ?_)
                              exact SX35_doList_b263 (N := N) (sE := sE) (SE := SE) (sL := sL) (SL := SL) (sN := sN) (SN := SN) hm @hsE @hsL @hsN R61 hF
                          ·
                            refine s_if (i_eq rfl (c_lit 60 60 rfl) rp0 ⟨by decide, by decide⟩) hF (fun c62 hF => ?_) (fun c62 hF => ?_)
                            ·
                              refine s_kok R (t_192 hm R.S) (Nat.le_of_ble_eq_true rfl) ?_
                              refine s_call R hb (fun _ hq => SX35_vertically (b := 1) (N := N) (sL := sL) (SL := SL) hm (Nat.le_of_ble_eq_true rfl) @hsL (R.rf) hq) hF (fun f64 rv64 h64 q66 R64 e64 E64 hF => ?_)
                              refine s_if (i_eq e64.1 (c_lit 0 0 rfl) e64.2 ⟨by decide, by decide⟩) hF (fun c65 hF => ?_) (fun c65 hF => ?_)
                              ·
                                exact SX35_doList_b263 (N := N) (sE := sE) (SE := SE) (sL := sL) (SL := SL) (sN := sN) (SN := SN) hm @hsE @hsL @hsN R64 hF
                              ·
                                refine s_kok R64 (t_192 hm R64.S) (Nat.le_of_ble_eq_true rfl) ?_
                                refine s_call R64 hb (fun _ hq => SX35_rule (b := 1) (N := N) (sE := sE) (SE := SE) (sL := sL) (SL := SL) (sN := sN) (SN := SN) hm (Nat.le_of_ble_eq_true rfl) @hsE @hsL @hsN (R64.rf) (c_lit (-1073741824) (-1073741824) rfl) ⟨by decide, by decide⟩ (c_lit 26214 26214 rfl) ⟨by decide, by decide⟩ (c_lit 0 0 rfl) ⟨by decide, by decide⟩ hq) hF (fun f67 rv67 h67 q69 R67 e67 E67 hF => ?_)
                                exact SX35_doList_b263 (N := N) (sE := sE) (SE := SE) (sL := sL) (SL := SL) (sN := sN) (SN := SN) hm @hsE @hsL @hsN R67 hF
                            ·
                              refine s_if (i_eq rfl (c_lit 61 61 rfl) rp0 ⟨by decide, by decide⟩) hF (fun c68 hF => ?_) (fun c68 hF => ?_)
                              ·
                                refine s_kok R (t_192 hm R.S) (Nat.le_of_ble_eq_true rfl) ?_
                                refine s_call R hb (fun _ hq => SX35_horizontally (b := 1) (N := N) (sL := sL) (SL := SL) hm (Nat.le_of_ble_eq_true rfl) @hsL (R.rf) hq) hF (fun f70 rv70 h70 q72 R70 e70 E70 hF => ?_)
                                refine s_if (i_eq e70.1 (c_lit 0 0 rfl) e70.2 ⟨by decide, by decide⟩) hF (fun c71 hF => ?_) (fun c71 hF => ?_)
                                ·
                                  exact SX35_doList_b263 (N := N) (sE := sE) (SE := SE) (sL := sL) (SL := SL) (sN := sN) (SN := SN) hm @hsE @hsL @hsN R70 hF
                                ·
                                  refine s_kok R70 (t_192 hm R70.S) (Nat.le_of_ble_eq_true rfl) ?_
                                  refine s_call R70 hb (fun _ hq => SX35_rule (b := 1) (N := N) (sE := sE) (SE := SE) (sL := sL) (SL := SL) (sN := sN) (SN := SN) hm (Nat.le_of_ble_eq_true rfl) @hsE @hsL @hsN (R70.rf) (c_lit 26214 26214 rfl) ⟨by decide, by decide⟩ (c_lit (-1073741824) (-1073741824) rfl) ⟨by decide, by decide⟩ (c_lit (-1073741824) (-1073741824) rfl) ⟨by decide, by decide⟩ hq) hF (fun f73 rv73 h73 q75 R73 e73 E73 hF => ?_)
                                  exact SX35_doList_b263 (N := N) (sE := sE) (SE := SE) (sL := sL) (SL := SL) (sN := sN) (SN := SN) hm @hsE @hsL @hsN R73 hF
                              ·
                                refine s_kok R (t_192 hm R.S) (Nat.le_of_ble_eq_true rfl) ?_
                                refine s_call R hb (fun _ hq => SX35_doMore (b := 1) (N := N) (sE := sE) (SE := SE) (sL := sL) (SL := SL) (sN := sN) (SN := SN) hm (Nat.le_of_ble_eq_true rfl) @hsE @hsL @hsN (R.rf) rfl rp0 hq) hF (fun f75 rv75 h75 q77 R75 e75 E75 hF => ?_)
                                exact SX35_doList_b263 (N := N) (sE := sE) (SE := SE) (sL := sL) (SL := SL) (sN := sN) (SN := SN) hm @hsE @hsL @hsN R75 hF
def FX35_isSettable_b44 (s0 : Int) (s : fS) : Option (Int × fS) :=
  uZ s0 (s0, s)
theorem SX35_isSettable_b44 {m b : Nat} {φ0 : Nat → Nat} {σo : fS} (hm : 1 ≤ m) {q : Int × fS} {φ : Nat → Nat} {h : eH} {s : fS} {s0' : Int32} {s0 : Int} (R : fC m b φ0 σo φ h s) (es0 : s0' = iI s0) (rs0 : r32 s0) (hF : FX35_isSettable_b44 s0 s = some q) : gG m b φ0 σo lI q (fX35_isSettable_b44 s0' h) := by
  subst es0
  unfold FX35_isSettable_b44 at hF
  unfold fX35_isSettable_b44
  exact g_z R rfl hF ⟨rfl, rs0⟩
def FX35_isSettable_b39 (s : fS) : Option (Int × fS) :=
  FX35_isSettable_b44 1 s
theorem SX35_isSettable_b39 {m b : Nat} {φ0 : Nat → Nat} {σo : fS} (hm : 1 ≤ m) {q : Int × fS} {φ : Nat → Nat} {h : eH} {s : fS} (R : fC m b φ0 σo φ h s) (hF : FX35_isSettable_b39 s = some q) : gG m b φ0 σo lI q (fX35_isSettable_b39 h) := by
  unfold FX35_isSettable_b39 at hF
  unfold fX35_isSettable_b39
  exact SX35_isSettable_b44 hm R (c_lit 1 1 rfl) ⟨by decide, by decide⟩ hF
def FX35_isSettable_b12 (l0 : Int) (s : fS) : Option (Int × fS) :=
  if l0 = 40 then
    FX35_isSettable_b39 s
  else
    (FX35_isCounter l0 s).bind fun q2 =>
    if ¬ (q2.1 = 0) then
      FX35_isSettable_b39 q2.2
    else
      (FX35_isLength l0 q2.2).bind fun q4 =>
      if ¬ (q4.1 = 0) then
        FX35_isSettable_b39 q4.2
      else
        (FX35_isGlue l0 q4.2).bind fun q6 =>
        if q6.1 = 0 then
          FX35_isSettable_b44 0 q6.2
        else
          FX35_isSettable_b39 q6.2
theorem SX35_isSettable_b12 {m b : Nat} {φ0 : Nat → Nat} {σo : fS} (hm : 1 ≤ m) {q : Int × fS} {φ : Nat → Nat} {h : eH} {s : fS} {l0' : Int32} {l0 : Int} (R : fC m b φ0 σo φ h s) (el0 : l0' = iI l0) (rl0 : r32 l0) (hF : FX35_isSettable_b12 l0 s = some q) : gG m b φ0 σo lI q (fX35_isSettable_b12 l0' h) := by
  subst el0
  unfold FX35_isSettable_b12 at hF
  unfold fX35_isSettable_b12
  refine s_if (i_eq rfl (c_lit 40 40 rfl) rl0 ⟨by decide, by decide⟩) hF (fun c1 hF => ?_) (fun c1 hF => ?_)
  ·
    exact SX35_isSettable_b39 hm R hF
  ·
    refine s_call R (Nat.zero_le _) (fun _ hq => SX35_isCounter (b := 0) hm (R.rf) rfl rl0 hq) hF (fun f2 rv2 h2 q2 R2 e2 E2 hF => ?_)
    refine s_if (not_congr (i_eq e2.1 (c_lit 0 0 rfl) e2.2 ⟨by decide, by decide⟩)) hF (fun c3 hF => ?_) (fun c3 hF => ?_)
    ·
      exact SX35_isSettable_b39 hm R2 hF
    ·
      refine s_call R2 (Nat.zero_le _) (fun _ hq => SX35_isLength (b := 0) hm (R2.rf) rfl rl0 hq) hF (fun f4 rv4 h4 q4 R4 e4 E4 hF => ?_)
      refine s_if (not_congr (i_eq e4.1 (c_lit 0 0 rfl) e4.2 ⟨by decide, by decide⟩)) hF (fun c5 hF => ?_) (fun c5 hF => ?_)
      ·
        exact SX35_isSettable_b39 hm R4 hF
      ·
        refine s_call R4 (Nat.zero_le _) (fun _ hq => SX35_isGlue (b := 0) hm (R4.rf) rfl rl0 hq) hF (fun f6 rv6 h6 q6 R6 e6 E6 hF => ?_)
        refine s_if (i_eq e6.1 (c_lit 0 0 rfl) e6.2 ⟨by decide, by decide⟩) hF (fun c7 hF => ?_) (fun c7 hF => ?_)
        ·
          exact SX35_isSettable_b44 hm R6 (c_lit 0 0 rfl) ⟨by decide, by decide⟩ hF
        ·
          exact SX35_isSettable_b39 hm R6 hF
def FX35_isSettable (p0 : Int) (s : fS) : Option (Int × fS) :=
  if p0 < 28 then
    FX35_isSettable_b12 p0 s
  else
    if p0 ≤ 38 then
      FX35_isSettable_b39 s
    else
      FX35_isSettable_b12 p0 s
theorem SX35_isSettable {m b : Nat} {φ0 : Nat → Nat} {σo : fS} (hm : 1 ≤ m) {q : Int × fS} {φ : Nat → Nat} {h : eH} {s : fS} {p0' : Int32} {p0 : Int} (R : fC m b φ0 σo φ h s) (ep0 : p0' = iI p0) (rp0 : r32 p0) (hF : FX35_isSettable p0 s = some q) : gG m b φ0 σo lI q (fX35_isSettable p0' h) := by
  subst ep0
  unfold FX35_isSettable at hF
  unfold fX35_isSettable
  refine s_if (i_lt rfl (c_lit 28 28 rfl) rp0 ⟨by decide, by decide⟩) hF (fun c1 hF => ?_) (fun c1 hF => ?_)
  ·
    exact SX35_isSettable_b12 hm R rfl rp0 hF
  ·
    refine s_if (i_le rfl (c_lit 38 38 rfl) rp0 ⟨by decide, by decide⟩) hF (fun c2 hF => ?_) (fun c2 hF => ?_)
    ·
      exact SX35_isSettable_b39 hm R hF
    ·
      exact SX35_isSettable_b12 hm R rfl rp0 hF
def FX35_let_b79 (N : Nat) (s : fS) : Option (Unit × fS) :=
  some ((), s)
theorem SX35_let_b79 {m b : Nat} {φ0 : Nat → Nat} {σo : fS} (hm : 1 ≤ m) {N : Nat} {q : Unit × fS} {φ : Nat → Nat} {h : eH} {s : fS} (R : fC m b φ0 σo φ h s) (hF : FX35_let_b79 N s = some q) : gG m b φ0 σo lU q (fX35_let_b79 N h) := by
  unfold FX35_let_b79 at hF
  unfold fX35_let_b79
  exact g_ret R hF trivial
def FX35_let_b61 (N : Nat) (l1 : Int) (l2 : Int) (l3 : Int) (s : fS) : Option (Unit × fS) :=
  if ¬ ((s.i 192 46) = 0) then
    FX35_let_b79 N s
  else
    (FX35_meaning l3 s).bind fun q5 =>
    (FX35_mean N l2 q5.1 l1 q5.2).bind fun q7 =>
    FX35_let_b79 N q7.2
theorem SX35_let_b61 {m b : Nat} {φ0 : Nat → Nat} {σo : fS} (hm : 1 ≤ m) {N : Nat} {q : Unit × fS} {φ : Nat → Nat} {h : eH} {s : fS} {l1' : Int32} {l1 : Int} {l2' : Int32} {l2 : Int} {l3' : Int32} {l3 : Int} (R : fC m b φ0 σo φ h s) (el1 : l1' = iI l1) (rl1 : r32 l1) (el2 : l2' = iI l2) (rl2 : r32 l2) (el3 : l3' = iI l3) (rl3 : r32 l3) (hF : FX35_let_b61 N l1 l2 l3 s = some q) : gG m b φ0 σo lU q (fX35_let_b61 N 192 l1' l2' l3' h) := by
  subst el1; subst el2; subst el3
  unfold FX35_let_b61 at hF
  unfold fX35_let_b61
  refine s_gI R (t_192 hm R.S) (Nat.le_of_ble_eq_true rfl) rfl ?_
  refine s_if (not_congr (i_eq rfl (c_lit 0 0 rfl) (R.ri (t_192 hm R.S) (Nat.le_of_ble_eq_true rfl) rfl) ⟨by decide, by decide⟩)) hF (fun c2 hF => ?_) (fun c2 hF => ?_)
  ·
    exact SX35_let_b79 (N := N) hm R hF
  ·
    refine s_kok R (t_192 hm R.S) (Nat.le_of_ble_eq_true rfl) ?_
    refine s_call R (Nat.zero_le _) (fun _ hq => SX35_meaning (b := 0) hm (R.rf) rfl rl3 hq) hF (fun f4 rv4 h4 q5 R4 e4 E4 hF => ?_)
    refine s_kok R4 (t_192 hm R4.S) (Nat.le_of_ble_eq_true rfl) ?_
    refine s_call R4 (Nat.zero_le _) (fun _ hq => SX35_mean (b := 0) (N := N) hm (R4.rf) rfl rl2 e4.1 e4.2 rfl rl1 hq) hF (fun f6 rv6 h6 q7 R6 e6 E6 hF => ?_)
    exact SX35_let_b79 (N := N) hm R6 hF
def FX35_let_b60 (N : Nat) (l1 : Int) (l2 : Int) (s0 : Int) (s : fS) : Option (Unit × fS) :=
  FX35_let_b61 N l1 l2 s0 s
theorem SX35_let_b60 {m b : Nat} {φ0 : Nat → Nat} {σo : fS} (hm : 1 ≤ m) {N : Nat} {q : Unit × fS} {φ : Nat → Nat} {h : eH} {s : fS} {l1' : Int32} {l1 : Int} {l2' : Int32} {l2 : Int} {s0' : Int32} {s0 : Int} (R : fC m b φ0 σo φ h s) (el1 : l1' = iI l1) (rl1 : r32 l1) (el2 : l2' = iI l2) (rl2 : r32 l2) (es0 : s0' = iI s0) (rs0 : r32 s0) (hF : FX35_let_b60 N l1 l2 s0 s = some q) : gG m b φ0 σo lU q (fX35_let_b60 N 192 l1' l2' s0' h) := by
  subst el1; subst el2; subst es0
  unfold FX35_let_b60 at hF
  unfold fX35_let_b60
  exact SX35_let_b61 (N := N) hm R rfl rl1 rfl rl2 rfl rs0 hF
def FX35_let_b10 (N : Nat) : Nat → Int → Int → Int → fS → Option (Unit × fS)
  | 0, _, _, _, _ => none
  | n + 1, l1, l2, l3, s =>
    (FX35_isOf l3 10 s).bind fun q1 =>
    if q1.1 = 0 then
      (FX35_is l3 12 61 q1.2).bind fun q3 =>
      if q3.1 = 0 then
        FX35_let_b61 N l1 l2 l3 q3.2
      else
        (FX35_need N q3.2).bind fun q6 =>
        (FX35_isOf q6.1 10 q6.2).bind fun q7 =>
        if q7.1 = 0 then
          FX35_let_b60 N l1 l2 q6.1 q7.2
        else
          (FX35_need N q7.2).bind fun q10 =>
          FX35_let_b60 N l1 l2 q10.1 q10.2
    else
      (FX35_need N q1.2).bind fun q12 =>
      FX35_let_b10 N n l1 l2 q12.1 q12.2
theorem SX35_let_b10 {m b : Nat} {φ0 : Nat → Nat} {σo : fS} (hm : 1 ≤ m) {N : Nat} {q : Unit × fS} : ∀ {n : Nat} {φ : Nat → Nat} {h : eH} {s : fS} {l1' : Int32} {l1 : Int} {l2' : Int32} {l2 : Int} {l3' : Int32} {l3 : Int}, fC m b φ0 σo φ h s → l1' = iI l1 → r32 l1 → l2' = iI l2 → r32 l2 → l3' = iI l3 → r32 l3 → FX35_let_b10 N n l1 l2 l3 s = some q → gG m b φ0 σo lU q (fX35_let_b10 N n 192 l1' l2' l3' h) := by
  intro n
  induction n with
 | zero => intro φ h s l1' l1 l2' l2 l3' l3 R el1 rl1 el2 rl2 el3 rl3 hF; simp [FX35_let_b10] at hF
  | succ n ih =>
    intro φ h s l1' l1 l2' l2 l3' l3 R el1 rl1 el2 rl2 el3 rl3 hF
    subst el1; subst el2; subst el3
    rw [FX35_let_b10] at hF
    rw [fX35_let_b10]
    refine s_call R (Nat.zero_le _) (fun _ hq => SX35_isOf (b := 0) hm (R.rf) rfl rl3 (c_lit 10 10 rfl) ⟨by decide, by decide⟩ hq) hF (fun f1 rv1 h1 q1 R1 e1 E1 hF => ?_)
    refine s_if (i_eq e1.1 (c_lit 0 0 rfl) e1.2 ⟨by decide, by decide⟩) hF (fun c2 hF => ?_) (fun c2 hF => ?_)
    ·
      refine s_call R1 (Nat.zero_le _) (fun _ hq => SX35_is (b := 0) hm (R1.rf) rfl rl3 (c_lit 12 12 rfl) ⟨by decide, by decide⟩ (c_lit 61 61 rfl) ⟨by decide, by decide⟩ hq) hF (fun f3 rv3 h3 q3 R3 e3 E3 hF => ?_)
      refine s_if (i_eq e3.1 (c_lit 0 0 rfl) e3.2 ⟨by decide, by decide⟩) hF (fun c4 hF => ?_) (fun c4 hF => ?_)
      ·
        exact SX35_let_b61 (N := N) hm R3 rfl rl1 rfl rl2 rfl rl3 hF
      ·
        refine s_kok R3 (t_192 hm R3.S) (Nat.le_of_ble_eq_true rfl) ?_
        refine s_call R3 (Nat.zero_le _) (fun _ hq => SX35_need (b := 0) (N := N) hm (R3.rf) hq) hF (fun f6 rv6 h6 q6 R6 e6 E6 hF => ?_)
        refine s_call R6 (Nat.zero_le _) (fun _ hq => SX35_isOf (b := 0) hm (R6.rf) e6.1 e6.2 (c_lit 10 10 rfl) ⟨by decide, by decide⟩ hq) hF (fun f7 rv7 h7 q7 R7 e7 E7 hF => ?_)
        refine s_if (i_eq e7.1 (c_lit 0 0 rfl) e7.2 ⟨by decide, by decide⟩) hF (fun c8 hF => ?_) (fun c8 hF => ?_)
        ·
          exact SX35_let_b60 (N := N) hm R7 rfl rl1 rfl rl2 e6.1 e6.2 hF
        ·
          refine s_kok R7 (t_192 hm R7.S) (Nat.le_of_ble_eq_true rfl) ?_
          refine s_call R7 (Nat.zero_le _) (fun _ hq => SX35_need (b := 0) (N := N) hm (R7.rf) hq) hF (fun f10 rv10 h10 q10 R10 e10 E10 hF => ?_)
          exact SX35_let_b60 (N := N) hm R10 rfl rl1 rfl rl2 e10.1 e10.2 hF
    ·
      refine s_kok R1 (t_192 hm R1.S) (Nat.le_of_ble_eq_true rfl) ?_
      refine s_call R1 (Nat.zero_le _) (fun _ hq => SX35_need (b := 0) (N := N) hm (R1.rf) hq) hF (fun f12 rv12 h12 q12 R12 e12 E12 hF => ?_)
      exact ih R12 rfl rl1 rfl rl2 e12.1 e12.2 hF
def FX35_let (N : Nat) (p0 : Int) (s : fS) : Option (Unit × fS) :=
  (FX35_target N s).bind fun q2 =>
  (FX35_need N q2.2).bind fun q4 =>
  FX35_let_b10 N N p0 q2.1 q4.1 q4.2
theorem SX35_let {m b : Nat} {φ0 : Nat → Nat} {σo : fS} (hm : 1 ≤ m) {N : Nat} {q : Unit × fS} {φ : Nat → Nat} {h : eH} {s : fS} {p0' : Int32} {p0 : Int} (R : fC m b φ0 σo φ h s) (ep0 : p0' = iI p0) (rp0 : r32 p0) (hF : FX35_let N p0 s = some q) : gG m b φ0 σo lU q (fX35_let N 192 p0' h) := by
  subst ep0
  unfold FX35_let at hF
  unfold fX35_let
  refine s_kok R (t_192 hm R.S) (Nat.le_of_ble_eq_true rfl) ?_
  refine s_call R (Nat.zero_le _) (fun _ hq => SX35_target (b := 0) (N := N) hm (R.rf) hq) hF (fun f2 rv2 h2 q2 R2 e2 E2 hF => ?_)
  refine s_kok R2 (t_192 hm R2.S) (Nat.le_of_ble_eq_true rfl) ?_
  refine s_call R2 (Nat.zero_le _) (fun _ hq => SX35_need (b := 0) (N := N) hm (R2.rf) hq) hF (fun f4 rv4 h4 q4 R4 e4 E4 hF => ?_)
  exact SX35_let_b10 (N := N) hm R4 rfl rp0 e2.1 e2.2 e4.1 e4.2 hF
def FX35_equals_b38 (N : Nat) (SE : Int → fS → Option (Unit × fS)) (s : fS) : Option (Unit × fS) :=
  some ((), s)
theorem SX35_equals_b38 {m b : Nat} {φ0 : Nat → Nat} {σo : fS} (hm : 1 ≤ m) {N : Nat} {sE : Nat → Int32 → eH → Option (Unit × eH)} {SE : Int → fS → Option (Unit × fS)} {q : Unit × fS} (hsE : ∀ {φ : Nat → Nat} {h : eH} {s : fS} {x1' : Int32} {x1 : Int} {q}, fC m 1 φ s φ h s → x1' = iI x1 → r32 x1 → SE x1 s = some q → gG m 1 φ s lU q (sE 192 x1' h)) {φ : Nat → Nat} {h : eH} {s : fS} (R : fC m b φ0 σo φ h s) (hF : FX35_equals_b38 N SE s = some q) : gG m b φ0 σo lU q (fX35_equals_b38 N sE h) := by
  unfold FX35_equals_b38 at hF
  unfold fX35_equals_b38
  exact g_ret R hF trivial
def FX35_equals_b5 (N : Nat) (SE : Int → fS → Option (Unit × fS)) : Nat → Int → fS → Option (Unit × fS)
  | 0, _, _ => none
  | n + 1, l1, s =>
    (FX35_isOf l1 10 s).bind fun q1 =>
    if q1.1 = 0 then
      (FX35_is l1 12 61 q1.2).bind fun q3 =>
      if ¬ (q3.1 = 0) then
        FX35_equals_b38 N SE q3.2
      else
        (FX35_put l1 q3.2).bind fun q6 =>
        FX35_equals_b38 N SE q6.2
    else
      (FX35_getExpanded N SE q1.2).bind fun q8 =>
      FX35_equals_b5 N SE n q8.1 q8.2
theorem SX35_equals_b5 {m b : Nat} {φ0 : Nat → Nat} {σo : fS} (hm : 1 ≤ m) (hb : 1 ≤ b) {N : Nat} {sE : Nat → Int32 → eH → Option (Unit × eH)} {SE : Int → fS → Option (Unit × fS)} {q : Unit × fS} (hsE : ∀ {φ : Nat → Nat} {h : eH} {s : fS} {x1' : Int32} {x1 : Int} {q}, fC m 1 φ s φ h s → x1' = iI x1 → r32 x1 → SE x1 s = some q → gG m 1 φ s lU q (sE 192 x1' h)) : ∀ {n : Nat} {φ : Nat → Nat} {h : eH} {s : fS} {l1' : Int32} {l1 : Int}, fC m b φ0 σo φ h s → l1' = iI l1 → r32 l1 → FX35_equals_b5 N SE n l1 s = some q → gG m b φ0 σo lU q (fX35_equals_b5 N sE n 192 l1' h) := by
  intro n
  induction n with
 | zero => intro φ h s l1' l1 R el1 rl1 hF; simp [FX35_equals_b5] at hF
  | succ n ih =>
    intro φ h s l1' l1 R el1 rl1 hF
    subst el1
    rw [FX35_equals_b5] at hF
    rw [fX35_equals_b5]
    refine s_call R (Nat.zero_le _) (fun _ hq => SX35_isOf (b := 0) hm (R.rf) rfl rl1 (c_lit 10 10 rfl) ⟨by decide, by decide⟩ hq) hF (fun f1 rv1 h1 q1 R1 e1 E1 hF => ?_)
    refine s_if (i_eq e1.1 (c_lit 0 0 rfl) e1.2 ⟨by decide, by decide⟩) hF (fun c2 hF => ?_) (fun c2 hF => ?_)
    ·
      refine s_call R1 (Nat.zero_le _) (fun _ hq => SX35_is (b := 0) hm (R1.rf) rfl rl1 (c_lit 12 12 rfl) ⟨by decide, by decide⟩ (c_lit 61 61 rfl) ⟨by decide, by decide⟩ hq) hF (fun f3 rv3 h3 q3 R3 e3 E3 hF => ?_)
      refine s_if (not_congr (i_eq e3.1 (c_lit 0 0 rfl) e3.2 ⟨by decide, by decide⟩)) hF (fun c4 hF => ?_) (fun c4 hF => ?_)
      ·
        exact SX35_equals_b38 (N := N) (sE := sE) (SE := SE) hm @hsE R3 hF
      ·
        refine s_kok R3 (t_192 hm R3.S) (Nat.le_of_ble_eq_true rfl) ?_
        refine s_call R3 (Nat.zero_le _) (fun _ hq => SX35_put (b := 0) hm (R3.rf) rfl rl1 hq) hF (fun f6 rv6 h6 q6 R6 e6 E6 hF => ?_)
        exact SX35_equals_b38 (N := N) (sE := sE) (SE := SE) hm @hsE R6 hF
    ·
      refine s_kok R1 (t_192 hm R1.S) (Nat.le_of_ble_eq_true rfl) ?_
      refine s_call R1 hb (fun _ hq => SX35_getExpanded (b := 1) (N := N) (sE := sE) (SE := SE) hm (Nat.le_of_ble_eq_true rfl) @hsE (R1.rf) hq) hF (fun f8 rv8 h8 q8 R8 e8 E8 hF => ?_)
      exact ih R8 e8.1 e8.2 hF
def FX35_equals (N : Nat) (SE : Int → fS → Option (Unit × fS)) (s : fS) : Option (Unit × fS) :=
  (FX35_getExpanded N SE s).bind fun q2 =>
  FX35_equals_b5 N SE N q2.1 q2.2
theorem SX35_equals {m b : Nat} {φ0 : Nat → Nat} {σo : fS} (hm : 1 ≤ m) (hb : 1 ≤ b) {N : Nat} {sE : Nat → Int32 → eH → Option (Unit × eH)} {SE : Int → fS → Option (Unit × fS)} {q : Unit × fS} (hsE : ∀ {φ : Nat → Nat} {h : eH} {s : fS} {x1' : Int32} {x1 : Int} {q}, fC m 1 φ s φ h s → x1' = iI x1 → r32 x1 → SE x1 s = some q → gG m 1 φ s lU q (sE 192 x1' h)) {φ : Nat → Nat} {h : eH} {s : fS} (R : fC m b φ0 σo φ h s) (hF : FX35_equals N SE s = some q) : gG m b φ0 σo lU q (fX35_equals N sE 192 h) := by
  unfold FX35_equals at hF
  unfold fX35_equals
  refine s_kok R (t_192 hm R.S) (Nat.le_of_ble_eq_true rfl) ?_
  refine s_call R hb (fun _ hq => SX35_getExpanded (b := 1) (N := N) (sE := sE) (SE := SE) hm (Nat.le_of_ble_eq_true rfl) @hsE (R.rf) hq) hF (fun f2 rv2 h2 q2 R2 e2 E2 hF => ?_)
  exact SX35_equals_b5 (N := N) (sE := sE) (SE := SE) hm hb @hsE R2 e2.1 e2.2 hF
def FX40_designOf_b4 (N : Nat) : Nat → Nat → Int → Int → fS → Option (Int × fS)
  | 0, _, _, _, _ => none
  | n + 1, l0, l1, l2, s =>
    if 4 ≤ l2 then
      some (l1, s)
    else
      (FX40_at N l0 0 1 l2 s).bind fun q2 =>
      FX40_designOf_b4 N n l0 (ior (ishl l1 8) q2.1) (iadd l2 1) q2.2
theorem SX40_designOf_b4 {m b : Nat} {φ0 : Nat → Nat} {σo : fS} (hm : 1 ≤ m) {N : Nat} {q : Int × fS} : ∀ {n : Nat} {φ : Nat → Nat} {h : eH} {s : fS} {l0' : Nat} {l0 : Nat} {l1' : Int32} {l1 : Int} {l2' : Int32} {l2 : Int}, fC m b φ0 σo φ h s → l0' = φ l0 → s.t l0 < 128 → l1' = iI l1 → r32 l1 → l2' = iI l2 → r32 l2 → FX40_designOf_b4 N n l0 l1 l2 s = some q → gG m b φ0 σo lI q (fX40_designOf_b4 N n l0' l1' l2' h) := by
  intro n
  induction n with
 | zero => intro φ h s l0' l0 l1' l1 l2' l2 R el0 al0 el1 rl1 el2 rl2 hF; simp [FX40_designOf_b4] at hF
  | succ n ih =>
    intro φ h s l0' l0 l1' l1 l2' l2 R el0 al0 el1 rl1 el2 rl2 hF
    subst el1; subst el2
    rw [FX40_designOf_b4] at hF
    rw [fX40_designOf_b4]
    refine s_if (i_le (c_lit 4 4 rfl) rfl ⟨by decide, by decide⟩ rl2) hF (fun c1 hF => ?_) (fun c1 hF => ?_)
    ·
      exact g_ret R hF ⟨rfl, rl1⟩
    ·
      refine s_call R (Nat.zero_le _) (fun _ hq => SX40_at (b := 0) (N := N) hm (R.rf) el0 al0 (c_lit 0 0 rfl) ⟨by decide, by decide⟩ (c_lit 1 1 rfl) ⟨by decide, by decide⟩ rfl rl2 hq) hF (fun f2 rv2 h2 q2 R2 e2 E2 hF => ?_)
      exact ih R2 (el0.trans (E2.k0 rfl _ al0).1.symm) (by rw [(E2.k0 rfl _ al0).2]; exact al0) (c_or (c_shl rfl (c_lit 8 8 rfl)) e2.1) (rr_I _) (c_add rfl (c_lit 1 1 rfl)) (rr_I _) hF
def FX40_designOf (N : Nat) (p0 : Nat) (s : fS) : Option (Int × fS) :=
  FX40_designOf_b4 N N p0 0 0 s
theorem SX40_designOf {m b : Nat} {φ0 : Nat → Nat} {σo : fS} (hm : 1 ≤ m) {N : Nat} {q : Int × fS} {φ : Nat → Nat} {h : eH} {s : fS} {p0' : Nat} {p0 : Nat} (R : fC m b φ0 σo φ h s) (ep0 : p0' = φ p0) (ap0 : s.t p0 < 128) (hF : FX40_designOf N p0 s = some q) : gG m b φ0 σo lI q (fX40_designOf N p0' h) := by
  unfold FX40_designOf at hF
  unfold fX40_designOf
  exact SX40_designOf_b4 (N := N) hm R ep0 ap0 (c_lit 0 0 rfl) ⟨by decide, by decide⟩ (c_lit 0 0 rfl) ⟨by decide, by decide⟩ hF
def FX40_design (N : Nat) (this : Nat) (s : fS) : Option (Int × fS) :=
  (uK 42 s this).bind fun _ =>
  (s.o this 0).bind fun a1 =>
  (FX40_designOf N a1 s).bind fun q3 =>
  some ((ishr q3.1 4), q3.2)
theorem SX40_design {m b : Nat} {φ0 : Nat → Nat} {σo : fS} (hm : 1 ≤ m) {N : Nat} {q : Int × fS} {φ : Nat → Nat} {h : eH} {s : fS} {this : Nat} (R : fC m b φ0 σo φ h s) (hF : FX40_design N this s = some q) : gG m b φ0 σo lI q (fX40_design N this h) := by
  unfold FX40_design at hF
  unfold fX40_design
  refine s_K hF (fun t2 hF => ?_)
  refine s_oo hF (fun a1 e1 hF => ?_)
  refine s_gA R t2 (Nat.le_of_ble_eq_true rfl) rfl e1 (fun x1_ y1_ => ?_)
  refine s_call R (Nat.zero_le _) (fun _ hq => SX40_designOf (b := 0) (N := N) hm (R.rf) rfl (Nat.lt_trans y1_ (Nat.le_of_ble_eq_true rfl)) hq) hF (fun f3 rv3 h3 q3 R3 e3 E3 hF => ?_)
  exact g_ret R3 hF ⟨(c_shr e3.1 (c_lit 4 4 rfl)), (rr_I _)⟩
def FX40_check_b4 (N : Nat) : Nat → Nat → Int → Int → fS → Option (Int × fS)
  | 0, _, _, _, _ => none
  | n + 1, l0, l1, l2, s =>
    if 4 ≤ l2 then
      some (l1, s)
    else
      (uK 42 s l0).bind fun _ =>
      (s.o l0 0).bind fun a2 =>
      (FX40_at N a2 0 0 l2 s).bind fun q4 =>
      FX40_check_b4 N n l0 (ior (ishl l1 8) q4.1) (iadd l2 1) q4.2
theorem SX40_check_b4 {m b : Nat} {φ0 : Nat → Nat} {σo : fS} (hm : 1 ≤ m) {N : Nat} {q : Int × fS} : ∀ {n : Nat} {φ : Nat → Nat} {h : eH} {s : fS} {l0 : Nat} {l1' : Int32} {l1 : Int} {l2' : Int32} {l2 : Int}, fC m b φ0 σo φ h s → l1' = iI l1 → r32 l1 → l2' = iI l2 → r32 l2 → FX40_check_b4 N n l0 l1 l2 s = some q → gG m b φ0 σo lI q (fX40_check_b4 N n l0 l1' l2' h) := by
  intro n
  induction n with
 | zero => intro φ h s l0 l1' l1 l2' l2 R el1 rl1 el2 rl2 hF; simp [FX40_check_b4] at hF
  | succ n ih =>
    intro φ h s l0 l1' l1 l2' l2 R el1 rl1 el2 rl2 hF
    subst el1; subst el2
    rw [FX40_check_b4] at hF
    rw [fX40_check_b4]
    refine s_if (i_le (c_lit 4 4 rfl) rfl ⟨by decide, by decide⟩ rl2) hF (fun c1 hF => ?_) (fun c1 hF => ?_)
    ·
      exact g_ret R hF ⟨rfl, rl1⟩
    ·
      refine s_K hF (fun t3 hF => ?_)
      refine s_oo hF (fun a2 e2 hF => ?_)
      refine s_gA R t3 (Nat.le_of_ble_eq_true rfl) rfl e2 (fun x2_ y2_ => ?_)
      refine s_call R (Nat.zero_le _) (fun _ hq => SX40_at (b := 0) (N := N) hm (R.rf) rfl (Nat.lt_trans y2_ (Nat.le_of_ble_eq_true rfl)) (c_lit 0 0 rfl) ⟨by decide, by decide⟩ (c_lit 0 0 rfl) ⟨by decide, by decide⟩ rfl rl2 hq) hF (fun f4 rv4 h4 q4 R4 e4 E4 hF => ?_)
      exact ih R4 (c_or (c_shl rfl (c_lit 8 8 rfl)) e4.1) (rr_I _) (c_add rfl (c_lit 1 1 rfl)) (rr_I _) hF
def FX40_check (N : Nat) (this : Nat) (s : fS) : Option (Int × fS) :=
  FX40_check_b4 N N this 0 0 s
theorem SX40_check {m b : Nat} {φ0 : Nat → Nat} {σo : fS} (hm : 1 ≤ m) {N : Nat} {q : Int × fS} {φ : Nat → Nat} {h : eH} {s : fS} {this : Nat} (R : fC m b φ0 σo φ h s) (hF : FX40_check N this s = some q) : gG m b φ0 σo lI q (fX40_check N this h) := by
  unfold FX40_check at hF
  unfold fX40_check
  exact SX40_check_b4 (N := N) hm R (c_lit 0 0 rfl) ⟨by decide, by decide⟩ (c_lit 0 0 rfl) ⟨by decide, by decide⟩ hF
def FX38_font (p0 : Int) (p1 : Int) (p2 : Int) (p3 : Int) (p4 : Int) (s : fS) : Option (Unit × fS) :=
  (uQI s 247 p0 p1).bind fun σ3 =>
  (uQI σ3 244 p0 p2).bind fun σ7 =>
  (uQI σ7 245 p0 p3).bind fun σ11 =>
  (uQI σ11 246 p0 p4).bind fun σ15 =>
  some ((), σ15)
theorem SX38_font {m b : Nat} {φ0 : Nat → Nat} {σo : fS} (hm : 1 ≤ m) {q : Unit × fS} {φ : Nat → Nat} {h : eH} {s : fS} {p0' : Int32} {p0 : Int} {p1' : Int32} {p1 : Int} {p2' : Int32} {p2 : Int} {p3' : Int32} {p3 : Int} {p4' : Int32} {p4 : Int} (R : fC m b φ0 σo φ h s) (ep0 : p0' = iI p0) (rp0 : r32 p0) (ep1 : p1' = iI p1) (rp1 : r32 p1) (ep2 : p2' = iI p2) (rp2 : r32 p2) (ep3 : p3' = iI p3) (rp3 : r32 p3) (ep4 : p4' = iI p4) (rp4 : r32 p4) (hF : FX38_font p0 p1 p2 p3 p4 s = some q) : gG m b φ0 σo lU q (fX38_font 243 p0' p1' p2' p3' p4' h) := by
  subst ep0; subst ep1; subst ep2; subst ep3; subst ep4
  unfold FX38_font at hF
  unfold fX38_font
  refine s_gAs R (t_243 hm R.S) (Nat.le_of_ble_eq_true rfl) rfl (o_243_3 hm R.S) (a_247 hm R) ?_
  refine s_qI R (u_247 hm R.S).1 (u_247 hm R.S).2 (by decide) (a_247 hm R) rfl rp0 rfl rp1 hF (fun h2 σ3 R2 T2 hF => ?_)
  refine s_gAs R2 (t_243 hm R2.S) (Nat.le_of_ble_eq_true rfl) rfl (o_243_0 hm R2.S) (a_244 hm R2) ?_
  refine s_qI R2 (u_244 hm R2.S).1 (u_244 hm R2.S).2 (by decide) (a_244 hm R2) rfl rp0 rfl rp2 hF (fun h4 σ7 R4 T4 hF => ?_)
  refine s_gAs R4 (t_243 hm R4.S) (Nat.le_of_ble_eq_true rfl) rfl (o_243_1 hm R4.S) (a_245 hm R4) ?_
  refine s_qI R4 (u_245 hm R4.S).1 (u_245 hm R4.S).2 (by decide) (a_245 hm R4) rfl rp0 rfl rp3 hF (fun h6 σ11 R6 T6 hF => ?_)
  refine s_gAs R6 (t_243 hm R6.S) (Nat.le_of_ble_eq_true rfl) rfl (o_243_2 hm R6.S) (a_246 hm R6) ?_
  refine s_qI R6 (u_246 hm R6.S).1 (u_246 hm R6.S).2 (by decide) (a_246 hm R6) rfl rp0 rfl rp4 hF (fun h8 σ15 R8 T8 hF => ?_)
  exact g_ret R8 hF trivial
def FX35_font_b155 (N : Nat) (SE : Int → fS → Option (Unit × fS)) (SN : fS → Option (Int × fS)) (K123 : Int → Int → Int → Int → Int → fS → Option (Unit × fS)) (l1 : Int) (l2 : Int) (l3 : Int) (l4 : Int) (l5 : Int) (s : fS) : Option (Unit × fS) :=
  K123 l1 l2 l3 l4 (iadd l5 1) s
theorem SX35_font_b155 {m b : Nat} {φ0 : Nat → Nat} {σo : fS} (hm : 1 ≤ m) {N : Nat} {sE : Nat → Int32 → eH → Option (Unit × eH)} {SE : Int → fS → Option (Unit × fS)} {sN : Nat → eH → Option (Int32 × eH)} {SN : fS → Option (Int × fS)} {k123 : Nat → Int32 → Int32 → Int32 → Int32 → Int32 → eH → Option (Unit × eH)} {K123 : Int → Int → Int → Int → Int → fS → Option (Unit × fS)} {q : Unit × fS} (hsE : ∀ {φ : Nat → Nat} {h : eH} {s : fS} {x1' : Int32} {x1 : Int} {q}, fC m 1 φ s φ h s → x1' = iI x1 → r32 x1 → SE x1 s = some q → gG m 1 φ s lU q (sE 192 x1' h)) (hsN : ∀ {φ : Nat → Nat} {h : eH} {s : fS} {q}, fC m 1 φ s φ h s → SN s = some q → gG m 1 φ s lI q (sN 192 h)) (hk123 : ∀ {φ : Nat → Nat} {h : eH} {s : fS} {l1' : Int32} {l1 : Int} {l2' : Int32} {l2 : Int} {l3' : Int32} {l3 : Int} {l4' : Int32} {l4 : Int} {l5' : Int32} {l5 : Int}, fC m b φ0 σo φ h s → l1' = iI l1 → r32 l1 → l2' = iI l2 → r32 l2 → l3' = iI l3 → r32 l3 → l4' = iI l4 → r32 l4 → l5' = iI l5 → r32 l5 → K123 l1 l2 l3 l4 l5 s = some q → gG m b φ0 σo lU q (k123 192 l1' l2' l3' l4' l5' h)) {φ : Nat → Nat} {h : eH} {s : fS} {l1' : Int32} {l1 : Int} {l2' : Int32} {l2 : Int} {l3' : Int32} {l3 : Int} {l4' : Int32} {l4 : Int} {l5' : Int32} {l5 : Int} (R : fC m b φ0 σo φ h s) (el1 : l1' = iI l1) (rl1 : r32 l1) (el2 : l2' = iI l2) (rl2 : r32 l2) (el3 : l3' = iI l3) (rl3 : r32 l3) (el4 : l4' = iI l4) (rl4 : r32 l4) (el5 : l5' = iI l5) (rl5 : r32 l5) (hF : FX35_font_b155 N SE SN K123 l1 l2 l3 l4 l5 s = some q) : gG m b φ0 σo lU q (fX35_font_b155 N sE sN k123 192 l1' l2' l3' l4' l5' h) := by
  subst el1; subst el2; subst el3; subst el4; subst el5
  unfold FX35_font_b155 at hF
  unfold fX35_font_b155
  exact hk123 R rfl rl1 rfl rl2 rfl rl3 rfl rl4 (c_add rfl (c_lit 1 1 rfl)) (rr_I _) hF
def FX35_font_b240 (N : Nat) (SE : Int → fS → Option (Unit × fS)) (SN : fS → Option (Int × fS)) (l1 : Int) (l2 : Int) (l5 : Int) (s : fS) : Option (Unit × fS) :=
  (FX35_mean N l2 (iadd 4000000 l5) l1 s).bind fun q2 =>
  some ((), q2.2)
theorem SX35_font_b240 {m b : Nat} {φ0 : Nat → Nat} {σo : fS} (hm : 1 ≤ m) {N : Nat} {sE : Nat → Int32 → eH → Option (Unit × eH)} {SE : Int → fS → Option (Unit × fS)} {sN : Nat → eH → Option (Int32 × eH)} {SN : fS → Option (Int × fS)} {q : Unit × fS} (hsE : ∀ {φ : Nat → Nat} {h : eH} {s : fS} {x1' : Int32} {x1 : Int} {q}, fC m 1 φ s φ h s → x1' = iI x1 → r32 x1 → SE x1 s = some q → gG m 1 φ s lU q (sE 192 x1' h)) (hsN : ∀ {φ : Nat → Nat} {h : eH} {s : fS} {q}, fC m 1 φ s φ h s → SN s = some q → gG m 1 φ s lI q (sN 192 h)) {φ : Nat → Nat} {h : eH} {s : fS} {l1' : Int32} {l1 : Int} {l2' : Int32} {l2 : Int} {l5' : Int32} {l5 : Int} (R : fC m b φ0 σo φ h s) (el1 : l1' = iI l1) (rl1 : r32 l1) (el2 : l2' = iI l2) (rl2 : r32 l2) (el5 : l5' = iI l5) (rl5 : r32 l5) (hF : FX35_font_b240 N SE SN l1 l2 l5 s = some q) : gG m b φ0 σo lU q (fX35_font_b240 N sE sN 192 l1' l2' l5' h) := by
  subst el1; subst el2; subst el5
  unfold FX35_font_b240 at hF
  unfold fX35_font_b240
  refine s_kok R (t_192 hm R.S) (Nat.le_of_ble_eq_true rfl) ?_
  refine s_call R (Nat.zero_le _) (fun _ hq => SX35_mean (b := 0) (N := N) hm (R.rf) rfl rl2 (c_add (c_lit 4000000 4000000 rfl) rfl) (rr_I _) rfl rl1 hq) hF (fun f2 rv2 h2 q2 R2 e2 E2 hF => ?_)
  exact g_ret R2 hF trivial
def FX35_font_b161 (N : Nat) (SE : Int → fS → Option (Unit × fS)) (SN : fS → Option (Int × fS)) (l1 : Int) (l2 : Int) (l3 : Int) (l4 : Int) (l5 : Int) (s : fS) : Option (Unit × fS) :=
  if ¬ (l5 = 100) then
    if ¬ (l5 = (s.i 192 48)) then
      FX35_font_b240 N SE SN l1 l2 l5 s
    else
      (uQI s 283 l5 l3).bind fun σ7 =>
      (uQI σ7 284 l5 l4).bind fun σ11 =>
      (uRO σ11 194 l3).bind fun a17 =>
      (uK 42 σ11 a17).bind fun _ =>
      (FX40_check N a17 σ11).bind fun q20 =>
      (uRO q20.2 194 l3).bind fun a23 =>
      (uK 42 q20.2 a23).bind fun _ =>
      (FX40_design N a23 q20.2).bind fun q26 =>
      (FX38_font l5 l3 q20.1 l4 q26.1 q26.2).bind fun q28 =>
      (uPI q28.2 192 48 (iadd (q28.2.i 192 48) 1)).bind fun σ31 =>
      FX35_font_b240 N SE SN l1 l2 l5 σ31
  else
    (FX35_fail 2 s).bind fun q34 =>
    some ((), q34.2)
theorem SX35_font_b161 {m b : Nat} {φ0 : Nat → Nat} {σo : fS} (hm : 1 ≤ m) {N : Nat} {sE : Nat → Int32 → eH → Option (Unit × eH)} {SE : Int → fS → Option (Unit × fS)} {sN : Nat → eH → Option (Int32 × eH)} {SN : fS → Option (Int × fS)} {q : Unit × fS} (hsE : ∀ {φ : Nat → Nat} {h : eH} {s : fS} {x1' : Int32} {x1 : Int} {q}, fC m 1 φ s φ h s → x1' = iI x1 → r32 x1 → SE x1 s = some q → gG m 1 φ s lU q (sE 192 x1' h)) (hsN : ∀ {φ : Nat → Nat} {h : eH} {s : fS} {q}, fC m 1 φ s φ h s → SN s = some q → gG m 1 φ s lI q (sN 192 h)) {φ : Nat → Nat} {h : eH} {s : fS} {l1' : Int32} {l1 : Int} {l2' : Int32} {l2 : Int} {l3' : Int32} {l3 : Int} {l4' : Int32} {l4 : Int} {l5' : Int32} {l5 : Int} (R : fC m b φ0 σo φ h s) (el1 : l1' = iI l1) (rl1 : r32 l1) (el2 : l2' = iI l2) (rl2 : r32 l2) (el3 : l3' = iI l3) (rl3 : r32 l3) (el4 : l4' = iI l4) (rl4 : r32 l4) (el5 : l5' = iI l5) (rl5 : r32 l5) (hF : FX35_font_b161 N SE SN l1 l2 l3 l4 l5 s = some q) : gG m b φ0 σo lU q (fX35_font_b161 N sE sN 192 l1' l2' l3' l4' l5' h) := by
  subst el1; subst el2; subst el3; subst el4; subst el5
  unfold FX35_font_b161 at hF
  unfold fX35_font_b161
  refine s_if (not_congr (i_eq rfl (c_lit 100 100 rfl) rl5 ⟨by decide, by decide⟩)) hF (fun c1 hF => ?_) (fun c1 hF => ?_)
  ·
    refine s_gI R (t_192 hm R.S) (Nat.le_of_ble_eq_true rfl) rfl ?_
    refine s_if (not_congr (i_eq rfl rfl rl5 (R.ri (t_192 hm R.S) (Nat.le_of_ble_eq_true rfl) rfl))) hF (fun c3 hF => ?_) (fun c3 hF => ?_)
    ·
      exact SX35_font_b240 (N := N) (sE := sE) (SE := SE) (sN := sN) (SN := SN) hm @hsE @hsN R rfl rl1 rfl rl2 rfl rl5 hF
    ·
      refine s_gAs R (t_192 hm R.S) (Nat.le_of_ble_eq_true rfl) rfl (o_192_49 hm R.S) (a_283 hm R) ?_
      refine s_qI R (u_283 hm R.S).1 (u_283 hm R.S).2 (by decide) (a_283 hm R) rfl rl5 rfl rl3 hF (fun h5 σ7 R5 T5 hF => ?_)
      refine s_gAs R5 (t_192 hm R5.S) (Nat.le_of_ble_eq_true rfl) rfl (o_192_50 hm R5.S) (a_284 hm R5) ?_
      refine s_qI R5 (u_284 hm R5.S).1 (u_284 hm R5.S).2 (by decide) (a_284 hm R5) rfl rl5 rfl rl4 hF (fun h7 σ11 R7 T7 hF => ?_)
      refine s_gO R7 (t_192 hm R7.S) (Nat.le_of_ble_eq_true rfl) rfl (o_192_7 hm R7.S) ?_
      refine s_gAs R7 (t_192 hm R7.S) (Nat.le_of_ble_eq_true rfl) rfl (o_192_4 hm R7.S) (a_194 hm R7) ?_
      refine s_rO R7 (u_194 hm R7.S).1 (u_194 hm R7.S).2 rfl (fun _ => rfl) (Nat.le_of_ble_eq_true rfl) (a_194 hm R7) rfl rl3 hF (fun a17 y10 hF => ?_)
      refine s_K hF (fun t12 hF => ?_)
      refine s_kok R7 t12 (Nat.le_of_ble_eq_true rfl) ?_
      refine s_call R7 (Nat.zero_le _) (fun _ hq => SX40_check (b := 0) (N := N) hm (R7.rf) hq) hF (fun f13 rv13 h13 q20 R13 e13 E13 hF => ?_)
      refine s_gAs R13 (t_192 hm R13.S) (Nat.le_of_ble_eq_true rfl) rfl (o_192_4 hm R13.S) (a_194 hm R13) ?_
      refine s_rO R13 (u_194 hm R13.S).1 (u_194 hm R13.S).2 rfl (fun _ => rfl) (Nat.le_of_ble_eq_true rfl) (a_194 hm R13) rfl rl3 hF (fun a23 y15 hF => ?_)
      refine s_K hF (fun t17 hF => ?_)
      refine s_kok R13 t17 (Nat.le_of_ble_eq_true rfl) ?_
      refine s_call R13 (Nat.zero_le _) (fun _ hq => SX40_design (b := 0) (N := N) hm (R13.rf) hq) hF (fun f18 rv18 h18 q26 R18 e18 E18 hF => ?_)
      refine s_kok R18 (t_243 hm R18.S) (Nat.le_of_ble_eq_true rfl) ?_
      refine s_call R18 (Nat.zero_le _) (fun _ hq => SX38_font (b := 0) hm (R18.rf) rfl rl5 rfl rl3 e13.1 e13.2 rfl rl4 e18.1 e18.2 hq) hF (fun f20 rv20 h20 q28 R20 e20 E20 hF => ?_)
      refine s_gI R20 (t_192 hm R20.S) (Nat.le_of_ble_eq_true rfl) rfl ?_
      refine s_pI R20 (t_192 hm R20.S) (Nat.le_of_ble_eq_true rfl) rfl (c_add rfl (c_lit 1 1 rfl)) (rr_I _) hF (fun h22 σ31 R22 T22 hF => ?_)
      exact SX35_font_b240 (N := N) (sE := sE) (SE := SE) (sN := sN) (SN := SN) hm @hsE @hsN R22 rfl rl1 rfl rl2 rfl rl5 hF
  ·
    refine s_kok R (t_192 hm R.S) (Nat.le_of_ble_eq_true rfl) ?_
    refine s_call R (Nat.zero_le _) (fun _ hq => SX35_fail (b := 0) hm (R.rf) (c_lit 2 2 rfl) ⟨by decide, by decide⟩ hq) hF (fun f24 rv24 h24 q34 R24 e24 E24 hF => ?_)
    exact g_ret R24 hF trivial
def FX35_font_b123 (N : Nat) (SE : Int → fS → Option (Unit × fS)) (SN : fS → Option (Int × fS)) : Nat → Int → Int → Int → Int → Int → fS → Option (Unit × fS)
  | 0, _, _, _, _, _, _ => none
  | n + 1, l1, l2, l3, l4, l5, s =>
    if (s.i 192 48) ≤ l5 then
      FX35_font_b161 N SE SN l1 l2 l3 l4 l5 s
    else
      (uRI s 283 l5).bind fun x6 =>
      if ¬ (x6 = l3) then
        FX35_font_b155 N SE SN (FX35_font_b123 N SE SN n) l1 l2 l3 l4 l5 s
      else
        (uRI s 284 l5).bind fun x11 =>
        if x11 = l4 then
          FX35_font_b161 N SE SN l1 l2 l3 l4 l5 s
        else
          FX35_font_b155 N SE SN (FX35_font_b123 N SE SN n) l1 l2 l3 l4 l5 s
theorem SX35_font_b123 {m b : Nat} {φ0 : Nat → Nat} {σo : fS} (hm : 1 ≤ m) {N : Nat} {sE : Nat → Int32 → eH → Option (Unit × eH)} {SE : Int → fS → Option (Unit × fS)} {sN : Nat → eH → Option (Int32 × eH)} {SN : fS → Option (Int × fS)} {q : Unit × fS} (hsE : ∀ {φ : Nat → Nat} {h : eH} {s : fS} {x1' : Int32} {x1 : Int} {q}, fC m 1 φ s φ h s → x1' = iI x1 → r32 x1 → SE x1 s = some q → gG m 1 φ s lU q (sE 192 x1' h)) (hsN : ∀ {φ : Nat → Nat} {h : eH} {s : fS} {q}, fC m 1 φ s φ h s → SN s = some q → gG m 1 φ s lI q (sN 192 h)) : ∀ {n : Nat} {φ : Nat → Nat} {h : eH} {s : fS} {l1' : Int32} {l1 : Int} {l2' : Int32} {l2 : Int} {l3' : Int32} {l3 : Int} {l4' : Int32} {l4 : Int} {l5' : Int32} {l5 : Int}, fC m b φ0 σo φ h s → l1' = iI l1 → r32 l1 → l2' = iI l2 → r32 l2 → l3' = iI l3 → r32 l3 → l4' = iI l4 → r32 l4 → l5' = iI l5 → r32 l5 → FX35_font_b123 N SE SN n l1 l2 l3 l4 l5 s = some q → gG m b φ0 σo lU q (fX35_font_b123 N sE sN n 192 l1' l2' l3' l4' l5' h) := by
  intro n
  induction n with
 | zero => intro φ h s l1' l1 l2' l2 l3' l3 l4' l4 l5' l5 R el1 rl1 el2 rl2 el3 rl3 el4 rl4 el5 rl5 hF; simp [FX35_font_b123] at hF
  | succ n ih =>
    intro φ h s l1' l1 l2' l2 l3' l3 l4' l4 l5' l5 R el1 rl1 el2 rl2 el3 rl3 el4 rl4 el5 rl5 hF
    subst el1; subst el2; subst el3; subst el4; subst el5
    rw [FX35_font_b123] at hF
    rw [fX35_font_b123]
    refine s_gI R (t_192 hm R.S) (Nat.le_of_ble_eq_true rfl) rfl ?_
    refine s_if (i_le rfl rfl (R.ri (t_192 hm R.S) (Nat.le_of_ble_eq_true rfl) rfl) rl5) hF (fun c2 hF => ?_) (fun c2 hF => ?_)
    ·
      exact SX35_font_b161 (N := N) (sE := sE) (SE := SE) (sN := sN) (SN := SN) hm @hsE @hsN R rfl rl1 rfl rl2 rfl rl3 rfl rl4 rfl rl5 hF
    ·
      refine s_gAs R (t_192 hm R.S) (Nat.le_of_ble_eq_true rfl) rfl (o_192_49 hm R.S) (a_283 hm R) ?_
      refine s_rI R (u_283 hm R.S).1 (u_283 hm R.S).2 (by decide) (a_283 hm R) rfl rl5 hF (fun x6 ra4 hF => ?_)
      refine s_if (not_congr (i_eq rfl rfl ra4 rl3)) hF (fun c5 hF => ?_) (fun c5 hF => ?_)
      ·
        exact SX35_font_b155 (N := N) (sE := sE) (SE := SE) (sN := sN) (SN := SN) (k123 := fX35_font_b123 N sE sN n) (K123 := FX35_font_b123 N SE SN n) hm @hsE @hsN @ih R rfl rl1 rfl rl2 rfl rl3 rfl rl4 rfl rl5 hF
      ·
        refine s_gAs R (t_192 hm R.S) (Nat.le_of_ble_eq_true rfl) rfl (o_192_50 hm R.S) (a_284 hm R) ?_
        refine s_rI R (u_284 hm R.S).1 (u_284 hm R.S).2 (by decide) (a_284 hm R) rfl rl5 hF (fun x11 ra7 hF => ?_)
        refine s_if (i_eq rfl rfl ra7 rl4) hF (fun c8 hF => ?_) (fun c8 hF => ?_)
        ·
          exact SX35_font_b161 (N := N) (sE := sE) (SE := SE) (sN := sN) (SN := SN) hm @hsE @hsN R rfl rl1 rfl rl2 rfl rl3 rfl rl4 rfl rl5 hF
        ·
          exact SX35_font_b155 (N := N) (sE := sE) (SE := SE) (sN := sN) (SN := SN) (k123 := fX35_font_b123 N sE sN n) (K123 := FX35_font_b123 N SE SN n) hm @hsE @hsN @ih R rfl rl1 rfl rl2 rfl rl3 rfl rl4 rfl rl5 hF
def FX35_font_b112 (N : Nat) (SE : Int → fS → Option (Unit × fS)) (SN : fS → Option (Int × fS)) (l1 : Int) (l2 : Int) (l3 : Int) (l4 : Int) (s : fS) : Option (Unit × fS) :=
  if (s.i 192 46) ≤ 0 then
    FX35_font_b123 N SE SN N l1 l2 l3 l4 0 s
  else
    some ((), s)
theorem SX35_font_b112 {m b : Nat} {φ0 : Nat → Nat} {σo : fS} (hm : 1 ≤ m) {N : Nat} {sE : Nat → Int32 → eH → Option (Unit × eH)} {SE : Int → fS → Option (Unit × fS)} {sN : Nat → eH → Option (Int32 × eH)} {SN : fS → Option (Int × fS)} {q : Unit × fS} (hsE : ∀ {φ : Nat → Nat} {h : eH} {s : fS} {x1' : Int32} {x1 : Int} {q}, fC m 1 φ s φ h s → x1' = iI x1 → r32 x1 → SE x1 s = some q → gG m 1 φ s lU q (sE 192 x1' h)) (hsN : ∀ {φ : Nat → Nat} {h : eH} {s : fS} {q}, fC m 1 φ s φ h s → SN s = some q → gG m 1 φ s lI q (sN 192 h)) {φ : Nat → Nat} {h : eH} {s : fS} {l1' : Int32} {l1 : Int} {l2' : Int32} {l2 : Int} {l3' : Int32} {l3 : Int} {l4' : Int32} {l4 : Int} (R : fC m b φ0 σo φ h s) (el1 : l1' = iI l1) (rl1 : r32 l1) (el2 : l2' = iI l2) (rl2 : r32 l2) (el3 : l3' = iI l3) (rl3 : r32 l3) (el4 : l4' = iI l4) (rl4 : r32 l4) (hF : FX35_font_b112 N SE SN l1 l2 l3 l4 s = some q) : gG m b φ0 σo lU q (fX35_font_b112 N sE sN 192 l1' l2' l3' l4' h) := by
  subst el1; subst el2; subst el3; subst el4
  unfold FX35_font_b112 at hF
  unfold fX35_font_b112
  refine s_gI R (t_192 hm R.S) (Nat.le_of_ble_eq_true rfl) rfl ?_
  refine s_if (i_le rfl (c_lit 0 0 rfl) (R.ri (t_192 hm R.S) (Nat.le_of_ble_eq_true rfl) rfl) ⟨by decide, by decide⟩) hF (fun c2 hF => ?_) (fun c2 hF => ?_)
  ·
    exact SX35_font_b123 (N := N) (sE := sE) (SE := SE) (sN := sN) (SN := SN) hm @hsE @hsN R rfl rl1 rfl rl2 rfl rl3 rfl rl4 (c_lit 0 0 rfl) ⟨by decide, by decide⟩ hF
  ·
    exact g_ret R hF trivial
def FX35_font_b85 (N : Nat) (SE : Int → fS → Option (Unit × fS)) (SN : fS → Option (Int × fS)) (l1 : Int) (l2 : Int) (l3 : Int) (l4 : Int) (s : fS) : Option (Unit × fS) :=
  (FX35_fail 7 s).bind fun q2 =>
  FX35_font_b112 N SE SN l1 l2 l3 l4 q2.2
theorem SX35_font_b85 {m b : Nat} {φ0 : Nat → Nat} {σo : fS} (hm : 1 ≤ m) {N : Nat} {sE : Nat → Int32 → eH → Option (Unit × eH)} {SE : Int → fS → Option (Unit × fS)} {sN : Nat → eH → Option (Int32 × eH)} {SN : fS → Option (Int × fS)} {q : Unit × fS} (hsE : ∀ {φ : Nat → Nat} {h : eH} {s : fS} {x1' : Int32} {x1 : Int} {q}, fC m 1 φ s φ h s → x1' = iI x1 → r32 x1 → SE x1 s = some q → gG m 1 φ s lU q (sE 192 x1' h)) (hsN : ∀ {φ : Nat → Nat} {h : eH} {s : fS} {q}, fC m 1 φ s φ h s → SN s = some q → gG m 1 φ s lI q (sN 192 h)) {φ : Nat → Nat} {h : eH} {s : fS} {l1' : Int32} {l1 : Int} {l2' : Int32} {l2 : Int} {l3' : Int32} {l3 : Int} {l4' : Int32} {l4 : Int} (R : fC m b φ0 σo φ h s) (el1 : l1' = iI l1) (rl1 : r32 l1) (el2 : l2' = iI l2) (rl2 : r32 l2) (el3 : l3' = iI l3) (rl3 : r32 l3) (el4 : l4' = iI l4) (rl4 : r32 l4) (hF : FX35_font_b85 N SE SN l1 l2 l3 l4 s = some q) : gG m b φ0 σo lU q (fX35_font_b85 N sE sN 192 l1' l2' l3' l4' h) := by
  subst el1; subst el2; subst el3; subst el4
  unfold FX35_font_b85 at hF
  unfold fX35_font_b85
  refine s_kok R (t_192 hm R.S) (Nat.le_of_ble_eq_true rfl) ?_
  refine s_call R (Nat.zero_le _) (fun _ hq => SX35_fail (b := 0) hm (R.rf) (c_lit 7 7 rfl) ⟨by decide, by decide⟩ hq) hF (fun f2 rv2 h2 q2 R2 e2 E2 hF => ?_)
  exact SX35_font_b112 (N := N) (sE := sE) (SE := SE) (sN := sN) (SN := SN) hm @hsE @hsN R2 rfl rl1 rfl rl2 rfl rl3 rfl rl4 hF
def FX35_font_b94 (N : Nat) (SE : Int → fS → Option (Unit × fS)) (SN : fS → Option (Int × fS)) (l1 : Int) (l2 : Int) (l3 : Int) (l4 : Int) (s : fS) : Option (Unit × fS) :=
  if ¬ ((s.i 192 46) = 0) then
    FX35_font_b112 N SE SN l1 l2 l3 l4 s
  else
    (uRO s 194 l3).bind fun a6 =>
    (uK 42 s a6).bind fun _ =>
    (FX40_design N a6 s).bind fun q9 =>
    FX35_font_b112 N SE SN l1 l2 l3 q9.1 q9.2
theorem SX35_font_b94 {m b : Nat} {φ0 : Nat → Nat} {σo : fS} (hm : 1 ≤ m) {N : Nat} {sE : Nat → Int32 → eH → Option (Unit × eH)} {SE : Int → fS → Option (Unit × fS)} {sN : Nat → eH → Option (Int32 × eH)} {SN : fS → Option (Int × fS)} {q : Unit × fS} (hsE : ∀ {φ : Nat → Nat} {h : eH} {s : fS} {x1' : Int32} {x1 : Int} {q}, fC m 1 φ s φ h s → x1' = iI x1 → r32 x1 → SE x1 s = some q → gG m 1 φ s lU q (sE 192 x1' h)) (hsN : ∀ {φ : Nat → Nat} {h : eH} {s : fS} {q}, fC m 1 φ s φ h s → SN s = some q → gG m 1 φ s lI q (sN 192 h)) {φ : Nat → Nat} {h : eH} {s : fS} {l1' : Int32} {l1 : Int} {l2' : Int32} {l2 : Int} {l3' : Int32} {l3 : Int} {l4' : Int32} {l4 : Int} (R : fC m b φ0 σo φ h s) (el1 : l1' = iI l1) (rl1 : r32 l1) (el2 : l2' = iI l2) (rl2 : r32 l2) (el3 : l3' = iI l3) (rl3 : r32 l3) (el4 : l4' = iI l4) (rl4 : r32 l4) (hF : FX35_font_b94 N SE SN l1 l2 l3 l4 s = some q) : gG m b φ0 σo lU q (fX35_font_b94 N sE sN 192 l1' l2' l3' l4' h) := by
  subst el1; subst el2; subst el3; subst el4
  unfold FX35_font_b94 at hF
  unfold fX35_font_b94
  refine s_gI R (t_192 hm R.S) (Nat.le_of_ble_eq_true rfl) rfl ?_
  refine s_if (not_congr (i_eq rfl (c_lit 0 0 rfl) (R.ri (t_192 hm R.S) (Nat.le_of_ble_eq_true rfl) rfl) ⟨by decide, by decide⟩)) hF (fun c2 hF => ?_) (fun c2 hF => ?_)
  ·
    exact SX35_font_b112 (N := N) (sE := sE) (SE := SE) (sN := sN) (SN := SN) hm @hsE @hsN R rfl rl1 rfl rl2 rfl rl3 rfl rl4 hF
  ·
    refine s_gAs R (t_192 hm R.S) (Nat.le_of_ble_eq_true rfl) rfl (o_192_4 hm R.S) (a_194 hm R) ?_
    refine s_rO R (u_194 hm R.S).1 (u_194 hm R.S).2 rfl (fun _ => rfl) (Nat.le_of_ble_eq_true rfl) (a_194 hm R) rfl rl3 hF (fun a6 y4 hF => ?_)
    refine s_K hF (fun t6 hF => ?_)
    refine s_kok R t6 (Nat.le_of_ble_eq_true rfl) ?_
    refine s_call R (Nat.zero_le _) (fun _ hq => SX40_design (b := 0) (N := N) hm (R.rf) hq) hF (fun f7 rv7 h7 q9 R7 e7 E7 hF => ?_)
    exact SX35_font_b112 (N := N) (sE := sE) (SE := SE) (sN := sN) (SN := SN) hm @hsE @hsN R7 rfl rl1 rfl rl2 rfl rl3 e7.1 e7.2 hF
def FX35_font_b38 (N : Nat) (SE : Int → fS → Option (Unit × fS)) (SN : fS → Option (Int × fS)) (l1 : Int) (l2 : Int) (l3 : Int) (s : fS) : Option (Unit × fS) :=
  if ¬ ((s.i 192 46) = 0) then
    FX35_font_b94 N SE SN l1 l2 l3 0 s
  else
    (FX35_keyword N SE 1000000135 s).bind fun q5 =>
    if q5.1 = 0 then
      FX35_font_b94 N SE SN l1 l2 l3 0 q5.2
    else
      (FX35_dimension N SE SN q5.2).bind fun q8 =>
      if ¬ ((q8.2.i 192 46) = 0) then
        FX35_font_b112 N SE SN l1 l2 l3 q8.1 q8.2
      else
        if q8.1 < 1 then
          FX35_font_b85 N SE SN l1 l2 l3 q8.1 q8.2
        else
          if q8.1 ≤ 134217727 then
            FX35_font_b112 N SE SN l1 l2 l3 q8.1 q8.2
          else
            FX35_font_b85 N SE SN l1 l2 l3 q8.1 q8.2
theorem SX35_font_b38 {m b : Nat} {φ0 : Nat → Nat} {σo : fS} (hm : 1 ≤ m) (hb : 1 ≤ b) {N : Nat} {sE : Nat → Int32 → eH → Option (Unit × eH)} {SE : Int → fS → Option (Unit × fS)} {sN : Nat → eH → Option (Int32 × eH)} {SN : fS → Option (Int × fS)} {q : Unit × fS} (hsE : ∀ {φ : Nat → Nat} {h : eH} {s : fS} {x1' : Int32} {x1 : Int} {q}, fC m 1 φ s φ h s → x1' = iI x1 → r32 x1 → SE x1 s = some q → gG m 1 φ s lU q (sE 192 x1' h)) (hsN : ∀ {φ : Nat → Nat} {h : eH} {s : fS} {q}, fC m 1 φ s φ h s → SN s = some q → gG m 1 φ s lI q (sN 192 h)) {φ : Nat → Nat} {h : eH} {s : fS} {l1' : Int32} {l1 : Int} {l2' : Int32} {l2 : Int} {l3' : Int32} {l3 : Int} (R : fC m b φ0 σo φ h s) (el1 : l1' = iI l1) (rl1 : r32 l1) (el2 : l2' = iI l2) (rl2 : r32 l2) (el3 : l3' = iI l3) (rl3 : r32 l3) (hF : FX35_font_b38 N SE SN l1 l2 l3 s = some q) : gG m b φ0 σo lU q (fX35_font_b38 N sE sN 192 l1' l2' l3' h) := by
  subst el1; subst el2; subst el3
  unfold FX35_font_b38 at hF
  unfold fX35_font_b38
  refine s_gI R (t_192 hm R.S) (Nat.le_of_ble_eq_true rfl) rfl ?_
  refine s_if (not_congr (i_eq rfl (c_lit 0 0 rfl) (R.ri (t_192 hm R.S) (Nat.le_of_ble_eq_true rfl) rfl) ⟨by decide, by decide⟩)) hF (fun c2 hF => ?_) (fun c2 hF => ?_)
  ·
    exact SX35_font_b94 (N := N) (sE := sE) (SE := SE) (sN := sN) (SN := SN) hm @hsE @hsN R rfl rl1 rfl rl2 rfl rl3 (c_lit 0 0 rfl) ⟨by decide, by decide⟩ hF
  ·
    refine s_kok R (t_192 hm R.S) (Nat.le_of_ble_eq_true rfl) ?_
    refine s_call R hb (fun _ hq => SX35_keyword (b := 1) (N := N) (sE := sE) (SE := SE) hm (Nat.le_of_ble_eq_true rfl) @hsE (R.rf) hq) hF (fun f4 rv4 h4 q5 R4 e4 E4 hF => ?_)
    refine s_if (i_eq e4.1 (c_lit 0 0 rfl) e4.2 ⟨by decide, by decide⟩) hF (fun c5 hF => ?_) (fun c5 hF => ?_)
    ·
      exact SX35_font_b94 (N := N) (sE := sE) (SE := SE) (sN := sN) (SN := SN) hm @hsE @hsN R4 rfl rl1 rfl rl2 rfl rl3 (c_lit 0 0 rfl) ⟨by decide, by decide⟩ hF
    ·
      refine s_kok R4 (t_192 hm R4.S) (Nat.le_of_ble_eq_true rfl) ?_
      refine s_call R4 hb (fun _ hq => SX35_dimension (b := 1) (N := N) (sE := sE) (SE := SE) (sN := sN) (SN := SN) hm (Nat.le_of_ble_eq_true rfl) @hsE @hsN (R4.rf) hq) hF (fun f7 rv7 h7 q8 R7 e7 E7 hF => ?_)
      refine s_gI R7 (t_192 hm R7.S) (Nat.le_of_ble_eq_true rfl) rfl ?_
      refine s_if (not_congr (i_eq rfl (c_lit 0 0 rfl) (R7.ri (t_192 hm R7.S) (Nat.le_of_ble_eq_true rfl) rfl) ⟨by decide, by decide⟩)) hF (fun c9 hF => ?_) (fun c9 hF => ?_)
      ·
        exact SX35_font_b112 (N := N) (sE := sE) (SE := SE) (sN := sN) (SN := SN) hm @hsE @hsN R7 rfl rl1 rfl rl2 rfl rl3 e7.1 e7.2 hF
      ·
        refine s_if (i_lt e7.1 (c_lit 1 1 rfl) e7.2 ⟨by decide, by decide⟩) hF (fun c10 hF => ?_) (fun c10 hF => ?_)
        ·
          exact SX35_font_b85 (N := N) (sE := sE) (SE := SE) (sN := sN) (SN := SN) hm @hsE @hsN R7 rfl rl1 rfl rl2 rfl rl3 e7.1 e7.2 hF
        ·
          refine s_if (i_le e7.1 (c_lit 134217727 134217727 rfl) e7.2 ⟨by decide, by decide⟩) hF (fun c11 hF => ?_) (fun c11 hF => ?_)
          ·
            exact SX35_font_b112 (N := N) (sE := sE) (SE := SE) (sN := sN) (SN := SN) hm @hsE @hsN R7 rfl rl1 rfl rl2 rfl rl3 e7.1 e7.2 hF
          ·
            exact SX35_font_b85 (N := N) (sE := sE) (SE := SE) (sN := sN) (SN := SN) hm @hsE @hsN R7 rfl rl1 rfl rl2 rfl rl3 e7.1 e7.2 hF
def FX35_font (N : Nat) (SE : Int → fS → Option (Unit × fS)) (SN : fS → Option (Int × fS)) (p0 : Int) (s : fS) : Option (Unit × fS) :=
  (FX35_target N s).bind fun q2 =>
  (FX35_equals N SE q2.2).bind fun q4 =>
  (FX35_small SN 15 q4.2).bind fun q6 =>
  if ¬ ((q6.2.i 192 46) = 0) then
    FX35_font_b38 N SE SN p0 q2.1 q6.1 q6.2
  else
    (uRQ q6.2 194 q6.1).bind fun a12 =>
    match a12 with
    | none =>
      (FX35_fail 14 q6.2).bind fun q16 =>
      FX35_font_b38 N SE SN p0 q2.1 q6.1 q16.2
    | some a14 =>
      FX35_font_b38 N SE SN p0 q2.1 q6.1 q6.2
theorem SX35_font {m b : Nat} {φ0 : Nat → Nat} {σo : fS} (hm : 1 ≤ m) (hb : 1 ≤ b) {N : Nat} {sE : Nat → Int32 → eH → Option (Unit × eH)} {SE : Int → fS → Option (Unit × fS)} {sN : Nat → eH → Option (Int32 × eH)} {SN : fS → Option (Int × fS)} {q : Unit × fS} (hsE : ∀ {φ : Nat → Nat} {h : eH} {s : fS} {x1' : Int32} {x1 : Int} {q}, fC m 1 φ s φ h s → x1' = iI x1 → r32 x1 → SE x1 s = some q → gG m 1 φ s lU q (sE 192 x1' h)) (hsN : ∀ {φ : Nat → Nat} {h : eH} {s : fS} {q}, fC m 1 φ s φ h s → SN s = some q → gG m 1 φ s lI q (sN 192 h)) {φ : Nat → Nat} {h : eH} {s : fS} {p0' : Int32} {p0 : Int} (R : fC m b φ0 σo φ h s) (ep0 : p0' = iI p0) (rp0 : r32 p0) (hF : FX35_font N SE SN p0 s = some q) : gG m b φ0 σo lU q (fX35_font N sE sN 192 p0' h) := by
  subst ep0
  unfold FX35_font at hF
  unfold fX35_font
  refine s_kok R (t_192 hm R.S) (Nat.le_of_ble_eq_true rfl) ?_
  refine s_call R (Nat.zero_le _) (fun _ hq => SX35_target (b := 0) (N := N) hm (R.rf) hq) hF (fun f2 rv2 h2 q2 R2 e2 E2 hF => ?_)
  refine s_kok R2 (t_192 hm R2.S) (Nat.le_of_ble_eq_true rfl) ?_
  refine s_call R2 hb (fun _ hq => SX35_equals (b := 1) (N := N) (sE := sE) (SE := SE) hm (Nat.le_of_ble_eq_true rfl) @hsE (R2.rf) hq) hF (fun f4 rv4 h4 q4 R4 e4 E4 hF => ?_)
  refine s_kok R4 (t_192 hm R4.S) (Nat.le_of_ble_eq_true rfl) ?_
  refine s_call R4 hb (fun _ hq => SX35_small (b := 1) (sN := sN) (SN := SN) hm (Nat.le_of_ble_eq_true rfl) @hsN (R4.rf) (c_lit 15 15 rfl) ⟨by decide, by decide⟩ hq) hF (fun f6 rv6 h6 q6 R6 e6 E6 hF => ?_)
  refine s_gI R6 (t_192 hm R6.S) (Nat.le_of_ble_eq_true rfl) rfl ?_
  refine s_if (not_congr (i_eq rfl (c_lit 0 0 rfl) (R6.ri (t_192 hm R6.S) (Nat.le_of_ble_eq_true rfl) rfl) ⟨by decide, by decide⟩)) hF (fun c8 hF => ?_) (fun c8 hF => ?_)
  ·
    exact SX35_font_b38 (N := N) (sE := sE) (SE := SE) (sN := sN) (SN := SN) hm hb @hsE @hsN R6 rfl rp0 e2.1 e2.2 e6.1 e6.2 hF
  ·
    refine s_gAs R6 (t_192 hm R6.S) (Nat.le_of_ble_eq_true rfl) rfl (o_192_4 hm R6.S) (a_194 hm R6) ?_
    refine s_rQ R6 (u_194 hm R6.S).1 (u_194 hm R6.S).2 rfl (fun _ => rfl) (Nat.le_of_ble_eq_true rfl) (a_194 hm R6) e6.1 e6.2 hF (fun a12 y10 hF => ?_)
    cases a12 with
    | none =>
      dsimp only at hF ⊢
      refine s_kok R6 (t_192 hm R6.S) (Nat.le_of_ble_eq_true rfl) ?_
      refine s_call R6 (Nat.zero_le _) (fun _ hq => SX35_fail (b := 0) hm (R6.rf) (c_lit 14 14 rfl) ⟨by decide, by decide⟩ hq) hF (fun f13 rv13 h13 q16 R13 e13 E13 hF => ?_)
      exact SX35_font_b38 (N := N) (sE := sE) (SE := SE) (sN := sN) (SN := SN) hm hb @hsE @hsN R13 rfl rp0 e2.1 e2.2 e6.1 e6.2 hF
    | some a14 =>
      dsimp only at hF ⊢
      exact SX35_font_b38 (N := N) (sE := sE) (SE := SE) (sN := sN) (SN := SN) hm hb @hsE @hsN R6 rfl rp0 e2.1 e2.2 e6.1 e6.2 hF
def FX35_reckoned_b89 (s0 : Int) (s : fS) : Option (Int × fS) :=
  some (s0, s)
theorem SX35_reckoned_b89 {m b : Nat} {φ0 : Nat → Nat} {σo : fS} (hm : 1 ≤ m) {q : Int × fS} {φ : Nat → Nat} {h : eH} {s : fS} {s0' : Int32} {s0 : Int} (R : fC m b φ0 σo φ h s) (es0 : s0' = iI s0) (rs0 : r32 s0) (hF : FX35_reckoned_b89 s0 s = some q) : gG m b φ0 σo lI q (fX35_reckoned_b89 s0' h) := by
  subst es0
  unfold FX35_reckoned_b89 at hF
  unfold fX35_reckoned_b89
  exact g_ret R hF ⟨rfl, rs0⟩
def FX35_reckoned_b75 (l8 : Int) (s : fS) : Option (Int × fS) :=
  if (s.i 192 46) ≤ 0 then
    FX35_reckoned_b89 (l2i l8) s
  else
    FX35_reckoned_b89 0 s
theorem SX35_reckoned_b75 {m b : Nat} {φ0 : Nat → Nat} {σo : fS} (hm : 1 ≤ m) {q : Int × fS} {φ : Nat → Nat} {h : eH} {s : fS} {l8' : Int64} {l8 : Int} (R : fC m b φ0 σo φ h s) (el8 : l8' = iJ l8) (rl8 : r64 l8) (hF : FX35_reckoned_b75 l8 s = some q) : gG m b φ0 σo lI q (fX35_reckoned_b75 192 l8' h) := by
  subst el8
  unfold FX35_reckoned_b75 at hF
  unfold fX35_reckoned_b75
  refine s_gI R (t_192 hm R.S) (Nat.le_of_ble_eq_true rfl) rfl ?_
  refine s_if (i_le rfl (c_lit 0 0 rfl) (R.ri (t_192 hm R.S) (Nat.le_of_ble_eq_true rfl) rfl) ⟨by decide, by decide⟩) hF (fun c2 hF => ?_) (fun c2 hF => ?_)
  ·
    exact SX35_reckoned_b89 hm R (d_2i rfl) (rr_I _) hF
  ·
    exact SX35_reckoned_b89 hm R (c_lit 0 0 rfl) ⟨by decide, by decide⟩ hF
def FX35_reckoned_b69 (l8 : Int) (s : fS) : Option (Int × fS) :=
  (FX35_fail 7 s).bind fun q2 =>
  FX35_reckoned_b75 l8 q2.2
theorem SX35_reckoned_b69 {m b : Nat} {φ0 : Nat → Nat} {σo : fS} (hm : 1 ≤ m) {q : Int × fS} {φ : Nat → Nat} {h : eH} {s : fS} {l8' : Int64} {l8 : Int} (R : fC m b φ0 σo φ h s) (el8 : l8' = iJ l8) (rl8 : r64 l8) (hF : FX35_reckoned_b69 l8 s = some q) : gG m b φ0 σo lI q (fX35_reckoned_b69 192 l8' h) := by
  subst el8
  unfold FX35_reckoned_b69 at hF
  unfold fX35_reckoned_b69
  refine s_kok R (t_192 hm R.S) (Nat.le_of_ble_eq_true rfl) ?_
  refine s_call R (Nat.zero_le _) (fun _ hq => SX35_fail (b := 0) hm (R.rf) (c_lit 7 7 rfl) ⟨by decide, by decide⟩ hq) hF (fun f2 rv2 h2 q2 R2 e2 E2 hF => ?_)
  exact SX35_reckoned_b75 hm R2 rfl rl8 hF
def FX35_reckoned_b50 (l6 : Int) (s0 : Int) (s : fS) : Option (Int × fS) :=
  if l6 < s0 then
    FX35_reckoned_b69 s0 s
  else
    if (lneg l6) ≤ s0 then
      FX35_reckoned_b75 s0 s
    else
      FX35_reckoned_b69 s0 s
theorem SX35_reckoned_b50 {m b : Nat} {φ0 : Nat → Nat} {σo : fS} (hm : 1 ≤ m) {q : Int × fS} {φ : Nat → Nat} {h : eH} {s : fS} {l6' : Int64} {l6 : Int} {s0' : Int64} {s0 : Int} (R : fC m b φ0 σo φ h s) (el6 : l6' = iJ l6) (rl6 : r64 l6) (es0 : s0' = iJ s0) (rs0 : r64 s0) (hF : FX35_reckoned_b50 l6 s0 s = some q) : gG m b φ0 σo lI q (fX35_reckoned_b50 192 l6' s0' h) := by
  subst el6; subst es0
  unfold FX35_reckoned_b50 at hF
  unfold fX35_reckoned_b50
  refine s_if ((lg_cmp_gt _ _).trans (j_lt rfl rfl rl6 rs0)) hF (fun c1 hF => ?_) (fun c1 hF => ?_)
  ·
    exact SX35_reckoned_b69 hm R rfl rs0 hF
  ·
    refine s_if ((lg_cmp_ge _ _).trans (j_le (d_neg rfl) rfl (rr_J _) rs0)) hF (fun c2 hF => ?_) (fun c2 hF => ?_)
    ·
      exact SX35_reckoned_b75 hm R rfl rs0 hF
    ·
      exact SX35_reckoned_b69 hm R rfl rs0 hF
def FX35_reckoned_b21 (l1 : Int) (l3 : Int) (l5 : Int) (l6 : Int) (s : fS) : Option (Int × fS) :=
  if ¬ (l5 = 36) then
    if ¬ (l5 = 37) then
      if l3 = 0 then none else
      FX35_reckoned_b50 l6 (ldiv l1 l3) s
    else
      FX35_reckoned_b50 l6 (lmul l1 l3) s
  else
    FX35_reckoned_b50 l6 (ladd l1 l3) s
theorem SX35_reckoned_b21 {m b : Nat} {φ0 : Nat → Nat} {σo : fS} (hm : 1 ≤ m) {q : Int × fS} {φ : Nat → Nat} {h : eH} {s : fS} {l1' : Int64} {l1 : Int} {l3' : Int64} {l3 : Int} {l5' : Int32} {l5 : Int} {l6' : Int64} {l6 : Int} (R : fC m b φ0 σo φ h s) (el1 : l1' = iJ l1) (rl1 : r64 l1) (el3 : l3' = iJ l3) (rl3 : r64 l3) (el5 : l5' = iI l5) (rl5 : r32 l5) (el6 : l6' = iJ l6) (rl6 : r64 l6) (hF : FX35_reckoned_b21 l1 l3 l5 l6 s = some q) : gG m b φ0 σo lI q (fX35_reckoned_b21 192 l1' l3' l5' l6' h) := by
  subst el1; subst el3; subst el5; subst el6
  unfold FX35_reckoned_b21 at hF
  unfold fX35_reckoned_b21
  refine s_if (not_congr (i_eq rfl (c_lit 36 36 rfl) rl5 ⟨by decide, by decide⟩)) hF (fun c1 hF => ?_) (fun c1 hF => ?_)
  ·
    refine s_if (not_congr (i_eq rfl (c_lit 37 37 rfl) rl5 ⟨by decide, by decide⟩)) hF (fun c2 hF => ?_) (fun c2 hF => ?_)
    ·
      refine s_div (j_eq rfl (d_lit 0 0 rfl) rl3 ⟨by decide, by decide⟩) hF (fun c3 hF => ?_)
      exact SX35_reckoned_b50 hm R rfl rl6 (d_div rfl rfl) (rr_J _) hF
    ·
      exact SX35_reckoned_b50 hm R rfl rl6 (d_mul rfl rfl) (rr_J _) hF
  ·
    exact SX35_reckoned_b50 hm R rfl rl6 (d_add rfl rfl) (rr_J _) hF
def FX35_reckoned (p0 : Int) (p1 : Int) (p2 : Int) (p3 : Int) (s : fS) : Option (Int × fS) :=
  if ¬ (p2 = 38) then
    FX35_reckoned_b21 p0 p1 p2 p3 s
  else
    if ¬ (p1 = 0) then
      FX35_reckoned_b21 p0 p1 p2 p3 s
    else
      (FX35_fail 7 s).bind fun q4 =>
      some (0, q4.2)
theorem SX35_reckoned {m b : Nat} {φ0 : Nat → Nat} {σo : fS} (hm : 1 ≤ m) {q : Int × fS} {φ : Nat → Nat} {h : eH} {s : fS} {p0' : Int64} {p0 : Int} {p1' : Int64} {p1 : Int} {p2' : Int32} {p2 : Int} {p3' : Int64} {p3 : Int} (R : fC m b φ0 σo φ h s) (ep0 : p0' = iJ p0) (rp0 : r64 p0) (ep1 : p1' = iJ p1) (rp1 : r64 p1) (ep2 : p2' = iI p2) (rp2 : r32 p2) (ep3 : p3' = iJ p3) (rp3 : r64 p3) (hF : FX35_reckoned p0 p1 p2 p3 s = some q) : gG m b φ0 σo lI q (fX35_reckoned 192 p0' p1' p2' p3' h) := by
  subst ep0; subst ep1; subst ep2; subst ep3
  unfold FX35_reckoned at hF
  unfold fX35_reckoned
  refine s_if (not_congr (i_eq rfl (c_lit 38 38 rfl) rp2 ⟨by decide, by decide⟩)) hF (fun c1 hF => ?_) (fun c1 hF => ?_)
  ·
    exact SX35_reckoned_b21 hm R rfl rp0 rfl rp1 rfl rp2 rfl rp3 hF
  ·
    refine s_if (not_congr (lg_eq.trans (j_eq rfl (d_lit 0 0 rfl) rp1 ⟨by decide, by decide⟩))) hF (fun c2 hF => ?_) (fun c2 hF => ?_)
    ·
      exact SX35_reckoned_b21 hm R rfl rp0 rfl rp1 rfl rp2 rfl rp3 hF
    ·
      refine s_kok R (t_192 hm R.S) (Nat.le_of_ble_eq_true rfl) ?_
      refine s_call R (Nat.zero_le _) (fun _ hq => SX35_fail (b := 0) hm (R.rf) (c_lit 7 7 rfl) ⟨by decide, by decide⟩ hq) hF (fun f4 rv4 h4 q4 R4 e4 E4 hF => ?_)
      exact g_ret R4 hF ⟨(c_lit 0 0 rfl), ⟨by decide, by decide⟩⟩
def FX35_setGlue_2_b41 (N : Nat) (l1 : Int) (l2 : Int) (s1 : Int) (s2 : Int) (s : fS) : Option (Unit × fS) :=
  (FX35_setAt N s1 s2 l2 s).bind fun q2 =>
  (FX35_setAt N (iadd l1 3) (q2.2.i 192 117) l2 q2.2).bind fun q6 =>
  some ((), q6.2)
theorem SX35_setGlue_2_b41 {m b : Nat} {φ0 : Nat → Nat} {σo : fS} (hm : 1 ≤ m) {N : Nat} {q : Unit × fS} {φ : Nat → Nat} {h : eH} {s : fS} {l1' : Int32} {l1 : Int} {l2' : Int32} {l2 : Int} {s1' : Int32} {s1 : Int} {s2' : Int32} {s2 : Int} (R : fC m b φ0 σo φ h s) (el1 : l1' = iI l1) (rl1 : r32 l1) (el2 : l2' = iI l2) (rl2 : r32 l2) (es1 : s1' = iI s1) (rs1 : r32 s1) (es2 : s2' = iI s2) (rs2 : r32 s2) (hF : FX35_setGlue_2_b41 N l1 l2 s1 s2 s = some q) : gG m b φ0 σo lU q (fX35_setGlue_2_b41 N 192 l1' l2' 192 s1' s2' h) := by
  subst el1; subst el2; subst es1; subst es2
  unfold FX35_setGlue_2_b41 at hF
  unfold fX35_setGlue_2_b41
  refine s_kok R (t_192 hm R.S) (Nat.le_of_ble_eq_true rfl) ?_
  refine s_call R (Nat.zero_le _) (fun _ hq => SX35_setAt (b := 0) (N := N) hm (R.rf) rfl rs1 rfl rs2 rfl rl2 hq) hF (fun f2 rv2 h2 q2 R2 e2 E2 hF => ?_)
  refine s_gI R2 (t_192 hm R2.S) (Nat.le_of_ble_eq_true rfl) rfl ?_
  refine s_kok R2 (t_192 hm R2.S) (Nat.le_of_ble_eq_true rfl) ?_
  refine s_call R2 (Nat.zero_le _) (fun _ hq => SX35_setAt (b := 0) (N := N) hm (R2.rf) (c_add rfl (c_lit 3 3 rfl)) (rr_I _) rfl (R2.ri (t_192 hm R2.S) (Nat.le_of_ble_eq_true rfl) rfl) rfl rl2 hq) hF (fun f5 rv5 h5 q6 R5 e5 E5 hF => ?_)
  exact g_ret R5 hF trivial
def FX35_setGlue_2 (N : Nat) (p0 : Int) (p1 : Int) (s : fS) : Option (Unit × fS) :=
  (FX35_setAt N p0 (s.i 192 114) p1 s).bind fun q4 =>
  (FX35_setAt N (iadd p0 1) (q4.2.i 192 115) p1 q4.2).bind fun q8 =>
  if ¬ ((q8.2.i 192 115) = 0) then
    FX35_setGlue_2_b41 N p0 p1 (iadd p0 2) (q8.2.i 192 116) q8.2
  else
    FX35_setGlue_2_b41 N p0 p1 (iadd p0 2) 0 q8.2
theorem SX35_setGlue_2 {m b : Nat} {φ0 : Nat → Nat} {σo : fS} (hm : 1 ≤ m) {N : Nat} {q : Unit × fS} {φ : Nat → Nat} {h : eH} {s : fS} {p0' : Int32} {p0 : Int} {p1' : Int32} {p1 : Int} (R : fC m b φ0 σo φ h s) (ep0 : p0' = iI p0) (rp0 : r32 p0) (ep1 : p1' = iI p1) (rp1 : r32 p1) (hF : FX35_setGlue_2 N p0 p1 s = some q) : gG m b φ0 σo lU q (fX35_setGlue_2 N 192 p0' p1' h) := by
  subst ep0; subst ep1
  unfold FX35_setGlue_2 at hF
  unfold fX35_setGlue_2
  refine s_gI R (t_192 hm R.S) (Nat.le_of_ble_eq_true rfl) rfl ?_
  refine s_kok R (t_192 hm R.S) (Nat.le_of_ble_eq_true rfl) ?_
  refine s_call R (Nat.zero_le _) (fun _ hq => SX35_setAt (b := 0) (N := N) hm (R.rf) rfl rp0 rfl (R.ri (t_192 hm R.S) (Nat.le_of_ble_eq_true rfl) rfl) rfl rp1 hq) hF (fun f3 rv3 h3 q4 R3 e3 E3 hF => ?_)
  refine s_gI R3 (t_192 hm R3.S) (Nat.le_of_ble_eq_true rfl) rfl ?_
  refine s_kok R3 (t_192 hm R3.S) (Nat.le_of_ble_eq_true rfl) ?_
  refine s_call R3 (Nat.zero_le _) (fun _ hq => SX35_setAt (b := 0) (N := N) hm (R3.rf) (c_add rfl (c_lit 1 1 rfl)) (rr_I _) rfl (R3.ri (t_192 hm R3.S) (Nat.le_of_ble_eq_true rfl) rfl) rfl rp1 hq) hF (fun f6 rv6 h6 q8 R6 e6 E6 hF => ?_)
  refine s_gI R6 (t_192 hm R6.S) (Nat.le_of_ble_eq_true rfl) rfl ?_
  refine s_if (not_congr (i_eq rfl (c_lit 0 0 rfl) (R6.ri (t_192 hm R6.S) (Nat.le_of_ble_eq_true rfl) rfl) ⟨by decide, by decide⟩)) hF (fun c8 hF => ?_) (fun c8 hF => ?_)
  ·
    refine s_gI R6 (t_192 hm R6.S) (Nat.le_of_ble_eq_true rfl) rfl ?_
    exact SX35_setGlue_2_b41 (N := N) hm R6 rfl rp0 rfl rp1 (c_add rfl (c_lit 2 2 rfl)) (rr_I _) rfl (R6.ri (t_192 hm R6.S) (Nat.le_of_ble_eq_true rfl) rfl) hF
  ·
    exact SX35_setGlue_2_b41 (N := N) hm R6 rfl rp0 rfl rp1 (c_add rfl (c_lit 2 2 rfl)) (rr_I _) (c_lit 0 0 rfl) ⟨by decide, by decide⟩ hF
def FX35_reckonGlue_b307 (N : Nat) (SE : Int → fS → Option (Unit × fS)) (SN : fS → Option (Int × fS)) (l1 : Int) (l3 : Int) (s : fS) : Option (Unit × fS) :=
  (FX35_setGlue_2 N l1 l3 s).bind fun q2 =>
  some ((), q2.2)
theorem SX35_reckonGlue_b307 {m b : Nat} {φ0 : Nat → Nat} {σo : fS} (hm : 1 ≤ m) {N : Nat} {sE : Nat → Int32 → eH → Option (Unit × eH)} {SE : Int → fS → Option (Unit × fS)} {sN : Nat → eH → Option (Int32 × eH)} {SN : fS → Option (Int × fS)} {q : Unit × fS} (hsE : ∀ {φ : Nat → Nat} {h : eH} {s : fS} {x1' : Int32} {x1 : Int} {q}, fC m 1 φ s φ h s → x1' = iI x1 → r32 x1 → SE x1 s = some q → gG m 1 φ s lU q (sE 192 x1' h)) (hsN : ∀ {φ : Nat → Nat} {h : eH} {s : fS} {q}, fC m 1 φ s φ h s → SN s = some q → gG m 1 φ s lI q (sN 192 h)) {φ : Nat → Nat} {h : eH} {s : fS} {l1' : Int32} {l1 : Int} {l3' : Int32} {l3 : Int} (R : fC m b φ0 σo φ h s) (el1 : l1' = iI l1) (rl1 : r32 l1) (el3 : l3' = iI l3) (rl3 : r32 l3) (hF : FX35_reckonGlue_b307 N SE SN l1 l3 s = some q) : gG m b φ0 σo lU q (fX35_reckonGlue_b307 N sE sN 192 l1' l3' h) := by
  subst el1; subst el3
  unfold FX35_reckonGlue_b307 at hF
  unfold fX35_reckonGlue_b307
  refine s_kok R (t_192 hm R.S) (Nat.le_of_ble_eq_true rfl) ?_
  refine s_call R (Nat.zero_le _) (fun _ hq => SX35_setGlue_2 (b := 0) (N := N) hm (R.rf) rfl rl1 rfl rl3 hq) hF (fun f2 rv2 h2 q2 R2 e2 E2 hF => ?_)
  exact g_ret R2 hF trivial
def FX35_reckonGlue_b301 (N : Nat) (SE : Int → fS → Option (Unit × fS)) (SN : fS → Option (Int × fS)) (l1 : Int) (l3 : Int) (s : fS) : Option (Unit × fS) :=
  (FX35_fail 7 s).bind fun q2 =>
  FX35_reckonGlue_b307 N SE SN l1 l3 q2.2
theorem SX35_reckonGlue_b301 {m b : Nat} {φ0 : Nat → Nat} {σo : fS} (hm : 1 ≤ m) {N : Nat} {sE : Nat → Int32 → eH → Option (Unit × eH)} {SE : Int → fS → Option (Unit × fS)} {sN : Nat → eH → Option (Int32 × eH)} {SN : fS → Option (Int × fS)} {q : Unit × fS} (hsE : ∀ {φ : Nat → Nat} {h : eH} {s : fS} {x1' : Int32} {x1 : Int} {q}, fC m 1 φ s φ h s → x1' = iI x1 → r32 x1 → SE x1 s = some q → gG m 1 φ s lU q (sE 192 x1' h)) (hsN : ∀ {φ : Nat → Nat} {h : eH} {s : fS} {q}, fC m 1 φ s φ h s → SN s = some q → gG m 1 φ s lI q (sN 192 h)) {φ : Nat → Nat} {h : eH} {s : fS} {l1' : Int32} {l1 : Int} {l3' : Int32} {l3 : Int} (R : fC m b φ0 σo φ h s) (el1 : l1' = iI l1) (rl1 : r32 l1) (el3 : l3' = iI l3) (rl3 : r32 l3) (hF : FX35_reckonGlue_b301 N SE SN l1 l3 s = some q) : gG m b φ0 σo lU q (fX35_reckonGlue_b301 N sE sN 192 l1' l3' h) := by
  subst el1; subst el3
  unfold FX35_reckonGlue_b301 at hF
  unfold fX35_reckonGlue_b301
  refine s_kok R (t_192 hm R.S) (Nat.le_of_ble_eq_true rfl) ?_
  refine s_call R (Nat.zero_le _) (fun _ hq => SX35_fail (b := 0) hm (R.rf) (c_lit 7 7 rfl) ⟨by decide, by decide⟩ hq) hF (fun f2 rv2 h2 q2 R2 e2 E2 hF => ?_)
  exact SX35_reckonGlue_b307 (N := N) (sE := sE) (SE := SE) (sN := sN) (SN := SN) hm @hsE @hsN R2 rfl rl1 rfl rl3 hF
def FX35_reckonGlue_b280 (N : Nat) (SE : Int → fS → Option (Unit × fS)) (SN : fS → Option (Int × fS)) (l1 : Int) (l3 : Int) (s : fS) : Option (Unit × fS) :=
  if ¬ ((s.i 192 46) = 0) then
    FX35_reckonGlue_b307 N SE SN l1 l3 s
  else
    if (s.i 192 115) < 0 then
      FX35_reckonGlue_b301 N SE SN l1 l3 s
    else
      if 0 ≤ (s.i 192 117) then
        FX35_reckonGlue_b307 N SE SN l1 l3 s
      else
        FX35_reckonGlue_b301 N SE SN l1 l3 s
theorem SX35_reckonGlue_b280 {m b : Nat} {φ0 : Nat → Nat} {σo : fS} (hm : 1 ≤ m) {N : Nat} {sE : Nat → Int32 → eH → Option (Unit × eH)} {SE : Int → fS → Option (Unit × fS)} {sN : Nat → eH → Option (Int32 × eH)} {SN : fS → Option (Int × fS)} {q : Unit × fS} (hsE : ∀ {φ : Nat → Nat} {h : eH} {s : fS} {x1' : Int32} {x1 : Int} {q}, fC m 1 φ s φ h s → x1' = iI x1 → r32 x1 → SE x1 s = some q → gG m 1 φ s lU q (sE 192 x1' h)) (hsN : ∀ {φ : Nat → Nat} {h : eH} {s : fS} {q}, fC m 1 φ s φ h s → SN s = some q → gG m 1 φ s lI q (sN 192 h)) {φ : Nat → Nat} {h : eH} {s : fS} {l1' : Int32} {l1 : Int} {l3' : Int32} {l3 : Int} (R : fC m b φ0 σo φ h s) (el1 : l1' = iI l1) (rl1 : r32 l1) (el3 : l3' = iI l3) (rl3 : r32 l3) (hF : FX35_reckonGlue_b280 N SE SN l1 l3 s = some q) : gG m b φ0 σo lU q (fX35_reckonGlue_b280 N sE sN 192 l1' l3' h) := by
  subst el1; subst el3
  unfold FX35_reckonGlue_b280 at hF
  unfold fX35_reckonGlue_b280
  refine s_gI R (t_192 hm R.S) (Nat.le_of_ble_eq_true rfl) rfl ?_
  refine s_if (not_congr (i_eq rfl (c_lit 0 0 rfl) (R.ri (t_192 hm R.S) (Nat.le_of_ble_eq_true rfl) rfl) ⟨by decide, by decide⟩)) hF (fun c2 hF => ?_) (fun c2 hF => ?_)
  ·
    exact SX35_reckonGlue_b307 (N := N) (sE := sE) (SE := SE) (sN := sN) (SN := SN) hm @hsE @hsN R rfl rl1 rfl rl3 hF
  ·
    refine s_gI R (t_192 hm R.S) (Nat.le_of_ble_eq_true rfl) rfl ?_
    refine s_if (i_lt rfl (c_lit 0 0 rfl) (R.ri (t_192 hm R.S) (Nat.le_of_ble_eq_true rfl) rfl) ⟨by decide, by decide⟩) hF (fun c4 hF => ?_) (fun c4 hF => ?_)
    ·
      exact SX35_reckonGlue_b301 (N := N) (sE := sE) (SE := SE) (sN := sN) (SN := SN) hm @hsE @hsN R rfl rl1 rfl rl3 hF
    ·
      refine s_gI R (t_192 hm R.S) (Nat.le_of_ble_eq_true rfl) rfl ?_
      refine s_if (i_le (c_lit 0 0 rfl) rfl ⟨by decide, by decide⟩ (R.ri (t_192 hm R.S) (Nat.le_of_ble_eq_true rfl) rfl)) hF (fun c6 hF => ?_) (fun c6 hF => ?_)
      ·
        exact SX35_reckonGlue_b307 (N := N) (sE := sE) (SE := SE) (sN := sN) (SN := SN) hm @hsE @hsN R rfl rl1 rfl rl3 hF
      ·
        exact SX35_reckonGlue_b301 (N := N) (sE := sE) (SE := SE) (sN := sN) (SN := SN) hm @hsE @hsN R rfl rl1 rfl rl3 hF
def FX35_reckonGlue_b137 (N : Nat) (SE : Int → fS → Option (Unit × fS)) (SN : fS → Option (Int × fS)) (l1 : Int) (l3 : Int) (l4 : Int) (l8 : Int) (s0 : Int) (s : fS) : Option (Unit × fS) :=
  (FX35_now (iadd l1 3) s).bind fun q2 =>
  (FX35_reckoned q2.1 (q2.2.i 192 117) 36 1073741823 q2.2).bind fun q6 =>
  (uPI q6.2 192 114 l4).bind fun σ7 =>
  (uPI σ7 192 115 l8).bind fun σ9 =>
  (uPI σ9 192 116 s0).bind fun σ11 =>
  (uPI σ11 192 117 q6.1).bind fun σ13 =>
  FX35_reckonGlue_b280 N SE SN l1 l3 σ13
theorem SX35_reckonGlue_b137 {m b : Nat} {φ0 : Nat → Nat} {σo : fS} (hm : 1 ≤ m) {N : Nat} {sE : Nat → Int32 → eH → Option (Unit × eH)} {SE : Int → fS → Option (Unit × fS)} {sN : Nat → eH → Option (Int32 × eH)} {SN : fS → Option (Int × fS)} {q : Unit × fS} (hsE : ∀ {φ : Nat → Nat} {h : eH} {s : fS} {x1' : Int32} {x1 : Int} {q}, fC m 1 φ s φ h s → x1' = iI x1 → r32 x1 → SE x1 s = some q → gG m 1 φ s lU q (sE 192 x1' h)) (hsN : ∀ {φ : Nat → Nat} {h : eH} {s : fS} {q}, fC m 1 φ s φ h s → SN s = some q → gG m 1 φ s lI q (sN 192 h)) {φ : Nat → Nat} {h : eH} {s : fS} {l1' : Int32} {l1 : Int} {l3' : Int32} {l3 : Int} {l4' : Int32} {l4 : Int} {l8' : Int32} {l8 : Int} {s0' : Int32} {s0 : Int} (R : fC m b φ0 σo φ h s) (el1 : l1' = iI l1) (rl1 : r32 l1) (el3 : l3' = iI l3) (rl3 : r32 l3) (el4 : l4' = iI l4) (rl4 : r32 l4) (el8 : l8' = iI l8) (rl8 : r32 l8) (es0 : s0' = iI s0) (rs0 : r32 s0) (hF : FX35_reckonGlue_b137 N SE SN l1 l3 l4 l8 s0 s = some q) : gG m b φ0 σo lU q (fX35_reckonGlue_b137 N sE sN 192 l1' l3' l4' l8' s0' h) := by
  subst el1; subst el3; subst el4; subst el8; subst es0
  unfold FX35_reckonGlue_b137 at hF
  unfold fX35_reckonGlue_b137
  refine s_kok R (t_192 hm R.S) (Nat.le_of_ble_eq_true rfl) ?_
  refine s_call R (Nat.zero_le _) (fun _ hq => SX35_now (b := 0) hm (R.rf) (c_add rfl (c_lit 3 3 rfl)) (rr_I _) hq) hF (fun f2 rv2 h2 q2 R2 e2 E2 hF => ?_)
  refine s_gI R2 (t_192 hm R2.S) (Nat.le_of_ble_eq_true rfl) rfl ?_
  refine s_kok R2 (t_192 hm R2.S) (Nat.le_of_ble_eq_true rfl) ?_
  refine s_call R2 (Nat.zero_le _) (fun _ hq => SX35_reckoned (b := 0) hm (R2.rf) (c_2l e2.1 e2.2) (r32.w e2.2) (c_2l rfl (R2.ri (t_192 hm R2.S) (Nat.le_of_ble_eq_true rfl) rfl)) (r32.w (R2.ri (t_192 hm R2.S) (Nat.le_of_ble_eq_true rfl) rfl)) (c_lit 36 36 rfl) ⟨by decide, by decide⟩ (d_lit 1073741823 1073741823 rfl) ⟨by decide, by decide⟩ hq) hF (fun f5 rv5 h5 q6 R5 e5 E5 hF => ?_)
  refine s_pI R5 (t_192 hm R5.S) (Nat.le_of_ble_eq_true rfl) rfl rfl rl4 hF (fun h6 σ7 R6 T6 hF => ?_)
  refine s_pI R6 (t_192 hm R6.S) (Nat.le_of_ble_eq_true rfl) rfl rfl rl8 hF (fun h7 σ9 R7 T7 hF => ?_)
  refine s_pI R7 (t_192 hm R7.S) (Nat.le_of_ble_eq_true rfl) rfl rfl rs0 hF (fun h8 σ11 R8 T8 hF => ?_)
  refine s_pI R8 (t_192 hm R8.S) (Nat.le_of_ble_eq_true rfl) rfl e5.1 e5.2 hF (fun h9 σ13 R9 T9 hF => ?_)
  exact SX35_reckonGlue_b280 (N := N) (sE := sE) (SE := SE) (sN := sN) (SN := SN) hm @hsE @hsN R9 rfl rl1 rfl rl3 hF
def FX35_reckonGlue_b117 (N : Nat) (SE : Int → fS → Option (Unit × fS)) (SN : fS → Option (Int × fS)) (l1 : Int) (l3 : Int) (l4 : Int) (l6 : Int) (s0 : Int) (s : fS) : Option (Unit × fS) :=
  if l6 ≤ (s.i 192 116) then
    FX35_reckonGlue_b137 N SE SN l1 l3 l4 s0 (s.i 192 116) s
  else
    FX35_reckonGlue_b137 N SE SN l1 l3 l4 s0 l6 s
theorem SX35_reckonGlue_b117 {m b : Nat} {φ0 : Nat → Nat} {σo : fS} (hm : 1 ≤ m) {N : Nat} {sE : Nat → Int32 → eH → Option (Unit × eH)} {SE : Int → fS → Option (Unit × fS)} {sN : Nat → eH → Option (Int32 × eH)} {SN : fS → Option (Int × fS)} {q : Unit × fS} (hsE : ∀ {φ : Nat → Nat} {h : eH} {s : fS} {x1' : Int32} {x1 : Int} {q}, fC m 1 φ s φ h s → x1' = iI x1 → r32 x1 → SE x1 s = some q → gG m 1 φ s lU q (sE 192 x1' h)) (hsN : ∀ {φ : Nat → Nat} {h : eH} {s : fS} {q}, fC m 1 φ s φ h s → SN s = some q → gG m 1 φ s lI q (sN 192 h)) {φ : Nat → Nat} {h : eH} {s : fS} {l1' : Int32} {l1 : Int} {l3' : Int32} {l3 : Int} {l4' : Int32} {l4 : Int} {l6' : Int32} {l6 : Int} {s0' : Int32} {s0 : Int} (R : fC m b φ0 σo φ h s) (el1 : l1' = iI l1) (rl1 : r32 l1) (el3 : l3' = iI l3) (rl3 : r32 l3) (el4 : l4' = iI l4) (rl4 : r32 l4) (el6 : l6' = iI l6) (rl6 : r32 l6) (es0 : s0' = iI s0) (rs0 : r32 s0) (hF : FX35_reckonGlue_b117 N SE SN l1 l3 l4 l6 s0 s = some q) : gG m b φ0 σo lU q (fX35_reckonGlue_b117 N sE sN 192 l1' l3' l4' l6' s0' h) := by
  subst el1; subst el3; subst el4; subst el6; subst es0
  unfold FX35_reckonGlue_b117 at hF
  unfold fX35_reckonGlue_b117
  refine s_gI R (t_192 hm R.S) (Nat.le_of_ble_eq_true rfl) rfl ?_
  refine s_if (i_le rfl rfl rl6 (R.ri (t_192 hm R.S) (Nat.le_of_ble_eq_true rfl) rfl)) hF (fun c2 hF => ?_) (fun c2 hF => ?_)
  ·
    refine s_gI R (t_192 hm R.S) (Nat.le_of_ble_eq_true rfl) rfl ?_
    exact SX35_reckonGlue_b137 (N := N) (sE := sE) (SE := SE) (sN := sN) (SN := SN) hm @hsE @hsN R rfl rl1 rfl rl3 rfl rl4 rfl rs0 rfl (R.ri (t_192 hm R.S) (Nat.le_of_ble_eq_true rfl) rfl) hF
  ·
    exact SX35_reckonGlue_b137 (N := N) (sE := sE) (SE := SE) (sN := sN) (SN := SN) hm @hsE @hsN R rfl rl1 rfl rl3 rfl rl4 rfl rs0 rfl rl6 hF
def FX35_reckonGlue_b72 (N : Nat) (SE : Int → fS → Option (Unit × fS)) (SN : fS → Option (Int × fS)) (l1 : Int) (l3 : Int) (l4 : Int) (l5 : Int) (l6 : Int) (s0 : Int) (s : fS) : Option (Unit × fS) :=
  if s0 = 0 then
    if l6 ≤ (s.i 192 116) then
      FX35_reckonGlue_b117 N SE SN l1 l3 l4 l6 (s.i 192 115) s
    else
      FX35_reckonGlue_b117 N SE SN l1 l3 l4 l6 l5 s
  else
    (FX35_reckoned l5 (s.i 192 115) 36 1073741823 s).bind fun q10 =>
    FX35_reckonGlue_b117 N SE SN l1 l3 l4 l6 q10.1 q10.2
theorem SX35_reckonGlue_b72 {m b : Nat} {φ0 : Nat → Nat} {σo : fS} (hm : 1 ≤ m) {N : Nat} {sE : Nat → Int32 → eH → Option (Unit × eH)} {SE : Int → fS → Option (Unit × fS)} {sN : Nat → eH → Option (Int32 × eH)} {SN : fS → Option (Int × fS)} {q : Unit × fS} (hsE : ∀ {φ : Nat → Nat} {h : eH} {s : fS} {x1' : Int32} {x1 : Int} {q}, fC m 1 φ s φ h s → x1' = iI x1 → r32 x1 → SE x1 s = some q → gG m 1 φ s lU q (sE 192 x1' h)) (hsN : ∀ {φ : Nat → Nat} {h : eH} {s : fS} {q}, fC m 1 φ s φ h s → SN s = some q → gG m 1 φ s lI q (sN 192 h)) {φ : Nat → Nat} {h : eH} {s : fS} {l1' : Int32} {l1 : Int} {l3' : Int32} {l3 : Int} {l4' : Int32} {l4 : Int} {l5' : Int32} {l5 : Int} {l6' : Int32} {l6 : Int} {s0' : Int32} {s0 : Int} (R : fC m b φ0 σo φ h s) (el1 : l1' = iI l1) (rl1 : r32 l1) (el3 : l3' = iI l3) (rl3 : r32 l3) (el4 : l4' = iI l4) (rl4 : r32 l4) (el5 : l5' = iI l5) (rl5 : r32 l5) (el6 : l6' = iI l6) (rl6 : r32 l6) (es0 : s0' = iI s0) (rs0 : r32 s0) (hF : FX35_reckonGlue_b72 N SE SN l1 l3 l4 l5 l6 s0 s = some q) : gG m b φ0 σo lU q (fX35_reckonGlue_b72 N sE sN 192 l1' l3' l4' l5' l6' s0' h) := by
  subst el1; subst el3; subst el4; subst el5; subst el6; subst es0
  unfold FX35_reckonGlue_b72 at hF
  unfold fX35_reckonGlue_b72
  refine s_if (i_eq rfl (c_lit 0 0 rfl) rs0 ⟨by decide, by decide⟩) hF (fun c1 hF => ?_) (fun c1 hF => ?_)
  ·
    refine s_gI R (t_192 hm R.S) (Nat.le_of_ble_eq_true rfl) rfl ?_
    refine s_if (i_le rfl rfl rl6 (R.ri (t_192 hm R.S) (Nat.le_of_ble_eq_true rfl) rfl)) hF (fun c3 hF => ?_) (fun c3 hF => ?_)
    ·
      refine s_gI R (t_192 hm R.S) (Nat.le_of_ble_eq_true rfl) rfl ?_
      exact SX35_reckonGlue_b117 (N := N) (sE := sE) (SE := SE) (sN := sN) (SN := SN) hm @hsE @hsN R rfl rl1 rfl rl3 rfl rl4 rfl rl6 rfl (R.ri (t_192 hm R.S) (Nat.le_of_ble_eq_true rfl) rfl) hF
    ·
      exact SX35_reckonGlue_b117 (N := N) (sE := sE) (SE := SE) (sN := sN) (SN := SN) hm @hsE @hsN R rfl rl1 rfl rl3 rfl rl4 rfl rl6 rfl rl5 hF
  ·
    refine s_gI R (t_192 hm R.S) (Nat.le_of_ble_eq_true rfl) rfl ?_
    refine s_kok R (t_192 hm R.S) (Nat.le_of_ble_eq_true rfl) ?_
    refine s_call R (Nat.zero_le _) (fun _ hq => SX35_reckoned (b := 0) hm (R.rf) (c_2l rfl rl5) (r32.w rl5) (c_2l rfl (R.ri (t_192 hm R.S) (Nat.le_of_ble_eq_true rfl) rfl)) (r32.w (R.ri (t_192 hm R.S) (Nat.le_of_ble_eq_true rfl) rfl)) (c_lit 36 36 rfl) ⟨by decide, by decide⟩ (d_lit 1073741823 1073741823 rfl) ⟨by decide, by decide⟩ hq) hF (fun f7 rv7 h7 q10 R7 e7 E7 hF => ?_)
    exact SX35_reckonGlue_b117 (N := N) (sE := sE) (SE := SE) (sN := sN) (SN := SN) hm @hsE @hsN R7 rfl rl1 rfl rl3 rfl rl4 rfl rl6 e7.1 e7.2 hF
def FX35_reckonGlue (N : Nat) (SE : Int → fS → Option (Unit × fS)) (SN : fS → Option (Int × fS)) (p0 : Int) (p1 : Int) (p2 : Int) (s : fS) : Option (Unit × fS) :=
  if ¬ (p1 = 36) then
    (SN s).bind fun q3 =>
    if (q3.2.i 192 46) ≤ 0 then
      (FX35_now p0 q3.2).bind fun q8 =>
      (FX35_reckoned q8.1 q3.1 p1 1073741823 q8.2).bind fun q10 =>
      (uPI q10.2 192 114 q10.1).bind fun σ11 =>
      (FX35_now (iadd p0 1) σ11).bind fun q14 =>
      (FX35_reckoned q14.1 q3.1 p1 1073741823 q14.2).bind fun q16 =>
      (uPI q16.2 192 115 q16.1).bind fun σ17 =>
      (FX35_now (iadd p0 2) σ17).bind fun q20 =>
      (uPI q20.2 192 116 q20.1).bind fun σ21 =>
      (FX35_now (iadd p0 3) σ21).bind fun q24 =>
      (FX35_reckoned q24.1 q3.1 p1 1073741823 q24.2).bind fun q26 =>
      (uPI q26.2 192 117 q26.1).bind fun σ27 =>
      FX35_reckonGlue_b280 N SE SN p0 p2 σ27
    else
      some ((), q3.2)
  else
    (FX35_readGlue N SE SN s).bind fun q30 =>
    if (q30.2.i 192 46) ≤ 0 then
      (FX35_now p0 q30.2).bind fun q35 =>
      (FX35_reckoned q35.1 (q35.2.i 192 114) 36 1073741823 q35.2).bind fun q39 =>
      (FX35_now (iadd p0 1) q39.2).bind fun q41 =>
      (FX35_now (iadd p0 2) q41.2).bind fun q43 =>
      if ¬ (q43.1 = (q43.2.i 192 116)) then
        FX35_reckonGlue_b72 N SE SN p0 p2 q39.1 q41.1 q43.1 0 q43.2
      else
        FX35_reckonGlue_b72 N SE SN p0 p2 q39.1 q41.1 q43.1 1 q43.2
    else
      some ((), q30.2)
theorem SX35_reckonGlue {m b : Nat} {φ0 : Nat → Nat} {σo : fS} (hm : 1 ≤ m) (hb : 1 ≤ b) {N : Nat} {sE : Nat → Int32 → eH → Option (Unit × eH)} {SE : Int → fS → Option (Unit × fS)} {sN : Nat → eH → Option (Int32 × eH)} {SN : fS → Option (Int × fS)} {q : Unit × fS} (hsE : ∀ {φ : Nat → Nat} {h : eH} {s : fS} {x1' : Int32} {x1 : Int} {q}, fC m 1 φ s φ h s → x1' = iI x1 → r32 x1 → SE x1 s = some q → gG m 1 φ s lU q (sE 192 x1' h)) (hsN : ∀ {φ : Nat → Nat} {h : eH} {s : fS} {q}, fC m 1 φ s φ h s → SN s = some q → gG m 1 φ s lI q (sN 192 h)) {φ : Nat → Nat} {h : eH} {s : fS} {p0' : Int32} {p0 : Int} {p1' : Int32} {p1 : Int} {p2' : Int32} {p2 : Int} (R : fC m b φ0 σo φ h s) (ep0 : p0' = iI p0) (rp0 : r32 p0) (ep1 : p1' = iI p1) (rp1 : r32 p1) (ep2 : p2' = iI p2) (rp2 : r32 p2) (hF : FX35_reckonGlue N SE SN p0 p1 p2 s = some q) : gG m b φ0 σo lU q (fX35_reckonGlue N sE sN 192 p0' p1' p2' h) := by
  subst ep0; subst ep1; subst ep2
  unfold FX35_reckonGlue at hF
  unfold fX35_reckonGlue
  refine s_if (not_congr (i_eq rfl (c_lit 36 36 rfl) rp1 ⟨by decide, by decide⟩)) hF (fun c1 hF => ?_) (fun c1 hF => ?_)
  ·
    refine s_kok R (t_192 hm R.S) (Nat.le_of_ble_eq_true rfl) ?_
    refine s_call R hb (fun _ hq => hsN (R.rf)  hq) hF (fun f3 rv3 h3 q3 R3 e3 E3 hF => ?_)
    refine s_gI R3 (t_192 hm R3.S) (Nat.le_of_ble_eq_true rfl) rfl ?_
    refine s_if (i_le rfl (c_lit 0 0 rfl) (R3.ri (t_192 hm R3.S) (Nat.le_of_ble_eq_true rfl) rfl) ⟨by decide, by decide⟩) hF (fun c5 hF => ?_) (fun c5 hF => ?_)
    ·
      refine s_kok R3 (t_192 hm R3.S) (Nat.le_of_ble_eq_true rfl) ?_
      refine s_call R3 (Nat.zero_le _) (fun _ hq => SX35_now (b := 0) hm (R3.rf) rfl rp0 hq) hF (fun f7 rv7 h7 q8 R7 e7 E7 hF => ?_)
      refine s_kok R7 (t_192 hm R7.S) (Nat.le_of_ble_eq_true rfl) ?_
      refine s_call R7 (Nat.zero_le _) (fun _ hq => SX35_reckoned (b := 0) hm (R7.rf) (c_2l e7.1 e7.2) (r32.w e7.2) (c_2l e3.1 e3.2) (r32.w e3.2) rfl rp1 (d_lit 1073741823 1073741823 rfl) ⟨by decide, by decide⟩ hq) hF (fun f9 rv9 h9 q10 R9 e9 E9 hF => ?_)
      refine s_pI R9 (t_192 hm R9.S) (Nat.le_of_ble_eq_true rfl) rfl e9.1 e9.2 hF (fun h10 σ11 R10 T10 hF => ?_)
      refine s_kok R10 (t_192 hm R10.S) (Nat.le_of_ble_eq_true rfl) ?_
      refine s_call R10 (Nat.zero_le _) (fun _ hq => SX35_now (b := 0) hm (R10.rf) (c_add rfl (c_lit 1 1 rfl)) (rr_I _) hq) hF (fun f12 rv12 h12 q14 R12 e12 E12 hF => ?_)
      refine s_kok R12 (t_192 hm R12.S) (Nat.le_of_ble_eq_true rfl) ?_
      refine s_call R12 (Nat.zero_le _) (fun _ hq => SX35_reckoned (b := 0) hm (R12.rf) (c_2l e12.1 e12.2) (r32.w e12.2) (c_2l e3.1 e3.2) (r32.w e3.2) rfl rp1 (d_lit 1073741823 1073741823 rfl) ⟨by decide, by decide⟩ hq) hF (fun f14 rv14 h14 q16 R14 e14 E14 hF => ?_)
      refine s_pI R14 (t_192 hm R14.S) (Nat.le_of_ble_eq_true rfl) rfl e14.1 e14.2 hF (fun h15 σ17 R15 T15 hF => ?_)
      refine s_kok R15 (t_192 hm R15.S) (Nat.le_of_ble_eq_true rfl) ?_
      refine s_call R15 (Nat.zero_le _) (fun _ hq => SX35_now (b := 0) hm (R15.rf) (c_add rfl (c_lit 2 2 rfl)) (rr_I _) hq) hF (fun f17 rv17 h17 q20 R17 e17 E17 hF => ?_)
      refine s_pI R17 (t_192 hm R17.S) (Nat.le_of_ble_eq_true rfl) rfl e17.1 e17.2 hF (fun h18 σ21 R18 T18 hF => ?_)
      refine s_kok R18 (t_192 hm R18.S) (Nat.le_of_ble_eq_true rfl) ?_
      refine s_call R18 (Nat.zero_le _) (fun _ hq => SX35_now (b := 0) hm (R18.rf) (c_add rfl (c_lit 3 3 rfl)) (rr_I _) hq) hF (fun f20 rv20 h20 q24 R20 e20 E20 hF => ?_)
      refine s_kok R20 (t_192 hm R20.S) (Nat.le_of_ble_eq_true rfl) ?_
      refine s_call R20 (Nat.zero_le _) (fun _ hq => SX35_reckoned (b := 0) hm (R20.rf) (c_2l e20.1 e20.2) (r32.w e20.2) (c_2l e3.1 e3.2) (r32.w e3.2) rfl rp1 (d_lit 1073741823 1073741823 rfl) ⟨by decide, by decide⟩ hq) hF (fun f22 rv22 h22 q26 R22 e22 E22 hF => ?_)
      refine s_pI R22 (t_192 hm R22.S) (Nat.le_of_ble_eq_true rfl) rfl e22.1 e22.2 hF (fun h23 σ27 R23 T23 hF => ?_)
      exact SX35_reckonGlue_b280 (N := N) (sE := sE) (SE := SE) (sN := sN) (SN := SN) hm @hsE @hsN R23 rfl rp0 rfl rp2 hF
    ·
      exact g_ret R3 hF trivial
  ·
    refine s_kok R (t_192 hm R.S) (Nat.le_of_ble_eq_true rfl) ?_
    refine s_call R hb (fun _ hq => SX35_readGlue (b := 1) (N := N) (sE := sE) (SE := SE) (sN := sN) (SN := SN) hm (Nat.le_of_ble_eq_true rfl) @hsE @hsN (R.rf) hq) hF (fun f25 rv25 h25 q30 R25 e25 E25 hF => ?_)
    refine s_gI R25 (t_192 hm R25.S) (Nat.le_of_ble_eq_true rfl) rfl ?_
    refine s_if (i_le rfl (c_lit 0 0 rfl) (R25.ri (t_192 hm R25.S) (Nat.le_of_ble_eq_true rfl) rfl) ⟨by decide, by decide⟩) hF (fun c27 hF => ?_) (fun c27 hF => ?_)
    ·
      refine s_kok R25 (t_192 hm R25.S) (Nat.le_of_ble_eq_true rfl) ?_
      refine s_call R25 (Nat.zero_le _) (fun _ hq => SX35_now (b := 0) hm (R25.rf) rfl rp0 hq) hF (fun f29 rv29 h29 q35 R29 e29 E29 hF => ?_)
      refine s_gI R29 (t_192 hm R29.S) (Nat.le_of_ble_eq_true rfl) rfl ?_
      refine s_kok R29 (t_192 hm R29.S) (Nat.le_of_ble_eq_true rfl) ?_
      refine s_call R29 (Nat.zero_le _) (fun _ hq => SX35_reckoned (b := 0) hm (R29.rf) (c_2l e29.1 e29.2) (r32.w e29.2) (c_2l rfl (R29.ri (t_192 hm R29.S) (Nat.le_of_ble_eq_true rfl) rfl)) (r32.w (R29.ri (t_192 hm R29.S) (Nat.le_of_ble_eq_true rfl) rfl)) (c_lit 36 36 rfl) ⟨by decide, by decide⟩ (d_lit 1073741823 1073741823 rfl) ⟨by decide, by decide⟩ hq) hF (fun f32 rv32 h32 q39 R32 e32 E32 hF => ?_)
      refine s_kok R32 (t_192 hm R32.S) (Nat.le_of_ble_eq_true rfl) ?_
      refine s_call R32 (Nat.zero_le _) (fun _ hq => SX35_now (b := 0) hm (R32.rf) (c_add rfl (c_lit 1 1 rfl)) (rr_I _) hq) hF (fun f34 rv34 h34 q41 R34 e34 E34 hF => ?_)
      refine s_kok R34 (t_192 hm R34.S) (Nat.le_of_ble_eq_true rfl) ?_
      refine s_call R34 (Nat.zero_le _) (fun _ hq => SX35_now (b := 0) hm (R34.rf) (c_add rfl (c_lit 2 2 rfl)) (rr_I _) hq) hF (fun f36 rv36 h36 q43 R36 e36 E36 hF => ?_)
      refine s_gI R36 (t_192 hm R36.S) (Nat.le_of_ble_eq_true rfl) rfl ?_
      refine s_if (not_congr (i_eq e36.1 rfl e36.2 (R36.ri (t_192 hm R36.S) (Nat.le_of_ble_eq_true rfl) rfl))) hF (fun c38 hF => ?_) (fun c38 hF => ?_)
      ·
        exact SX35_reckonGlue_b72 (N := N) (sE := sE) (SE := SE) (sN := sN) (SN := SN) hm @hsE @hsN R36 rfl rp0 rfl rp2 e32.1 e32.2 e34.1 e34.2 e36.1 e36.2 (c_lit 0 0 rfl) ⟨by decide, by decide⟩ hF
      ·
        exact SX35_reckonGlue_b72 (N := N) (sE := sE) (SE := SE) (sN := sN) (SN := SN) hm @hsE @hsN R36 rfl rp0 rfl rp2 e32.1 e32.2 e34.1 e34.2 e36.1 e36.2 (c_lit 1 1 rfl) ⟨by decide, by decide⟩ hF
    ·
      exact g_ret R25 hF trivial
