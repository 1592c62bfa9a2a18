set_option maxRecDepth 100000
set_option maxHeartbeats 4000000
def FX10_matches_b60 (N : Nat) (K21 : Int → Int → Int → fS → Option (Int × fS)) (l1 : Int) (l3 : Int) (s0 : Int) (s : fS) : Option (Int × fS) :=
  K21 l1 s0 (iadd l3 1) s
theorem SX10_matches_b60 {m b : Nat} {φ0 : Nat → Nat} {σo : fS} {N : Nat} {k21 : Nat → Int32 → Int32 → Int32 → eH → Option (Int32 × eH)} {K21 : Int → Int → Int → fS → Option (Int × fS)} {q : Int × fS} (hk21 : ∀ {φ : Nat → Nat} {h : eH} {s : fS} {l1' : Int32} {l1 : Int} {l2' : Int32} {l2 : Int} {l3' : Int32} {l3 : Int}, fC m b φ0 σo φ h s → l1' = iI l1 → r32 l1 → l2' = iI l2 → r32 l2 → l3' = iI l3 → r32 l3 → K21 l1 l2 l3 s = some q → gG m b φ0 σo lI q (k21 44 l1' l2' l3' h)) {φ : Nat → Nat} {h : eH} {s : fS} {l1' : Int32} {l1 : Int} {l3' : Int32} {l3 : Int} {s0' : Int32} {s0 : Int} (R : fC m b φ0 σo φ h s) (el1 : l1' = iI l1) (rl1 : r32 l1) (el3 : l3' = iI l3) (rl3 : r32 l3) (es0 : s0' = iI s0) (rs0 : r32 s0) (hF : FX10_matches_b60 N K21 l1 l3 s0 s = some q) : gG m b φ0 σo lI q (fX10_matches_b60 N k21 44 l1' l3' s0' h) := by
  subst el1; subst el3; subst es0
  unfold FX10_matches_b60 at hF
  unfold fX10_matches_b60
  exact hk21 R rfl rl1 rfl rs0 (c_add rfl (c_lit 1 1 rfl)) (rr_I _) hF
def FX10_matches_b67 (N : Nat) (l2 : Int) (s : fS) : Option (Int × fS) :=
  uZ l2 (l2, s)
theorem SX10_matches_b67 {m b : Nat} {φ0 : Nat → Nat} {σo : fS} {N : Nat} {q : Int × fS} {φ : Nat → Nat} {h : eH} {s : fS} {l2' : Int32} {l2 : Int} (R : fC m b φ0 σo φ h s) (el2 : l2' = iI l2) (rl2 : r32 l2) (hF : FX10_matches_b67 N l2 s = some q) : gG m b φ0 σo lI q (fX10_matches_b67 N l2' h) := by
  subst el2
  unfold FX10_matches_b67 at hF
  unfold fX10_matches_b67
  exact g_z R rfl hF ⟨rfl, rl2⟩
def FX10_matches_b21 (N : Nat) : Nat → Int → Int → Int → fS → Option (Int × fS)
  | 0, _, _, _, _ => none
  | n + 1, l1, l2, l3, s =>
    if l2 = 0 then
      FX10_matches_b67 N l2 s
    else
      if (s.i 44 8) ≤ l3 then
        FX10_matches_b67 N l2 s
      else
        (uRI s 46 l1).bind fun x9 =>
        (uRI s 48 (iadd x9 l3)).bind fun x11 =>
        (uRI s 49 l3).bind fun x15 =>
        if ¬ (x11 = x15) then
          FX10_matches_b60 N (FX10_matches_b21 N n) l1 l3 0 s
        else
          FX10_matches_b60 N (FX10_matches_b21 N n) l1 l3 1 s
theorem SX10_matches_b21 {m b : Nat} {φ0 : Nat → Nat} {σo : fS} {N : Nat} {q : Int × fS} : ∀ {n : Nat} {φ : Nat → Nat} {h : eH} {s : fS} {l1' : Int32} {l1 : Int} {l2' : Int32} {l2 : Int} {l3' : Int32} {l3 : Int}, fC m b φ0 σo φ h s → l1' = iI l1 → r32 l1 → l2' = iI l2 → r32 l2 → l3' = iI l3 → r32 l3 → FX10_matches_b21 N n l1 l2 l3 s = some q → gG m b φ0 σo lI q (fX10_matches_b21 N n 44 l1' l2' l3' h) := by
  intro n
  induction n with
 | zero => intro φ h s l1' l1 l2' l2 l3' l3 R el1 rl1 el2 rl2 el3 rl3 hF; simp [FX10_matches_b21] at hF
  | succ n ih =>
    intro φ h s l1' l1 l2' l2 l3' l3 R el1 rl1 el2 rl2 el3 rl3 hF
    subst el1; subst el2; subst el3
    rw [FX10_matches_b21] at hF
    rw [fX10_matches_b21]
    refine s_if (i_eq rfl (c_lit 0 0 rfl) rl2 ⟨by decide, by decide⟩) hF (fun c1 hF => ?_) (fun c1 hF => ?_)
    ·
      exact SX10_matches_b67 (N := N) R rfl rl2 hF
    ·
      refine s_gI R (t_44 R.S) (Nat.le_of_ble_eq_true rfl) rfl ?_
      refine s_if (i_le rfl rfl (R.ri (t_44 R.S) (Nat.le_of_ble_eq_true rfl) rfl) rl3) hF (fun c3 hF => ?_) (fun c3 hF => ?_)
      ·
        exact SX10_matches_b67 (N := N) R rfl rl2 hF
      ·
        refine s_gA R (t_44 R.S) (Nat.le_of_ble_eq_true rfl) rfl (o_44_4 R.S) (fun _ _ => ?_)
        refine s_gA R (t_44 R.S) (Nat.le_of_ble_eq_true rfl) rfl (o_44_2 R.S) (fun _ _ => ?_)
        refine s_rI R (u_46 R.S).1 (u_46 R.S).2 (by decide) rfl rfl rl1 hF (fun x9 ra6 hF => ?_)
        refine s_rI R (u_48 R.S).1 (u_48 R.S).2 (by decide) rfl (c_add rfl rfl) (rr_I _) hF (fun x11 ra7 hF => ?_)
        refine s_gAs R (t_44 R.S) (Nat.le_of_ble_eq_true rfl) rfl (o_44_7 R.S) (a_49 R) ?_
        refine s_rI R (u_49 R.S).1 (u_49 R.S).2 (by decide) (a_49 R) rfl rl3 hF (fun x15 ra9 hF => ?_)
        refine s_if (not_congr (i_eq rfl rfl ra7 ra9)) hF (fun c10 hF => ?_) (fun c10 hF => ?_)
        ·
          exact SX10_matches_b60 (N := N) (k21 := fX10_matches_b21 N n) (K21 := FX10_matches_b21 N n) @ih R rfl rl1 rfl rl3 (c_lit 0 0 rfl) ⟨by decide, by decide⟩ hF
        ·
          exact SX10_matches_b60 (N := N) (k21 := fX10_matches_b21 N n) (K21 := FX10_matches_b21 N n) @ih R rfl rl1 rfl rl3 (c_lit 1 1 rfl) ⟨by decide, by decide⟩ hF
def FX10_matches_b18 (N : Nat) (l1 : Int) (s0 : Int) (s : fS) : Option (Int × fS) :=
  FX10_matches_b21 N N l1 s0 0 s
theorem SX10_matches_b18 {m b : Nat} {φ0 : Nat → Nat} {σo : fS} {N : Nat} {q : Int × fS} {φ : Nat → Nat} {h : eH} {s : fS} {l1' : Int32} {l1 : Int} {s0' : Int32} {s0 : Int} (R : fC m b φ0 σo φ h s) (el1 : l1' = iI l1) (rl1 : r32 l1) (es0 : s0' = iI s0) (rs0 : r32 s0) (hF : FX10_matches_b18 N l1 s0 s = some q) : gG m b φ0 σo lI q (fX10_matches_b18 N 44 l1' s0' h) := by
  subst el1; subst es0
  unfold FX10_matches_b18 at hF
  unfold fX10_matches_b18
  exact SX10_matches_b21 (N := N) R rfl rl1 rfl rs0 (c_lit 0 0 rfl) ⟨by decide, by decide⟩ hF
def FX10_matches (N : Nat) (p0 : Int) (s : fS) : Option (Int × fS) :=
  (uRI s 47 p0).bind fun x3 =>
  if ¬ (x3 = (s.i 44 8)) then
    FX10_matches_b18 N p0 0 s
  else
    FX10_matches_b18 N p0 1 s
theorem SX10_matches {m b : Nat} {φ0 : Nat → Nat} {σo : fS} {N : Nat} {q : Int × fS} {φ : Nat → Nat} {h : eH} {s : fS} {p0' : Int32} {p0 : Int} (R : fC m b φ0 σo φ h s) (ep0 : p0' = iI p0) (rp0 : r32 p0) (hF : FX10_matches N p0 s = some q) : gG m b φ0 σo lI q (fX10_matches N 44 p0' h) := by
  subst ep0
  unfold FX10_matches at hF
  unfold fX10_matches
  refine s_gA R (t_44 R.S) (Nat.le_of_ble_eq_true rfl) rfl (o_44_3 R.S) (fun _ _ => ?_)
  refine s_rI R (u_47 R.S).1 (u_47 R.S).2 (by decide) rfl rfl rp0 hF (fun x3 ra2 hF => ?_)
  refine s_gI R (t_44 R.S) (Nat.le_of_ble_eq_true rfl) rfl ?_
  refine s_if (not_congr (i_eq rfl rfl ra2 (R.ri (t_44 R.S) (Nat.le_of_ble_eq_true rfl) rfl))) hF (fun c4 hF => ?_) (fun c4 hF => ?_)
  ·
    exact SX10_matches_b18 (N := N) R rfl rp0 (c_lit 0 0 rfl) ⟨by decide, by decide⟩ hF
  ·
    exact SX10_matches_b18 (N := N) R rfl rp0 (c_lit 1 1 rfl) ⟨by decide, by decide⟩ hF
def FX10_seek_b77 (N : Nat) (l2 : Int) (s : fS) : Option (Int × fS) :=
  some (l2, s)
theorem SX10_seek_b77 {m b : Nat} {φ0 : Nat → Nat} {σo : fS} {N : Nat} {q : Int × fS} {φ : Nat → Nat} {h : eH} {s : fS} {l2' : Int32} {l2 : Int} (R : fC m b φ0 σo φ h s) (el2 : l2' = iI l2) (rl2 : r32 l2) (hF : FX10_seek_b77 N l2 s = some q) : gG m b φ0 σo lI q (fX10_seek_b77 N l2' h) := by
  subst el2
  unfold FX10_seek_b77 at hF
  unfold fX10_seek_b77
  exact g_ret R hF ⟨rfl, rl2⟩
def FX10_seek_b44 (N : Nat) : Nat → Int → fS → Option (Int × fS)
  | 0, _, _ => none
  | n + 1, l2, s =>
    (uRI s 45 l2).bind fun x3 =>
    if x3 = 0 then
      FX10_seek_b77 N l2 s
    else
      (uRI s 45 l2).bind fun x8 =>
      (FX10_matches N x8 s).bind fun q11 =>
      if ¬ (q11.1 = 0) then
        FX10_seek_b77 N l2 q11.2
      else
        FX10_seek_b44 N n (iand (iadd l2 1) 4095) q11.2
theorem SX10_seek_b44 {m b : Nat} {φ0 : Nat → Nat} {σo : fS} {N : Nat} {q : Int × fS} : ∀ {n : Nat} {φ : Nat → Nat} {h : eH} {s : fS} {l2' : Int32} {l2 : Int}, fC m b φ0 σo φ h s → l2' = iI l2 → r32 l2 → FX10_seek_b44 N n l2 s = some q → gG m b φ0 σo lI q (fX10_seek_b44 N n 44 l2' h) := by
  intro n
  induction n with
 | zero => intro φ h s l2' l2 R el2 rl2 hF; simp [FX10_seek_b44] at hF
  | succ n ih =>
    intro φ h s l2' l2 R el2 rl2 hF
    subst el2
    rw [FX10_seek_b44] at hF
    rw [fX10_seek_b44]
    refine s_gAs R (t_44 R.S) (Nat.le_of_ble_eq_true rfl) rfl (o_44_1 R.S) (a_45 R) ?_
    refine s_rI R (u_45 R.S).1 (u_45 R.S).2 (by decide) (a_45 R) rfl rl2 hF (fun x3 ra2 hF => ?_)
    refine s_if (i_eq rfl (c_lit 0 0 rfl) ra2 ⟨by decide, by decide⟩) hF (fun c3 hF => ?_) (fun c3 hF => ?_)
    ·
      exact SX10_seek_b77 (N := N) R rfl rl2 hF
    ·
      refine s_gAs R (t_44 R.S) (Nat.le_of_ble_eq_true rfl) rfl (o_44_1 R.S) (a_45 R) ?_
      refine s_rI R (u_45 R.S).1 (u_45 R.S).2 (by decide) (a_45 R) rfl rl2 hF (fun x8 ra5 hF => ?_)
      refine s_kok R (t_44 R.S) (Nat.le_of_ble_eq_true rfl) ?_
      refine s_call R (Nat.zero_le _) (fun _ hq => SX10_matches (b := 0) (N := N) (R.rf) rfl ra5 hq) hF (fun f7 rv7 h7 q11 R7 e7 E7 hF => ?_)
      refine s_if (not_congr (i_eq e7.1 (c_lit 0 0 rfl) e7.2 ⟨by decide, by decide⟩)) hF (fun c8 hF => ?_) (fun c8 hF => ?_)
      ·
        exact SX10_seek_b77 (N := N) R7 rfl rl2 hF
      ·
        exact ih R7 (c_and (c_add rfl (c_lit 1 1 rfl)) (c_lit 4095 4095 rfl)) (rr_I _) hF
def FX10_seek_b7 (N : Nat) : Nat → Int → Int → fS → Option (Int × fS)
  | 0, _, _, _ => none
  | n + 1, l1, l2, s =>
    if (s.i 44 8) ≤ l2 then
      FX10_seek_b44 N N (iand (ixor l1 (iush l1 12)) 4095) s
    else
      (uRI s 49 l2).bind fun x6 =>
      FX10_seek_b7 N n (iadd (imul 31 l1) x6) (iadd l2 1) s
theorem SX10_seek_b7 {m b : Nat} {φ0 : Nat → Nat} {σo : fS} {N : Nat} {q : Int × fS} : ∀ {n : Nat} {φ : Nat → Nat} {h : eH} {s : fS} {l1' : Int32} {l1 : Int} {l2' : Int32} {l2 : Int}, fC m b φ0 σo φ h s → l1' = iI l1 → r32 l1 → l2' = iI l2 → r32 l2 → FX10_seek_b7 N n l1 l2 s = some q → gG m b φ0 σo lI q (fX10_seek_b7 N n 44 l1' l2' h) := by
  intro n
  induction n with
 | zero => intro φ h s l1' l1 l2' l2 R el1 rl1 el2 rl2 hF; simp [FX10_seek_b7] at hF
  | succ n ih =>
    intro φ h s l1' l1 l2' l2 R el1 rl1 el2 rl2 hF
    subst el1; subst el2
    rw [FX10_seek_b7] at hF
    rw [fX10_seek_b7]
    refine s_gI R (t_44 R.S) (Nat.le_of_ble_eq_true rfl) rfl ?_
    refine s_if (i_le rfl rfl (R.ri (t_44 R.S) (Nat.le_of_ble_eq_true rfl) rfl) rl2) hF (fun c2 hF => ?_) (fun c2 hF => ?_)
    ·
      exact SX10_seek_b44 (N := N) R (c_and (c_xor rfl (c_ush rfl (c_lit 12 12 rfl))) (c_lit 4095 4095 rfl)) (rr_I _) hF
    ·
      refine s_gAs R (t_44 R.S) (Nat.le_of_ble_eq_true rfl) rfl (o_44_7 R.S) (a_49 R) ?_
      refine s_rI R (u_49 R.S).1 (u_49 R.S).2 (by decide) (a_49 R) rfl rl2 hF (fun x6 ra4 hF => ?_)
      exact ih R (c_add (c_mul (c_lit 31 31 rfl) rfl) rfl) (rr_I _) (c_add rfl (c_lit 1 1 rfl)) (rr_I _) hF
def FX10_seek (N : Nat) (s : fS) : Option (Int × fS) :=
  FX10_seek_b7 N N (s.i 44 8) 0 s
theorem SX10_seek {m b : Nat} {φ0 : Nat → Nat} {σo : fS} {N : Nat} {q : Int × fS} {φ : Nat → Nat} {h : eH} {s : fS} (R : fC m b φ0 σo φ h s) (hF : FX10_seek N s = some q) : gG m b φ0 σo lI q (fX10_seek N 44 h) := by
  unfold FX10_seek at hF
  unfold fX10_seek
  refine s_gI R (t_44 R.S) (Nat.le_of_ble_eq_true rfl) rfl ?_
  exact SX10_seek_b7 (N := N) R rfl (R.ri (t_44 R.S) (Nat.le_of_ble_eq_true rfl) rfl) (c_lit 0 0 rfl) ⟨by decide, by decide⟩ hF
def FX10_make_b84 (l1 : Int) (s : fS) : Option (Unit × fS) :=
  (uQI s 46 (s.i 44 6) (s.i 44 5)).bind fun σ7 =>
  (uQI σ7 47 (σ7.i 44 6) (σ7.i 44 8)).bind fun σ15 =>
  (uCP σ15 49 0 48 (σ15.i 44 5) (σ15.i 44 8)).bind fun σ25 =>
  (uPI σ25 44 5 (iadd (σ25.i 44 5) (σ25.i 44 8))).bind fun σ31 =>
  (uPI σ31 44 6 (iadd (σ31.i 44 6) 1)).bind fun σ37 =>
  (uQI σ37 45 l1 (σ31.i 44 6)).bind fun σ39 =>
  some ((), σ39)
theorem SX10_make_b84 {m b : Nat} {φ0 : Nat → Nat} {σo : fS} {q : Unit × fS} {φ : Nat → Nat} {h : eH} {s : fS} {l1' : Int32} {l1 : Int} (R : fC m b φ0 σo φ h s) (el1 : l1' = iI l1) (rl1 : r32 l1) (hF : FX10_make_b84 l1 s = some q) : gG m b φ0 σo lU q (fX10_make_b84 44 l1' h) := by
  subst el1
  unfold FX10_make_b84 at hF
  unfold fX10_make_b84
  refine s_gA R (t_44 R.S) (Nat.le_of_ble_eq_true rfl) rfl (o_44_2 R.S) (fun _ _ => ?_)
  refine s_gI R (t_44 R.S) (Nat.le_of_ble_eq_true rfl) rfl ?_
  refine s_gI R (t_44 R.S) (Nat.le_of_ble_eq_true rfl) rfl ?_
  refine s_qI R (u_46 R.S).1 (u_46 R.S).2 (by decide) rfl rfl (R.ri (t_44 R.S) (Nat.le_of_ble_eq_true rfl) rfl) rfl (R.ri (t_44 R.S) (Nat.le_of_ble_eq_true rfl) rfl) hF (fun h4 σ7 R4 T4 hF => ?_)
  refine s_gA R4 (t_44 R4.S) (Nat.le_of_ble_eq_true rfl) rfl (o_44_3 R4.S) (fun _ _ => ?_)
  refine s_gI R4 (t_44 R4.S) (Nat.le_of_ble_eq_true rfl) rfl ?_
  refine s_gI R4 (t_44 R4.S) (Nat.le_of_ble_eq_true rfl) rfl ?_
  refine s_qI R4 (u_47 R4.S).1 (u_47 R4.S).2 (by decide) rfl rfl (R4.ri (t_44 R4.S) (Nat.le_of_ble_eq_true rfl) rfl) rfl (R4.ri (t_44 R4.S) (Nat.le_of_ble_eq_true rfl) rfl) hF (fun h8 σ15 R8 T8 hF => ?_)
  refine s_gAs R8 (t_44 R8.S) (Nat.le_of_ble_eq_true rfl) rfl (o_44_7 R8.S) (a_49 R8) ?_
  refine s_gA R8 (t_44 R8.S) (Nat.le_of_ble_eq_true rfl) rfl (o_44_4 R8.S) (fun _ _ => ?_)
  refine s_gI R8 (t_44 R8.S) (Nat.le_of_ble_eq_true rfl) rfl ?_
  refine s_gI R8 (t_44 R8.S) (Nat.le_of_ble_eq_true rfl) rfl ?_
  refine s_cp R8 (u_49 R8.S).1 (u_48 R8.S).1 (by rw [(u_48 R8.S).2]; decide) (a_49 R8) rfl (c_lit 0 0 rfl) ⟨by decide, by decide⟩ rfl (R8.ri (t_44 R8.S) (Nat.le_of_ble_eq_true rfl) rfl) rfl (R8.ri (t_44 R8.S) (Nat.le_of_ble_eq_true rfl) rfl) hF (fun h13 σ25 R13 T13 hF => ?_)
  refine s_gI R13 (t_44 R13.S) (Nat.le_of_ble_eq_true rfl) rfl ?_
  refine s_gI R13 (t_44 R13.S) (Nat.le_of_ble_eq_true rfl) rfl ?_
  refine s_pI R13 (t_44 R13.S) (Nat.le_of_ble_eq_true rfl) rfl (c_add rfl rfl) (rr_I _) hF (fun h16 σ31 R16 T16 hF => ?_)
  refine s_gAs R16 (t_44 R16.S) (Nat.le_of_ble_eq_true rfl) rfl (o_44_1 R16.S) (a_45 R16) ?_
  refine s_gI R16 (t_44 R16.S) (Nat.le_of_ble_eq_true rfl) rfl ?_
  refine s_pI R16 (t_44 R16.S) (Nat.le_of_ble_eq_true rfl) rfl (c_add rfl (c_lit 1 1 rfl)) (rr_I _) hF (fun h19 σ37 R19 T19 hF => ?_)
  refine s_qI R19 (u_45 R19.S).1 (u_45 R19.S).2 (by decide) (a_45 R19) rfl rl1 rfl (R16.ri (t_44 R16.S) (Nat.le_of_ble_eq_true rfl) rfl) hF (fun h20 σ39 R20 T20 hF => ?_)
  exact g_ret R20 hF trivial
def FX10_make (p0 : Int) (s : fS) : Option (Unit × fS) :=
  (FX1_grown 46 (iadd (s.i 44 6) 1) s).bind fun q5 =>
  (uMV q5.2 46 q5.1).bind fun σ6 =>
  (FX1_grown 47 (iadd (σ6.i 44 6) 1) σ6).bind fun q12 =>
  (uMV q12.2 47 q12.1).bind fun σ13 =>
  if (iadd (σ13.i 44 5) (σ13.i 44 8)) ≤ (σ13.n 48 : Int) then
    FX10_make_b84 p0 σ13
  else
    (uNA 112 0 σ13 (imul 2 (iadd (σ13.i 44 5) (σ13.i 44 8)))).bind fun q28 =>
    (uKA 102 q28.2 q28.1).bind fun _ =>
    (uCP q28.2 48 0 q28.1 0 (q28.2.i 44 5)).bind fun σ34 =>
    (uMV σ34 48 q28.1).bind fun σ36 =>
    FX10_make_b84 p0 σ36
theorem SX10_make {m b : Nat} {φ0 : Nat → Nat} {σo : fS} (hb : 1 ≤ b) {q : Unit × fS} {φ : Nat → Nat} {h : eH} {s : fS} {p0' : Int32} {p0 : Int} (R : fC m b φ0 σo φ h s) (ep0 : p0' = iI p0) (rp0 : r32 p0) (hF : FX10_make p0 s = some q) : gG m b φ0 σo lU q (fX10_make 44 p0' h) := by
  subst ep0
  unfold FX10_make at hF
  unfold fX10_make
  refine s_gA R (t_44 R.S) (Nat.le_of_ble_eq_true rfl) rfl (o_44_2 R.S) (fun _ _ => ?_)
  refine s_gI R (t_44 R.S) (Nat.le_of_ble_eq_true rfl) rfl ?_
  refine s_call R (Nat.zero_le _) (fun _ hq => SX1_grown (b := 0) (R.rf) rfl (u_46 R.S).1 (c_add rfl (c_lit 1 1 rfl)) (rr_I _) hq) hF (fun f3 rv3 h3 q5 R3 e3 E3 hF => ?_)
  refine s_mv R3 (t_44 R3.S) (Nat.le_of_ble_eq_true rfl) rfl (o_44_2 R3.S) (by decide) (f_mv_1 hb (by decide) (by decide)) e3 hF (fun f4 h4 σ6 R4 E4 K4 hF => ?_)
  refine s_gA R4 (t_44 R4.S) (Nat.le_of_ble_eq_true rfl) rfl (o_44_3 R4.S) (fun _ _ => ?_)
  refine s_gI R4 (t_44 R4.S) (Nat.le_of_ble_eq_true rfl) rfl ?_
  refine s_call R4 (Nat.zero_le _) (fun _ hq => SX1_grown (b := 0) (R4.rf) rfl (u_47 R4.S).1 (c_add rfl (c_lit 1 1 rfl)) (rr_I _) hq) hF (fun f7 rv7 h7 q12 R7 e7 E7 hF => ?_)
  refine s_mv R7 (t_44 R7.S) (Nat.le_of_ble_eq_true rfl) rfl (o_44_3 R7.S) (by decide) (f_mv_1 hb (by decide) (by decide)) e7 hF (fun f8 h8 σ13 R8 E8 K8 hF => ?_)
  refine s_gI R8 (t_44 R8.S) (Nat.le_of_ble_eq_true rfl) rfl ?_
  refine s_gI R8 (t_44 R8.S) (Nat.le_of_ble_eq_true rfl) rfl ?_
  refine s_gA R8 (t_44 R8.S) (Nat.le_of_ble_eq_true rfl) rfl (o_44_4 R8.S) (fun _ _ => ?_)
  refine s_len R8 (by rw [(t_48 R8.S)]; decide) (by rw [(t_48 R8.S)]; decide) rfl ?_
  refine s_if (i_le (c_add rfl rfl) rfl (rr_I _) (R8.rn (by rw [(t_48 R8.S)]; decide) (by rw [(t_48 R8.S)]; decide))) hF (fun c13 hF => ?_) (fun c13 hF => ?_)
  ·
    exact SX10_make_b84 R8 rfl rp0 hF
  ·
    refine s_gI R8 (t_44 R8.S) (Nat.le_of_ble_eq_true rfl) rfl ?_
    refine s_gI R8 (t_44 R8.S) (Nat.le_of_ble_eq_true rfl) rfl ?_
    refine s_nA (tmp := 10) R8 (Or.inl ⟨by decide, rfl⟩) (by decide) (c_mul (c_lit 2 2 rfl) (c_add rfl rfl)) (rr_I _) hF (fun h16 s16_ R16 E16 y16 z16 w16 hF => ?_)
    refine s_gA R16 (t_44 R16.S) (Nat.le_of_ble_eq_true rfl) rfl (o_44_4 R16.S) (fun _ _ => ?_)
    refine s_gI R16 (t_44 R16.S) (Nat.le_of_ble_eq_true rfl) rfl ?_
    refine s_KA hF (fun y20 z20 hF => ?_)
    refine s_cp R16 (u_48 R16.S).1 y20 (by rw [z20]; decide) rfl y16 (c_lit 0 0 rfl) ⟨by decide, by decide⟩ (c_lit 0 0 rfl) ⟨by decide, by decide⟩ rfl (R16.ri (t_44 R16.S) (Nat.le_of_ble_eq_true rfl) rfl) hF (fun h19 σ34 R19 T19 hF => ?_)
    refine s_mv R19 (t_44 R19.S) (Nat.le_of_ble_eq_true rfl) rfl (o_44_4 R19.S) (by decide) (f_mv_1 hb (by decide) (by decide)) y16 hF (fun f21 h21 σ36 R21 E21 K21 hF => ?_)
    exact SX10_make_b84 R21 rfl rp0 hF
def FX10_enter_b61 (N : Nat) (K6 : Int → fS → Option (Unit × fS)) (l2 : Int) (s : fS) : Option (Unit × fS) :=
  K6 (iadd l2 1) s
theorem SX10_enter_b61 {m b : Nat} {φ0 : Nat → Nat} {σo : fS} (hb : 1 ≤ b) {N : Nat} {k6 : Nat → Nat → Int32 → eH → Option (Unit × eH)} {K6 : Int → fS → Option (Unit × fS)} {q : Unit × fS} (hk6 : ∀ {φ : Nat → Nat} {h : eH} {s : fS} {l2' : Int32} {l2 : Int}, fC m b φ0 σo φ h s → l2' = iI l2 → r32 l2 → K6 l2 s = some q → gG m b φ0 σo lU q (k6 44 1000000100 l2' h)) {φ : Nat → Nat} {h : eH} {s : fS} {l2' : Int32} {l2 : Int} (R : fC m b φ0 σo φ h s) (el2 : l2' = iI l2) (rl2 : r32 l2) (hF : FX10_enter_b61 N K6 l2 s = some q) : gG m b φ0 σo lU q (fX10_enter_b61 N k6 44 1000000100 l2' h) := by
  subst el2
  unfold FX10_enter_b61 at hF
  unfold fX10_enter_b61
  exact hk6 R (c_add rfl (c_lit 1 1 rfl)) (rr_I _) hF
def FX10_enter_b6 (N : Nat) : Nat → Int → fS → Option (Unit × fS)
  | 0, _, _ => none
  | n + 1, l2, s =>
    (s_ok 1000000100).bind fun _ =>
    (FJ1_length 1000000100 s).bind fun q2 =>
    if q2.1 ≤ l2 then
      some ((), q2.2)
    else
      (s_ok 1000000100).bind fun _ =>
      (FJ1_charAt 1000000100 l2 q2.2).bind fun q5 =>
      if q5.1 = 47 then
        (FX10_seek N q5.2).bind fun q8 =>
        (FX10_make q8.1 q8.2).bind fun q10 =>
        (FX10_open q10.2).bind fun q12 =>
        FX10_enter_b61 N (FX10_enter_b6 N n) l2 q12.2
      else
        (uPI q5.2 44 8 (iadd (q5.2.i 44 8) 1)).bind fun σ17 =>
        (s_ok 1000000100).bind fun _ =>
        (FJ1_charAt 1000000100 l2 σ17).bind fun q20 =>
        (uQI q20.2 49 (q5.2.i 44 8) (i2b (i2b q20.1))).bind fun σ21 =>
        FX10_enter_b61 N (FX10_enter_b6 N n) l2 σ21
theorem SX10_enter_b6 {m b : Nat} {φ0 : Nat → Nat} {σo : fS} (hb : 1 ≤ b) {N : Nat} {q : Unit × fS} : ∀ {n : Nat} {φ : Nat → Nat} {h : eH} {s : fS} {l2' : Int32} {l2 : Int}, fC m b φ0 σo φ h s → l2' = iI l2 → r32 l2 → FX10_enter_b6 N n l2 s = some q → gG m b φ0 σo lU q (fX10_enter_b6 N n 44 1000000100 l2' h) := by
  intro n
  induction n with
 | zero => intro φ h s l2' l2 R el2 rl2 hF; simp [FX10_enter_b6] at hF
  | succ n ih =>
    intro φ h s l2' l2 R el2 rl2 hF
    subst el2
    rw [FX10_enter_b6] at hF
    rw [fX10_enter_b6]
    refine s_opt hF (fun _ hF => ?_)
    refine s_call R (Nat.zero_le _) (fun _ hq => SJ1_length (b := 0) (R.rf) hq) hF (fun f2 rv2 h2 q2 R2 e2 E2 hF => ?_)
    refine s_if (i_le e2.1 rfl e2.2 rl2) hF (fun c3 hF => ?_) (fun c3 hF => ?_)
    ·
      exact g_ret R2 hF trivial
    ·
      refine s_opt hF (fun _ hF => ?_)
      refine s_call R2 (Nat.zero_le _) (fun _ hq => SJ1_charAt (b := 0) (R2.rf) rfl rl2 hq) hF (fun f5 rv5 h5 q5 R5 e5 E5 hF => ?_)
      refine s_if (i_eq e5.1 (c_lit 47 47 rfl) e5.2 ⟨by decide, by decide⟩) hF (fun c6 hF => ?_) (fun c6 hF => ?_)
      ·
        refine s_kok R5 (t_44 R5.S) (Nat.le_of_ble_eq_true rfl) ?_
        refine s_call R5 (Nat.zero_le _) (fun _ hq => SX10_seek (b := 0) (N := N) (R5.rf) hq) hF (fun f8 rv8 h8 q8 R8 e8 E8 hF => ?_)
        refine s_kok R8 (t_44 R8.S) (Nat.le_of_ble_eq_true rfl) ?_
        refine s_call R8 hb (fun _ hq => SX10_make (b := 1) (Nat.le_of_ble_eq_true rfl) (R8.rf) e8.1 e8.2 hq) hF (fun f10 rv10 h10 q10 R10 e10 E10 hF => ?_)
        refine s_kok R10 (t_44 R10.S) (Nat.le_of_ble_eq_true rfl) ?_
        refine s_call R10 (Nat.zero_le _) (fun _ hq => SX10_open (b := 0) (R10.rf) hq) hF (fun f12 rv12 h12 q12 R12 e12 E12 hF => ?_)
        exact SX10_enter_b61 (N := N) (k6 := fX10_enter_b6 N n) (K6 := FX10_enter_b6 N n) hb @ih R12 rfl rl2 hF
      ·
        refine s_gAs R5 (t_44 R5.S) (Nat.le_of_ble_eq_true rfl) rfl (o_44_7 R5.S) (a_49 R5) ?_
        refine s_gI R5 (t_44 R5.S) (Nat.le_of_ble_eq_true rfl) rfl ?_
        refine s_pI R5 (t_44 R5.S) (Nat.le_of_ble_eq_true rfl) rfl (c_add rfl (c_lit 1 1 rfl)) (rr_I _) hF (fun h15 σ17 R15 T15 hF => ?_)
        refine s_opt hF (fun _ hF => ?_)
        refine s_call R15 (Nat.zero_le _) (fun _ hq => SJ1_charAt (b := 0) (R15.rf) rfl rl2 hq) hF (fun f17 rv17 h17 q20 R17 e17 E17 hF => ?_)
        refine s_qI R17 (u_49 R17.S).1 (u_49 R17.S).2 (by decide) (a_49 R17) rfl (R5.ri (t_44 R5.S) (Nat.le_of_ble_eq_true rfl) rfl) (c_2b (c_2b e17.1)) (rr_I _) hF (fun h18 σ21 R18 T18 hF => ?_)
        exact SX10_enter_b61 (N := N) (k6 := fX10_enter_b6 N n) (K6 := FX10_enter_b6 N n) hb @ih R18 rfl rl2 hF
def FX10_enter (N : Nat) (s : fS) : Option (Unit × fS) :=
  (FX10_open s).bind fun q2 =>
  FX10_enter_b6 N N 0 q2.2
theorem SX10_enter {m b : Nat} {φ0 : Nat → Nat} {σo : fS} (hb : 1 ≤ b) {N : Nat} {q : Unit × fS} {φ : Nat → Nat} {h : eH} {s : fS} (R : fC m b φ0 σo φ h s) (hF : FX10_enter N s = some q) : gG m b φ0 σo lU q (fX10_enter N 44 1000000100 h) := by
  unfold FX10_enter at hF
  unfold fX10_enter
  refine s_kok R (t_44 R.S) (Nat.le_of_ble_eq_true rfl) ?_
  refine s_call R (Nat.zero_le _) (fun _ hq => SX10_open (b := 0) (R.rf) hq) hF (fun f2 rv2 h2 q2 R2 e2 E2 hF => ?_)
  exact SX10_enter_b6 (N := N) hb R2 (c_lit 0 0 rfl) ⟨by decide, by decide⟩ hF
def FX9_isOf_b24 (s0 : Int) (s : fS) : Option (Int × fS) :=
  uZ s0 (s0, s)
theorem SX9_isOf_b24 {m b : Nat} {φ0 : Nat → Nat} {σo : fS} {q : Int × fS} {φ : Nat → Nat} {h : eH} {s : fS} {s0' : Int32} {s0 : Int} (R : fC m b φ0 σo φ h s) (es0 : s0' = iI s0) (rs0 : r32 s0) (hF : FX9_isOf_b24 s0 s = some q) : gG m b φ0 σo lI q (fX9_isOf_b24 s0' h) := by
  subst es0
  unfold FX9_isOf_b24 at hF
  unfold fX9_isOf_b24
  exact g_z R rfl hF ⟨rfl, rs0⟩
def FX9_isOf (p0 : Int) (p1 : Int) (s : fS) : Option (Int × fS) :=
  (uRI s 29 (imul 2 p0)).bind fun x3 =>
  if ¬ ((isub (ishr x3 10) 2200) = p1) then
    FX9_isOf_b24 0 s
  else
    FX9_isOf_b24 1 s
theorem SX9_isOf {m b : Nat} {φ0 : Nat → Nat} {σo : fS} {q : Int × fS} {φ : Nat → Nat} {h : eH} {s : fS} {p0' : Int32} {p0 : Int} {p1' : Int32} {p1 : Int} (R : fC m b φ0 σo φ h s) (ep0 : p0' = iI p0) (rp0 : r32 p0) (ep1 : p1' = iI p1) (rp1 : r32 p1) (hF : FX9_isOf p0 p1 s = some q) : gG m b φ0 σo lI q (fX9_isOf 23 p0' p1' h) := by
  subst ep0; subst ep1
  unfold FX9_isOf at hF
  unfold fX9_isOf
  refine s_gA R (t_23 R.S) (Nat.le_of_ble_eq_true rfl) rfl (o_23_5 R.S) (fun _ _ => ?_)
  refine s_rI R (u_29 R.S).1 (u_29 R.S).2 (by decide) rfl (c_mul (c_lit 2 2 rfl) rfl) (rr_I _) hF (fun x3 ra2 hF => ?_)
  refine s_if (not_congr (i_eq (c_sub (c_shr rfl (c_lit 10 10 rfl)) (c_lit 2200 2200 rfl)) rfl (rr_I _) rp1)) hF (fun c3 hF => ?_) (fun c3 hF => ?_)
  ·
    exact SX9_isOf_b24 R (c_lit 0 0 rfl) ⟨by decide, by decide⟩ hF
  ·
    exact SX9_isOf_b24 R (c_lit 1 1 rfl) ⟨by decide, by decide⟩ hF
def FX9_place_b69 (N : Nat) (l3 : Int) (s : fS) : Option (Int × fS) :=
  some (l3, s)
theorem SX9_place_b69 {m b : Nat} {φ0 : Nat → Nat} {σo : fS} {N : Nat} {q : Int × fS} {φ : Nat → Nat} {h : eH} {s : fS} {l3' : Int32} {l3 : Int} (R : fC m b φ0 σo φ h s) (el3 : l3' = iI l3) (rl3 : r32 l3) (hF : FX9_place_b69 N l3 s = some q) : gG m b φ0 σo lI q (fX9_place_b69 N l3' h) := by
  subst el3
  unfold FX9_place_b69 at hF
  unfold fX9_place_b69
  exact g_ret R hF ⟨rfl, rl3⟩
def FX9_place_b46 (N : Nat) : Nat → Int → Int → fS → Option (Int × fS)
  | 0, _, _, _ => none
  | n + 1, l1, l3, s =>
    if (s.i 23 6) ≤ l3 then
      FX9_place_b69 N l3 s
    else
      (FX9_isOf l3 l1 s).bind fun q5 =>
      if ¬ (q5.1 = 0) then
        FX9_place_b69 N l3 q5.2
      else
        FX9_place_b46 N n l1 (iadd l3 1) q5.2
theorem SX9_place_b46 {m b : Nat} {φ0 : Nat → Nat} {σo : fS} {N : Nat} {q : Int × fS} : ∀ {n : Nat} {φ : Nat → Nat} {h : eH} {s : fS} {l1' : Int32} {l1 : Int} {l3' : Int32} {l3 : Int}, fC m b φ0 σo φ h s → l1' = iI l1 → r32 l1 → l3' = iI l3 → r32 l3 → FX9_place_b46 N n l1 l3 s = some q → gG m b φ0 σo lI q (fX9_place_b46 N n 23 l1' l3' h) := by
  intro n
  induction n with
 | zero => intro φ h s l1' l1 l3' l3 R el1 rl1 el3 rl3 hF; simp [FX9_place_b46] at hF
  | succ n ih =>
    intro φ h s l1' l1 l3' l3 R el1 rl1 el3 rl3 hF
    subst el1; subst el3
    rw [FX9_place_b46] at hF
    rw [fX9_place_b46]
    refine s_gI R (t_23 R.S) (Nat.le_of_ble_eq_true rfl) rfl ?_
    refine s_if (i_le rfl rfl (R.ri (t_23 R.S) (Nat.le_of_ble_eq_true rfl) rfl) rl3) hF (fun c2 hF => ?_) (fun c2 hF => ?_)
    ·
      exact SX9_place_b69 (N := N) R rfl rl3 hF
    ·
      refine s_kok R (t_23 R.S) (Nat.le_of_ble_eq_true rfl) ?_
      refine s_call R (Nat.zero_le _) (fun _ hq => SX9_isOf (b := 0) (R.rf) rfl rl3 rfl rl1 hq) hF (fun f4 rv4 h4 q5 R4 e4 E4 hF => ?_)
      refine s_if (not_congr (i_eq e4.1 (c_lit 0 0 rfl) e4.2 ⟨by decide, by decide⟩)) hF (fun c5 hF => ?_) (fun c5 hF => ?_)
      ·
        exact SX9_place_b69 (N := N) R4 rfl rl3 hF
      ·
        exact ih R4 rfl rl1 (c_add rfl (c_lit 1 1 rfl)) (rr_I _) hF
def FX9_place_b34 (N : Nat) (l1 : Int) (s : fS) : Option (Int × fS) :=
  (uRI s 33 (isub (s.i 23 11) 1)).bind fun x5 =>
  FX9_place_b46 N N l1 x5 s
theorem SX9_place_b34 {m b : Nat} {φ0 : Nat → Nat} {σo : fS} {N : Nat} {q : Int × fS} {φ : Nat → Nat} {h : eH} {s : fS} {l1' : Int32} {l1 : Int} (R : fC m b φ0 σo φ h s) (el1 : l1' = iI l1) (rl1 : r32 l1) (hF : FX9_place_b34 N l1 s = some q) : gG m b φ0 σo lI q (fX9_place_b34 N 23 l1' h) := by
  subst el1
  unfold FX9_place_b34 at hF
  unfold fX9_place_b34
  refine s_gAs R (t_23 R.S) (Nat.le_of_ble_eq_true rfl) rfl (o_23_10 R.S) (a_33 R) ?_
  refine s_gI R (t_23 R.S) (Nat.le_of_ble_eq_true rfl) rfl ?_
  refine s_rI R (u_33 R.S).1 (u_33 R.S).2 (by decide) (a_33 R) (c_sub rfl (c_lit 1 1 rfl)) (rr_I _) hF (fun x5 ra3 hF => ?_)
  exact SX9_place_b46 (N := N) R rfl rl1 rfl ra3 hF
def FX9_place (N : Nat) (p0 : Int) (p1 : Int) (s : fS) : Option (Int × fS) :=
  (uRI s 33 (isub (s.i 23 11) 1)).bind fun x5 =>
  if p1 < x5 then
    FX9_place_b34 N p0 s
  else
    if (s.i 23 6) ≤ p1 then
      FX9_place_b34 N p0 s
    else
      (FX9_isOf p1 p0 s).bind fun q12 =>
      if q12.1 = 0 then
        FX9_place_b34 N p0 q12.2
      else
        some (p1, q12.2)
theorem SX9_place {m b : Nat} {φ0 : Nat → Nat} {σo : fS} {N : Nat} {q : Int × fS} {φ : Nat → Nat} {h : eH} {s : fS} {p0' : Int32} {p0 : Int} {p1' : Int32} {p1 : Int} (R : fC m b φ0 σo φ h s) (ep0 : p0' = iI p0) (rp0 : r32 p0) (ep1 : p1' = iI p1) (rp1 : r32 p1) (hF : FX9_place N p0 p1 s = some q) : gG m b φ0 σo lI q (fX9_place N 23 p0' p1' h) := by
  subst ep0; subst ep1
  unfold FX9_place at hF
  unfold fX9_place
  refine s_gAs R (t_23 R.S) (Nat.le_of_ble_eq_true rfl) rfl (o_23_10 R.S) (a_33 R) ?_
  refine s_gI R (t_23 R.S) (Nat.le_of_ble_eq_true rfl) rfl ?_
  refine s_rI R (u_33 R.S).1 (u_33 R.S).2 (by decide) (a_33 R) (c_sub rfl (c_lit 1 1 rfl)) (rr_I _) hF (fun x5 ra3 hF => ?_)
  refine s_if (i_lt rfl rfl rp1 ra3) hF (fun c4 hF => ?_) (fun c4 hF => ?_)
  ·
    exact SX9_place_b34 (N := N) R rfl rp0 hF
  ·
    refine s_gI R (t_23 R.S) (Nat.le_of_ble_eq_true rfl) rfl ?_
    refine s_if (i_le rfl rfl (R.ri (t_23 R.S) (Nat.le_of_ble_eq_true rfl) rfl) rp1) hF (fun c6 hF => ?_) (fun c6 hF => ?_)
    ·
      exact SX9_place_b34 (N := N) R rfl rp0 hF
    ·
      refine s_kok R (t_23 R.S) (Nat.le_of_ble_eq_true rfl) ?_
      refine s_call R (Nat.zero_le _) (fun _ hq => SX9_isOf (b := 0) (R.rf) rfl rp1 rfl rp0 hq) hF (fun f8 rv8 h8 q12 R8 e8 E8 hF => ?_)
      refine s_if (i_eq e8.1 (c_lit 0 0 rfl) e8.2 ⟨by decide, by decide⟩) hF (fun c9 hF => ?_) (fun c9 hF => ?_)
      ·
        exact SX9_place_b34 (N := N) R8 rfl rp0 hF
      ·
        exact g_ret R8 hF ⟨rfl, rp1⟩
def FX9_save_b46 (N : Nat) (l1 : Int) (l3 : Int) (l4 : Int) (l5 : Int) (l6 : Int) (s : fS) : Option (Int × fS) :=
  (uQI s 29 (imul 2 l6) (ior (ior (ishl (iadd l1 2200) 10) (ishl l5 3)) l3)).bind fun σ3 =>
  (uQI σ3 29 (iadd (imul 2 l6) 1) l4).bind fun σ7 =>
  some (l6, σ7)
theorem SX9_save_b46 {m b : Nat} {φ0 : Nat → Nat} {σo : fS} {N : Nat} {q : Int × fS} {φ : Nat → Nat} {h : eH} {s : fS} {l1' : Int32} {l1 : Int} {l3' : Int32} {l3 : Int} {l4' : Int32} {l4 : Int} {l5' : Int32} {l5 : Int} {l6' : Int32} {l6 : Int} (R : fC m b φ0 σo φ h s) (el1 : l1' = iI l1) (rl1 : r32 l1) (el3 : l3' = iI l3) (rl3 : r32 l3) (el4 : l4' = iI l4) (rl4 : r32 l4) (el5 : l5' = iI l5) (rl5 : r32 l5) (el6 : l6' = iI l6) (rl6 : r32 l6) (hF : FX9_save_b46 N l1 l3 l4 l5 l6 s = some q) : gG m b φ0 σo lI q (fX9_save_b46 N 23 l1' l3' l4' l5' l6' h) := by
  subst el1; subst el3; subst el4; subst el5; subst el6
  unfold FX9_save_b46 at hF
  unfold fX9_save_b46
  refine s_gA R (t_23 R.S) (Nat.le_of_ble_eq_true rfl) rfl (o_23_5 R.S) (fun _ _ => ?_)
  refine s_qI R (u_29 R.S).1 (u_29 R.S).2 (by decide) rfl (c_mul (c_lit 2 2 rfl) rfl) (rr_I _) (c_or (c_or (c_shl (c_add rfl (c_lit 2200 2200 rfl)) (c_lit 10 10 rfl)) (c_shl rfl (c_lit 3 3 rfl))) rfl) (rr_I _) hF (fun h2 σ3 R2 T2 hF => ?_)
  refine s_gA R2 (t_23 R2.S) (Nat.le_of_ble_eq_true rfl) rfl (o_23_5 R2.S) (fun _ _ => ?_)
  refine s_qI R2 (u_29 R2.S).1 (u_29 R2.S).2 (by decide) rfl (c_add (c_mul (c_lit 2 2 rfl) rfl) (c_lit 1 1 rfl)) (rr_I _) rfl rl4 hF (fun h4 σ7 R4 T4 hF => ?_)
  exact g_ret R4 hF ⟨rfl, rl6⟩
def FX9_save (N : Nat) (p0 : Int) (p1 : Int) (p2 : Int) (p3 : Int) (p4 : Int) (s : fS) : Option (Int × fS) :=
  (FX9_place N p0 p1 s).bind fun q2 =>
  if ¬ (q2.1 = (q2.2.i 23 6)) then
    FX9_save_b46 N p0 p2 p3 p4 q2.1 q2.2
  else
    (FX1_grown 29 (imul 2 (iadd (q2.2.i 23 6) 1)) q2.2).bind fun q10 =>
    (uMV q10.2 29 q10.1).bind fun σ11 =>
    (uPI σ11 23 6 (iadd (σ11.i 23 6) 1)).bind fun σ15 =>
    FX9_save_b46 N p0 p2 p3 p4 q2.1 σ15
theorem SX9_save {m b : Nat} {φ0 : Nat → Nat} {σo : fS} (hb : 1 ≤ b) {N : Nat} {q : Int × fS} {φ : Nat → Nat} {h : eH} {s : fS} {p0' : Int32} {p0 : Int} {p1' : Int32} {p1 : Int} {p2' : Int32} {p2 : Int} {p3' : Int32} {p3 : Int} {p4' : Int32} {p4 : Int} (R : fC m b φ0 σo φ h s) (ep0 : p0' = iI p0) (rp0 : r32 p0) (ep1 : p1' = iI p1) (rp1 : r32 p1) (ep2 : p2' = iI p2) (rp2 : r32 p2) (ep3 : p3' = iI p3) (rp3 : r32 p3) (ep4 : p4' = iI p4) (rp4 : r32 p4) (hF : FX9_save N p0 p1 p2 p3 p4 s = some q) : gG m b φ0 σo lI q (fX9_save N 23 p0' p1' p2' p3' p4' h) := by
  subst ep0; subst ep1; subst ep2; subst ep3; subst ep4
  unfold FX9_save at hF
  unfold fX9_save
  refine s_kok R (t_23 R.S) (Nat.le_of_ble_eq_true rfl) ?_
  refine s_call R (Nat.zero_le _) (fun _ hq => SX9_place (b := 0) (N := N) (R.rf) rfl rp0 rfl rp1 hq) hF (fun f2 rv2 h2 q2 R2 e2 E2 hF => ?_)
  refine s_gI R2 (t_23 R2.S) (Nat.le_of_ble_eq_true rfl) rfl ?_
  refine s_if (not_congr (i_eq e2.1 rfl e2.2 (R2.ri (t_23 R2.S) (Nat.le_of_ble_eq_true rfl) rfl))) hF (fun c4 hF => ?_) (fun c4 hF => ?_)
  ·
    exact SX9_save_b46 (N := N) R2 rfl rp0 rfl rp2 rfl rp3 rfl rp4 e2.1 e2.2 hF
  ·
    refine s_gA R2 (t_23 R2.S) (Nat.le_of_ble_eq_true rfl) rfl (o_23_5 R2.S) (fun _ _ => ?_)
    refine s_gI R2 (t_23 R2.S) (Nat.le_of_ble_eq_true rfl) rfl ?_
    refine s_call R2 (Nat.zero_le _) (fun _ hq => SX1_grown (b := 0) (R2.rf) rfl (u_29 R2.S).1 (c_mul (c_lit 2 2 rfl) (c_add rfl (c_lit 1 1 rfl))) (rr_I _) hq) hF (fun f7 rv7 h7 q10 R7 e7 E7 hF => ?_)
    refine s_mv R7 (t_23 R7.S) (Nat.le_of_ble_eq_true rfl) rfl (o_23_5 R7.S) (by decide) (f_mv_1 hb (by decide) (by decide)) e7 hF (fun f8 h8 σ11 R8 E8 K8 hF => ?_)
    refine s_gI R8 (t_23 R8.S) (Nat.le_of_ble_eq_true rfl) rfl ?_
    refine s_pI R8 (t_23 R8.S) (Nat.le_of_ble_eq_true rfl) rfl (c_add rfl (c_lit 1 1 rfl)) (rr_I _) hF (fun h10 σ15 R10 T10 hF => ?_)
    exact SX9_save_b46 (N := N) R10 rfl rp0 rfl rp2 rfl rp3 rfl rp4 e2.1 e2.2 hF
def FX9_mean_b85 (N : Nat) (s1 : Int) (s2 : Int) (s : fS) : Option (Unit × fS) :=
  (uQI s 26 s1 s2).bind fun σ1 =>
  some ((), σ1)
theorem SX9_mean_b85 {m b : Nat} {φ0 : Nat → Nat} {σo : fS} {N : Nat} {q : Unit × fS} {φ : Nat → Nat} {h : eH} {s : fS} {s0' : Nat} {s1' : Int32} {s1 : Int} {s2' : Int32} {s2 : Int} (R : fC m b φ0 σo φ h s) (es0 : s0' = φ 26) (es1 : s1' = iI s1) (rs1 : r32 s1) (es2 : s2' = iI s2) (rs2 : r32 s2) (hF : FX9_mean_b85 N s1 s2 s = some q) : gG m b φ0 σo lU q (fX9_mean_b85 N s0' s1' s2' h) := by
  subst es1; subst es2
  unfold FX9_mean_b85 at hF
  unfold fX9_mean_b85
  refine s_qI R (u_26 R.S).1 (u_26 R.S).2 (by decide) es0 rfl rs1 rfl rs2 hF (fun h1 σ1 R1 T1 hF => ?_)
  exact g_ret R1 hF trivial
def FX9_mean_b53 (N : Nat) (l1 : Int) (l2 : Int) (l3 : Int) (l4 : Int) (s : fS) : Option (Unit × fS) :=
  (uQI s 24 l1 l2).bind fun σ3 =>
  (uQI σ3 25 l1 l3).bind fun σ7 =>
  if l4 = 0 then
    FX9_mean_b85 N l1 (σ7.i 23 11) σ7
  else
    FX9_mean_b85 N l1 0 σ7
theorem SX9_mean_b53 {m b : Nat} {φ0 : Nat → Nat} {σo : fS} {N : Nat} {q : Unit × fS} {φ : Nat → Nat} {h : eH} {s : fS} {l1' : Int32} {l1 : Int} {l2' : Int32} {l2 : Int} {l3' : Int32} {l3 : Int} {l4' : Int32} {l4 : Int} (R : fC m b φ0 σo φ h s) (el1 : l1' = iI l1) (rl1 : r32 l1) (el2 : l2' = iI l2) (rl2 : r32 l2) (el3 : l3' = iI l3) (rl3 : r32 l3) (el4 : l4' = iI l4) (rl4 : r32 l4) (hF : FX9_mean_b53 N l1 l2 l3 l4 s = some q) : gG m b φ0 σo lU q (fX9_mean_b53 N 23 l1' l2' l3' l4' h) := by
  subst el1; subst el2; subst el3; subst el4
  unfold FX9_mean_b53 at hF
  unfold fX9_mean_b53
  refine s_gA R (t_23 R.S) (Nat.le_of_ble_eq_true rfl) rfl (o_23_0 R.S) (fun _ _ => ?_)
  refine s_qI R (u_24 R.S).1 (u_24 R.S).2 (by decide) rfl rfl rl1 rfl rl2 hF (fun h2 σ3 R2 T2 hF => ?_)
  refine s_gA R2 (t_23 R2.S) (Nat.le_of_ble_eq_true rfl) rfl (o_23_1 R2.S) (fun _ _ => ?_)
  refine s_qI R2 (u_25 R2.S).1 (u_25 R2.S).2 (by decide) rfl rfl rl1 rfl rl3 hF (fun h4 σ7 R4 T4 hF => ?_)
  refine s_gA R4 (t_23 R4.S) (Nat.le_of_ble_eq_true rfl) rfl (o_23_2 R4.S) (fun _ _ => ?_)
  refine s_if (i_eq rfl (c_lit 0 0 rfl) rl4 ⟨by decide, by decide⟩) hF (fun c6 hF => ?_) (fun c6 hF => ?_)
  ·
    refine s_gI R4 (t_23 R4.S) (Nat.le_of_ble_eq_true rfl) rfl ?_
    exact SX9_mean_b85 (N := N) R4 rfl rfl rl1 rfl (R4.ri (t_23 R4.S) (Nat.le_of_ble_eq_true rfl) rfl) hF
  ·
    exact SX9_mean_b85 (N := N) R4 rfl rfl rl1 (c_lit 0 0 rfl) ⟨by decide, by decide⟩ hF
def FX9_mean (N : Nat) (p0 : Int) (p1 : Int) (p2 : Int) (p3 : Int) (s : fS) : Option (Unit × fS) :=
  if ¬ (p3 = 0) then
    FX9_mean_b53 N p0 p1 p2 p3 s
  else
    (uRI s 26 p0).bind fun x4 =>
    if (s.i 23 11) ≤ x4 then
      FX9_mean_b53 N p0 p1 p2 p3 s
    else
      (uRI s 31 p0).bind fun x13 =>
      (uRI s 24 p0).bind fun x17 =>
      (uRI s 25 p0).bind fun x21 =>
      (uRI s 26 p0).bind fun x25 =>
      (FX9_save N p0 x13 x17 x21 x25 s).bind fun q28 =>
      (uQI q28.2 31 p0 q28.1).bind fun σ29 =>
      FX9_mean_b53 N p0 p1 p2 p3 σ29
theorem SX9_mean {m b : Nat} {φ0 : Nat → Nat} {σo : fS} (hb : 1 ≤ b) {N : Nat} {q : Unit × fS} {φ : Nat → Nat} {h : eH} {s : fS} {p0' : Int32} {p0 : Int} {p1' : Int32} {p1 : Int} {p2' : Int32} {p2 : Int} {p3' : Int32} {p3 : Int} (R : fC m b φ0 σo φ h s) (ep0 : p0' = iI p0) (rp0 : r32 p0) (ep1 : p1' = iI p1) (rp1 : r32 p1) (ep2 : p2' = iI p2) (rp2 : r32 p2) (ep3 : p3' = iI p3) (rp3 : r32 p3) (hF : FX9_mean N p0 p1 p2 p3 s = some q) : gG m b φ0 σo lU q (fX9_mean N 23 p0' p1' p2' p3' h) := by
  subst ep0; subst ep1; subst ep2; subst ep3
  unfold FX9_mean at hF
  unfold fX9_mean
  refine s_if (not_congr (i_eq rfl (c_lit 0 0 rfl) rp3 ⟨by decide, by decide⟩)) hF (fun c1 hF => ?_) (fun c1 hF => ?_)
  ·
    exact SX9_mean_b53 (N := N) R rfl rp0 rfl rp1 rfl rp2 rfl rp3 hF
  ·
    refine s_gA R (t_23 R.S) (Nat.le_of_ble_eq_true rfl) rfl (o_23_2 R.S) (fun _ _ => ?_)
    refine s_rI R (u_26 R.S).1 (u_26 R.S).2 (by decide) rfl rfl rp0 hF (fun x4 ra3 hF => ?_)
    refine s_gI R (t_23 R.S) (Nat.le_of_ble_eq_true rfl) rfl ?_
    refine s_if (i_le rfl rfl (R.ri (t_23 R.S) (Nat.le_of_ble_eq_true rfl) rfl) ra3) hF (fun c5 hF => ?_) (fun c5 hF => ?_)
    ·
      exact SX9_mean_b53 (N := N) R rfl rp0 rfl rp1 rfl rp2 rfl rp3 hF
    ·
      refine s_gA R (t_23 R.S) (Nat.le_of_ble_eq_true rfl) rfl (o_23_8 R.S) (fun _ _ => ?_)
      refine s_gA R (t_23 R.S) (Nat.le_of_ble_eq_true rfl) rfl (o_23_8 R.S) (fun _ _ => ?_)
      refine s_rI R (u_31 R.S).1 (u_31 R.S).2 (by decide) rfl rfl rp0 hF (fun x13 ra8 hF => ?_)
      refine s_gA R (t_23 R.S) (Nat.le_of_ble_eq_true rfl) rfl (o_23_0 R.S) (fun _ _ => ?_)
      refine s_rI R (u_24 R.S).1 (u_24 R.S).2 (by decide) rfl rfl rp0 hF (fun x17 ra10 hF => ?_)
      refine s_gA R (t_23 R.S) (Nat.le_of_ble_eq_true rfl) rfl (o_23_1 R.S) (fun _ _ => ?_)
      refine s_rI R (u_25 R.S).1 (u_25 R.S).2 (by decide) rfl rfl rp0 hF (fun x21 ra12 hF => ?_)
      refine s_gA R (t_23 R.S) (Nat.le_of_ble_eq_true rfl) rfl (o_23_2 R.S) (fun _ _ => ?_)
      refine s_rI R (u_26 R.S).1 (u_26 R.S).2 (by decide) rfl rfl rp0 hF (fun x25 ra14 hF => ?_)
      refine s_kok R (t_23 R.S) (Nat.le_of_ble_eq_true rfl) ?_
      refine s_call R hb (fun _ hq => SX9_save (b := 1) (N := N) (Nat.le_of_ble_eq_true rfl) (R.rf) rfl rp0 rfl ra8 rfl ra10 rfl ra12 rfl ra14 hq) hF (fun f16 rv16 h16 q28 R16 e16 E16 hF => ?_)
      refine s_qI R16 (u_31 R16.S).1 (u_31 R16.S).2 (by decide) (rfl.trans (E16.k _ (v_31 R.S) rfl).symm) rfl rp0 e16.1 e16.2 hF (fun h17 σ29 R17 T17 hF => ?_)
      exact SX9_mean_b53 (N := N) R17 rfl rp0 rfl rp1 rfl rp2 rfl rp3 hF
def FX11_begin (s : fS) : Option (Unit × fS) :=
  (uPI s 50 5 0).bind fun σ1 =>
  (uPI σ1 50 6 1).bind fun σ3 =>
  (uPI σ3 50 7 0).bind fun σ5 =>
  (uPI σ5 50 9 0).bind fun σ7 =>
  some ((), σ7)
theorem SX11_begin {m b : Nat} {φ0 : Nat → Nat} {σo : fS} {q : Unit × fS} {φ : Nat → Nat} {h : eH} {s : fS} (R : fC m b φ0 σo φ h s) (hF : FX11_begin s = some q) : gG m b φ0 σo lU q (fX11_begin 50 h) := by
  unfold FX11_begin at hF
  unfold fX11_begin
  refine s_pI R (t_50 R.S) (Nat.le_of_ble_eq_true rfl) rfl (c_lit 0 0 rfl) ⟨by decide, by decide⟩ hF (fun h1 σ1 R1 T1 hF => ?_)
  refine s_pI R1 (t_50 R1.S) (Nat.le_of_ble_eq_true rfl) rfl (c_lit 1 1 rfl) ⟨by decide, by decide⟩ hF (fun h2 σ3 R2 T2 hF => ?_)
  refine s_pI R2 (t_50 R2.S) (Nat.le_of_ble_eq_true rfl) rfl (c_lit 0 0 rfl) ⟨by decide, by decide⟩ hF (fun h3 σ5 R3 T3 hF => ?_)
  refine s_pI R3 (t_50 R3.S) (Nat.le_of_ble_eq_true rfl) rfl (c_lit 0 0 rfl) ⟨by decide, by decide⟩ hF (fun h4 σ7 R4 T4 hF => ?_)
  exact g_ret R4 hF trivial
def FX13_clear (s : fS) : Option (Unit × fS) :=
  (uPI s 58 3 0).bind fun σ1 =>
  some ((), σ1)
theorem SX13_clear {m b : Nat} {φ0 : Nat → Nat} {σo : fS} {q : Unit × fS} {φ : Nat → Nat} {h : eH} {s : fS} (R : fC m b φ0 σo φ h s) (hF : FX13_clear s = some q) : gG m b φ0 σo lU q (fX13_clear 58 h) := by
  unfold FX13_clear at hF
  unfold fX13_clear
  refine s_pI R (t_58 R.S) (Nat.le_of_ble_eq_true rfl) rfl (c_lit 0 0 rfl) ⟨by decide, by decide⟩ hF (fun h1 σ1 R1 T1 hF => ?_)
  exact g_ret R1 hF trivial
def FX8_begin_b25 (N : Nat) : Nat → Int → fS → Option (Unit × fS)
  | 0, _, _ => none
  | n + 1, l1, s =>
    if 96 ≤ l1 then
      (FX11_begin s).bind fun q5 =>
      (uPI q5.2 52 2 0).bind fun σ8 =>
      (uPI σ8 52 7 0).bind fun σ12 =>
      (FX13_clear σ12).bind fun q17 =>
      (uPI q17.2 22 8 0).bind fun σ18 =>
      (uPI σ18 22 10 0).bind fun σ20 =>
      (uPI σ20 22 15 0).bind fun σ22 =>
      (uPI σ22 22 22 0).bind fun σ24 =>
      (uPI σ24 22 24 0).bind fun σ26 =>
      (uPI σ26 5 0 0).bind fun σ30 =>
      some ((), σ30)
    else
      (FX9_mean N (iadd 256 l1) 1 l1 1 s).bind fun q35 =>
      FX8_begin_b25 N n (iadd l1 1) q35.2
theorem SX8_begin_b25 {m b : Nat} {φ0 : Nat → Nat} {σo : fS} (hb : 1 ≤ b) {N : Nat} {q : Unit × fS} : ∀ {n : Nat} {φ : Nat → Nat} {h : eH} {s : fS} {l1' : Int32} {l1 : Int}, fC m b φ0 σo φ h s → l1' = iI l1 → r32 l1 → FX8_begin_b25 N n l1 s = some q → gG m b φ0 σo lU q (fX8_begin_b25 N n 22 l1' h) := by
  intro n
  induction n with
 | zero => intro φ h s l1' l1 R el1 rl1 hF; simp [FX8_begin_b25] at hF
  | succ n ih =>
    intro φ h s l1' l1 R el1 rl1 hF
    subst el1
    rw [FX8_begin_b25] at hF
    rw [fX8_begin_b25]
    refine s_if (i_le (c_lit 96 96 rfl) rfl ⟨by decide, by decide⟩ rl1) hF (fun c1 hF => ?_) (fun c1 hF => ?_)
    ·
      refine s_gO R (t_22 R.S) (Nat.le_of_ble_eq_true rfl) rfl (o_22_5 R.S) ?_
      refine s_kok R (t_50 R.S) (Nat.le_of_ble_eq_true rfl) ?_
      refine s_call R (Nat.zero_le _) (fun _ hq => SX11_begin (b := 0) (R.rf) hq) hF (fun f4 rv4 h4 q5 R4 e4 E4 hF => ?_)
      refine s_gO R4 (t_22 R4.S) (Nat.le_of_ble_eq_true rfl) rfl (o_22_6 R4.S) ?_
      refine s_pI R4 (t_52 R4.S) (Nat.le_of_ble_eq_true rfl) rfl (c_lit 0 0 rfl) ⟨by decide, by decide⟩ hF (fun h6 σ8 R6 T6 hF => ?_)
      refine s_gO R6 (t_22 R6.S) (Nat.le_of_ble_eq_true rfl) rfl (o_22_6 R6.S) ?_
      refine s_pI R6 (t_52 R6.S) (Nat.le_of_ble_eq_true rfl) rfl (c_lit 0 0 rfl) ⟨by decide, by decide⟩ hF (fun h8 σ12 R8 T8 hF => ?_)
      refine s_gO R8 (t_22 R8.S) (Nat.le_of_ble_eq_true rfl) rfl (o_22_7 R8.S) ?_
      refine s_kok R8 (t_58 R8.S) (Nat.le_of_ble_eq_true rfl) ?_
      refine s_call R8 (Nat.zero_le _) (fun _ hq => SX13_clear (b := 0) (R8.rf) hq) hF (fun f11 rv11 h11 q17 R11 e11 E11 hF => ?_)
      refine s_pI R11 (t_22 R11.S) (Nat.le_of_ble_eq_true rfl) rfl (c_lit 0 0 rfl) ⟨by decide, by decide⟩ hF (fun h12 σ18 R12 T12 hF => ?_)
      refine s_pI R12 (t_22 R12.S) (Nat.le_of_ble_eq_true rfl) rfl (c_lit 0 0 rfl) ⟨by decide, by decide⟩ hF (fun h13 σ20 R13 T13 hF => ?_)
      refine s_pI R13 (t_22 R13.S) (Nat.le_of_ble_eq_true rfl) rfl (c_lit 0 0 rfl) ⟨by decide, by decide⟩ hF (fun h14 σ22 R14 T14 hF => ?_)
      refine s_pI R14 (t_22 R14.S) (Nat.le_of_ble_eq_true rfl) rfl (c_lit 0 0 rfl) ⟨by decide, by decide⟩ hF (fun h15 σ24 R15 T15 hF => ?_)
      refine s_pI R15 (t_22 R15.S) (Nat.le_of_ble_eq_true rfl) rfl (c_lit 0 0 rfl) ⟨by decide, by decide⟩ hF (fun h16 σ26 R16 T16 hF => ?_)
      refine s_gO R16 (t_22 R16.S) (Nat.le_of_ble_eq_true rfl) rfl (o_22_0 R16.S) ?_
      refine s_pI R16 (t_5 R16.S) (Nat.le_of_ble_eq_true rfl) rfl (c_lit 0 0 rfl) ⟨by decide, by decide⟩ hF (fun h18 σ30 R18 T18 hF => ?_)
      exact g_ret R18 hF trivial
    ·
      refine s_gO R (t_22 R.S) (Nat.le_of_ble_eq_true rfl) rfl (o_22_4 R.S) ?_
      refine s_kok R (t_23 R.S) (Nat.le_of_ble_eq_true rfl) ?_
      refine s_call R hb (fun _ hq => SX9_mean (b := 1) (N := N) (Nat.le_of_ble_eq_true rfl) (R.rf) (c_add (c_lit 256 256 rfl) rfl) (rr_I _) (c_lit 1 1 rfl) ⟨by decide, by decide⟩ rfl rl1 (c_lit 1 1 rfl) ⟨by decide, by decide⟩ hq) hF (fun f21 rv21 h21 q35 R21 e21 E21 hF => ?_)
      exact ih R21 (c_add rfl (c_lit 1 1 rfl)) (rr_I _) hF
def FX8_begin (N : Nat) (s : fS) : Option (Unit × fS) :=
  (FX10_clear N s).bind fun q4 =>
  (FX9_clear N q4.2).bind fun q8 =>
  (FX10_enter N q8.2).bind fun q12 =>
  FX8_begin_b25 N N 0 q12.2
theorem SX8_begin {m b : Nat} {φ0 : Nat → Nat} {σo : fS} (hb : 1 ≤ b) {N : Nat} {q : Unit × fS} {φ : Nat → Nat} {h : eH} {s : fS} (R : fC m b φ0 σo φ h s) (hF : FX8_begin N s = some q) : gG m b φ0 σo lU q (fX8_begin N 22 h) := by
  unfold FX8_begin at hF
  unfold fX8_begin
  refine s_gO R (t_22 R.S) (Nat.le_of_ble_eq_true rfl) rfl (o_22_3 R.S) ?_
  refine s_kok R (t_44 R.S) (Nat.le_of_ble_eq_true rfl) ?_
  refine s_call R (Nat.zero_le _) (fun _ hq => SX10_clear (b := 0) (N := N) (R.rf) hq) hF (fun f3 rv3 h3 q4 R3 e3 E3 hF => ?_)
  refine s_gO R3 (t_22 R3.S) (Nat.le_of_ble_eq_true rfl) rfl (o_22_4 R3.S) ?_
  refine s_kok R3 (t_23 R3.S) (Nat.le_of_ble_eq_true rfl) ?_
  refine s_call R3 (Nat.zero_le _) (fun _ hq => SX9_clear (b := 0) (N := N) (R3.rf) hq) hF (fun f6 rv6 h6 q8 R6 e6 E6 hF => ?_)
  refine s_gO R6 (t_22 R6.S) (Nat.le_of_ble_eq_true rfl) rfl (o_22_3 R6.S) ?_
  refine s_kok R6 (t_44 R6.S) (Nat.le_of_ble_eq_true rfl) ?_
  refine s_call R6 hb (fun _ hq => SX10_enter (b := 1) (N := N) (Nat.le_of_ble_eq_true rfl) (R6.rf) hq) hF (fun f9 rv9 h9 q12 R9 e9 E9 hF => ?_)
  exact SX8_begin_b25 (N := N) hb R9 (c_lit 0 0 rfl) ⟨by decide, by decide⟩ hF
def FX5_clear (N : Nat) (s : fS) : Option (Unit × fS) :=
  (uPI s 6 3 0).bind fun σ1 =>
  (uPI σ1 6 6 0).bind fun σ3 =>
  (FJ0_fill_2 N 0 σ3).bind fun q7 =>
  some ((), q7.2)
theorem SX5_clear {m b : Nat} {φ0 : Nat → Nat} {σo : fS} {N : Nat} {q : Unit × fS} {φ : Nat → Nat} {h : eH} {s : fS} (R : fC m b φ0 σo φ h s) (hF : FX5_clear N s = some q) : gG m b φ0 σo lU q (fX5_clear N 6 h) := by
  unfold FX5_clear at hF
  unfold fX5_clear
  refine s_pI R (t_6 R.S) (Nat.le_of_ble_eq_true rfl) rfl (c_lit 0 0 rfl) ⟨by decide, by decide⟩ hF (fun h1 σ1 R1 T1 hF => ?_)
  refine s_pI R1 (t_6 R1.S) (Nat.le_of_ble_eq_true rfl) rfl (c_lit 0 0 rfl) ⟨by decide, by decide⟩ hF (fun h2 σ3 R2 T2 hF => ?_)
  refine s_gAs R2 (t_6 R2.S) (Nat.le_of_ble_eq_true rfl) rfl (o_6_4 R2.S) (a_10 R2) ?_
  refine s_call R2 (Nat.zero_le _) (fun _ hq => SJ0_fill_2 (b := 0) (N := N) (R2.rf) (c_lit 0 0 rfl) ⟨by decide, by decide⟩ hq) hF (fun f4 rv4 h4 q7 R4 e4 E4 hF => ?_)
  exact g_ret R4 hF trivial
def FX28_restart (N : Nat) (s : fS) : Option (Unit × fS) :=
  (uPI s 140 10 0).bind fun σ1 =>
  (FX28_begin N σ1).bind fun q4 =>
  some ((), q4.2)
theorem SX28_restart {m b : Nat} {φ0 : Nat → Nat} {σo : fS} {N : Nat} {q : Unit × fS} {φ : Nat → Nat} {h : eH} {s : fS} (R : fC m b φ0 σo φ h s) (hF : FX28_restart N s = some q) : gG m b φ0 σo lU q (fX28_restart N 140 h) := by
  unfold FX28_restart at hF
  unfold fX28_restart
  refine s_pI R (t_140 R.S) (Nat.le_of_ble_eq_true rfl) rfl (c_lit 0 0 rfl) ⟨by decide, by decide⟩ hF (fun h1 σ1 R1 T1 hF => ?_)
  refine s_kok R1 (t_140 R1.S) (Nat.le_of_ble_eq_true rfl) ?_
  refine s_call R1 (Nat.zero_le _) (fun _ hq => SX28_begin (b := 0) (N := N) (R1.rf) hq) hF (fun f3 rv3 h3 q4 R3 e3 E3 hF => ?_)
  exact g_ret R3 hF trivial
def FX31_begin (N : Nat) (p0 : Int) (p1 : Int) (s : fS) : Option (Unit × fS) :=
  (uPI s 153 11 p0).bind fun σ1 =>
  (uPI σ1 153 12 p1).bind fun σ3 =>
  (uPI σ3 154 1 0).bind fun σ7 =>
  (uPI σ7 153 8 0).bind fun σ9 =>
  (uPI σ9 153 13 0).bind fun σ11 =>
  (uPI σ11 153 14 (-1)).bind fun σ13 =>
  (uPI σ13 153 15 0).bind fun σ15 =>
  (uPI σ15 153 16 0).bind fun σ17 =>
  (uPZ σ17 153 17 0).bind fun σ19 =>
  (FX5_clear N σ19).bind fun q24 =>
  some ((), q24.2)
theorem SX31_begin {m b : Nat} {φ0 : Nat → Nat} {σo : fS} {N : Nat} {q : Unit × fS} {φ : Nat → Nat} {h : eH} {s : fS} {p0' : Int32} {p0 : Int} {p1' : Int32} {p1 : Int} (R : fC m b φ0 σo φ h s) (ep0 : p0' = iI p0) (rp0 : r32 p0) (ep1 : p1' = iI p1) (rp1 : r32 p1) (hF : FX31_begin N p0 p1 s = some q) : gG m b φ0 σo lU q (fX31_begin N 153 p0' p1' h) := by
  subst ep0; subst ep1
  unfold FX31_begin at hF
  unfold fX31_begin
  refine s_pI R (t_153 R.S) (Nat.le_of_ble_eq_true rfl) rfl rfl rp0 hF (fun h1 σ1 R1 T1 hF => ?_)
  refine s_pI R1 (t_153 R1.S) (Nat.le_of_ble_eq_true rfl) rfl rfl rp1 hF (fun h2 σ3 R2 T2 hF => ?_)
  refine s_gO R2 (t_153 R2.S) (Nat.le_of_ble_eq_true rfl) rfl (o_153_1 R2.S) ?_
  refine s_pI R2 (t_154 R2.S) (Nat.le_of_ble_eq_true rfl) rfl (c_lit 0 0 rfl) ⟨by decide, by decide⟩ hF (fun h4 σ7 R4 T4 hF => ?_)
  refine s_pI R4 (t_153 R4.S) (Nat.le_of_ble_eq_true rfl) rfl (c_lit 0 0 rfl) ⟨by decide, by decide⟩ hF (fun h5 σ9 R5 T5 hF => ?_)
  refine s_pI R5 (t_153 R5.S) (Nat.le_of_ble_eq_true rfl) rfl (c_lit 0 0 rfl) ⟨by decide, by decide⟩ hF (fun h6 σ11 R6 T6 hF => ?_)
  refine s_pI R6 (t_153 R6.S) (Nat.le_of_ble_eq_true rfl) rfl (c_lit (-1) (-1) rfl) ⟨by decide, by decide⟩ hF (fun h7 σ13 R7 T7 hF => ?_)
  refine s_pI R7 (t_153 R7.S) (Nat.le_of_ble_eq_true rfl) rfl (c_lit 0 0 rfl) ⟨by decide, by decide⟩ hF (fun h8 σ15 R8 T8 hF => ?_)
  refine s_pI R8 (t_153 R8.S) (Nat.le_of_ble_eq_true rfl) rfl (c_lit 0 0 rfl) ⟨by decide, by decide⟩ hF (fun h9 σ17 R9 T9 hF => ?_)
  refine s_pZ R9 (t_153 R9.S) (Nat.le_of_ble_eq_true rfl) rfl (c_lit 0 0 rfl) ⟨by decide, by decide⟩ hF (fun h10 σ19 R10 T10 hF => ?_)
  refine s_gO R10 (t_153 R10.S) (Nat.le_of_ble_eq_true rfl) rfl (o_153_0 R10.S) ?_
  refine s_kok R10 (t_6 R10.S) (Nat.le_of_ble_eq_true rfl) ?_
  refine s_call R10 (Nat.zero_le _) (fun _ hq => SX5_clear (b := 0) (N := N) (R10.rf) hq) hF (fun f13 rv13 h13 q24 R13 e13 E13 hF => ?_)
  exact g_ret R13 hF trivial
def FX3_begin (N : Nat) (s : fS) : Option (Unit × fS) :=
  (FX8_begin N s).bind fun q4 =>
  (FX5_clear N q4.2).bind fun q8 =>
  (uPI q8.2 17 3 0).bind fun σ11 =>
  (uPI σ11 4 4 0).bind fun σ13 =>
  (uPI σ13 133 6 0).bind fun σ17 =>
  (FX28_restart N σ17).bind fun q22 =>
  (uPI q22.2 120 14 0).bind fun σ27 =>
  (FX31_begin N 0 0 σ27).bind fun q32 =>
  (uPI q32.2 170 1 0).bind fun σ35 =>
  (uPI σ35 4 27 0).bind fun σ37 =>
  (uQI σ37 176 0 0).bind fun σ41 =>
  (uQI σ41 177 0 0).bind fun σ45 =>
  (uQI σ45 178 0 (-2147483648)).bind fun σ49 =>
  (uPZ σ49 22 11 1).bind fun σ53 =>
  (uPI σ53 4 30 0).bind fun σ55 =>
  (uPZ σ55 4 35 0).bind fun σ57 =>
  (FJ0_fill N 191 0 σ57).bind fun q61 =>
  some ((), q61.2)
theorem SX3_begin {m b : Nat} {φ0 : Nat → Nat} {σo : fS} (hb : 1 ≤ b) {N : Nat} {q : Unit × fS} {φ : Nat → Nat} {h : eH} {s : fS} (R : fC m b φ0 σo φ h s) (hF : FX3_begin N s = some q) : gG m b φ0 σo lU q (fX3_begin N 4 h) := by
  unfold FX3_begin at hF
  unfold fX3_begin
  refine s_gO R (t_4 R.S) (Nat.le_of_ble_eq_true rfl) rfl (o_4_5 R.S) ?_
  refine s_kok R (t_22 R.S) (Nat.le_of_ble_eq_true rfl) ?_
  refine s_call R hb (fun _ hq => SX8_begin (b := 1) (N := N) (Nat.le_of_ble_eq_true rfl) (R.rf) hq) hF (fun f3 rv3 h3 q4 R3 e3 E3 hF => ?_)
  refine s_gO R3 (t_4 R3.S) (Nat.le_of_ble_eq_true rfl) rfl (o_4_1 R3.S) ?_
  refine s_kok R3 (t_6 R3.S) (Nat.le_of_ble_eq_true rfl) ?_
  refine s_call R3 (Nat.zero_le _) (fun _ hq => SX5_clear (b := 0) (N := N) (R3.rf) hq) hF (fun f6 rv6 h6 q8 R6 e6 E6 hF => ?_)
  refine s_gO R6 (t_4 R6.S) (Nat.le_of_ble_eq_true rfl) rfl (o_4_2 R6.S) ?_
  refine s_pI R6 (t_17 R6.S) (Nat.le_of_ble_eq_true rfl) rfl (c_lit 0 0 rfl) ⟨by decide, by decide⟩ hF (fun h8 σ11 R8 T8 hF => ?_)
  refine s_pI R8 (t_4 R8.S) (Nat.le_of_ble_eq_true rfl) rfl (c_lit 0 0 rfl) ⟨by decide, by decide⟩ hF (fun h9 σ13 R9 T9 hF => ?_)
  refine s_gO R9 (t_4 R9.S) (Nat.le_of_ble_eq_true rfl) rfl (o_4_12 R9.S) ?_
  refine s_pI R9 (t_133 R9.S) (Nat.le_of_ble_eq_true rfl) rfl (c_lit 0 0 rfl) ⟨by decide, by decide⟩ hF (fun h11 σ17 R11 T11 hF => ?_)
  refine s_gO R11 (t_4 R11.S) (Nat.le_of_ble_eq_true rfl) rfl (o_4_13 R11.S) ?_
  refine s_kok R11 (t_140 R11.S) (Nat.le_of_ble_eq_true rfl) ?_
  refine s_call R11 (Nat.zero_le _) (fun _ hq => SX28_restart (b := 0) (N := N) (R11.rf) hq) hF (fun f14 rv14 h14 q22 R14 e14 E14 hF => ?_)
  refine s_gO R14 (t_4 R14.S) (Nat.le_of_ble_eq_true rfl) rfl (o_4_11 R14.S) ?_
  refine s_gO R14 (t_103 R14.S) (Nat.le_of_ble_eq_true rfl) rfl (o_103_5 R14.S) ?_
  refine s_pI R14 (t_120 R14.S) (Nat.le_of_ble_eq_true rfl) rfl (c_lit 0 0 rfl) ⟨by decide, by decide⟩ hF (fun h17 σ27 R17 T17 hF => ?_)
  refine s_gO R17 (t_4 R17.S) (Nat.le_of_ble_eq_true rfl) rfl (o_4_15 R17.S) ?_
  refine s_kok R17 (t_153 R17.S) (Nat.le_of_ble_eq_true rfl) ?_
  refine s_call R17 (Nat.zero_le _) (fun _ hq => SX31_begin (b := 0) (N := N) (R17.rf) (c_lit 0 0 rfl) ⟨by decide, by decide⟩ (c_lit 0 0 rfl) ⟨by decide, by decide⟩ hq) hF (fun f20 rv20 h20 q32 R20 e20 E20 hF => ?_)
  refine s_gO R20 (t_4 R20.S) (Nat.le_of_ble_eq_true rfl) rfl (o_4_16 R20.S) ?_
  refine s_pI R20 (t_170 R20.S) (Nat.le_of_ble_eq_true rfl) rfl (c_lit 0 0 rfl) ⟨by decide, by decide⟩ hF (fun h22 σ35 R22 T22 hF => ?_)
  refine s_pI R22 (t_4 R22.S) (Nat.le_of_ble_eq_true rfl) rfl (c_lit 0 0 rfl) ⟨by decide, by decide⟩ hF (fun h23 σ37 R23 T23 hF => ?_)
  refine s_gAs R23 (t_4 R23.S) (Nat.le_of_ble_eq_true rfl) rfl (o_4_19 R23.S) (a_176 R23) ?_
  refine s_qI R23 (u_176 R23.S).1 (u_176 R23.S).2 (by decide) (a_176 R23) (c_lit 0 0 rfl) ⟨by decide, by decide⟩ (c_lit 0 0 rfl) ⟨by decide, by decide⟩ hF (fun h25 σ41 R25 T25 hF => ?_)
  refine s_gAs R25 (t_4 R25.S) (Nat.le_of_ble_eq_true rfl) rfl (o_4_20 R25.S) (a_177 R25) ?_
  refine s_qI R25 (u_177 R25.S).1 (u_177 R25.S).2 (by decide) (a_177 R25) (c_lit 0 0 rfl) ⟨by decide, by decide⟩ (c_lit 0 0 rfl) ⟨by decide, by decide⟩ hF (fun h27 σ45 R27 T27 hF => ?_)
  refine s_gAs R27 (t_4 R27.S) (Nat.le_of_ble_eq_true rfl) rfl (o_4_21 R27.S) (a_178 R27) ?_
  refine s_qI R27 (u_178 R27.S).1 (u_178 R27.S).2 (by decide) (a_178 R27) (c_lit 0 0 rfl) ⟨by decide, by decide⟩ (c_lit (-2147483648) (-2147483648) rfl) ⟨by decide, by decide⟩ hF (fun h29 σ49 R29 T29 hF => ?_)
  refine s_gO R29 (t_4 R29.S) (Nat.le_of_ble_eq_true rfl) rfl (o_4_5 R29.S) ?_
  refine s_pZ R29 (t_22 R29.S) (Nat.le_of_ble_eq_true rfl) rfl (c_lit 1 1 rfl) ⟨by decide, by decide⟩ hF (fun h31 σ53 R31 T31 hF => ?_)
  refine s_pI R31 (t_4 R31.S) (Nat.le_of_ble_eq_true rfl) rfl (c_lit 0 0 rfl) ⟨by decide, by decide⟩ hF (fun h32 σ55 R32 T32 hF => ?_)
  refine s_pZ R32 (t_4 R32.S) (Nat.le_of_ble_eq_true rfl) rfl (c_lit 0 0 rfl) ⟨by decide, by decide⟩ hF (fun h33 σ57 R33 T33 hF => ?_)
  refine s_gAs R33 (t_4 R33.S) (Nat.le_of_ble_eq_true rfl) rfl (o_4_36 R33.S) (a_191 R33) ?_
  refine s_call R33 (Nat.zero_le _) (fun _ hq => SJ0_fill (b := 0) (N := N) (R33.rf) (a_191 R33) (u_191 R33.S).1 (c_lit 0 0 rfl) ⟨by decide, by decide⟩ hq) hF (fun f35 rv35 h35 q61 R35 e35 E35 hF => ?_)
  exact g_ret R35 hF trivial
def FX1_about_b10 (s : fS) : Option ((Int ⊕ Nat) × fS) :=
  (uNX 52 s).bind fun q1 => some (.inr q1.1, q1.2)
theorem SX1_about_b10 {m b : Nat} {φ0 : Nat → Nat} {σo : fS} {q : (Int ⊕ Nat) × fS} {φ : Nat → Nat} {h : eH} {s : fS} (R : fC m b φ0 σo φ h s) (hF : FX1_about_b10 s = some q) : gG m b φ0 σo (lT lI) q (fX1_about_b10 h) := by
  unfold FX1_about_b10 at hF
  unfold fX1_about_b10
  exact s_exc R (by decide) hF
def FX1_about (p0 : Int) (s : fS) : Option ((Int ⊕ Nat) × fS) :=
  if p0 < 0 then
    FX1_about_b10 s
  else
    if p0 ≤ 7 then
      (uRI s 191 p0).bind fun x7 =>
      some (.inl x7, s)
    else
      FX1_about_b10 s
theorem SX1_about {m b : Nat} {φ0 : Nat → Nat} {σo : fS} {q : (Int ⊕ Nat) × fS} {φ : Nat → Nat} {h : eH} {s : fS} {p0' : Int32} {p0 : Int} (R : fC m b φ0 σo φ h s) (ep0 : p0' = iI p0) (rp0 : r32 p0) (hF : FX1_about p0 s = some q) : gG m b φ0 σo (lT lI) q (fX1_about 0 p0' h) := by
  subst ep0
  unfold FX1_about at hF
  unfold fX1_about
  refine s_if (i_lt rfl (c_lit 0 0 rfl) rp0 ⟨by decide, by decide⟩) hF (fun c1 hF => ?_) (fun c1 hF => ?_)
  ·
    exact SX1_about_b10 R hF
  ·
    refine s_if (i_le rfl (c_lit 7 7 rfl) rp0 ⟨by decide, by decide⟩) hF (fun c2 hF => ?_) (fun c2 hF => ?_)
    ·
      refine s_gO R (t_0 R.S) (Nat.le_of_ble_eq_true rfl) rfl (o_0_3 R.S) ?_
      refine s_gAs R (t_4 R.S) (Nat.le_of_ble_eq_true rfl) rfl (o_4_36 R.S) (a_191 R) ?_
      refine s_rI R (u_191 R.S).1 (u_191 R.S).2 (by decide) (a_191 R) rfl rp0 hF (fun x7 ra5 hF => ?_)
      exact g_ret R hF ⟨rfl, ra5⟩
    ·
      exact SX1_about_b10 R hF
def FX1_category (p0 : Int) (s : fS) : Option (Int × fS) :=
  some ((ishr p0 8), s)
theorem SX1_category {m b : Nat} {φ0 : Nat → Nat} {σo : fS} {q : Int × fS} {φ : Nat → Nat} {h : eH} {s : fS} {p0' : Int32} {p0 : Int} (R : fC m b φ0 σo φ h s) (ep0 : p0' = iI p0) (rp0 : r32 p0) (hF : FX1_category p0 s = some q) : gG m b φ0 σo lI q (fX1_category p0' h) := by
  subst ep0
  unfold FX1_category at hF
  unfold fX1_category
  exact g_ret R hF ⟨(c_shr rfl (c_lit 8 8 rfl)), (rr_I _)⟩
def FX16_clear_b12 (N : Nat) : Nat → Int → fS → Option (Unit × fS)
  | 0, _, _ => none
  | n + 1, l1, s =>
    if 512 ≤ l1 then
      some ((), s)
    else
      (uQI s 76 l1 0).bind fun σ4 =>
      FX16_clear_b12 N n (iadd l1 1) σ4
theorem SX16_clear_b12 {m b : Nat} {φ0 : Nat → Nat} {σo : fS} {N : Nat} {q : Unit × fS} : ∀ {n : Nat} {φ : Nat → Nat} {h : eH} {s : fS} {l1' : Int32} {l1 : Int}, fC m b φ0 σo φ h s → l1' = iI l1 → r32 l1 → FX16_clear_b12 N n l1 s = some q → gG m b φ0 σo lU q (fX16_clear_b12 N n 75 l1' h) := by
  intro n
  induction n with
 | zero => intro φ h s l1' l1 R el1 rl1 hF; simp [FX16_clear_b12] at hF
  | succ n ih =>
    intro φ h s l1' l1 R el1 rl1 hF
    subst el1
    rw [FX16_clear_b12] at hF
    rw [fX16_clear_b12]
    refine s_if (i_le (c_lit 512 512 rfl) rfl ⟨by decide, by decide⟩ rl1) hF (fun c1 hF => ?_) (fun c1 hF => ?_)
    ·
      exact g_ret R hF trivial
    ·
      refine s_gAs R (t_75 R.S) (Nat.le_of_ble_eq_true rfl) rfl (o_75_0 R.S) (a_76 R) ?_
      refine s_qI R (u_76 R.S).1 (u_76 R.S).2 (by decide) (a_76 R) rfl rl1 (c_lit 0 0 rfl) ⟨by decide, by decide⟩ hF (fun h3 σ4 R3 T3 hF => ?_)
      exact ih R3 (c_add rfl (c_lit 1 1 rfl)) (rr_I _) hF
def FX16_clear (N : Nat) (s : fS) : Option (Unit × fS) :=
  (uPI s 75 5 0).bind fun σ1 =>
  (uPI σ1 75 6 0).bind fun σ3 =>
  FX16_clear_b12 N N 0 σ3
theorem SX16_clear {m b : Nat} {φ0 : Nat → Nat} {σo : fS} {N : Nat} {q : Unit × fS} {φ : Nat → Nat} {h : eH} {s : fS} (R : fC m b φ0 σo φ h s) (hF : FX16_clear N s = some q) : gG m b φ0 σo lU q (fX16_clear N 75 h) := by
  unfold FX16_clear at hF
  unfold fX16_clear
  refine s_pI R (t_75 R.S) (Nat.le_of_ble_eq_true rfl) rfl (c_lit 0 0 rfl) ⟨by decide, by decide⟩ hF (fun h1 σ1 R1 T1 hF => ?_)
  refine s_pI R1 (t_75 R1.S) (Nat.le_of_ble_eq_true rfl) rfl (c_lit 0 0 rfl) ⟨by decide, by decide⟩ hF (fun h2 σ3 R2 T2 hF => ?_)
  exact SX16_clear_b12 (N := N) R2 (c_lit 0 0 rfl) ⟨by decide, by decide⟩ hF
def FX14_clear_b43 (N : Nat) (l2 : Int) (s : fS) : Option (Int × fS) :=
  some (l2, s)
theorem SX14_clear_b43 {m b : Nat} {φ0 : Nat → Nat} {σo : fS} {N : Nat} {q : Int × fS} {φ : Nat → Nat} {h : eH} {s : fS} {l2' : Int32} {l2 : Int} (R : fC m b φ0 σo φ h s) (el2 : l2' = iI l2) (rl2 : r32 l2) (hF : FX14_clear_b43 N l2 s = some q) : gG m b φ0 σo lI q (fX14_clear_b43 N l2' h) := by
  subst el2
  unfold FX14_clear_b43 at hF
  unfold fX14_clear_b43
  exact g_ret R hF ⟨rfl, rl2⟩
def FX14_clear_b21 (N : Nat) (l1 : Int) (s0 : Int) (s : fS) : Option (Int × fS) :=
  if l1 = 0 then
    (FX15_clear s).bind fun q5 =>
    FX14_clear_b43 N s0 q5.2
  else
    (FX16_clear N s).bind fun q9 =>
    FX14_clear_b43 N s0 q9.2
theorem SX14_clear_b21 {m b : Nat} {φ0 : Nat → Nat} {σo : fS} (hb : 1 ≤ b) {N : Nat} {q : Int × fS} {φ : Nat → Nat} {h : eH} {s : fS} {l1' : Int32} {l1 : Int} {s0' : Int32} {s0 : Int} (R : fC m b φ0 σo φ h s) (el1 : l1' = iI l1) (rl1 : r32 l1) (es0 : s0' = iI s0) (rs0 : r32 s0) (hF : FX14_clear_b21 N l1 s0 s = some q) : gG m b φ0 σo lI q (fX14_clear_b21 N 60 l1' s0' h) := by
  subst el1; subst es0
  unfold FX14_clear_b21 at hF
  unfold fX14_clear_b21
  refine s_if (i_eq rfl (c_lit 0 0 rfl) rl1 ⟨by decide, by decide⟩) hF (fun c1 hF => ?_) (fun c1 hF => ?_)
  ·
    refine s_gO R (t_60 R.S) (Nat.le_of_ble_eq_true rfl) rfl (o_60_0 R.S) ?_
    refine s_kok R (t_61 R.S) (Nat.le_of_ble_eq_true rfl) ?_
    refine s_call R hb (fun _ hq => SX15_clear (b := 1) (Nat.le_of_ble_eq_true rfl) (R.rf) hq) hF (fun f4 rv4 h4 q5 R4 e4 E4 hF => ?_)
    exact SX14_clear_b43 (N := N) R4 rfl rs0 hF
  ·
    refine s_gO R (t_60 R.S) (Nat.le_of_ble_eq_true rfl) rfl (o_60_1 R.S) ?_
    refine s_kok R (t_75 R.S) (Nat.le_of_ble_eq_true rfl) ?_
    refine s_call R (Nat.zero_le _) (fun _ hq => SX16_clear (b := 0) (N := N) (R.rf) hq) hF (fun f7 rv7 h7 q9 R7 e7 E7 hF => ?_)
    exact SX14_clear_b43 (N := N) R7 rfl rs0 hF
def FX14_clear (N : Nat) (p0 : Int) (s : fS) : Option (Int × fS) :=
  if p0 = 0 then
    FX14_clear_b21 N p0 (s.i 61 16) s
  else
    FX14_clear_b21 N p0 (s.i 75 5) s
theorem SX14_clear {m b : Nat} {φ0 : Nat → Nat} {σo : fS} (hb : 1 ≤ b) {N : Nat} {q : Int × fS} {φ : Nat → Nat} {h : eH} {s : fS} {p0' : Int32} {p0 : Int} (R : fC m b φ0 σo φ h s) (ep0 : p0' = iI p0) (rp0 : r32 p0) (hF : FX14_clear N p0 s = some q) : gG m b φ0 σo lI q (fX14_clear N 60 p0' h) := by
  subst ep0
  unfold FX14_clear at hF
  unfold fX14_clear
  refine s_if (i_eq rfl (c_lit 0 0 rfl) rp0 ⟨by decide, by decide⟩) hF (fun c1 hF => ?_) (fun c1 hF => ?_)
  ·
    refine s_gO R (t_60 R.S) (Nat.le_of_ble_eq_true rfl) rfl (o_60_0 R.S) ?_
    refine s_gI R (t_61 R.S) (Nat.le_of_ble_eq_true rfl) rfl ?_
    exact SX14_clear_b21 (N := N) hb R rfl rp0 rfl (R.ri (t_61 R.S) (Nat.le_of_ble_eq_true rfl) rfl) hF
  ·
    refine s_gO R (t_60 R.S) (Nat.le_of_ble_eq_true rfl) rfl (o_60_1 R.S) ?_
    refine s_gI R (t_75 R.S) (Nat.le_of_ble_eq_true rfl) rfl ?_
    exact SX14_clear_b21 (N := N) hb R rfl rp0 rfl (R.ri (t_75 R.S) (Nat.le_of_ble_eq_true rfl) rfl) hF
def FX1_clear (N : Nat) (p0 : Int) (s : fS) : Option (Int × fS) :=
  (FX14_clear N p0 s).bind fun q6 =>
  some (q6.1, q6.2)
theorem SX1_clear {m b : Nat} {φ0 : Nat → Nat} {σo : fS} (hb : 1 ≤ b) {N : Nat} {q : Int × fS} {φ : Nat → Nat} {h : eH} {s : fS} {p0' : Int32} {p0 : Int} (R : fC m b φ0 σo φ h s) (ep0 : p0' = iI p0) (rp0 : r32 p0) (hF : FX1_clear N p0 s = some q) : gG m b φ0 σo lI q (fX1_clear N 0 p0' h) := by
  subst ep0
  unfold FX1_clear at hF
  unfold fX1_clear
  refine s_gO R (t_0 R.S) (Nat.le_of_ble_eq_true rfl) rfl (o_0_3 R.S) ?_
  refine s_gO R (t_4 R.S) (Nat.le_of_ble_eq_true rfl) rfl (o_4_7 R.S) ?_
  refine s_kok R (t_60 R.S) (Nat.le_of_ble_eq_true rfl) ?_
  refine s_call R hb (fun _ hq => SX14_clear (b := 1) (N := N) (Nat.le_of_ble_eq_true rfl) (R.rf) rfl rp0 hq) hF (fun f4 rv4 h4 q6 R4 e4 E4 hF => ?_)
  exact g_ret R4 hF ⟨e4.1, e4.2⟩
def FX1_count_b11 (s : fS) : Option ((Int ⊕ Nat) × fS) :=
  (uNX 52 s).bind fun q1 => some (.inr q1.1, q1.2)
theorem SX1_count_b11 {m b : Nat} {φ0 : Nat → Nat} {σo : fS} {q : (Int ⊕ Nat) × fS} {φ : Nat → Nat} {h : eH} {s : fS} (R : fC m b φ0 σo φ h s) (hF : FX1_count_b11 s = some q) : gG m b φ0 σo (lT lI) q (fX1_count_b11 h) := by
  unfold FX1_count_b11 at hF
  unfold fX1_count_b11
  exact s_exc R (by decide) hF
def FX1_count (p0 : Int) (s : fS) : Option ((Int ⊕ Nat) × fS) :=
  if p0 < 0 then
    FX1_count_b11 s
  else
    if p0 < 256 then
      (uRI s 27 p0).bind fun x9 =>
      some (.inl x9, s)
    else
      FX1_count_b11 s
theorem SX1_count {m b : Nat} {φ0 : Nat → Nat} {σo : fS} {q : (Int ⊕ Nat) × fS} {φ : Nat → Nat} {h : eH} {s : fS} {p0' : Int32} {p0 : Int} (R : fC m b φ0 σo φ h s) (ep0 : p0' = iI p0) (rp0 : r32 p0) (hF : FX1_count p0 s = some q) : gG m b φ0 σo (lT lI) q (fX1_count 0 p0' h) := by
  subst ep0
  unfold FX1_count at hF
  unfold fX1_count
  refine s_if (i_lt rfl (c_lit 0 0 rfl) rp0 ⟨by decide, by decide⟩) hF (fun c1 hF => ?_) (fun c1 hF => ?_)
  ·
    exact SX1_count_b11 R hF
  ·
    refine s_if (i_lt rfl (c_lit 256 256 rfl) rp0 ⟨by decide, by decide⟩) hF (fun c2 hF => ?_) (fun c2 hF => ?_)
    ·
      refine s_gO R (t_0 R.S) (Nat.le_of_ble_eq_true rfl) rfl (o_0_3 R.S) ?_
      refine s_gO R (t_4 R.S) (Nat.le_of_ble_eq_true rfl) rfl (o_4_6 R.S) ?_
      refine s_gAs R (t_23 R.S) (Nat.le_of_ble_eq_true rfl) rfl (o_23_3 R.S) (a_27 R) ?_
      refine s_rI R (u_27 R.S).1 (u_27 R.S).2 (by decide) (a_27 R) rfl rp0 hF (fun x9 ra6 hF => ?_)
      exact g_ret R hF ⟨rfl, ra6⟩
    ·
      exact SX1_count_b11 R hF
def FX2_take (p1 : Int) (s : fS) : Option (Int × fS) :=
  if p1 ≤ 8192 then
    (uCP s 1 0 3 0 p1).bind fun σ4 =>
    (uPI σ4 2 1 p1).bind fun σ6 =>
    some (1, σ6)
  else
    some (0, s)
theorem SX2_take {m b : Nat} {φ0 : Nat → Nat} {σo : fS} {q : Int × fS} {φ : Nat → Nat} {h : eH} {s : fS} {p1' : Int32} {p1 : Int} (R : fC m b φ0 σo φ h s) (ep1 : p1' = iI p1) (rp1 : r32 p1) (hF : FX2_take p1 s = some q) : gG m b φ0 σo lI q (fX2_take 2 1 p1' h) := by
  subst ep1
  unfold FX2_take at hF
  unfold fX2_take
  refine s_if (i_le rfl (c_lit 8192 8192 rfl) rp1 ⟨by decide, by decide⟩) hF (fun c1 hF => ?_) (fun c1 hF => ?_)
  ·
    refine s_gAs R (t_2 R.S) (Nat.le_of_ble_eq_true rfl) rfl (o_2_0 R.S) (a_3 R) ?_
    refine s_cp R (u_1 R.S).1 (u_3 R.S).1 (by rw [(u_3 R.S).2]; decide) (a_1 R) (a_3 R) (c_lit 0 0 rfl) ⟨by decide, by decide⟩ (c_lit 0 0 rfl) ⟨by decide, by decide⟩ rfl rp1 hF (fun h3 σ4 R3 T3 hF => ?_)
    refine s_pI R3 (t_2 R3.S) (Nat.le_of_ble_eq_true rfl) rfl rfl rp1 hF (fun h4 σ6 R4 T4 hF => ?_)
    exact g_ret R4 hF ⟨(c_lit 1 1 rfl), ⟨by decide, by decide⟩⟩
  ·
    exact g_ret R hF ⟨(c_lit 0 0 rfl), ⟨by decide, by decide⟩⟩
def FX2_at (this : Nat) (p0 : Int) (p1 : Int) (s : fS) : Option (Int × fS) :=
  (uK 1 s this).bind fun _ =>
  (s.o this 0).bind fun a1 =>
  (uKA 102 s a1).bind fun _ =>
  (uRI s a1 (iadd (imul 4 p0) p1)).bind fun x3 =>
  some ((iand x3 255), s)
theorem SX2_at {m b : Nat} {φ0 : Nat → Nat} {σo : fS} {q : Int × fS} {φ : Nat → Nat} {h : eH} {s : fS} {this : Nat} {p0' : Int32} {p0 : Int} {p1' : Int32} {p1 : Int} (R : fC m b φ0 σo φ h s) (ep0 : p0' = iI p0) (rp0 : r32 p0) (ep1 : p1' = iI p1) (rp1 : r32 p1) (hF : FX2_at this p0 p1 s = some q) : gG m b φ0 σo lI q (fX2_at this p0' p1' h) := by
  subst ep0; subst ep1
  unfold FX2_at at hF
  unfold fX2_at
  refine s_K hF (fun t2 hF => ?_)
  refine s_oo hF (fun a1 e1 hF => ?_)
  refine s_gA R t2 (Nat.le_of_ble_eq_true rfl) rfl e1 (fun x1_ y1_ => ?_)
  refine s_KA hF (fun y4 z4 hF => ?_)
  refine s_rI R y4 z4 (by decide) rfl (c_add (c_mul (c_lit 4 4 rfl) rfl) rfl) (rr_I _) hF (fun x3 ra3 hF => ?_)
  exact g_ret R hF ⟨(c_and rfl (c_lit 255 255 rfl)), (rr_I _)⟩
def FX2_half (this : Nat) (p0 : Int) (s : fS) : Option (Int × fS) :=
  (uK 1 s this).bind fun _ =>
  (FX2_at this (idiv p0 2) (imul 2 (iand p0 1)) s).bind fun q2 =>
  (uK 1 q2.2 this).bind fun _ =>
  (FX2_at this (idiv p0 2) (iadd (imul 2 (iand p0 1)) 1) q2.2).bind fun q4 =>
  some ((ior (ishl q2.1 8) q4.1), q4.2)
theorem SX2_half {m b : Nat} {φ0 : Nat → Nat} {σo : fS} {q : Int × fS} {φ : Nat → Nat} {h : eH} {s : fS} {this : Nat} {p0' : Int32} {p0 : Int} (R : fC m b φ0 σo φ h s) (ep0 : p0' = iI p0) (rp0 : r32 p0) (hF : FX2_half this p0 s = some q) : gG m b φ0 σo lI q (fX2_half this p0' h) := by
  subst ep0
  unfold FX2_half at hF
  unfold fX2_half
  refine s_K hF (fun t2 hF => ?_)
  refine s_kok R t2 (Nat.le_of_ble_eq_true rfl) ?_
  refine s_call R (Nat.zero_le _) (fun _ hq => SX2_at (b := 0) (R.rf) (c_div rfl (c_lit 2 2 rfl)) (rr_I _) (c_mul (c_lit 2 2 rfl) (c_and rfl (c_lit 1 1 rfl))) (rr_I _) hq) hF (fun f3 rv3 h3 q2 R3 e3 E3 hF => ?_)
  refine s_K hF (fun t5 hF => ?_)
  refine s_kok R3 t5 (Nat.le_of_ble_eq_true rfl) ?_
  refine s_call R3 (Nat.zero_le _) (fun _ hq => SX2_at (b := 0) (R3.rf) (c_div rfl (c_lit 2 2 rfl)) (rr_I _) (c_add (c_mul (c_lit 2 2 rfl) (c_and rfl (c_lit 1 1 rfl))) (c_lit 1 1 rfl)) (rr_I _) hq) hF (fun f6 rv6 h6 q4 R6 e6 E6 hF => ?_)
  exact g_ret R6 hF ⟨(c_or (c_shl e3.1 (c_lit 8 8 rfl)) e6.1), (rr_I _)⟩
def FX2_whole (this : Nat) (p0 : Int) (s : fS) : Option (Int × fS) :=
  (uK 1 s this).bind fun _ =>
  (FX2_at this p0 0 s).bind fun q2 =>
  (uK 1 q2.2 this).bind fun _ =>
  (FX2_at this p0 1 q2.2).bind fun q4 =>
  (uK 1 q4.2 this).bind fun _ =>
  (FX2_at this p0 2 q4.2).bind fun q6 =>
  (uK 1 q6.2 this).bind fun _ =>
  (FX2_at this p0 3 q6.2).bind fun q8 =>
  some ((ior (ior (ior (ishl q2.1 24) (ishl q4.1 16)) (ishl q6.1 8)) q8.1), q8.2)
theorem SX2_whole {m b : Nat} {φ0 : Nat → Nat} {σo : fS} {q : Int × fS} {φ : Nat → Nat} {h : eH} {s : fS} {this : Nat} {p0' : Int32} {p0 : Int} (R : fC m b φ0 σo φ h s) (ep0 : p0' = iI p0) (rp0 : r32 p0) (hF : FX2_whole this p0 s = some q) : gG m b φ0 σo lI q (fX2_whole this p0' h) := by
  subst ep0
  unfold FX2_whole at hF
  unfold fX2_whole
  refine s_K hF (fun t2 hF => ?_)
  refine s_kok R t2 (Nat.le_of_ble_eq_true rfl) ?_
  refine s_call R (Nat.zero_le _) (fun _ hq => SX2_at (b := 0) (R.rf) rfl rp0 (c_lit 0 0 rfl) ⟨by decide, by decide⟩ hq) hF (fun f3 rv3 h3 q2 R3 e3 E3 hF => ?_)
  refine s_K hF (fun t5 hF => ?_)
  refine s_kok R3 t5 (Nat.le_of_ble_eq_true rfl) ?_
  refine s_call R3 (Nat.zero_le _) (fun _ hq => SX2_at (b := 0) (R3.rf) rfl rp0 (c_lit 1 1 rfl) ⟨by decide, by decide⟩ hq) hF (fun f6 rv6 h6 q4 R6 e6 E6 hF => ?_)
  refine s_K hF (fun t8 hF => ?_)
  refine s_kok R6 t8 (Nat.le_of_ble_eq_true rfl) ?_
  refine s_call R6 (Nat.zero_le _) (fun _ hq => SX2_at (b := 0) (R6.rf) rfl rp0 (c_lit 2 2 rfl) ⟨by decide, by decide⟩ hq) hF (fun f9 rv9 h9 q6 R9 e9 E9 hF => ?_)
  refine s_K hF (fun t11 hF => ?_)
  refine s_kok R9 t11 (Nat.le_of_ble_eq_true rfl) ?_
  refine s_call R9 (Nat.zero_le _) (fun _ hq => SX2_at (b := 0) (R9.rf) rfl rp0 (c_lit 3 3 rfl) ⟨by decide, by decide⟩ hq) hF (fun f12 rv12 h12 q8 R12 e12 E12 hF => ?_)
  exact g_ret R12 hF ⟨(c_or (c_or (c_or (c_shl e3.1 (c_lit 24 24 rfl)) (c_shl e6.1 (c_lit 16 16 rfl))) (c_shl e9.1 (c_lit 8 8 rfl))) e12.1), (rr_I _)⟩
def FX6_word (this : Nat) (p0 : Int) (p1 : Int) (s : fS) : Option (Int × fS) :=
  (uK 5 s this).bind fun _ =>
  (s.o this 0).bind fun a1 =>
  (uK 5 s this).bind fun _ =>
  (s.o this 2).bind fun a3 =>
  (uKA 100 s a3).bind fun _ =>
  (uRI s a3 p0).bind fun x5 =>
  (uKA 100 s a1).bind fun _ =>
  (uRI s a1 (iadd x5 p1)).bind fun x7 =>
  some (x7, s)
theorem SX6_word {m b : Nat} {φ0 : Nat → Nat} {σo : fS} {q : Int × fS} {φ : Nat → Nat} {h : eH} {s : fS} {this : Nat} {p0' : Int32} {p0 : Int} {p1' : Int32} {p1 : Int} (R : fC m b φ0 σo φ h s) (ep0 : p0' = iI p0) (rp0 : r32 p0) (ep1 : p1' = iI p1) (rp1 : r32 p1) (hF : FX6_word this p0 p1 s = some q) : gG m b φ0 σo lI q (fX6_word this p0' p1' h) := by
  subst ep0; subst ep1
  unfold FX6_word at hF
  unfold fX6_word
  refine s_K hF (fun t2 hF => ?_)
  refine s_oo hF (fun a1 e1 hF => ?_)
  refine s_gA R t2 (Nat.le_of_ble_eq_true rfl) rfl e1 (fun x1_ y1_ => ?_)
  refine s_K hF (fun t4 hF => ?_)
  refine s_oo hF (fun a3 e3 hF => ?_)
  refine s_gA R t4 (Nat.le_of_ble_eq_true rfl) rfl e3 (fun x3_ y3_ => ?_)
  refine s_KA hF (fun y6 z6 hF => ?_)
  refine s_rI R y6 z6 (by decide) rfl rfl rp0 hF (fun x5 ra5 hF => ?_)
  refine s_KA hF (fun y8 z8 hF => ?_)
  refine s_rI R y8 z8 (by decide) rfl (c_add rfl rfl) (rr_I _) hF (fun x7 ra7 hF => ?_)
  exact g_ret R hF ⟨rfl, ra7⟩
def FX6_layOut_b42 (N : Nat) (K17 : Nat → Nat → Int → Int → fS → Option (Int × fS)) (l0 : Nat) (l1 : Nat) (l3 : Int) (s0 : Int) (s : fS) : Option (Int × fS) :=
  K17 l0 l1 s0 (iadd l3 1) s
theorem SX6_layOut_b42 {m b : Nat} {φ0 : Nat → Nat} {σo : fS} {N : Nat} {k17 : Nat → Nat → Int32 → Int32 → eH → Option (Int32 × eH)} {K17 : Nat → Nat → Int → Int → fS → Option (Int × fS)} {q : Int × fS} (hk17 : ∀ {φ : Nat → Nat} {h : eH} {s : fS} {l0 : Nat} {l1 : Nat} {l2' : Int32} {l2 : Int} {l3' : Int32} {l3 : Int}, fC m b φ0 σo φ h s → l2' = iI l2 → r32 l2 → l3' = iI l3 → r32 l3 → K17 l0 l1 l2 l3 s = some q → gG m b φ0 σo lI q (k17 l0 l1 l2' l3' h)) {φ : Nat → Nat} {h : eH} {s : fS} {l0 : Nat} {l1 : Nat} {l3' : Int32} {l3 : Int} {s0' : Int32} {s0 : Int} (R : fC m b φ0 σo φ h s) (el3 : l3' = iI l3) (rl3 : r32 l3) (es0 : s0' = iI s0) (rs0 : r32 s0) (hF : FX6_layOut_b42 N K17 l0 l1 l3 s0 s = some q) : gG m b φ0 σo lI q (fX6_layOut_b42 N k17 l0 l1 l3' s0' h) := by
  subst el3; subst es0
  unfold FX6_layOut_b42 at hF
  unfold fX6_layOut_b42
  exact hk17 R rfl rs0 (c_add rfl (c_lit 1 1 rfl)) (rr_I _) hF
def FX6_layOut_b96 (N : Nat) (s : fS) : Option (Int × fS) :=
  some (2, s)
theorem SX6_layOut_b96 {m b : Nat} {φ0 : Nat → Nat} {σo : fS} {N : Nat} {q : Int × fS} {φ : Nat → Nat} {h : eH} {s : fS} (R : fC m b φ0 σo φ h s) (hF : FX6_layOut_b96 N s = some q) : gG m b φ0 σo lI q (fX6_layOut_b96 N h) := by
  unfold FX6_layOut_b96 at hF
  unfold fX6_layOut_b96
  exact g_ret R hF ⟨(c_lit 2 2 rfl), ⟨by decide, by decide⟩⟩
def FX6_layOut_b152 (N : Nat) (K104 : Nat → Nat → Int → Int → fS → Option (Int × fS)) (l0 : Nat) (l1 : Nat) (l3 : Int) (l4 : Int) (s0 : Int) (s : fS) : Option (Int × fS) :=
  (uK 5 s l0).bind fun _ =>
  (s.o l0 2).bind fun a1 =>
  (uKA 100 s a1).bind fun _ =>
  (uQI s a1 l4 l3).bind fun σ3 =>
  (uK 5 σ3 l0).bind fun _ =>
  (σ3.o l0 3).bind fun a5 =>
  (uKA 100 σ3 a5).bind fun _ =>
  (uQI σ3 a5 l4 s0).bind fun σ7 =>
  K104 l0 l1 (iadd l3 s0) (iadd l4 1) σ7
theorem SX6_layOut_b152 {m b : Nat} {φ0 : Nat → Nat} {σo : fS} {N : Nat} {k104 : Nat → Nat → Int32 → Int32 → eH → Option (Int32 × eH)} {K104 : Nat → Nat → Int → Int → fS → Option (Int × fS)} {q : Int × fS} (hk104 : ∀ {φ : Nat → Nat} {h : eH} {s : fS} {l0 : Nat} {l1 : Nat} {l3' : Int32} {l3 : Int} {l4' : Int32} {l4 : Int}, fC m b φ0 σo φ h s → l3' = iI l3 → r32 l3 → l4' = iI l4 → r32 l4 → K104 l0 l1 l3 l4 s = some q → gG m b φ0 σo lI q (k104 l0 l1 l3' l4' h)) {φ : Nat → Nat} {h : eH} {s : fS} {l0 : Nat} {l1 : Nat} {l3' : Int32} {l3 : Int} {l4' : Int32} {l4 : Int} {s0' : Int32} {s0 : Int} (R : fC m b φ0 σo φ h s) (el3 : l3' = iI l3) (rl3 : r32 l3) (el4 : l4' = iI l4) (rl4 : r32 l4) (es0 : s0' = iI s0) (rs0 : r32 s0) (hF : FX6_layOut_b152 N K104 l0 l1 l3 l4 s0 s = some q) : gG m b φ0 σo lI q (fX6_layOut_b152 N k104 l0 l1 l3' l4' s0' h) := by
  subst el3; subst el4; subst es0
  unfold FX6_layOut_b152 at hF
  unfold fX6_layOut_b152
  refine s_K hF (fun t2 hF => ?_)
  refine s_oo hF (fun a1 e1 hF => ?_)
  refine s_gA R t2 (Nat.le_of_ble_eq_true rfl) rfl e1 (fun x1_ y1_ => ?_)
  refine s_KA hF (fun y4 z4 hF => ?_)
  refine s_qI R y4 z4 (by decide) rfl rfl rl4 rfl rl3 hF (fun h3 σ3 R3 T3 hF => ?_)
  refine s_K hF (fun t6 hF => ?_)
  refine s_oo hF (fun a5 e5 hF => ?_)
  refine s_gA R3 t6 (Nat.le_of_ble_eq_true rfl) rfl e5 (fun x5_ y5_ => ?_)
  refine s_KA hF (fun y8 z8 hF => ?_)
  refine s_qI R3 y8 z8 (by decide) rfl rfl rl4 rfl rs0 hF (fun h7 σ7 R7 T7 hF => ?_)
  exact hk104 R7 (c_add rfl rfl) (rr_I _) (c_add rfl (c_lit 1 1 rfl)) (rr_I _) hF
def FX6_layOut_b238 (N : Nat) (K215 : Nat → Nat → Int → Int → Int → fS → Option (Int × fS)) (l0 : Nat) (l1 : Nat) (l3 : Int) (l5 : Int) (s0 : Int) (s1 : Int) (s : fS) : Option (Int × fS) :=
  K215 l0 l1 l3 (iand s0 s1) (iadd l5 1) s
theorem SX6_layOut_b238 {m b : Nat} {φ0 : Nat → Nat} {σo : fS} {N : Nat} {k215 : Nat → Nat → Int32 → Int32 → Int32 → eH → Option (Int32 × eH)} {K215 : Nat → Nat → Int → Int → Int → fS → Option (Int × fS)} {q : Int × fS} (hk215 : ∀ {φ : Nat → Nat} {h : eH} {s : fS} {l0 : Nat} {l1 : Nat} {l3' : Int32} {l3 : Int} {l4' : Int32} {l4 : Int} {l5' : Int32} {l5 : Int}, fC m b φ0 σo φ h s → l3' = iI l3 → r32 l3 → l4' = iI l4 → r32 l4 → l5' = iI l5 → r32 l5 → K215 l0 l1 l3 l4 l5 s = some q → gG m b φ0 σo lI q (k215 l0 l1 l3' l4' l5' h)) {φ : Nat → Nat} {h : eH} {s : fS} {l0 : Nat} {l1 : Nat} {l3' : Int32} {l3 : Int} {l5' : Int32} {l5 : Int} {s0' : Int32} {s0 : Int} {s1' : Int32} {s1 : Int} (R : fC m b φ0 σo φ h s) (el3 : l3' = iI l3) (rl3 : r32 l3) (el5 : l5' = iI l5) (rl5 : r32 l5) (es0 : s0' = iI s0) (rs0 : r32 s0) (es1 : s1' = iI s1) (rs1 : r32 s1) (hF : FX6_layOut_b238 N K215 l0 l1 l3 l5 s0 s1 s = some q) : gG m b φ0 σo lI q (fX6_layOut_b238 N k215 l0 l1 l3' l5' s0' s1' h) := by
  subst el3; subst el5; subst es0; subst es1
  unfold FX6_layOut_b238 at hF
  unfold fX6_layOut_b238
  exact hk215 R rfl rl3 (c_and rfl rfl) (rr_I _) (c_add rfl (c_lit 1 1 rfl)) (rr_I _) hF
def FX6_layOut_b273 (N : Nat) (s : fS) : Option (Int × fS) :=
  some (4, s)
theorem SX6_layOut_b273 {m b : Nat} {φ0 : Nat → Nat} {σo : fS} {N : Nat} {q : Int × fS} {φ : Nat → Nat} {h : eH} {s : fS} (R : fC m b φ0 σo φ h s) (hF : FX6_layOut_b273 N s = some q) : gG m b φ0 σo lI q (fX6_layOut_b273 N h) := by
  unfold FX6_layOut_b273 at hF
  unfold fX6_layOut_b273
  exact g_ret R hF ⟨(c_lit 4 4 rfl), ⟨by decide, by decide⟩⟩
def FX6_layOut_b319 (N : Nat) (s0 : Int) (s : fS) : Option (Int × fS) :=
  some (s0, s)
theorem SX6_layOut_b319 {m b : Nat} {φ0 : Nat → Nat} {σo : fS} {N : Nat} {q : Int × fS} {φ : Nat → Nat} {h : eH} {s : fS} {s0' : Int32} {s0 : Int} (R : fC m b φ0 σo φ h s) (es0 : s0' = iI s0) (rs0 : r32 s0) (hF : FX6_layOut_b319 N s0 s = some q) : gG m b φ0 σo lI q (fX6_layOut_b319 N s0' h) := by
  subst es0
  unfold FX6_layOut_b319 at hF
  unfold fX6_layOut_b319
  exact g_ret R hF ⟨rfl, rs0⟩
def FX6_layOut_b278 (N : Nat) : Nat → Nat → Nat → Int → Int → fS → Option (Int × fS)
  | 0, _, _, _, _, _ => none
  | n + 1, l0, l1, l3, l5, s =>
    if l3 ≤ l5 then
      (uK 5 s l0).bind fun _ =>
      (FX6_word l0 0 1 s).bind fun q3 =>
      if 1048576 ≤ q3.1 then
        FX6_layOut_b319 N 0 q3.2
      else
        FX6_layOut_b319 N 5 q3.2
    else
      (uK 5 s l0).bind fun _ =>
      (s.o l0 0).bind fun a5 =>
      (uK 1 s l1).bind fun _ =>
      (FX2_whole l1 l5 s).bind fun q8 =>
      (uKA 100 q8.2 a5).bind fun _ =>
      (uQI q8.2 a5 l5 q8.1).bind fun σ9 =>
      FX6_layOut_b278 N n l0 l1 l3 (iadd l5 1) σ9
theorem SX6_layOut_b278 {m b : Nat} {φ0 : Nat → Nat} {σo : fS} {N : Nat} {q : Int × fS} : ∀ {n : Nat} {φ : Nat → Nat} {h : eH} {s : fS} {l0 : Nat} {l1 : Nat} {l3' : Int32} {l3 : Int} {l5' : Int32} {l5 : Int}, fC m b φ0 σo φ h s → l3' = iI l3 → r32 l3 → l5' = iI l5 → r32 l5 → FX6_layOut_b278 N n l0 l1 l3 l5 s = some q → gG m b φ0 σo lI q (fX6_layOut_b278 N n l0 l1 l3' l5' h) := by
  intro n
  induction n with
 | zero => intro φ h s l0 l1 l3' l3 l5' l5 R el3 rl3 el5 rl5 hF; simp [FX6_layOut_b278] at hF
  | succ n ih =>
    intro φ h s l0 l1 l3' l3 l5' l5 R el3 rl3 el5 rl5 hF
    subst el3; subst el5
    rw [FX6_layOut_b278] at hF
    rw [fX6_layOut_b278]
    refine s_if (i_le rfl rfl rl3 rl5) hF (fun c1 hF => ?_) (fun c1 hF => ?_)
    ·
      refine s_K hF (fun t3 hF => ?_)
      refine s_kok R t3 (Nat.le_of_ble_eq_true rfl) ?_
      refine s_call R (Nat.zero_le _) (fun _ hq => SX6_word (b := 0) (R.rf) (c_lit 0 0 rfl) ⟨by decide, by decide⟩ (c_lit 1 1 rfl) ⟨by decide, by decide⟩ hq) hF (fun f4 rv4 h4 q3 R4 e4 E4 hF => ?_)
      refine s_if (i_le (c_lit 1048576 1048576 rfl) e4.1 ⟨by decide, by decide⟩ e4.2) hF (fun c5 hF => ?_) (fun c5 hF => ?_)
      ·
        exact SX6_layOut_b319 (N := N) R4 (c_lit 0 0 rfl) ⟨by decide, by decide⟩ hF
      ·
        exact SX6_layOut_b319 (N := N) R4 (c_lit 5 5 rfl) ⟨by decide, by decide⟩ hF
    ·
      refine s_K hF (fun t7 hF => ?_)
      refine s_oo hF (fun a5 e6 hF => ?_)
      refine s_gA R t7 (Nat.le_of_ble_eq_true rfl) rfl e6 (fun x6_ y6_ => ?_)
      refine s_K hF (fun t9 hF => ?_)
      refine s_kok R t9 (Nat.le_of_ble_eq_true rfl) ?_
      refine s_call R (Nat.zero_le _) (fun _ hq => SX2_whole (b := 0) (R.rf) rfl rl5 hq) hF (fun f10 rv10 h10 q8 R10 e10 E10 hF => ?_)
      refine s_KA hF (fun y12 z12 hF => ?_)
      refine s_qI R10 y12 z12 (by decide) (rfl.trans (E10.k0 rfl _ (Nat.lt_trans y6_ (Nat.le_of_ble_eq_true rfl))).1.symm) rfl rl5 e10.1 e10.2 hF (fun h11 σ9 R11 T11 hF => ?_)
      exact ih R11 rfl rl3 (c_add rfl (c_lit 1 1 rfl)) (rr_I _) hF
def FX6_layOut_b215 (N : Nat) : Nat → Nat → Nat → Int → Int → Int → fS → Option (Int × fS)
  | 0, _, _, _, _, _, _ => none
  | n + 1, l0, l1, l3, l4, l5, s =>
    if 5 < l5 then
      if ¬ (l4 = 0) then
        (uK 1 s l1).bind fun _ =>
        (FX2_half l1 0 s).bind fun q4 =>
        if ¬ (q4.1 = l3) then
          FX6_layOut_b273 N q4.2
        else
          (uK 1 q4.2 l1).bind fun _ =>
          if (q4.2.i l1 1) = (imul 4 l3) then
            FX6_layOut_b278 N N l0 l1 l3 0 q4.2
          else
            FX6_layOut_b273 N q4.2
      else
        some (3, s)
    else
      (uK 5 s l0).bind fun _ =>
      (s.o l0 3).bind fun a9 =>
      (uKA 100 s a9).bind fun _ =>
      (uRI s a9 l5).bind fun x11 =>
      if x11 ≤ 0 then
        FX6_layOut_b238 N (FX6_layOut_b215 N n) l0 l1 l3 l5 l4 0 s
      else
        FX6_layOut_b238 N (FX6_layOut_b215 N n) l0 l1 l3 l5 l4 1 s
theorem SX6_layOut_b215 {m b : Nat} {φ0 : Nat → Nat} {σo : fS} {N : Nat} {q : Int × fS} : ∀ {n : Nat} {φ : Nat → Nat} {h : eH} {s : fS} {l0 : Nat} {l1 : Nat} {l3' : Int32} {l3 : Int} {l4' : Int32} {l4 : Int} {l5' : Int32} {l5 : Int}, fC m b φ0 σo φ h s → l3' = iI l3 → r32 l3 → l4' = iI l4 → r32 l4 → l5' = iI l5 → r32 l5 → FX6_layOut_b215 N n l0 l1 l3 l4 l5 s = some q → gG m b φ0 σo lI q (fX6_layOut_b215 N n l0 l1 l3' l4' l5' h) := by
  intro n
  induction n with
 | zero => intro φ h s l0 l1 l3' l3 l4' l4 l5' l5 R el3 rl3 el4 rl4 el5 rl5 hF; simp [FX6_layOut_b215] at hF
  | succ n ih =>
    intro φ h s l0 l1 l3' l3 l4' l4 l5' l5 R el3 rl3 el4 rl4 el5 rl5 hF
    subst el3; subst el4; subst el5
    rw [FX6_layOut_b215] at hF
    rw [fX6_layOut_b215]
    refine s_if (i_lt (c_lit 5 5 rfl) rfl ⟨by decide, by decide⟩ rl5) hF (fun c1 hF => ?_) (fun c1 hF => ?_)
    ·
      refine s_if (not_congr (i_eq rfl (c_lit 0 0 rfl) rl4 ⟨by decide, by decide⟩)) hF (fun c2 hF => ?_) (fun c2 hF => ?_)
      ·
        refine s_K hF (fun t4 hF => ?_)
        refine s_kok R t4 (Nat.le_of_ble_eq_true rfl) ?_
        refine s_call R (Nat.zero_le _) (fun _ hq => SX2_half (b := 0) (R.rf) (c_lit 0 0 rfl) ⟨by decide, by decide⟩ hq) hF (fun f5 rv5 h5 q4 R5 e5 E5 hF => ?_)
        refine s_if (not_congr (i_eq e5.1 rfl e5.2 rl3)) hF (fun c6 hF => ?_) (fun c6 hF => ?_)
        ·
          exact SX6_layOut_b273 (N := N) R5 hF
        ·
          refine s_K hF (fun t8 hF => ?_)
          refine s_gI R5 t8 (Nat.le_of_ble_eq_true rfl) rfl ?_
          refine s_if (i_eq rfl (c_mul (c_lit 4 4 rfl) rfl) (R5.ri t8 (Nat.le_of_ble_eq_true rfl) rfl) (rr_I _)) hF (fun c9 hF => ?_) (fun c9 hF => ?_)
          ·
            exact SX6_layOut_b278 (N := N) R5 rfl rl3 (c_lit 0 0 rfl) ⟨by decide, by decide⟩ hF
          ·
            exact SX6_layOut_b273 (N := N) R5 hF
      ·
        exact g_ret R hF ⟨(c_lit 3 3 rfl), ⟨by decide, by decide⟩⟩
    ·
      refine s_K hF (fun t11 hF => ?_)
      refine s_oo hF (fun a9 e10 hF => ?_)
      refine s_gA R t11 (Nat.le_of_ble_eq_true rfl) rfl e10 (fun x10_ y10_ => ?_)
      refine s_KA hF (fun y13 z13 hF => ?_)
      refine s_rI R y13 z13 (by decide) rfl rfl rl5 hF (fun x11 ra12 hF => ?_)
      refine s_if (i_le rfl (c_lit 0 0 rfl) ra12 ⟨by decide, by decide⟩) hF (fun c14 hF => ?_) (fun c14 hF => ?_)
      ·
        exact SX6_layOut_b238 (N := N) (k215 := fX6_layOut_b215 N n) (K215 := FX6_layOut_b215 N n) @ih R rfl rl3 rfl rl5 rfl rl4 (c_lit 0 0 rfl) ⟨by decide, by decide⟩ hF
      ·
        exact SX6_layOut_b238 (N := N) (k215 := fX6_layOut_b215 N n) (K215 := FX6_layOut_b215 N n) @ih R rfl rl3 rfl rl5 rfl rl4 (c_lit 1 1 rfl) ⟨by decide, by decide⟩ hF
def FX6_layOut_b210 (N : Nat) (l0 : Nat) (l1 : Nat) (l3 : Int) (s0 : Int) (s : fS) : Option (Int × fS) :=
  FX6_layOut_b215 N N l0 l1 l3 s0 2 s
theorem SX6_layOut_b210 {m b : Nat} {φ0 : Nat → Nat} {σo : fS} {N : Nat} {q : Int × fS} {φ : Nat → Nat} {h : eH} {s : fS} {l0 : Nat} {l1 : Nat} {l3' : Int32} {l3 : Int} {s0' : Int32} {s0 : Int} (R : fC m b φ0 σo φ h s) (el3 : l3' = iI l3) (rl3 : r32 l3) (es0 : s0' = iI s0) (rs0 : r32 s0) (hF : FX6_layOut_b210 N l0 l1 l3 s0 s = some q) : gG m b φ0 σo lI q (fX6_layOut_b210 N l0 l1 l3' s0' h) := by
  subst el3; subst es0
  unfold FX6_layOut_b210 at hF
  unfold fX6_layOut_b210
  exact SX6_layOut_b215 (N := N) R rfl rl3 rfl rs0 (c_lit 2 2 rfl) ⟨by decide, by decide⟩ hF
def FX6_layOut_b209 (N : Nat) (l0 : Nat) (l1 : Nat) (l3 : Int) (s : fS) : Option (Int × fS) :=
  FX6_layOut_b210 N l0 l1 l3 0 s
theorem SX6_layOut_b209 {m b : Nat} {φ0 : Nat → Nat} {σo : fS} {N : Nat} {q : Int × fS} {φ : Nat → Nat} {h : eH} {s : fS} {l0 : Nat} {l1 : Nat} {l3' : Int32} {l3 : Int} (R : fC m b φ0 σo φ h s) (el3 : l3' = iI l3) (rl3 : r32 l3) (hF : FX6_layOut_b209 N l0 l1 l3 s = some q) : gG m b φ0 σo lI q (fX6_layOut_b209 N l0 l1 l3' h) := by
  subst el3
  unfold FX6_layOut_b209 at hF
  unfold fX6_layOut_b209
  exact SX6_layOut_b210 (N := N) R rfl rl3 (c_lit 0 0 rfl) ⟨by decide, by decide⟩ hF
def FX6_layOut_b104 (N : Nat) : Nat → Nat → Nat → Int → Int → fS → Option (Int × fS)
  | 0, _, _, _, _, _ => none
  | n + 1, l0, l1, l3, l4, s =>
    if 10 ≤ l4 then
      (uK 5 s l0).bind fun _ =>
      (s.o l0 3).bind fun a2 =>
      (uKA 100 s a2).bind fun _ =>
      (uRI s a2 0).bind fun x4 =>
      if x4 ≤ 1 then
        FX6_layOut_b209 N l0 l1 l3 s
      else
        (uK 5 s l0).bind fun _ =>
        (s.o l0 3).bind fun a7 =>
        (uKA 100 s a7).bind fun _ =>
        (uRI s a7 8).bind fun x9 =>
        if 256 < x9 then
          FX6_layOut_b209 N l0 l1 l3 s
        else
          FX6_layOut_b210 N l0 l1 l3 1 s
    else
      if ¬ (l4 = 0) then
        if ¬ (l4 = 1) then
          (uK 1 s l1).bind fun _ =>
          (FX2_half l1 (iadd l4 2) s).bind fun q15 =>
          FX6_layOut_b152 N (FX6_layOut_b104 N n) l0 l1 l3 l4 q15.1 q15.2
        else
          (uK 5 s l0).bind fun _ =>
          (uK 5 s l0).bind fun _ =>
          FX6_layOut_b152 N (FX6_layOut_b104 N n) l0 l1 l3 l4 (iadd (isub (s.i l0 5) (s.i l0 4)) 1) s
      else
        (uK 1 s l1).bind fun _ =>
        (FX2_half l1 1 s).bind fun q21 =>
        FX6_layOut_b152 N (FX6_layOut_b104 N n) l0 l1 l3 l4 q21.1 q21.2
theorem SX6_layOut_b104 {m b : Nat} {φ0 : Nat → Nat} {σo : fS} {N : Nat} {q : Int × fS} : ∀ {n : Nat} {φ : Nat → Nat} {h : eH} {s : fS} {l0 : Nat} {l1 : Nat} {l3' : Int32} {l3 : Int} {l4' : Int32} {l4 : Int}, fC m b φ0 σo φ h s → l3' = iI l3 → r32 l3 → l4' = iI l4 → r32 l4 → FX6_layOut_b104 N n l0 l1 l3 l4 s = some q → gG m b φ0 σo lI q (fX6_layOut_b104 N n l0 l1 l3' l4' h) := by
  intro n
  induction n with
 | zero => intro φ h s l0 l1 l3' l3 l4' l4 R el3 rl3 el4 rl4 hF; simp [FX6_layOut_b104] at hF
  | succ n ih =>
    intro φ h s l0 l1 l3' l3 l4' l4 R el3 rl3 el4 rl4 hF
    subst el3; subst el4
    rw [FX6_layOut_b104] at hF
    rw [fX6_layOut_b104]
    refine s_if (i_le (c_lit 10 10 rfl) rfl ⟨by decide, by decide⟩ rl4) hF (fun c1 hF => ?_) (fun c1 hF => ?_)
    ·
      refine s_K hF (fun t3 hF => ?_)
      refine s_oo hF (fun a2 e2 hF => ?_)
      refine s_gA R t3 (Nat.le_of_ble_eq_true rfl) rfl e2 (fun x2_ y2_ => ?_)
      refine s_KA hF (fun y5 z5 hF => ?_)
      refine s_rI R y5 z5 (by decide) rfl (c_lit 0 0 rfl) ⟨by decide, by decide⟩ hF (fun x4 ra4 hF => ?_)
      refine s_if (i_le rfl (c_lit 1 1 rfl) ra4 ⟨by decide, by decide⟩) hF (fun c6 hF => ?_) (fun c6 hF => ?_)
      ·
        exact SX6_layOut_b209 (N := N) R rfl rl3 hF
      ·
        refine s_K hF (fun t8 hF => ?_)
        refine s_oo hF (fun a7 e7 hF => ?_)
        refine s_gA R t8 (Nat.le_of_ble_eq_true rfl) rfl e7 (fun x7_ y7_ => ?_)
        refine s_KA hF (fun y10 z10 hF => ?_)
        refine s_rI R y10 z10 (by decide) rfl (c_lit 8 8 rfl) ⟨by decide, by decide⟩ hF (fun x9 ra9 hF => ?_)
        refine s_if (i_lt (c_lit 256 256 rfl) rfl ⟨by decide, by decide⟩ ra9) hF (fun c11 hF => ?_) (fun c11 hF => ?_)
        ·
          exact SX6_layOut_b209 (N := N) R rfl rl3 hF
        ·
          exact SX6_layOut_b210 (N := N) R rfl rl3 (c_lit 1 1 rfl) ⟨by decide, by decide⟩ hF
    ·
      refine s_if (not_congr (i_eq rfl (c_lit 0 0 rfl) rl4 ⟨by decide, by decide⟩)) hF (fun c12 hF => ?_) (fun c12 hF => ?_)
      ·
        refine s_if (not_congr (i_eq rfl (c_lit 1 1 rfl) rl4 ⟨by decide, by decide⟩)) hF (fun c13 hF => ?_) (fun c13 hF => ?_)
        ·
          refine s_K hF (fun t15 hF => ?_)
          refine s_kok R t15 (Nat.le_of_ble_eq_true rfl) ?_
          refine s_call R (Nat.zero_le _) (fun _ hq => SX2_half (b := 0) (R.rf) (c_add rfl (c_lit 2 2 rfl)) (rr_I _) hq) hF (fun f16 rv16 h16 q15 R16 e16 E16 hF => ?_)
          exact SX6_layOut_b152 (N := N) (k104 := fX6_layOut_b104 N n) (K104 := FX6_layOut_b104 N n) @ih R16 rfl rl3 rfl rl4 e16.1 e16.2 hF
        ·
          refine s_K hF (fun t18 hF => ?_)
          refine s_gI R t18 (Nat.le_of_ble_eq_true rfl) rfl ?_
          refine s_K hF (fun t20 hF => ?_)
          refine s_gI R t20 (Nat.le_of_ble_eq_true rfl) rfl ?_
          exact SX6_layOut_b152 (N := N) (k104 := fX6_layOut_b104 N n) (K104 := FX6_layOut_b104 N n) @ih R rfl rl3 rfl rl4 (c_add (c_sub rfl rfl) (c_lit 1 1 rfl)) (rr_I _) hF
      ·
        refine s_K hF (fun t22 hF => ?_)
        refine s_kok R t22 (Nat.le_of_ble_eq_true rfl) ?_
        refine s_call R (Nat.zero_le _) (fun _ hq => SX2_half (b := 0) (R.rf) (c_lit 1 1 rfl) ⟨by decide, by decide⟩ hq) hF (fun f23 rv23 h23 q21 R23 e23 E23 hF => ?_)
        exact SX6_layOut_b152 (N := N) (k104 := fX6_layOut_b104 N n) (K104 := FX6_layOut_b104 N n) @ih R23 rfl rl3 rfl rl4 e23.1 e23.2 hF
def FX6_layOut_b49 (N : Nat) (l0 : Nat) (l1 : Nat) (l2 : Int) (s : fS) : Option (Int × fS) :=
  if ¬ (l2 = 0) then
    (uK 1 s l1).bind fun _ =>
    (FX2_half l1 2 s).bind fun q3 =>
    (uK 5 q3.2 l0).bind fun _ =>
    (uPI q3.2 l0 4 q3.1).bind fun σ4 =>
    (uK 1 σ4 l1).bind fun _ =>
    (FX2_half l1 3 σ4).bind fun q7 =>
    (uK 5 q7.2 l0).bind fun _ =>
    (uPI q7.2 l0 5 q7.1).bind fun σ8 =>
    (uK 5 σ8 l0).bind fun _ =>
    (uK 5 σ8 l0).bind fun _ =>
    if (iadd (σ8.i l0 5) 1) < (σ8.i l0 4) then
      FX6_layOut_b96 N σ8
    else
      (uK 5 σ8 l0).bind fun _ =>
      if (σ8.i l0 5) ≤ 255 then
        FX6_layOut_b104 N N l0 l1 6 0 σ8
      else
        FX6_layOut_b96 N σ8
  else
    some (1, s)
theorem SX6_layOut_b49 {m b : Nat} {φ0 : Nat → Nat} {σo : fS} {N : Nat} {q : Int × fS} {φ : Nat → Nat} {h : eH} {s : fS} {l0 : Nat} {l1 : Nat} {l2' : Int32} {l2 : Int} (R : fC m b φ0 σo φ h s) (el2 : l2' = iI l2) (rl2 : r32 l2) (hF : FX6_layOut_b49 N l0 l1 l2 s = some q) : gG m b φ0 σo lI q (fX6_layOut_b49 N l0 l1 l2' h) := by
  subst el2
  unfold FX6_layOut_b49 at hF
  unfold fX6_layOut_b49
  refine s_if (not_congr (i_eq rfl (c_lit 0 0 rfl) rl2 ⟨by decide, by decide⟩)) hF (fun c1 hF => ?_) (fun c1 hF => ?_)
  ·
    refine s_K hF (fun t3 hF => ?_)
    refine s_kok R t3 (Nat.le_of_ble_eq_true rfl) ?_
    refine s_call R (Nat.zero_le _) (fun _ hq => SX2_half (b := 0) (R.rf) (c_lit 2 2 rfl) ⟨by decide, by decide⟩ hq) hF (fun f4 rv4 h4 q3 R4 e4 E4 hF => ?_)
    refine s_K hF (fun t6 hF => ?_)
    refine s_pI R4 t6 (Nat.le_of_ble_eq_true rfl) rfl e4.1 e4.2 hF (fun h5 σ4 R5 T5 hF => ?_)
    refine s_K hF (fun t8 hF => ?_)
    refine s_kok R5 t8 (Nat.le_of_ble_eq_true rfl) ?_
    refine s_call R5 (Nat.zero_le _) (fun _ hq => SX2_half (b := 0) (R5.rf) (c_lit 3 3 rfl) ⟨by decide, by decide⟩ hq) hF (fun f9 rv9 h9 q7 R9 e9 E9 hF => ?_)
    refine s_K hF (fun t11 hF => ?_)
    refine s_pI R9 t11 (Nat.le_of_ble_eq_true rfl) rfl e9.1 e9.2 hF (fun h10 σ8 R10 T10 hF => ?_)
    refine s_K hF (fun t13 hF => ?_)
    refine s_gI R10 t13 (Nat.le_of_ble_eq_true rfl) rfl ?_
    refine s_K hF (fun t15 hF => ?_)
    refine s_gI R10 t15 (Nat.le_of_ble_eq_true rfl) rfl ?_
    refine s_if (i_lt (c_add rfl (c_lit 1 1 rfl)) rfl (rr_I _) (R10.ri t13 (Nat.le_of_ble_eq_true rfl) rfl)) hF (fun c16 hF => ?_) (fun c16 hF => ?_)
    ·
      exact SX6_layOut_b96 (N := N) R10 hF
    ·
      refine s_K hF (fun t18 hF => ?_)
      refine s_gI R10 t18 (Nat.le_of_ble_eq_true rfl) rfl ?_
      refine s_if (i_le rfl (c_lit 255 255 rfl) (R10.ri t18 (Nat.le_of_ble_eq_true rfl) rfl) ⟨by decide, by decide⟩) hF (fun c19 hF => ?_) (fun c19 hF => ?_)
      ·
        exact SX6_layOut_b104 (N := N) R10 (c_lit 6 6 rfl) ⟨by decide, by decide⟩ (c_lit 0 0 rfl) ⟨by decide, by decide⟩ hF
      ·
        exact SX6_layOut_b96 (N := N) R10 hF
  ·
    exact g_ret R hF ⟨(c_lit 1 1 rfl), ⟨by decide, by decide⟩⟩
def FX6_layOut_b17 (N : Nat) : Nat → Nat → Nat → Int → Int → fS → Option (Int × fS)
  | 0, _, _, _, _, _ => none
  | n + 1, l0, l1, l2, l3, s =>
    if 12 ≤ l3 then
      FX6_layOut_b49 N l0 l1 l2 s
    else
      if l2 = 0 then
        FX6_layOut_b49 N l0 l1 l2 s
      else
        (uK 1 s l1).bind fun _ =>
        (FX2_half l1 l3 s).bind fun q4 =>
        if 32768 ≤ q4.1 then
          FX6_layOut_b42 N (FX6_layOut_b17 N n) l0 l1 l3 0 q4.2
        else
          FX6_layOut_b42 N (FX6_layOut_b17 N n) l0 l1 l3 1 q4.2
theorem SX6_layOut_b17 {m b : Nat} {φ0 : Nat → Nat} {σo : fS} {N : Nat} {q : Int × fS} : ∀ {n : Nat} {φ : Nat → Nat} {h : eH} {s : fS} {l0 : Nat} {l1 : Nat} {l2' : Int32} {l2 : Int} {l3' : Int32} {l3 : Int}, fC m b φ0 σo φ h s → l2' = iI l2 → r32 l2 → l3' = iI l3 → r32 l3 → FX6_layOut_b17 N n l0 l1 l2 l3 s = some q → gG m b φ0 σo lI q (fX6_layOut_b17 N n l0 l1 l2' l3' h) := by
  intro n
  induction n with
 | zero => intro φ h s l0 l1 l2' l2 l3' l3 R el2 rl2 el3 rl3 hF; simp [FX6_layOut_b17] at hF
  | succ n ih =>
    intro φ h s l0 l1 l2' l2 l3' l3 R el2 rl2 el3 rl3 hF
    subst el2; subst el3
    rw [FX6_layOut_b17] at hF
    rw [fX6_layOut_b17]
    refine s_if (i_le (c_lit 12 12 rfl) rfl ⟨by decide, by decide⟩ rl3) hF (fun c1 hF => ?_) (fun c1 hF => ?_)
    ·
      exact SX6_layOut_b49 (N := N) R rfl rl2 hF
    ·
      refine s_if (i_eq rfl (c_lit 0 0 rfl) rl2 ⟨by decide, by decide⟩) hF (fun c2 hF => ?_) (fun c2 hF => ?_)
      ·
        exact SX6_layOut_b49 (N := N) R rfl rl2 hF
      ·
        refine s_K hF (fun t4 hF => ?_)
        refine s_kok R t4 (Nat.le_of_ble_eq_true rfl) ?_
        refine s_call R (Nat.zero_le _) (fun _ hq => SX2_half (b := 0) (R.rf) rfl rl3 hq) hF (fun f5 rv5 h5 q4 R5 e5 E5 hF => ?_)
        refine s_if (i_le (c_lit 32768 32768 rfl) e5.1 ⟨by decide, by decide⟩ e5.2) hF (fun c6 hF => ?_) (fun c6 hF => ?_)
        ·
          exact SX6_layOut_b42 (N := N) (k17 := fX6_layOut_b17 N n) (K17 := FX6_layOut_b17 N n) @ih R5 rfl rl3 (c_lit 0 0 rfl) ⟨by decide, by decide⟩ hF
        ·
          exact SX6_layOut_b42 (N := N) (k17 := fX6_layOut_b17 N n) (K17 := FX6_layOut_b17 N n) @ih R5 rfl rl3 (c_lit 1 1 rfl) ⟨by decide, by decide⟩ hF
def FX6_layOut_b14 (N : Nat) (l0 : Nat) (l1 : Nat) (s0 : Int) (s : fS) : Option (Int × fS) :=
  FX6_layOut_b17 N N l0 l1 s0 0 s
theorem SX6_layOut_b14 {m b : Nat} {φ0 : Nat → Nat} {σo : fS} {N : Nat} {q : Int × fS} {φ : Nat → Nat} {h : eH} {s : fS} {l0 : Nat} {l1 : Nat} {s0' : Int32} {s0 : Int} (R : fC m b φ0 σo φ h s) (es0 : s0' = iI s0) (rs0 : r32 s0) (hF : FX6_layOut_b14 N l0 l1 s0 s = some q) : gG m b φ0 σo lI q (fX6_layOut_b14 N l0 l1 s0' h) := by
  subst es0
  unfold FX6_layOut_b14 at hF
  unfold fX6_layOut_b14
  exact SX6_layOut_b17 (N := N) R rfl rs0 (c_lit 0 0 rfl) ⟨by decide, by decide⟩ hF
def FX6_layOut (N : Nat) (this : Nat) (p0 : Nat) (s : fS) : Option (Int × fS) :=
  (uK 1 s p0).bind fun _ =>
  if (s.i p0 1) < 24 then
    FX6_layOut_b14 N this p0 0 s
  else
    FX6_layOut_b14 N this p0 1 s
theorem SX6_layOut {m b : Nat} {φ0 : Nat → Nat} {σo : fS} {N : Nat} {q : Int × fS} {φ : Nat → Nat} {h : eH} {s : fS} {this : Nat} {p0 : Nat} (R : fC m b φ0 σo φ h s) (hF : FX6_layOut N this p0 s = some q) : gG m b φ0 σo lI q (fX6_layOut N this p0 h) := by
  unfold FX6_layOut at hF
  unfold fX6_layOut
  refine s_K hF (fun t2 hF => ?_)
  refine s_gI R t2 (Nat.le_of_ble_eq_true rfl) rfl ?_
  refine s_if (i_lt rfl (c_lit 24 24 rfl) (R.ri t2 (Nat.le_of_ble_eq_true rfl) rfl) ⟨by decide, by decide⟩) hF (fun c3 hF => ?_) (fun c3 hF => ?_)
  ·
    exact SX6_layOut_b14 (N := N) R (c_lit 0 0 rfl) ⟨by decide, by decide⟩ hF
  ·
    exact SX6_layOut_b14 (N := N) R (c_lit 1 1 rfl) ⟨by decide, by decide⟩ hF
def FX6_a (p0 : Int) (s : fS) : Option (Int × fS) :=
  some ((iush p0 24), s)
theorem SX6_a {m b : Nat} {φ0 : Nat → Nat} {σo : fS} {q : Int × fS} {φ : Nat → Nat} {h : eH} {s : fS} {p0' : Int32} {p0 : Int} (R : fC m b φ0 σo φ h s) (ep0 : p0' = iI p0) (rp0 : r32 p0) (hF : FX6_a p0 s = some q) : gG m b φ0 σo lI q (fX6_a p0' h) := by
  subst ep0
  unfold FX6_a at hF
  unfold fX6_a
  exact g_ret R hF ⟨(c_ush rfl (c_lit 24 24 rfl)), (rr_I _)⟩
def FX6_b (p0 : Int) (s : fS) : Option (Int × fS) :=
  some ((iand (ishr p0 16) 255), s)
theorem SX6_b {m b : Nat} {φ0 : Nat → Nat} {σo : fS} {q : Int × fS} {φ : Nat → Nat} {h : eH} {s : fS} {p0' : Int32} {p0 : Int} (R : fC m b φ0 σo φ h s) (ep0 : p0' = iI p0) (rp0 : r32 p0) (hF : FX6_b p0 s = some q) : gG m b φ0 σo lI q (fX6_b p0' h) := by
  subst ep0
  unfold FX6_b at hF
  unfold fX6_b
  exact g_ret R hF ⟨(c_and (c_shr rfl (c_lit 16 16 rfl)) (c_lit 255 255 rfl)), (rr_I _)⟩
def FX6_c (p0 : Int) (s : fS) : Option (Int × fS) :=
  some ((iand (ishr p0 8) 255), s)
theorem SX6_c {m b : Nat} {φ0 : Nat → Nat} {σo : fS} {q : Int × fS} {φ : Nat → Nat} {h : eH} {s : fS} {p0' : Int32} {p0 : Int} (R : fC m b φ0 σo φ h s) (ep0 : p0' = iI p0) (rp0 : r32 p0) (hF : FX6_c p0 s = some q) : gG m b φ0 σo lI q (fX6_c p0' h) := by
  subst ep0
  unfold FX6_c at hF
  unfold fX6_c
  exact g_ret R hF ⟨(c_and (c_shr rfl (c_lit 8 8 rfl)) (c_lit 255 255 rfl)), (rr_I _)⟩
def FX6_areSizesRight_b93 (N : Nat) (K7 : Nat → Int → Int → fS → Option (Int × fS)) (l0 : Nat) (l2 : Int) (s0 : Int) (s1 : Int) (s : fS) : Option (Int × fS) :=
  K7 l0 (iand s0 s1) (iadd l2 1) s
theorem SX6_areSizesRight_b93 {m b : Nat} {φ0 : Nat → Nat} {σo : fS} {N : Nat} {k7 : Nat → Int32 → Int32 → eH → Option (Int32 × eH)} {K7 : Nat → Int → Int → fS → Option (Int × fS)} {q : Int × fS} (hk7 : ∀ {φ : Nat → Nat} {h : eH} {s : fS} {l0 : Nat} {l1' : Int32} {l1 : Int} {l2' : Int32} {l2 : Int}, fC m b φ0 σo φ h s → l1' = iI l1 → r32 l1 → l2' = iI l2 → r32 l2 → K7 l0 l1 l2 s = some q → gG m b φ0 σo lI q (k7 l0 l1' l2' h)) {φ : Nat → Nat} {h : eH} {s : fS} {l0 : Nat} {l2' : Int32} {l2 : Int} {s0' : Int32} {s0 : Int} {s1' : Int32} {s1 : Int} (R : fC m b φ0 σo φ h s) (el2 : l2' = iI l2) (rl2 : r32 l2) (es0 : s0' = iI s0) (rs0 : r32 s0) (es1 : s1' = iI s1) (rs1 : r32 s1) (hF : FX6_areSizesRight_b93 N K7 l0 l2 s0 s1 s = some q) : gG m b φ0 σo lI q (fX6_areSizesRight_b93 N k7 l0 l2' s0' s1' h) := by
  subst el2; subst es0; subst es1
  unfold FX6_areSizesRight_b93 at hF
  unfold fX6_areSizesRight_b93
  exact hk7 R (c_and rfl rfl) (rr_I _) (c_add rfl (c_lit 1 1 rfl)) (rr_I _) hF
def FX6_areSizesRight_b92 (N : Nat) (K7 : Nat → Int → Int → fS → Option (Int × fS)) (l0 : Nat) (l2 : Int) (s0 : Int) (s : fS) : Option (Int × fS) :=
  FX6_areSizesRight_b93 N K7 l0 l2 s0 0 s
theorem SX6_areSizesRight_b92 {m b : Nat} {φ0 : Nat → Nat} {σo : fS} {N : Nat} {k7 : Nat → Int32 → Int32 → eH → Option (Int32 × eH)} {K7 : Nat → Int → Int → fS → Option (Int × fS)} {q : Int × fS} (hk7 : ∀ {φ : Nat → Nat} {h : eH} {s : fS} {l0 : Nat} {l1' : Int32} {l1 : Int} {l2' : Int32} {l2 : Int}, fC m b φ0 σo φ h s → l1' = iI l1 → r32 l1 → l2' = iI l2 → r32 l2 → K7 l0 l1 l2 s = some q → gG m b φ0 σo lI q (k7 l0 l1' l2' h)) {φ : Nat → Nat} {h : eH} {s : fS} {l0 : Nat} {l2' : Int32} {l2 : Int} {s0' : Int32} {s0 : Int} (R : fC m b φ0 σo φ h s) (el2 : l2' = iI l2) (rl2 : r32 l2) (es0 : s0' = iI s0) (rs0 : r32 s0) (hF : FX6_areSizesRight_b92 N K7 l0 l2 s0 s = some q) : gG m b φ0 σo lI q (fX6_areSizesRight_b92 N k7 l0 l2' s0' h) := by
  subst el2; subst es0
  unfold FX6_areSizesRight_b92 at hF
  unfold fX6_areSizesRight_b92
  exact SX6_areSizesRight_b93 (N := N) (k7 := k7) (K7 := K7) @hk7 R rfl rl2 rfl rs0 (c_lit 0 0 rfl) ⟨by decide, by decide⟩ hF
def FX6_areSizesRight_b7 (N : Nat) : Nat → Nat → Int → Int → fS → Option (Int × fS)
  | 0, _, _, _, _ => none
  | n + 1, l0, l1, l2, s =>
    (uK 5 s l0).bind fun _ =>
    if (s.i l0 5) < l2 then
      uZ l1 (l1, s)
    else
      (uK 5 s l0).bind fun _ =>
      (uK 5 s l0).bind fun _ =>
      (FX6_word l0 1 (isub l2 (s.i l0 4)) s).bind fun q8 =>
      (FX6_a q8.1 q8.2).bind fun q9 =>
      (uK 5 q9.2 l0).bind fun _ =>
      (q9.2.o l0 3).bind fun a10 =>
      (uKA 100 q9.2 a10).bind fun _ =>
      (uRI q9.2 a10 2).bind fun x12 =>
      if x12 ≤ q9.1 then
        FX6_areSizesRight_b92 N (FX6_areSizesRight_b7 N n) l0 l2 l1 q9.2
      else
        (FX6_b q8.1 q9.2).bind fun q15 =>
        (uK 5 q15.2 l0).bind fun _ =>
        (q15.2.o l0 3).bind fun a16 =>
        (uKA 100 q15.2 a16).bind fun _ =>
        (uRI q15.2 a16 3).bind fun x18 =>
        if x18 ≤ (idiv q15.1 16) then
          FX6_areSizesRight_b92 N (FX6_areSizesRight_b7 N n) l0 l2 l1 q15.2
        else
          (FX6_b q8.1 q15.2).bind fun q21 =>
          (uK 5 q21.2 l0).bind fun _ =>
          (q21.2.o l0 3).bind fun a22 =>
          (uKA 100 q21.2 a22).bind fun _ =>
          (uRI q21.2 a22 4).bind fun x24 =>
          if x24 ≤ (irem q21.1 16) then
            FX6_areSizesRight_b92 N (FX6_areSizesRight_b7 N n) l0 l2 l1 q21.2
          else
            (FX6_c q8.1 q21.2).bind fun q27 =>
            (uK 5 q27.2 l0).bind fun _ =>
            (q27.2.o l0 3).bind fun a28 =>
            (uKA 100 q27.2 a28).bind fun _ =>
            (uRI q27.2 a28 5).bind fun x30 =>
            if x30 ≤ (idiv q27.1 4) then
              FX6_areSizesRight_b92 N (FX6_areSizesRight_b7 N n) l0 l2 l1 q27.2
            else
              FX6_areSizesRight_b93 N (FX6_areSizesRight_b7 N n) l0 l2 l1 1 q27.2
theorem SX6_areSizesRight_b7 {m b : Nat} {φ0 : Nat → Nat} {σo : fS} {N : Nat} {q : Int × fS} : ∀ {n : Nat} {φ : Nat → Nat} {h : eH} {s : fS} {l0 : Nat} {l1' : Int32} {l1 : Int} {l2' : Int32} {l2 : Int}, fC m b φ0 σo φ h s → l1' = iI l1 → r32 l1 → l2' = iI l2 → r32 l2 → FX6_areSizesRight_b7 N n l0 l1 l2 s = some q → gG m b φ0 σo lI q (fX6_areSizesRight_b7 N n l0 l1' l2' h) := by
  intro n
  induction n with
 | zero => intro φ h s l0 l1' l1 l2' l2 R el1 rl1 el2 rl2 hF; simp [FX6_areSizesRight_b7] at hF
  | succ n ih =>
    intro φ h s l0 l1' l1 l2' l2 R el1 rl1 el2 rl2 hF
    subst el1; subst el2
    rw [FX6_areSizesRight_b7] at hF
    rw [fX6_areSizesRight_b7]
    refine s_K hF (fun t2 hF => ?_)
    refine s_gI R t2 (Nat.le_of_ble_eq_true rfl) rfl ?_
    refine s_if (i_lt rfl rfl (R.ri t2 (Nat.le_of_ble_eq_true rfl) rfl) rl2) hF (fun c3 hF => ?_) (fun c3 hF => ?_)
    ·
      exact g_z R rfl hF ⟨rfl, rl1⟩
    ·
      refine s_K hF (fun t5 hF => ?_)
      refine s_gI R t5 (Nat.le_of_ble_eq_true rfl) rfl ?_
      refine s_K hF (fun t7 hF => ?_)
      refine s_kok R t7 (Nat.le_of_ble_eq_true rfl) ?_
      refine s_call R (Nat.zero_le _) (fun _ hq => SX6_word (b := 0) (R.rf) (c_lit 1 1 rfl) ⟨by decide, by decide⟩ (c_sub rfl rfl) (rr_I _) hq) hF (fun f8 rv8 h8 q8 R8 e8 E8 hF => ?_)
      refine s_call R8 (Nat.zero_le _) (fun _ hq => SX6_a (b := 0) (R8.rf) e8.1 e8.2 hq) hF (fun f9 rv9 h9 q9 R9 e9 E9 hF => ?_)
      refine s_K hF (fun t11 hF => ?_)
      refine s_oo hF (fun a10 e10 hF => ?_)
      refine s_gA R9 t11 (Nat.le_of_ble_eq_true rfl) rfl e10 (fun x10_ y10_ => ?_)
      refine s_KA hF (fun y13 z13 hF => ?_)
      refine s_rI R9 y13 z13 (by decide) rfl (c_lit 2 2 rfl) ⟨by decide, by decide⟩ hF (fun x12 ra12 hF => ?_)
      refine s_if (i_le rfl e9.1 ra12 e9.2) hF (fun c14 hF => ?_) (fun c14 hF => ?_)
      ·
        exact SX6_areSizesRight_b92 (N := N) (k7 := fX6_areSizesRight_b7 N n) (K7 := FX6_areSizesRight_b7 N n) @ih R9 rfl rl2 rfl rl1 hF
      ·
        refine s_call R9 (Nat.zero_le _) (fun _ hq => SX6_b (b := 0) (R9.rf) e8.1 e8.2 hq) hF (fun f15 rv15 h15 q15 R15 e15 E15 hF => ?_)
        refine s_K hF (fun t17 hF => ?_)
        refine s_oo hF (fun a16 e16 hF => ?_)
        refine s_gA R15 t17 (Nat.le_of_ble_eq_true rfl) rfl e16 (fun x16_ y16_ => ?_)
        refine s_KA hF (fun y19 z19 hF => ?_)
        refine s_rI R15 y19 z19 (by decide) rfl (c_lit 3 3 rfl) ⟨by decide, by decide⟩ hF (fun x18 ra18 hF => ?_)
        refine s_if (i_le rfl (c_div e15.1 (c_lit 16 16 rfl)) ra18 (rr_I _)) hF (fun c20 hF => ?_) (fun c20 hF => ?_)
        ·
          exact SX6_areSizesRight_b92 (N := N) (k7 := fX6_areSizesRight_b7 N n) (K7 := FX6_areSizesRight_b7 N n) @ih R15 rfl rl2 rfl rl1 hF
        ·
          refine s_call R15 (Nat.zero_le _) (fun _ hq => SX6_b (b := 0) (R15.rf) e8.1 e8.2 hq) hF (fun f21 rv21 h21 q21 R21 e21 E21 hF => ?_)
          refine s_K hF (fun t23 hF => ?_)
          refine s_oo hF (fun a22 e22 hF => ?_)
          refine s_gA R21 t23 (Nat.le_of_ble_eq_true rfl) rfl e22 (fun x22_ y22_ => ?_)
          refine s_KA hF (fun y25 z25 hF => ?_)
          refine s_rI R21 y25 z25 (by decide) rfl (c_lit 4 4 rfl) ⟨by decide, by decide⟩ hF (fun x24 ra24 hF => ?_)
          refine s_if (i_le rfl (c_rem e21.1 (c_lit 16 16 rfl)) ra24 (rr_I _)) hF (fun c26 hF => ?_) (fun c26 hF => ?_)
          ·
            exact SX6_areSizesRight_b92 (N := N) (k7 := fX6_areSizesRight_b7 N n) (K7 := FX6_areSizesRight_b7 N n) @ih R21 rfl rl2 rfl rl1 hF
          ·
            refine s_call R21 (Nat.zero_le _) (fun _ hq => SX6_c (b := 0) (R21.rf) e8.1 e8.2 hq) hF (fun f27 rv27 h27 q27 R27 e27 E27 hF => ?_)
            refine s_K hF (fun t29 hF => ?_)
            refine s_oo hF (fun a28 e28 hF => ?_)
            refine s_gA R27 t29 (Nat.le_of_ble_eq_true rfl) rfl e28 (fun x28_ y28_ => ?_)
            refine s_KA hF (fun y31 z31 hF => ?_)
            refine s_rI R27 y31 z31 (by decide) rfl (c_lit 5 5 rfl) ⟨by decide, by decide⟩ hF (fun x30 ra30 hF => ?_)
            refine s_if (i_le rfl (c_div e27.1 (c_lit 4 4 rfl)) ra30 (rr_I _)) hF (fun c32 hF => ?_) (fun c32 hF => ?_)
            ·
              exact SX6_areSizesRight_b92 (N := N) (k7 := fX6_areSizesRight_b7 N n) (K7 := FX6_areSizesRight_b7 N n) @ih R27 rfl rl2 rfl rl1 hF
            ·
              exact SX6_areSizesRight_b93 (N := N) (k7 := fX6_areSizesRight_b7 N n) (K7 := FX6_areSizesRight_b7 N n) @ih R27 rfl rl2 rfl rl1 (c_lit 1 1 rfl) ⟨by decide, by decide⟩ hF
def FX6_areSizesRight (N : Nat) (this : Nat) (s : fS) : Option (Int × fS) :=
  (uK 5 s this).bind fun _ =>
  FX6_areSizesRight_b7 N N this 1 (s.i this 4) s
theorem SX6_areSizesRight {m b : Nat} {φ0 : Nat → Nat} {σo : fS} {N : Nat} {q : Int × fS} {φ : Nat → Nat} {h : eH} {s : fS} {this : Nat} (R : fC m b φ0 σo φ h s) (hF : FX6_areSizesRight N this s = some q) : gG m b φ0 σo lI q (fX6_areSizesRight N this h) := by
  unfold FX6_areSizesRight at hF
  unfold fX6_areSizesRight
  refine s_K hF (fun t2 hF => ?_)
  refine s_gI R t2 (Nat.le_of_ble_eq_true rfl) rfl ?_
  exact SX6_areSizesRight_b7 (N := N) R (c_lit 1 1 rfl) ⟨by decide, by decide⟩ rfl (R.ri t2 (Nat.le_of_ble_eq_true rfl) rfl) hF
def FX6_has_b38 (s0 : Int) (s : fS) : Option (Int × fS) :=
  uZ s0 (s0, s)
theorem SX6_has_b38 {m b : Nat} {φ0 : Nat → Nat} {σo : fS} {q : Int × fS} {φ : Nat → Nat} {h : eH} {s : fS} {s0' : Int32} {s0 : Int} (R : fC m b φ0 σo φ h s) (es0 : s0' = iI s0) (rs0 : r32 s0) (hF : FX6_has_b38 s0 s = some q) : gG m b φ0 σo lI q (fX6_has_b38 s0' h) := by
  subst es0
  unfold FX6_has_b38 at hF
  unfold fX6_has_b38
  exact g_z R rfl hF ⟨rfl, rs0⟩
def FX6_has_b37 (s : fS) : Option (Int × fS) :=
  FX6_has_b38 0 s
theorem SX6_has_b37 {m b : Nat} {φ0 : Nat → Nat} {σo : fS} {q : Int × fS} {φ : Nat → Nat} {h : eH} {s : fS} (R : fC m b φ0 σo φ h s) (hF : FX6_has_b37 s = some q) : gG m b φ0 σo lI q (fX6_has_b37 h) := by
  unfold FX6_has_b37 at hF
  unfold fX6_has_b37
  exact SX6_has_b38 R (c_lit 0 0 rfl) ⟨by decide, by decide⟩ hF
def FX6_has (this : Nat) (p0 : Int) (s : fS) : Option (Int × fS) :=
  (uK 5 s this).bind fun _ =>
  if p0 < (s.i this 4) then
    FX6_has_b37 s
  else
    (uK 5 s this).bind fun _ =>
    if (s.i this 5) < p0 then
      FX6_has_b37 s
    else
      (uK 5 s this).bind fun _ =>
      (uK 5 s this).bind fun _ =>
      (FX6_word this 1 (isub p0 (s.i this 4)) s).bind fun q10 =>
      (FX6_a q10.1 q10.2).bind fun q11 =>
      if q11.1 ≤ 0 then
        FX6_has_b37 q11.2
      else
        FX6_has_b38 1 q11.2
theorem SX6_has {m b : Nat} {φ0 : Nat → Nat} {σo : fS} {q : Int × fS} {φ : Nat → Nat} {h : eH} {s : fS} {this : Nat} {p0' : Int32} {p0 : Int} (R : fC m b φ0 σo φ h s) (ep0 : p0' = iI p0) (rp0 : r32 p0) (hF : FX6_has this p0 s = some q) : gG m b φ0 σo lI q (fX6_has this p0' h) := by
  subst ep0
  unfold FX6_has at hF
  unfold fX6_has
  refine s_K hF (fun t2 hF => ?_)
  refine s_gI R t2 (Nat.le_of_ble_eq_true rfl) rfl ?_
  refine s_if (i_lt rfl rfl rp0 (R.ri t2 (Nat.le_of_ble_eq_true rfl) rfl)) hF (fun c3 hF => ?_) (fun c3 hF => ?_)
  ·
    exact SX6_has_b37 R hF
  ·
    refine s_K hF (fun t5 hF => ?_)
    refine s_gI R t5 (Nat.le_of_ble_eq_true rfl) rfl ?_
    refine s_if (i_lt rfl rfl (R.ri t5 (Nat.le_of_ble_eq_true rfl) rfl) rp0) hF (fun c6 hF => ?_) (fun c6 hF => ?_)
    ·
      exact SX6_has_b37 R hF
    ·
      refine s_K hF (fun t8 hF => ?_)
      refine s_gI R t8 (Nat.le_of_ble_eq_true rfl) rfl ?_
      refine s_K hF (fun t10 hF => ?_)
      refine s_kok R t10 (Nat.le_of_ble_eq_true rfl) ?_
      refine s_call R (Nat.zero_le _) (fun _ hq => SX6_word (b := 0) (R.rf) (c_lit 1 1 rfl) ⟨by decide, by decide⟩ (c_sub rfl rfl) (rr_I _) hq) hF (fun f11 rv11 h11 q10 R11 e11 E11 hF => ?_)
      refine s_call R11 (Nat.zero_le _) (fun _ hq => SX6_a (b := 0) (R11.rf) e11.1 e11.2 hq) hF (fun f12 rv12 h12 q11 R12 e12 E12 hF => ?_)
      refine s_if (i_le e12.1 (c_lit 0 0 rfl) e12.2 ⟨by decide, by decide⟩) hF (fun c13 hF => ?_) (fun c13 hF => ?_)
      ·
        exact SX6_has_b37 R12 hF
      ·
        exact SX6_has_b38 R12 (c_lit 1 1 rfl) ⟨by decide, by decide⟩ hF
def FX6_tag (this : Nat) (p0 : Int) (s : fS) : Option (Int × fS) :=
  (uK 5 s this).bind fun _ =>
  (uK 5 s this).bind fun _ =>
  (FX6_word this 1 (isub p0 (s.i this 4)) s).bind fun q4 =>
  (FX6_c q4.1 q4.2).bind fun q5 =>
  some ((iand q5.1 3), q5.2)
theorem SX6_tag {m b : Nat} {φ0 : Nat → Nat} {σo : fS} {q : Int × fS} {φ : Nat → Nat} {h : eH} {s : fS} {this : Nat} {p0' : Int32} {p0 : Int} (R : fC m b φ0 σo φ h s) (ep0 : p0' = iI p0) (rp0 : r32 p0) (hF : FX6_tag this p0 s = some q) : gG m b φ0 σo lI q (fX6_tag this p0' h) := by
  subst ep0
  unfold FX6_tag at hF
  unfold fX6_tag
  refine s_K hF (fun t2 hF => ?_)
  refine s_gI R t2 (Nat.le_of_ble_eq_true rfl) rfl ?_
  refine s_K hF (fun t4 hF => ?_)
  refine s_kok R t4 (Nat.le_of_ble_eq_true rfl) ?_
  refine s_call R (Nat.zero_le _) (fun _ hq => SX6_word (b := 0) (R.rf) (c_lit 1 1 rfl) ⟨by decide, by decide⟩ (c_sub rfl rfl) (rr_I _) hq) hF (fun f5 rv5 h5 q4 R5 e5 E5 hF => ?_)
  refine s_call R5 (Nat.zero_le _) (fun _ hq => SX6_c (b := 0) (R5.rf) e5.1 e5.2 hq) hF (fun f6 rv6 h6 q5 R6 e6 E6 hF => ?_)
  exact g_ret R6 hF ⟨(c_and e6.1 (c_lit 3 3 rfl)), (rr_I _)⟩
def FX6_d (p0 : Int) (s : fS) : Option (Int × fS) :=
  some ((iand p0 255), s)
theorem SX6_d {m b : Nat} {φ0 : Nat → Nat} {σo : fS} {q : Int × fS} {φ : Nat → Nat} {h : eH} {s : fS} {p0' : Int32} {p0 : Int} (R : fC m b φ0 σo φ h s) (ep0 : p0' = iI p0) (rp0 : r32 p0) (hF : FX6_d p0 s = some q) : gG m b φ0 σo lI q (fX6_d p0' h) := by
  subst ep0
  unfold FX6_d at hF
  unfold fX6_d
  exact g_ret R hF ⟨(c_and rfl (c_lit 255 255 rfl)), (rr_I _)⟩
def FX6_rest (this : Nat) (p0 : Int) (s : fS) : Option (Int × fS) :=
  (uK 5 s this).bind fun _ =>
  (uK 5 s this).bind fun _ =>
  (FX6_word this 1 (isub p0 (s.i this 4)) s).bind fun q4 =>
  (FX6_d q4.1 q4.2).bind fun q5 =>
  some (q5.1, q5.2)
theorem SX6_rest {m b : Nat} {φ0 : Nat → Nat} {σo : fS} {q : Int × fS} {φ : Nat → Nat} {h : eH} {s : fS} {this : Nat} {p0' : Int32} {p0 : Int} (R : fC m b φ0 σo φ h s) (ep0 : p0' = iI p0) (rp0 : r32 p0) (hF : FX6_rest this p0 s = some q) : gG m b φ0 σo lI q (fX6_rest this p0' h) := by
  subst ep0
  unfold FX6_rest at hF
  unfold fX6_rest
  refine s_K hF (fun t2 hF => ?_)
  refine s_gI R t2 (Nat.le_of_ble_eq_true rfl) rfl ?_
  refine s_K hF (fun t4 hF => ?_)
  refine s_kok R t4 (Nat.le_of_ble_eq_true rfl) ?_
  refine s_call R (Nat.zero_le _) (fun _ hq => SX6_word (b := 0) (R.rf) (c_lit 1 1 rfl) ⟨by decide, by decide⟩ (c_sub rfl rfl) (rr_I _) hq) hF (fun f5 rv5 h5 q4 R5 e5 E5 hF => ?_)
  refine s_call R5 (Nat.zero_le _) (fun _ hq => SX6_d (b := 0) (R5.rf) e5.1 e5.2 hq) hF (fun f6 rv6 h6 q5 R6 e6 E6 hF => ?_)
  exact g_ret R6 hF ⟨e6.1, e6.2⟩
def FX6_isChainRight_b71 (N : Nat) (s0 : Int) (s : fS) : Option (Int × fS) :=
  uZ s0 (s0, s)
theorem SX6_isChainRight_b71 {m b : Nat} {φ0 : Nat → Nat} {σo : fS} {N : Nat} {q : Int × fS} {φ : Nat → Nat} {h : eH} {s : fS} {s0' : Int32} {s0 : Int} (R : fC m b φ0 σo φ h s) (es0 : s0' = iI s0) (rs0 : r32 s0) (hF : FX6_isChainRight_b71 N s0 s = some q) : gG m b φ0 σo lI q (fX6_isChainRight_b71 N s0' h) := by
  subst es0
  unfold FX6_isChainRight_b71 at hF
  unfold fX6_isChainRight_b71
  exact g_z R rfl hF ⟨rfl, rs0⟩
def FX6_isChainRight_b70 (N : Nat) (s : fS) : Option (Int × fS) :=
  FX6_isChainRight_b71 N 0 s
theorem SX6_isChainRight_b70 {m b : Nat} {φ0 : Nat → Nat} {σo : fS} {N : Nat} {q : Int × fS} {φ : Nat → Nat} {h : eH} {s : fS} (R : fC m b φ0 σo φ h s) (hF : FX6_isChainRight_b70 N s = some q) : gG m b φ0 σo lI q (fX6_isChainRight_b70 N h) := by
  unfold FX6_isChainRight_b70 at hF
  unfold fX6_isChainRight_b70
  exact SX6_isChainRight_b71 (N := N) R (c_lit 0 0 rfl) ⟨by decide, by decide⟩ hF
def FX6_isChainRight_b49 (N : Nat) (l0 : Nat) (l1 : Int) (l2 : Int) (s : fS) : Option (Int × fS) :=
  (uK 5 s l0).bind fun _ =>
  (FX6_rest l0 l1 s).bind fun q2 =>
  (uK 5 q2.2 l0).bind fun _ =>
  (FX6_has l0 q2.1 q2.2).bind fun q4 =>
  if q4.1 = 0 then
    FX6_isChainRight_b70 N q4.2
  else
    if l2 = l1 then
      FX6_isChainRight_b70 N q4.2
    else
      FX6_isChainRight_b71 N 1 q4.2
theorem SX6_isChainRight_b49 {m b : Nat} {φ0 : Nat → Nat} {σo : fS} {N : Nat} {q : Int × fS} {φ : Nat → Nat} {h : eH} {s : fS} {l0 : Nat} {l1' : Int32} {l1 : Int} {l2' : Int32} {l2 : Int} (R : fC m b φ0 σo φ h s) (el1 : l1' = iI l1) (rl1 : r32 l1) (el2 : l2' = iI l2) (rl2 : r32 l2) (hF : FX6_isChainRight_b49 N l0 l1 l2 s = some q) : gG m b φ0 σo lI q (fX6_isChainRight_b49 N l0 l1' l2' h) := by
  subst el1; subst el2
  unfold FX6_isChainRight_b49 at hF
  unfold fX6_isChainRight_b49
  refine s_K hF (fun t2 hF => ?_)
  refine s_kok R t2 (Nat.le_of_ble_eq_true rfl) ?_
  refine s_call R (Nat.zero_le _) (fun _ hq => SX6_rest (b := 0) (R.rf) rfl rl1 hq) hF (fun f3 rv3 h3 q2 R3 e3 E3 hF => ?_)
  refine s_K hF (fun t5 hF => ?_)
  refine s_kok R3 t5 (Nat.le_of_ble_eq_true rfl) ?_
  refine s_call R3 (Nat.zero_le _) (fun _ hq => SX6_has (b := 0) (R3.rf) e3.1 e3.2 hq) hF (fun f6 rv6 h6 q4 R6 e6 E6 hF => ?_)
  refine s_if (i_eq e6.1 (c_lit 0 0 rfl) e6.2 ⟨by decide, by decide⟩) hF (fun c7 hF => ?_) (fun c7 hF => ?_)
  ·
    exact SX6_isChainRight_b70 (N := N) R6 hF
  ·
    refine s_if (i_eq rfl rfl rl2 rl1) hF (fun c8 hF => ?_) (fun c8 hF => ?_)
    ·
      exact SX6_isChainRight_b70 (N := N) R6 hF
    ·
      exact SX6_isChainRight_b71 (N := N) R6 (c_lit 1 1 rfl) ⟨by decide, by decide⟩ hF
def FX6_isChainRight_b8 (N : Nat) : Nat → Nat → Int → Int → Int → fS → Option (Int × fS)
  | 0, _, _, _, _, _ => none
  | n + 1, l0, l1, l2, l3, s =>
    (uK 5 s l0).bind fun _ =>
    (FX6_has l0 l2 s).bind fun q2 =>
    if q2.1 = 0 then
      FX6_isChainRight_b49 N l0 l1 l2 q2.2
    else
      if l2 = l1 then
        FX6_isChainRight_b49 N l0 l1 l2 q2.2
      else
        (uK 5 q2.2 l0).bind fun _ =>
        (FX6_tag l0 l2 q2.2).bind fun q6 =>
        if ¬ (q6.1 = 2) then
          FX6_isChainRight_b49 N l0 l1 l2 q6.2
        else
          if 256 ≤ l3 then
            FX6_isChainRight_b49 N l0 l1 l2 q6.2
          else
            (uK 5 q6.2 l0).bind fun _ =>
            (FX6_rest l0 l2 q6.2).bind fun q10 =>
            FX6_isChainRight_b8 N n l0 l1 q10.1 (iadd l3 1) q10.2
theorem SX6_isChainRight_b8 {m b : Nat} {φ0 : Nat → Nat} {σo : fS} {N : Nat} {q : Int × fS} : ∀ {n : Nat} {φ : Nat → Nat} {h : eH} {s : fS} {l0 : Nat} {l1' : Int32} {l1 : Int} {l2' : Int32} {l2 : Int} {l3' : Int32} {l3 : Int}, fC m b φ0 σo φ h s → l1' = iI l1 → r32 l1 → l2' = iI l2 → r32 l2 → l3' = iI l3 → r32 l3 → FX6_isChainRight_b8 N n l0 l1 l2 l3 s = some q → gG m b φ0 σo lI q (fX6_isChainRight_b8 N n l0 l1' l2' l3' h) := by
  intro n
  induction n with
 | zero => intro φ h s l0 l1' l1 l2' l2 l3' l3 R el1 rl1 el2 rl2 el3 rl3 hF; simp [FX6_isChainRight_b8] at hF
  | succ n ih =>
    intro φ h s l0 l1' l1 l2' l2 l3' l3 R el1 rl1 el2 rl2 el3 rl3 hF
    subst el1; subst el2; subst el3
    rw [FX6_isChainRight_b8] at hF
    rw [fX6_isChainRight_b8]
    refine s_K hF (fun t2 hF => ?_)
    refine s_kok R t2 (Nat.le_of_ble_eq_true rfl) ?_
    refine s_call R (Nat.zero_le _) (fun _ hq => SX6_has (b := 0) (R.rf) rfl rl2 hq) hF (fun f3 rv3 h3 q2 R3 e3 E3 hF => ?_)
    refine s_if (i_eq e3.1 (c_lit 0 0 rfl) e3.2 ⟨by decide, by decide⟩) hF (fun c4 hF => ?_) (fun c4 hF => ?_)
    ·
      exact SX6_isChainRight_b49 (N := N) R3 rfl rl1 rfl rl2 hF
    ·
      refine s_if (i_eq rfl rfl rl2 rl1) hF (fun c5 hF => ?_) (fun c5 hF => ?_)
      ·
        exact SX6_isChainRight_b49 (N := N) R3 rfl rl1 rfl rl2 hF
      ·
        refine s_K hF (fun t7 hF => ?_)
        refine s_kok R3 t7 (Nat.le_of_ble_eq_true rfl) ?_
        refine s_call R3 (Nat.zero_le _) (fun _ hq => SX6_tag (b := 0) (R3.rf) rfl rl2 hq) hF (fun f8 rv8 h8 q6 R8 e8 E8 hF => ?_)
        refine s_if (not_congr (i_eq e8.1 (c_lit 2 2 rfl) e8.2 ⟨by decide, by decide⟩)) hF (fun c9 hF => ?_) (fun c9 hF => ?_)
        ·
          exact SX6_isChainRight_b49 (N := N) R8 rfl rl1 rfl rl2 hF
        ·
          refine s_if (i_le (c_lit 256 256 rfl) rfl ⟨by decide, by decide⟩ rl3) hF (fun c10 hF => ?_) (fun c10 hF => ?_)
          ·
            exact SX6_isChainRight_b49 (N := N) R8 rfl rl1 rfl rl2 hF
          ·
            refine s_K hF (fun t12 hF => ?_)
            refine s_kok R8 t12 (Nat.le_of_ble_eq_true rfl) ?_
            refine s_call R8 (Nat.zero_le _) (fun _ hq => SX6_rest (b := 0) (R8.rf) rfl rl2 hq) hF (fun f13 rv13 h13 q10 R13 e13 E13 hF => ?_)
            exact ih R13 rfl rl1 e13.1 e13.2 (c_add rfl (c_lit 1 1 rfl)) (rr_I _) hF
def FX6_isChainRight (N : Nat) (this : Nat) (p0 : Int) (s : fS) : Option (Int × fS) :=
  (uK 5 s this).bind fun _ =>
  (FX6_rest this p0 s).bind fun q2 =>
  FX6_isChainRight_b8 N N this p0 q2.1 0 q2.2
theorem SX6_isChainRight {m b : Nat} {φ0 : Nat → Nat} {σo : fS} {N : Nat} {q : Int × fS} {φ : Nat → Nat} {h : eH} {s : fS} {this : Nat} {p0' : Int32} {p0 : Int} (R : fC m b φ0 σo φ h s) (ep0 : p0' = iI p0) (rp0 : r32 p0) (hF : FX6_isChainRight N this p0 s = some q) : gG m b φ0 σo lI q (fX6_isChainRight N this p0' h) := by
  subst ep0
  unfold FX6_isChainRight at hF
  unfold fX6_isChainRight
  refine s_K hF (fun t2 hF => ?_)
  refine s_kok R t2 (Nat.le_of_ble_eq_true rfl) ?_
  refine s_call R (Nat.zero_le _) (fun _ hq => SX6_rest (b := 0) (R.rf) rfl rp0 hq) hF (fun f3 rv3 h3 q2 R3 e3 E3 hF => ?_)
  exact SX6_isChainRight_b8 (N := N) R3 rfl rp0 e3.1 e3.2 (c_lit 0 0 rfl) ⟨by decide, by decide⟩ hF
def FX6_areTagsRight_b97 (N : Nat) (K7 : Nat → Int → Int → fS → Option (Int × fS)) (l0 : Nat) (l1 : Int) (l2 : Int) (s : fS) : Option (Int × fS) :=
  K7 l0 l1 (iadd l2 1) s
theorem SX6_areTagsRight_b97 {m b : Nat} {φ0 : Nat → Nat} {σo : fS} {N : Nat} {k7 : Nat → Int32 → Int32 → eH → Option (Int32 × eH)} {K7 : Nat → Int → Int → fS → Option (Int × fS)} {q : Int × fS} (hk7 : ∀ {φ : Nat → Nat} {h : eH} {s : fS} {l0 : Nat} {l1' : Int32} {l1 : Int} {l2' : Int32} {l2 : Int}, fC m b φ0 σo φ h s → l1' = iI l1 → r32 l1 → l2' = iI l2 → r32 l2 → K7 l0 l1 l2 s = some q → gG m b φ0 σo lI q (k7 l0 l1' l2' h)) {φ : Nat → Nat} {h : eH} {s : fS} {l0 : Nat} {l1' : Int32} {l1 : Int} {l2' : Int32} {l2 : Int} (R : fC m b φ0 σo φ h s) (el1 : l1' = iI l1) (rl1 : r32 l1) (el2 : l2' = iI l2) (rl2 : r32 l2) (hF : FX6_areTagsRight_b97 N K7 l0 l1 l2 s = some q) : gG m b φ0 σo lI q (fX6_areTagsRight_b97 N k7 l0 l1' l2' h) := by
  subst el1; subst el2
  unfold FX6_areTagsRight_b97 at hF
  unfold fX6_areTagsRight_b97
  exact hk7 R rfl rl1 (c_add rfl (c_lit 1 1 rfl)) (rr_I _) hF
def FX6_areTagsRight_b95 (N : Nat) (K7 : Nat → Int → Int → fS → Option (Int × fS)) (l0 : Nat) (l2 : Int) (s0 : Int) (s1 : Int) (s : fS) : Option (Int × fS) :=
  FX6_areTagsRight_b97 N K7 l0 (iand s0 s1) l2 s
theorem SX6_areTagsRight_b95 {m b : Nat} {φ0 : Nat → Nat} {σo : fS} {N : Nat} {k7 : Nat → Int32 → Int32 → eH → Option (Int32 × eH)} {K7 : Nat → Int → Int → fS → Option (Int × fS)} {q : Int × fS} (hk7 : ∀ {φ : Nat → Nat} {h : eH} {s : fS} {l0 : Nat} {l1' : Int32} {l1 : Int} {l2' : Int32} {l2 : Int}, fC m b φ0 σo φ h s → l1' = iI l1 → r32 l1 → l2' = iI l2 → r32 l2 → K7 l0 l1 l2 s = some q → gG m b φ0 σo lI q (k7 l0 l1' l2' h)) {φ : Nat → Nat} {h : eH} {s : fS} {l0 : Nat} {l2' : Int32} {l2 : Int} {s0' : Int32} {s0 : Int} {s1' : Int32} {s1 : Int} (R : fC m b φ0 σo φ h s) (el2 : l2' = iI l2) (rl2 : r32 l2) (es0 : s0' = iI s0) (rs0 : r32 s0) (es1 : s1' = iI s1) (rs1 : r32 s1) (hF : FX6_areTagsRight_b95 N K7 l0 l2 s0 s1 s = some q) : gG m b φ0 σo lI q (fX6_areTagsRight_b95 N k7 l0 l2' s0' s1' h) := by
  subst el2; subst es0; subst es1
  unfold FX6_areTagsRight_b95 at hF
  unfold fX6_areTagsRight_b95
  exact SX6_areTagsRight_b97 (N := N) (k7 := k7) (K7 := K7) @hk7 R (c_and rfl rfl) (rr_I _) rfl rl2 hF
def FX6_areTagsRight_b90 (N : Nat) (K7 : Nat → Int → Int → fS → Option (Int × fS)) (l0 : Nat) (l2 : Int) (s0 : Int) (s : fS) : Option (Int × fS) :=
  FX6_areTagsRight_b95 N K7 l0 l2 s0 1 s
theorem SX6_areTagsRight_b90 {m b : Nat} {φ0 : Nat → Nat} {σo : fS} {N : Nat} {k7 : Nat → Int32 → Int32 → eH → Option (Int32 × eH)} {K7 : Nat → Int → Int → fS → Option (Int × fS)} {q : Int × fS} (hk7 : ∀ {φ : Nat → Nat} {h : eH} {s : fS} {l0 : Nat} {l1' : Int32} {l1 : Int} {l2' : Int32} {l2 : Int}, fC m b φ0 σo φ h s → l1' = iI l1 → r32 l1 → l2' = iI l2 → r32 l2 → K7 l0 l1 l2 s = some q → gG m b φ0 σo lI q (k7 l0 l1' l2' h)) {φ : Nat → Nat} {h : eH} {s : fS} {l0 : Nat} {l2' : Int32} {l2 : Int} {s0' : Int32} {s0 : Int} (R : fC m b φ0 σo φ h s) (el2 : l2' = iI l2) (rl2 : r32 l2) (es0 : s0' = iI s0) (rs0 : r32 s0) (hF : FX6_areTagsRight_b90 N K7 l0 l2 s0 s = some q) : gG m b φ0 σo lI q (fX6_areTagsRight_b90 N k7 l0 l2' s0' h) := by
  subst el2; subst es0
  unfold FX6_areTagsRight_b90 at hF
  unfold fX6_areTagsRight_b90
  exact SX6_areTagsRight_b95 (N := N) (k7 := k7) (K7 := K7) @hk7 R rfl rl2 rfl rs0 (c_lit 1 1 rfl) ⟨by decide, by decide⟩ hF
def FX6_areTagsRight_b94 (N : Nat) (K7 : Nat → Int → Int → fS → Option (Int × fS)) (l0 : Nat) (l2 : Int) (s0 : Int) (s : fS) : Option (Int × fS) :=
  FX6_areTagsRight_b95 N K7 l0 l2 s0 0 s
theorem SX6_areTagsRight_b94 {m b : Nat} {φ0 : Nat → Nat} {σo : fS} {N : Nat} {k7 : Nat → Int32 → Int32 → eH → Option (Int32 × eH)} {K7 : Nat → Int → Int → fS → Option (Int × fS)} {q : Int × fS} (hk7 : ∀ {φ : Nat → Nat} {h : eH} {s : fS} {l0 : Nat} {l1' : Int32} {l1 : Int} {l2' : Int32} {l2 : Int}, fC m b φ0 σo φ h s → l1' = iI l1 → r32 l1 → l2' = iI l2 → r32 l2 → K7 l0 l1 l2 s = some q → gG m b φ0 σo lI q (k7 l0 l1' l2' h)) {φ : Nat → Nat} {h : eH} {s : fS} {l0 : Nat} {l2' : Int32} {l2 : Int} {s0' : Int32} {s0 : Int} (R : fC m b φ0 σo φ h s) (el2 : l2' = iI l2) (rl2 : r32 l2) (es0 : s0' = iI s0) (rs0 : r32 s0) (hF : FX6_areTagsRight_b94 N K7 l0 l2 s0 s = some q) : gG m b φ0 σo lI q (fX6_areTagsRight_b94 N k7 l0 l2' s0' h) := by
  subst el2; subst es0
  unfold FX6_areTagsRight_b94 at hF
  unfold fX6_areTagsRight_b94
  exact SX6_areTagsRight_b95 (N := N) (k7 := k7) (K7 := K7) @hk7 R rfl rl2 rfl rs0 (c_lit 0 0 rfl) ⟨by decide, by decide⟩ hF
def FX6_areTagsRight_b70 (N : Nat) (K7 : Nat → Int → Int → fS → Option (Int × fS)) (l0 : Nat) (l2 : Int) (l3 : Int) (s0 : Int) (s : fS) : Option (Int × fS) :=
  if ¬ (l3 = 3) then
    FX6_areTagsRight_b94 N K7 l0 l2 s0 s
  else
    (uK 5 s l0).bind fun _ =>
    (FX6_rest l0 l2 s).bind fun q3 =>
    (uK 5 q3.2 l0).bind fun _ =>
    (q3.2.o l0 3).bind fun a4 =>
    (uKA 100 q3.2 a4).bind fun _ =>
    (uRI q3.2 a4 8).bind fun x6 =>
    if x6 ≤ q3.1 then
      FX6_areTagsRight_b94 N K7 l0 l2 s0 q3.2
    else
      FX6_areTagsRight_b90 N K7 l0 l2 s0 q3.2
theorem SX6_areTagsRight_b70 {m b : Nat} {φ0 : Nat → Nat} {σo : fS} {N : Nat} {k7 : Nat → Int32 → Int32 → eH → Option (Int32 × eH)} {K7 : Nat → Int → Int → fS → Option (Int × fS)} {q : Int × fS} (hk7 : ∀ {φ : Nat → Nat} {h : eH} {s : fS} {l0 : Nat} {l1' : Int32} {l1 : Int} {l2' : Int32} {l2 : Int}, fC m b φ0 σo φ h s → l1' = iI l1 → r32 l1 → l2' = iI l2 → r32 l2 → K7 l0 l1 l2 s = some q → gG m b φ0 σo lI q (k7 l0 l1' l2' h)) {φ : Nat → Nat} {h : eH} {s : fS} {l0 : Nat} {l2' : Int32} {l2 : Int} {l3' : Int32} {l3 : Int} {s0' : Int32} {s0 : Int} (R : fC m b φ0 σo φ h s) (el2 : l2' = iI l2) (rl2 : r32 l2) (el3 : l3' = iI l3) (rl3 : r32 l3) (es0 : s0' = iI s0) (rs0 : r32 s0) (hF : FX6_areTagsRight_b70 N K7 l0 l2 l3 s0 s = some q) : gG m b φ0 σo lI q (fX6_areTagsRight_b70 N k7 l0 l2' l3' s0' h) := by
  subst el2; subst el3; subst es0
  unfold FX6_areTagsRight_b70 at hF
  unfold fX6_areTagsRight_b70
  refine s_if (not_congr (i_eq rfl (c_lit 3 3 rfl) rl3 ⟨by decide, by decide⟩)) hF (fun c1 hF => ?_) (fun c1 hF => ?_)
  ·
    exact SX6_areTagsRight_b94 (N := N) (k7 := k7) (K7 := K7) @hk7 R rfl rl2 rfl rs0 hF
  ·
    refine s_K hF (fun t3 hF => ?_)
    refine s_kok R t3 (Nat.le_of_ble_eq_true rfl) ?_
    refine s_call R (Nat.zero_le _) (fun _ hq => SX6_rest (b := 0) (R.rf) rfl rl2 hq) hF (fun f4 rv4 h4 q3 R4 e4 E4 hF => ?_)
    refine s_K hF (fun t6 hF => ?_)
    refine s_oo hF (fun a4 e5 hF => ?_)
    refine s_gA R4 t6 (Nat.le_of_ble_eq_true rfl) rfl e5 (fun x5_ y5_ => ?_)
    refine s_KA hF (fun y8 z8 hF => ?_)
    refine s_rI R4 y8 z8 (by decide) rfl (c_lit 8 8 rfl) ⟨by decide, by decide⟩ hF (fun x6 ra7 hF => ?_)
    refine s_if (i_le rfl e4.1 ra7 e4.2) hF (fun c9 hF => ?_) (fun c9 hF => ?_)
    ·
      exact SX6_areTagsRight_b94 (N := N) (k7 := k7) (K7 := K7) @hk7 R4 rfl rl2 rfl rs0 hF
    ·
      exact SX6_areTagsRight_b90 (N := N) (k7 := k7) (K7 := K7) @hk7 R4 rfl rl2 rfl rs0 hF
def FX6_areTagsRight_b57 (N : Nat) (K7 : Nat → Int → Int → fS → Option (Int × fS)) (l0 : Nat) (l2 : Int) (l3 : Int) (s0 : Int) (s : fS) : Option (Int × fS) :=
  if ¬ (l3 = 2) then
    FX6_areTagsRight_b70 N K7 l0 l2 l3 s0 s
  else
    (uK 5 s l0).bind fun _ =>
    (FX6_isChainRight N l0 l2 s).bind fun q3 =>
    if ¬ (q3.1 = 0) then
      FX6_areTagsRight_b90 N K7 l0 l2 s0 q3.2
    else
      FX6_areTagsRight_b70 N K7 l0 l2 l3 s0 q3.2
theorem SX6_areTagsRight_b57 {m b : Nat} {φ0 : Nat → Nat} {σo : fS} {N : Nat} {k7 : Nat → Int32 → Int32 → eH → Option (Int32 × eH)} {K7 : Nat → Int → Int → fS → Option (Int × fS)} {q : Int × fS} (hk7 : ∀ {φ : Nat → Nat} {h : eH} {s : fS} {l0 : Nat} {l1' : Int32} {l1 : Int} {l2' : Int32} {l2 : Int}, fC m b φ0 σo φ h s → l1' = iI l1 → r32 l1 → l2' = iI l2 → r32 l2 → K7 l0 l1 l2 s = some q → gG m b φ0 σo lI q (k7 l0 l1' l2' h)) {φ : Nat → Nat} {h : eH} {s : fS} {l0 : Nat} {l2' : Int32} {l2 : Int} {l3' : Int32} {l3 : Int} {s0' : Int32} {s0 : Int} (R : fC m b φ0 σo φ h s) (el2 : l2' = iI l2) (rl2 : r32 l2) (el3 : l3' = iI l3) (rl3 : r32 l3) (es0 : s0' = iI s0) (rs0 : r32 s0) (hF : FX6_areTagsRight_b57 N K7 l0 l2 l3 s0 s = some q) : gG m b φ0 σo lI q (fX6_areTagsRight_b57 N k7 l0 l2' l3' s0' h) := by
  subst el2; subst el3; subst es0
  unfold FX6_areTagsRight_b57 at hF
  unfold fX6_areTagsRight_b57
  refine s_if (not_congr (i_eq rfl (c_lit 2 2 rfl) rl3 ⟨by decide, by decide⟩)) hF (fun c1 hF => ?_) (fun c1 hF => ?_)
  ·
    exact SX6_areTagsRight_b70 (N := N) (k7 := k7) (K7 := K7) @hk7 R rfl rl2 rfl rl3 rfl rs0 hF
  ·
    refine s_K hF (fun t3 hF => ?_)
    refine s_kok R t3 (Nat.le_of_ble_eq_true rfl) ?_
    refine s_call R (Nat.zero_le _) (fun _ hq => SX6_isChainRight (b := 0) (N := N) (R.rf) rfl rl2 hq) hF (fun f4 rv4 h4 q3 R4 e4 E4 hF => ?_)
    refine s_if (not_congr (i_eq e4.1 (c_lit 0 0 rfl) e4.2 ⟨by decide, by decide⟩)) hF (fun c5 hF => ?_) (fun c5 hF => ?_)
    ·
      exact SX6_areTagsRight_b90 (N := N) (k7 := k7) (K7 := K7) @hk7 R4 rfl rl2 rfl rs0 hF
    ·
      exact SX6_areTagsRight_b70 (N := N) (k7 := k7) (K7 := K7) @hk7 R4 rfl rl2 rfl rl3 rfl rs0 hF
def FX6_areTagsRight_b7 (N : Nat) : Nat → Nat → Int → Int → fS → Option (Int × fS)
  | 0, _, _, _, _ => none
  | n + 1, l0, l1, l2, s =>
    (uK 5 s l0).bind fun _ =>
    if (s.i l0 5) < l2 then
      uZ l1 (l1, s)
    else
      (uK 5 s l0).bind fun _ =>
      (FX6_has l0 l2 s).bind fun q6 =>
      if ¬ (q6.1 = 0) then
        (uK 5 q6.2 l0).bind fun _ =>
        (FX6_tag l0 l2 q6.2).bind fun q9 =>
        if q9.1 = 0 then
          FX6_areTagsRight_b90 N (FX6_areTagsRight_b7 N n) l0 l2 l1 q9.2
        else
          if ¬ (q9.1 = 1) then
            FX6_areTagsRight_b57 N (FX6_areTagsRight_b7 N n) l0 l2 q9.1 l1 q9.2
          else
            (uK 5 q9.2 l0).bind fun _ =>
            (FX6_rest l0 l2 q9.2).bind fun q13 =>
            (uK 5 q13.2 l0).bind fun _ =>
            (q13.2.o l0 3).bind fun a14 =>
            (uKA 100 q13.2 a14).bind fun _ =>
            (uRI q13.2 a14 6).bind fun x16 =>
            if q13.1 < x16 then
              FX6_areTagsRight_b90 N (FX6_areTagsRight_b7 N n) l0 l2 l1 q13.2
            else
              FX6_areTagsRight_b57 N (FX6_areTagsRight_b7 N n) l0 l2 q9.1 l1 q13.2
      else
        FX6_areTagsRight_b97 N (FX6_areTagsRight_b7 N n) l0 l1 l2 q6.2
theorem SX6_areTagsRight_b7 {m b : Nat} {φ0 : Nat → Nat} {σo : fS} {N : Nat} {q : Int × fS} : ∀ {n : Nat} {φ : Nat → Nat} {h : eH} {s : fS} {l0 : Nat} {l1' : Int32} {l1 : Int} {l2' : Int32} {l2 : Int}, fC m b φ0 σo φ h s → l1' = iI l1 → r32 l1 → l2' = iI l2 → r32 l2 → FX6_areTagsRight_b7 N n l0 l1 l2 s = some q → gG m b φ0 σo lI q (fX6_areTagsRight_b7 N n l0 l1' l2' h) := by
  intro n
  induction n with
 | zero => intro φ h s l0 l1' l1 l2' l2 R el1 rl1 el2 rl2 hF; simp [FX6_areTagsRight_b7] at hF
  | succ n ih =>
    intro φ h s l0 l1' l1 l2' l2 R el1 rl1 el2 rl2 hF
    subst el1; subst el2
    rw [FX6_areTagsRight_b7] at hF
    rw [fX6_areTagsRight_b7]
    refine s_K hF (fun t2 hF => ?_)
    refine s_gI R t2 (Nat.le_of_ble_eq_true rfl) rfl ?_
    refine s_if (i_lt rfl rfl (R.ri t2 (Nat.le_of_ble_eq_true rfl) rfl) rl2) hF (fun c3 hF => ?_) (fun c3 hF => ?_)
    ·
      exact g_z R rfl hF ⟨rfl, rl1⟩
    ·
      refine s_K hF (fun t5 hF => ?_)
      refine s_kok R t5 (Nat.le_of_ble_eq_true rfl) ?_
      refine s_call R (Nat.zero_le _) (fun _ hq => SX6_has (b := 0) (R.rf) rfl rl2 hq) hF (fun f6 rv6 h6 q6 R6 e6 E6 hF => ?_)
      refine s_if (not_congr (i_eq e6.1 (c_lit 0 0 rfl) e6.2 ⟨by decide, by decide⟩)) hF (fun c7 hF => ?_) (fun c7 hF => ?_)
      ·
        refine s_K hF (fun t9 hF => ?_)
        refine s_kok R6 t9 (Nat.le_of_ble_eq_true rfl) ?_
        refine s_call R6 (Nat.zero_le _) (fun _ hq => SX6_tag (b := 0) (R6.rf) rfl rl2 hq) hF (fun f10 rv10 h10 q9 R10 e10 E10 hF => ?_)
        refine s_if (i_eq e10.1 (c_lit 0 0 rfl) e10.2 ⟨by decide, by decide⟩) hF (fun c11 hF => ?_) (fun c11 hF => ?_)
        ·
          exact SX6_areTagsRight_b90 (N := N) (k7 := fX6_areTagsRight_b7 N n) (K7 := FX6_areTagsRight_b7 N n) @ih R10 rfl rl2 rfl rl1 hF
        ·
          refine s_if (not_congr (i_eq e10.1 (c_lit 1 1 rfl) e10.2 ⟨by decide, by decide⟩)) hF (fun c12 hF => ?_) (fun c12 hF => ?_)
          ·
            exact SX6_areTagsRight_b57 (N := N) (k7 := fX6_areTagsRight_b7 N n) (K7 := FX6_areTagsRight_b7 N n) @ih R10 rfl rl2 e10.1 e10.2 rfl rl1 hF
          ·
            refine s_K hF (fun t14 hF => ?_)
            refine s_kok R10 t14 (Nat.le_of_ble_eq_true rfl) ?_
            refine s_call R10 (Nat.zero_le _) (fun _ hq => SX6_rest (b := 0) (R10.rf) rfl rl2 hq) hF (fun f15 rv15 h15 q13 R15 e15 E15 hF => ?_)
            refine s_K hF (fun t17 hF => ?_)
            refine s_oo hF (fun a14 e16 hF => ?_)
            refine s_gA R15 t17 (Nat.le_of_ble_eq_true rfl) rfl e16 (fun x16_ y16_ => ?_)
            refine s_KA hF (fun y19 z19 hF => ?_)
            refine s_rI R15 y19 z19 (by decide) rfl (c_lit 6 6 rfl) ⟨by decide, by decide⟩ hF (fun x16 ra18 hF => ?_)
            refine s_if (i_lt e15.1 rfl e15.2 ra18) hF (fun c20 hF => ?_) (fun c20 hF => ?_)
            ·
              exact SX6_areTagsRight_b90 (N := N) (k7 := fX6_areTagsRight_b7 N n) (K7 := FX6_areTagsRight_b7 N n) @ih R15 rfl rl2 rfl rl1 hF
            ·
              exact SX6_areTagsRight_b57 (N := N) (k7 := fX6_areTagsRight_b7 N n) (K7 := FX6_areTagsRight_b7 N n) @ih R15 rfl rl2 e10.1 e10.2 rfl rl1 hF
      ·
        exact SX6_areTagsRight_b97 (N := N) (k7 := fX6_areTagsRight_b7 N n) (K7 := FX6_areTagsRight_b7 N n) @ih R6 rfl rl1 rfl rl2 hF
def FX6_areTagsRight (N : Nat) (this : Nat) (s : fS) : Option (Int × fS) :=
  (uK 5 s this).bind fun _ =>
  FX6_areTagsRight_b7 N N this 1 (s.i this 4) s
theorem SX6_areTagsRight {m b : Nat} {φ0 : Nat → Nat} {σo : fS} {N : Nat} {q : Int × fS} {φ : Nat → Nat} {h : eH} {s : fS} {this : Nat} (R : fC m b φ0 σo φ h s) (hF : FX6_areTagsRight N this s = some q) : gG m b φ0 σo lI q (fX6_areTagsRight N this h) := by
  unfold FX6_areTagsRight at hF
  unfold fX6_areTagsRight
  refine s_K hF (fun t2 hF => ?_)
  refine s_gI R t2 (Nat.le_of_ble_eq_true rfl) rfl ?_
  exact SX6_areTagsRight_b7 (N := N) R (c_lit 1 1 rfl) ⟨by decide, by decide⟩ rfl (R.ri t2 (Nat.le_of_ble_eq_true rfl) rfl) hF
def FX6_isFraction_b22 (s0 : Int) (s : fS) : Option (Int × fS) :=
  uZ s0 (s0, s)
theorem SX6_isFraction_b22 {m b : Nat} {φ0 : Nat → Nat} {σo : fS} {q : Int × fS} {φ : Nat → Nat} {h : eH} {s : fS} {s0' : Int32} {s0 : Int} (R : fC m b φ0 σo φ h s) (es0 : s0' = iI s0) (rs0 : r32 s0) (hF : FX6_isFraction_b22 s0 s = some q) : gG m b φ0 σo lI q (fX6_isFraction_b22 s0' h) := by
  subst es0
  unfold FX6_isFraction_b22 at hF
  unfold fX6_isFraction_b22
  exact g_z R rfl hF ⟨rfl, rs0⟩
def FX6_isFraction_b17 (s : fS) : Option (Int × fS) :=
  FX6_isFraction_b22 1 s
theorem SX6_isFraction_b17 {m b : Nat} {φ0 : Nat → Nat} {σo : fS} {q : Int × fS} {φ : Nat → Nat} {h : eH} {s : fS} (R : fC m b φ0 σo φ h s) (hF : FX6_isFraction_b17 s = some q) : gG m b φ0 σo lI q (fX6_isFraction_b17 h) := by
  unfold FX6_isFraction_b17 at hF
  unfold fX6_isFraction_b17
  exact SX6_isFraction_b22 R (c_lit 1 1 rfl) ⟨by decide, by decide⟩ hF
def FX6_isFraction (this : Nat) (p0 : Int) (s : fS) : Option (Int × fS) :=
  (FX6_a p0 s).bind fun q1 =>
  if q1.1 = 0 then
    FX6_isFraction_b17 q1.2
  else
    (FX6_a p0 q1.2).bind fun q3 =>
    if ¬ (q3.1 = 255) then
      FX6_isFraction_b22 0 q3.2
    else
      FX6_isFraction_b17 q3.2
theorem SX6_isFraction {m b : Nat} {φ0 : Nat → Nat} {σo : fS} {q : Int × fS} {φ : Nat → Nat} {h : eH} {s : fS} {this : Nat} {p0' : Int32} {p0 : Int} (R : fC m b φ0 σo φ h s) (ep0 : p0' = iI p0) (rp0 : r32 p0) (hF : FX6_isFraction this p0 s = some q) : gG m b φ0 σo lI q (fX6_isFraction this p0' h) := by
  subst ep0
  unfold FX6_isFraction at hF
  unfold fX6_isFraction
  refine s_call R (Nat.zero_le _) (fun _ hq => SX6_a (b := 0) (R.rf) rfl rp0 hq) hF (fun f1 rv1 h1 q1 R1 e1 E1 hF => ?_)
  refine s_if (i_eq e1.1 (c_lit 0 0 rfl) e1.2 ⟨by decide, by decide⟩) hF (fun c2 hF => ?_) (fun c2 hF => ?_)
  ·
    exact SX6_isFraction_b17 R1 hF
  ·
    refine s_call R1 (Nat.zero_le _) (fun _ hq => SX6_a (b := 0) (R1.rf) rfl rp0 hq) hF (fun f3 rv3 h3 q3 R3 e3 E3 hF => ?_)
    refine s_if (not_congr (i_eq e3.1 (c_lit 255 255 rfl) e3.2 ⟨by decide, by decide⟩)) hF (fun c4 hF => ?_) (fun c4 hF => ?_)
    ·
      exact SX6_isFraction_b22 R3 (c_lit 0 0 rfl) ⟨by decide, by decide⟩ hF
    ·
      exact SX6_isFraction_b17 R3 hF
def FX6_areFractions_b73 (N : Nat) (K4 : Nat → Int → Int → fS → Option (Int × fS)) (l0 : Nat) (l1 : Int) (l2 : Int) (s : fS) : Option (Int × fS) :=
  K4 l0 l1 (iadd l2 1) s
theorem SX6_areFractions_b73 {m b : Nat} {φ0 : Nat → Nat} {σo : fS} {N : Nat} {k4 : Nat → Int32 → Int32 → eH → Option (Int32 × eH)} {K4 : Nat → Int → Int → fS → Option (Int × fS)} {q : Int × fS} (hk4 : ∀ {φ : Nat → Nat} {h : eH} {s : fS} {l0 : Nat} {l1' : Int32} {l1 : Int} {l2' : Int32} {l2 : Int}, fC m b φ0 σo φ h s → l1' = iI l1 → r32 l1 → l2' = iI l2 → r32 l2 → K4 l0 l1 l2 s = some q → gG m b φ0 σo lI q (k4 l0 l1' l2' h)) {φ : Nat → Nat} {h : eH} {s : fS} {l0 : Nat} {l1' : Int32} {l1 : Int} {l2' : Int32} {l2 : Int} (R : fC m b φ0 σo φ h s) (el1 : l1' = iI l1) (rl1 : r32 l1) (el2 : l2' = iI l2) (rl2 : r32 l2) (hF : FX6_areFractions_b73 N K4 l0 l1 l2 s = some q) : gG m b φ0 σo lI q (fX6_areFractions_b73 N k4 l0 l1' l2' h) := by
  subst el1; subst el2
  unfold FX6_areFractions_b73 at hF
  unfold fX6_areFractions_b73
  exact hk4 R rfl rl1 (c_add rfl (c_lit 1 1 rfl)) (rr_I _) hF
def FX6_areFractions_b71 (N : Nat) (K4 : Nat → Int → Int → fS → Option (Int × fS)) (l0 : Nat) (l2 : Int) (s0 : Int) (s1 : Int) (s : fS) : Option (Int × fS) :=
  FX6_areFractions_b73 N K4 l0 (iand s0 s1) l2 s
theorem SX6_areFractions_b71 {m b : Nat} {φ0 : Nat → Nat} {σo : fS} {N : Nat} {k4 : Nat → Int32 → Int32 → eH → Option (Int32 × eH)} {K4 : Nat → Int → Int → fS → Option (Int × fS)} {q : Int × fS} (hk4 : ∀ {φ : Nat → Nat} {h : eH} {s : fS} {l0 : Nat} {l1' : Int32} {l1 : Int} {l2' : Int32} {l2 : Int}, fC m b φ0 σo φ h s → l1' = iI l1 → r32 l1 → l2' = iI l2 → r32 l2 → K4 l0 l1 l2 s = some q → gG m b φ0 σo lI q (k4 l0 l1' l2' h)) {φ : Nat → Nat} {h : eH} {s : fS} {l0 : Nat} {l2' : Int32} {l2 : Int} {s0' : Int32} {s0 : Int} {s1' : Int32} {s1 : Int} (R : fC m b φ0 σo φ h s) (el2 : l2' = iI l2) (rl2 : r32 l2) (es0 : s0' = iI s0) (rs0 : r32 s0) (es1 : s1' = iI s1) (rs1 : r32 s1) (hF : FX6_areFractions_b71 N K4 l0 l2 s0 s1 s = some q) : gG m b φ0 σo lI q (fX6_areFractions_b71 N k4 l0 l2' s0' s1' h) := by
  subst el2; subst es0; subst es1
  unfold FX6_areFractions_b71 at hF
  unfold fX6_areFractions_b71
  exact SX6_areFractions_b73 (N := N) (k4 := k4) (K4 := K4) @hk4 R (c_and rfl rfl) (rr_I _) rfl rl2 hF
def FX6_areFractions_b66 (N : Nat) (K4 : Nat → Int → Int → fS → Option (Int × fS)) (l0 : Nat) (l2 : Int) (s0 : Int) (s : fS) : Option (Int × fS) :=
  FX6_areFractions_b71 N K4 l0 l2 s0 1 s
theorem SX6_areFractions_b66 {m b : Nat} {φ0 : Nat → Nat} {σo : fS} {N : Nat} {k4 : Nat → Int32 → Int32 → eH → Option (Int32 × eH)} {K4 : Nat → Int → Int → fS → Option (Int × fS)} {q : Int × fS} (hk4 : ∀ {φ : Nat → Nat} {h : eH} {s : fS} {l0 : Nat} {l1' : Int32} {l1 : Int} {l2' : Int32} {l2 : Int}, fC m b φ0 σo φ h s → l1' = iI l1 → r32 l1 → l2' = iI l2 → r32 l2 → K4 l0 l1 l2 s = some q → gG m b φ0 σo lI q (k4 l0 l1' l2' h)) {φ : Nat → Nat} {h : eH} {s : fS} {l0 : Nat} {l2' : Int32} {l2 : Int} {s0' : Int32} {s0 : Int} (R : fC m b φ0 σo φ h s) (el2 : l2' = iI l2) (rl2 : r32 l2) (es0 : s0' = iI s0) (rs0 : r32 s0) (hF : FX6_areFractions_b66 N K4 l0 l2 s0 s = some q) : gG m b φ0 σo lI q (fX6_areFractions_b66 N k4 l0 l2' s0' h) := by
  subst el2; subst es0
  unfold FX6_areFractions_b66 at hF
  unfold fX6_areFractions_b66
  exact SX6_areFractions_b71 (N := N) (k4 := k4) (K4 := K4) @hk4 R rfl rl2 rfl rs0 (c_lit 1 1 rfl) ⟨by decide, by decide⟩ hF
def FX6_areFractions_b21 (N : Nat) (K4 : Nat → Int → Int → fS → Option (Int × fS)) : Nat → Nat → Int → Int → Int → fS → Option (Int × fS)
  | 0, _, _, _, _, _ => none
  | n + 1, l0, l1, l2, l3, s =>
    (uK 5 s l0).bind fun _ =>
    (s.o l0 3).bind fun a1 =>
    (uKA 100 s a1).bind fun _ =>
    (uRI s a1 l2).bind fun x3 =>
    if x3 ≤ l3 then
      if l2 = 7 then
        FX6_areFractions_b66 N K4 l0 l2 l1 s
      else
        (uK 5 s l0).bind fun _ =>
        (FX6_word l0 l2 0 s).bind fun q8 =>
        if ¬ (q8.1 = 0) then
          FX6_areFractions_b71 N K4 l0 l2 l1 0 q8.2
        else
          FX6_areFractions_b66 N K4 l0 l2 l1 q8.2
    else
      (uK 5 s l0).bind fun _ =>
      (FX6_word l0 l2 l3 s).bind fun q11 =>
      (uK 5 q11.2 l0).bind fun _ =>
      (FX6_isFraction l0 q11.1 q11.2).bind fun q13 =>
      FX6_areFractions_b21 N K4 n l0 (iand l1 q13.1) l2 (iadd l3 1) q13.2
theorem SX6_areFractions_b21 {m b : Nat} {φ0 : Nat → Nat} {σo : fS} {N : Nat} {k4 : Nat → Int32 → Int32 → eH → Option (Int32 × eH)} {K4 : Nat → Int → Int → fS → Option (Int × fS)} {q : Int × fS} (hk4 : ∀ {φ : Nat → Nat} {h : eH} {s : fS} {l0 : Nat} {l1' : Int32} {l1 : Int} {l2' : Int32} {l2 : Int}, fC m b φ0 σo φ h s → l1' = iI l1 → r32 l1 → l2' = iI l2 → r32 l2 → K4 l0 l1 l2 s = some q → gG m b φ0 σo lI q (k4 l0 l1' l2' h)) : ∀ {n : Nat} {φ : Nat → Nat} {h : eH} {s : fS} {l0 : Nat} {l1' : Int32} {l1 : Int} {l2' : Int32} {l2 : Int} {l3' : Int32} {l3 : Int}, fC m b φ0 σo φ h s → l1' = iI l1 → r32 l1 → l2' = iI l2 → r32 l2 → l3' = iI l3 → r32 l3 → FX6_areFractions_b21 N K4 n l0 l1 l2 l3 s = some q → gG m b φ0 σo lI q (fX6_areFractions_b21 N k4 n l0 l1' l2' l3' h) := by
  intro n
  induction n with
 | zero => intro φ h s l0 l1' l1 l2' l2 l3' l3 R el1 rl1 el2 rl2 el3 rl3 hF; simp [FX6_areFractions_b21] at hF
  | succ n ih =>
    intro φ h s l0 l1' l1 l2' l2 l3' l3 R el1 rl1 el2 rl2 el3 rl3 hF
    subst el1; subst el2; subst el3
    rw [FX6_areFractions_b21] at hF
    rw [fX6_areFractions_b21]
    refine s_K hF (fun t2 hF => ?_)
    refine s_oo hF (fun a1 e1 hF => ?_)
    refine s_gA R t2 (Nat.le_of_ble_eq_true rfl) rfl e1 (fun x1_ y1_ => ?_)
    refine s_KA hF (fun y4 z4 hF => ?_)
    refine s_rI R y4 z4 (by decide) rfl rfl rl2 hF (fun x3 ra3 hF => ?_)
    refine s_if (i_le rfl rfl ra3 rl3) hF (fun c5 hF => ?_) (fun c5 hF => ?_)
    ·
      refine s_if (i_eq rfl (c_lit 7 7 rfl) rl2 ⟨by decide, by decide⟩) hF (fun c6 hF => ?_) (fun c6 hF => ?_)
      ·
        exact SX6_areFractions_b66 (N := N) (k4 := k4) (K4 := K4) @hk4 R rfl rl2 rfl rl1 hF
      ·
        refine s_K hF (fun t8 hF => ?_)
        refine s_kok R t8 (Nat.le_of_ble_eq_true rfl) ?_
        refine s_call R (Nat.zero_le _) (fun _ hq => SX6_word (b := 0) (R.rf) rfl rl2 (c_lit 0 0 rfl) ⟨by decide, by decide⟩ hq) hF (fun f9 rv9 h9 q8 R9 e9 E9 hF => ?_)
        refine s_if (not_congr (i_eq e9.1 (c_lit 0 0 rfl) e9.2 ⟨by decide, by decide⟩)) hF (fun c10 hF => ?_) (fun c10 hF => ?_)
        ·
          exact SX6_areFractions_b71 (N := N) (k4 := k4) (K4 := K4) @hk4 R9 rfl rl2 rfl rl1 (c_lit 0 0 rfl) ⟨by decide, by decide⟩ hF
        ·
          exact SX6_areFractions_b66 (N := N) (k4 := k4) (K4 := K4) @hk4 R9 rfl rl2 rfl rl1 hF
    ·
      refine s_K hF (fun t12 hF => ?_)
      refine s_kok R t12 (Nat.le_of_ble_eq_true rfl) ?_
      refine s_call R (Nat.zero_le _) (fun _ hq => SX6_word (b := 0) (R.rf) rfl rl2 rfl rl3 hq) hF (fun f13 rv13 h13 q11 R13 e13 E13 hF => ?_)
      refine s_K hF (fun t15 hF => ?_)
      refine s_kok R13 t15 (Nat.le_of_ble_eq_true rfl) ?_
      refine s_call R13 (Nat.zero_le _) (fun _ hq => SX6_isFraction (b := 0) (R13.rf) e13.1 e13.2 hq) hF (fun f16 rv16 h16 q13 R16 e16 E16 hF => ?_)
      exact ih R16 (c_and rfl e16.1) (rr_I _) rfl rl2 (c_add rfl (c_lit 1 1 rfl)) (rr_I _) hF
def FX6_areFractions_b4 (N : Nat) : Nat → Nat → Int → Int → fS → Option (Int × fS)
  | 0, _, _, _, _ => none
  | n + 1, l0, l1, l2, s =>
    if 7 < l2 then
      uZ l1 (l1, s)
    else
      if ¬ (l2 = 6) then
        FX6_areFractions_b21 N (FX6_areFractions_b4 N n) N l0 l1 l2 0 s
      else
        FX6_areFractions_b73 N (FX6_areFractions_b4 N n) l0 l1 l2 s
theorem SX6_areFractions_b4 {m b : Nat} {φ0 : Nat → Nat} {σo : fS} {N : Nat} {q : Int × fS} : ∀ {n : Nat} {φ : Nat → Nat} {h : eH} {s : fS} {l0 : Nat} {l1' : Int32} {l1 : Int} {l2' : Int32} {l2 : Int}, fC m b φ0 σo φ h s → l1' = iI l1 → r32 l1 → l2' = iI l2 → r32 l2 → FX6_areFractions_b4 N n l0 l1 l2 s = some q → gG m b φ0 σo lI q (fX6_areFractions_b4 N n l0 l1' l2' h) := by
  intro n
  induction n with
 | zero => intro φ h s l0 l1' l1 l2' l2 R el1 rl1 el2 rl2 hF; simp [FX6_areFractions_b4] at hF
  | succ n ih =>
    intro φ h s l0 l1' l1 l2' l2 R el1 rl1 el2 rl2 hF
    subst el1; subst el2
    rw [FX6_areFractions_b4] at hF
    rw [fX6_areFractions_b4]
    refine s_if (i_lt (c_lit 7 7 rfl) rfl ⟨by decide, by decide⟩ rl2) hF (fun c1 hF => ?_) (fun c1 hF => ?_)
    ·
      exact g_z R rfl hF ⟨rfl, rl1⟩
    ·
      refine s_if (not_congr (i_eq rfl (c_lit 6 6 rfl) rl2 ⟨by decide, by decide⟩)) hF (fun c2 hF => ?_) (fun c2 hF => ?_)
      ·
        exact SX6_areFractions_b21 (N := N) (k4 := fX6_areFractions_b4 N n) (K4 := FX6_areFractions_b4 N n) @ih R rfl rl1 rfl rl2 (c_lit 0 0 rfl) ⟨by decide, by decide⟩ hF
      ·
        exact SX6_areFractions_b73 (N := N) (k4 := fX6_areFractions_b4 N n) (K4 := FX6_areFractions_b4 N n) @ih R rfl rl1 rfl rl2 hF
def FX6_areFractions (N : Nat) (this : Nat) (s : fS) : Option (Int × fS) :=
  FX6_areFractions_b4 N N this 1 2 s
theorem SX6_areFractions {m b : Nat} {φ0 : Nat → Nat} {σo : fS} {N : Nat} {q : Int × fS} {φ : Nat → Nat} {h : eH} {s : fS} {this : Nat} (R : fC m b φ0 σo φ h s) (hF : FX6_areFractions N this s = some q) : gG m b φ0 σo lI q (fX6_areFractions N this h) := by
  unfold FX6_areFractions at hF
  unfold fX6_areFractions
  exact SX6_areFractions_b4 (N := N) R (c_lit 1 1 rfl) ⟨by decide, by decide⟩ (c_lit 2 2 rfl) ⟨by decide, by decide⟩ hF
def FX6_far (p0 : Int) (s : fS) : Option (Int × fS) :=
  some ((iand p0 65535), s)
theorem SX6_far {m b : Nat} {φ0 : Nat → Nat} {σo : fS} {q : Int × fS} {φ : Nat → Nat} {h : eH} {s : fS} {p0' : Int32} {p0 : Int} (R : fC m b φ0 σo φ h s) (ep0 : p0' = iI p0) (rp0 : r32 p0) (hF : FX6_far p0 s = some q) : gG m b φ0 σo lI q (fX6_far p0' h) := by
  subst ep0
  unfold FX6_far at hF
  unfold fX6_far
  exact g_ret R hF ⟨(c_and rfl (c_lit 65535 65535 rfl)), (rr_I _)⟩
def FX6_isStepRight_b37 (s0 : Int) (s : fS) : Option (Int × fS) :=
  uZ s0 (s0, s)
theorem SX6_isStepRight_b37 {m b : Nat} {φ0 : Nat → Nat} {σo : fS} {q : Int × fS} {φ : Nat → Nat} {h : eH} {s : fS} {s0' : Int32} {s0 : Int} (R : fC m b φ0 σo φ h s) (es0 : s0' = iI s0) (rs0 : r32 s0) (hF : FX6_isStepRight_b37 s0 s = some q) : gG m b φ0 σo lI q (fX6_isStepRight_b37 s0' h) := by
  subst es0
  unfold FX6_isStepRight_b37 at hF
  unfold fX6_isStepRight_b37
  exact g_z R rfl hF ⟨rfl, rs0⟩
def FX6_isStepRight_b173 (s0 : Int) (s : fS) : Option (Int × fS) :=
  uZ s0 (s0, s)
theorem SX6_isStepRight_b173 {m b : Nat} {φ0 : Nat → Nat} {σo : fS} {q : Int × fS} {φ : Nat → Nat} {h : eH} {s : fS} {s0' : Int32} {s0 : Int} (R : fC m b φ0 σo φ h s) (es0 : s0' = iI s0) (rs0 : r32 s0) (hF : FX6_isStepRight_b173 s0 s = some q) : gG m b φ0 σo lI q (fX6_isStepRight_b173 s0' h) := by
  subst es0
  unfold FX6_isStepRight_b173 at hF
  unfold fX6_isStepRight_b173
  exact g_z R rfl hF ⟨rfl, rs0⟩
def FX6_isStepRight_b168 (s : fS) : Option (Int × fS) :=
  FX6_isStepRight_b173 1 s
theorem SX6_isStepRight_b168 {m b : Nat} {φ0 : Nat → Nat} {σo : fS} {q : Int × fS} {φ : Nat → Nat} {h : eH} {s : fS} (R : fC m b φ0 σo φ h s) (hF : FX6_isStepRight_b168 s = some q) : gG m b φ0 σo lI q (fX6_isStepRight_b168 h) := by
  unfold FX6_isStepRight_b168 at hF
  unfold fX6_isStepRight_b168
  exact SX6_isStepRight_b173 R (c_lit 1 1 rfl) ⟨by decide, by decide⟩ hF
def FX6_isStepRight_b172 (s : fS) : Option (Int × fS) :=
  FX6_isStepRight_b173 0 s
theorem SX6_isStepRight_b172 {m b : Nat} {φ0 : Nat → Nat} {σo : fS} {q : Int × fS} {φ : Nat → Nat} {h : eH} {s : fS} (R : fC m b φ0 σo φ h s) (hF : FX6_isStepRight_b172 s = some q) : gG m b φ0 σo lI q (fX6_isStepRight_b172 h) := by
  unfold FX6_isStepRight_b172 at hF
  unfold fX6_isStepRight_b172
  exact SX6_isStepRight_b173 R (c_lit 0 0 rfl) ⟨by decide, by decide⟩ hF
def FX6_isStepRight_b132 (l0 : Nat) (l1 : Int) (l2 : Int) (s0 : Int) (s1 : Int) (s : fS) : Option (Int × fS) :=
  if (iand s0 s1) = 0 then
    FX6_isStepRight_b172 s
  else
    (FX6_a l2 s).bind fun q2 =>
    if q2.1 = 128 then
      FX6_isStepRight_b168 q2.2
    else
      (FX6_a l2 q2.2).bind fun q4 =>
      (uK 5 q4.2 l0).bind fun _ =>
      (q4.2.o l0 3).bind fun a5 =>
      (uKA 100 q4.2 a5).bind fun _ =>
      (uRI q4.2 a5 6).bind fun x7 =>
      if x7 ≤ (iadd (iadd l1 q4.1) 1) then
        FX6_isStepRight_b172 q4.2
      else
        FX6_isStepRight_b168 q4.2
theorem SX6_isStepRight_b132 {m b : Nat} {φ0 : Nat → Nat} {σo : fS} {q : Int × fS} {φ : Nat → Nat} {h : eH} {s : fS} {l0 : Nat} {l1' : Int32} {l1 : Int} {l2' : Int32} {l2 : Int} {s0' : Int32} {s0 : Int} {s1' : Int32} {s1 : Int} (R : fC m b φ0 σo φ h s) (el1 : l1' = iI l1) (rl1 : r32 l1) (el2 : l2' = iI l2) (rl2 : r32 l2) (es0 : s0' = iI s0) (rs0 : r32 s0) (es1 : s1' = iI s1) (rs1 : r32 s1) (hF : FX6_isStepRight_b132 l0 l1 l2 s0 s1 s = some q) : gG m b φ0 σo lI q (fX6_isStepRight_b132 l0 l1' l2' s0' s1' h) := by
  subst el1; subst el2; subst es0; subst es1
  unfold FX6_isStepRight_b132 at hF
  unfold fX6_isStepRight_b132
  refine s_if (i_eq (c_and rfl rfl) (c_lit 0 0 rfl) (rr_I _) ⟨by decide, by decide⟩) hF (fun c1 hF => ?_) (fun c1 hF => ?_)
  ·
    exact SX6_isStepRight_b172 R hF
  ·
    refine s_call R (Nat.zero_le _) (fun _ hq => SX6_a (b := 0) (R.rf) rfl rl2 hq) hF (fun f2 rv2 h2 q2 R2 e2 E2 hF => ?_)
    refine s_if (i_eq e2.1 (c_lit 128 128 rfl) e2.2 ⟨by decide, by decide⟩) hF (fun c3 hF => ?_) (fun c3 hF => ?_)
    ·
      exact SX6_isStepRight_b168 R2 hF
    ·
      refine s_call R2 (Nat.zero_le _) (fun _ hq => SX6_a (b := 0) (R2.rf) rfl rl2 hq) hF (fun f4 rv4 h4 q4 R4 e4 E4 hF => ?_)
      refine s_K hF (fun t6 hF => ?_)
      refine s_oo hF (fun a5 e5 hF => ?_)
      refine s_gA R4 t6 (Nat.le_of_ble_eq_true rfl) rfl e5 (fun x5_ y5_ => ?_)
      refine s_KA hF (fun y8 z8 hF => ?_)
      refine s_rI R4 y8 z8 (by decide) rfl (c_lit 6 6 rfl) ⟨by decide, by decide⟩ hF (fun x7 ra7 hF => ?_)
      refine s_if (i_le rfl (c_add (c_add rfl e4.1) (c_lit 1 1 rfl)) ra7 (rr_I _)) hF (fun c9 hF => ?_) (fun c9 hF => ?_)
      ·
        exact SX6_isStepRight_b172 R4 hF
      ·
        exact SX6_isStepRight_b168 R4 hF
def FX6_isStepRight_b81 (l0 : Nat) (l1 : Int) (l2 : Int) (l3 : Int) (s0 : Int) (s : fS) : Option (Int × fS) :=
  if l3 = 0 then
    (FX6_d l2 s).bind fun q2 =>
    (uK 5 q2.2 l0).bind fun _ =>
    (FX6_has l0 q2.1 q2.2).bind fun q4 =>
    FX6_isStepRight_b132 l0 l1 l2 s0 q4.1 q4.2
  else
    (FX6_c l2 s).bind fun q5 =>
    (FX6_d l2 q5.2).bind fun q6 =>
    (uK 5 q6.2 l0).bind fun _ =>
    (q6.2.o l0 3).bind fun a7 =>
    (uKA 100 q6.2 a7).bind fun _ =>
    (uRI q6.2 a7 7).bind fun x9 =>
    if x9 ≤ (iadd (imul 256 (isub q5.1 128)) q6.1) then
      FX6_isStepRight_b132 l0 l1 l2 s0 0 q6.2
    else
      FX6_isStepRight_b132 l0 l1 l2 s0 1 q6.2
theorem SX6_isStepRight_b81 {m b : Nat} {φ0 : Nat → Nat} {σo : fS} {q : Int × fS} {φ : Nat → Nat} {h : eH} {s : fS} {l0 : Nat} {l1' : Int32} {l1 : Int} {l2' : Int32} {l2 : Int} {l3' : Int32} {l3 : Int} {s0' : Int32} {s0 : Int} (R : fC m b φ0 σo φ h s) (el1 : l1' = iI l1) (rl1 : r32 l1) (el2 : l2' = iI l2) (rl2 : r32 l2) (el3 : l3' = iI l3) (rl3 : r32 l3) (es0 : s0' = iI s0) (rs0 : r32 s0) (hF : FX6_isStepRight_b81 l0 l1 l2 l3 s0 s = some q) : gG m b φ0 σo lI q (fX6_isStepRight_b81 l0 l1' l2' l3' s0' h) := by
  subst el1; subst el2; subst el3; subst es0
  unfold FX6_isStepRight_b81 at hF
  unfold fX6_isStepRight_b81
  refine s_if (i_eq rfl (c_lit 0 0 rfl) rl3 ⟨by decide, by decide⟩) hF (fun c1 hF => ?_) (fun c1 hF => ?_)
  ·
    refine s_call R (Nat.zero_le _) (fun _ hq => SX6_d (b := 0) (R.rf) rfl rl2 hq) hF (fun f2 rv2 h2 q2 R2 e2 E2 hF => ?_)
    refine s_K hF (fun t4 hF => ?_)
    refine s_kok R2 t4 (Nat.le_of_ble_eq_true rfl) ?_
    refine s_call R2 (Nat.zero_le _) (fun _ hq => SX6_has (b := 0) (R2.rf) e2.1 e2.2 hq) hF (fun f5 rv5 h5 q4 R5 e5 E5 hF => ?_)
    exact SX6_isStepRight_b132 R5 rfl rl1 rfl rl2 rfl rs0 e5.1 e5.2 hF
  ·
    refine s_call R (Nat.zero_le _) (fun _ hq => SX6_c (b := 0) (R.rf) rfl rl2 hq) hF (fun f6 rv6 h6 q5 R6 e6 E6 hF => ?_)
    refine s_call R6 (Nat.zero_le _) (fun _ hq => SX6_d (b := 0) (R6.rf) rfl rl2 hq) hF (fun f7 rv7 h7 q6 R7 e7 E7 hF => ?_)
    refine s_K hF (fun t9 hF => ?_)
    refine s_oo hF (fun a7 e8 hF => ?_)
    refine s_gA R7 t9 (Nat.le_of_ble_eq_true rfl) rfl e8 (fun x8_ y8_ => ?_)
    refine s_KA hF (fun y11 z11 hF => ?_)
    refine s_rI R7 y11 z11 (by decide) rfl (c_lit 7 7 rfl) ⟨by decide, by decide⟩ hF (fun x9 ra10 hF => ?_)
    refine s_if (i_le rfl (c_add (c_mul (c_lit 256 256 rfl) (c_sub e6.1 (c_lit 128 128 rfl))) e7.1) ra10 (rr_I _)) hF (fun c12 hF => ?_) (fun c12 hF => ?_)
    ·
      exact SX6_isStepRight_b132 R7 rfl rl1 rfl rl2 rfl rs0 (c_lit 0 0 rfl) ⟨by decide, by decide⟩ hF
    ·
      exact SX6_isStepRight_b132 R7 rfl rl1 rfl rl2 rfl rs0 (c_lit 1 1 rfl) ⟨by decide, by decide⟩ hF
def FX6_isStepRight_b76 (l0 : Nat) (l1 : Int) (l2 : Int) (l3 : Int) (s : fS) : Option (Int × fS) :=
  FX6_isStepRight_b81 l0 l1 l2 l3 1 s
theorem SX6_isStepRight_b76 {m b : Nat} {φ0 : Nat → Nat} {σo : fS} {q : Int × fS} {φ : Nat → Nat} {h : eH} {s : fS} {l0 : Nat} {l1' : Int32} {l1 : Int} {l2' : Int32} {l2 : Int} {l3' : Int32} {l3 : Int} (R : fC m b φ0 σo φ h s) (el1 : l1' = iI l1) (rl1 : r32 l1) (el2 : l2' = iI l2) (rl2 : r32 l2) (el3 : l3' = iI l3) (rl3 : r32 l3) (hF : FX6_isStepRight_b76 l0 l1 l2 l3 s = some q) : gG m b φ0 σo lI q (fX6_isStepRight_b76 l0 l1' l2' l3' h) := by
  subst el1; subst el2; subst el3
  unfold FX6_isStepRight_b76 at hF
  unfold fX6_isStepRight_b76
  exact SX6_isStepRight_b81 R rfl rl1 rfl rl2 rfl rl3 (c_lit 1 1 rfl) ⟨by decide, by decide⟩ hF
def FX6_isStepRight_b53 (l0 : Nat) (l1 : Int) (l2 : Int) (s0 : Int) (s : fS) : Option (Int × fS) :=
  (FX6_b l2 s).bind fun q1 =>
  (uK 5 q1.2 l0).bind fun _ =>
  (FX6_has l0 q1.1 q1.2).bind fun q3 =>
  if ¬ (q3.1 = 0) then
    FX6_isStepRight_b76 l0 l1 l2 s0 q3.2
  else
    (FX6_b l2 q3.2).bind fun q5 =>
    (uK 5 q5.2 l0).bind fun _ =>
    if ¬ (q5.1 = (q5.2.i l0 8)) then
      FX6_isStepRight_b81 l0 l1 l2 s0 0 q5.2
    else
      FX6_isStepRight_b76 l0 l1 l2 s0 q5.2
theorem SX6_isStepRight_b53 {m b : Nat} {φ0 : Nat → Nat} {σo : fS} {q : Int × fS} {φ : Nat → Nat} {h : eH} {s : fS} {l0 : Nat} {l1' : Int32} {l1 : Int} {l2' : Int32} {l2 : Int} {s0' : Int32} {s0 : Int} (R : fC m b φ0 σo φ h s) (el1 : l1' = iI l1) (rl1 : r32 l1) (el2 : l2' = iI l2) (rl2 : r32 l2) (es0 : s0' = iI s0) (rs0 : r32 s0) (hF : FX6_isStepRight_b53 l0 l1 l2 s0 s = some q) : gG m b φ0 σo lI q (fX6_isStepRight_b53 l0 l1' l2' s0' h) := by
  subst el1; subst el2; subst es0
  unfold FX6_isStepRight_b53 at hF
  unfold fX6_isStepRight_b53
  refine s_call R (Nat.zero_le _) (fun _ hq => SX6_b (b := 0) (R.rf) rfl rl2 hq) hF (fun f1 rv1 h1 q1 R1 e1 E1 hF => ?_)
  refine s_K hF (fun t3 hF => ?_)
  refine s_kok R1 t3 (Nat.le_of_ble_eq_true rfl) ?_
  refine s_call R1 (Nat.zero_le _) (fun _ hq => SX6_has (b := 0) (R1.rf) e1.1 e1.2 hq) hF (fun f4 rv4 h4 q3 R4 e4 E4 hF => ?_)
  refine s_if (not_congr (i_eq e4.1 (c_lit 0 0 rfl) e4.2 ⟨by decide, by decide⟩)) hF (fun c5 hF => ?_) (fun c5 hF => ?_)
  ·
    exact SX6_isStepRight_b76 R4 rfl rl1 rfl rl2 rfl rs0 hF
  ·
    refine s_call R4 (Nat.zero_le _) (fun _ hq => SX6_b (b := 0) (R4.rf) rfl rl2 hq) hF (fun f6 rv6 h6 q5 R6 e6 E6 hF => ?_)
    refine s_K hF (fun t8 hF => ?_)
    refine s_gI R6 t8 (Nat.le_of_ble_eq_true rfl) rfl ?_
    refine s_if (not_congr (i_eq e6.1 rfl e6.2 (R6.ri t8 (Nat.le_of_ble_eq_true rfl) rfl))) hF (fun c9 hF => ?_) (fun c9 hF => ?_)
    ·
      exact SX6_isStepRight_b81 R6 rfl rl1 rfl rl2 rfl rs0 (c_lit 0 0 rfl) ⟨by decide, by decide⟩ hF
    ·
      exact SX6_isStepRight_b76 R6 rfl rl1 rfl rl2 rfl rs0 hF
def FX6_isStepRight (this : Nat) (p0 : Int) (s : fS) : Option (Int × fS) :=
  (uK 5 s this).bind fun _ =>
  (FX6_word this 6 p0 s).bind fun q2 =>
  (FX6_a q2.1 q2.2).bind fun q3 =>
  if q3.1 ≤ 128 then
    (FX6_c q2.1 q3.2).bind fun q5 =>
    if q5.1 < 128 then
      FX6_isStepRight_b53 this p0 q2.1 0 q5.2
    else
      FX6_isStepRight_b53 this p0 q2.1 1 q5.2
  else
    (FX6_far q2.1 q3.2).bind fun q7 =>
    (uK 5 q7.2 this).bind fun _ =>
    (q7.2.o this 3).bind fun a8 =>
    (uKA 100 q7.2 a8).bind fun _ =>
    (uRI q7.2 a8 6).bind fun x10 =>
    if x10 ≤ q7.1 then
      FX6_isStepRight_b37 0 q7.2
    else
      FX6_isStepRight_b37 1 q7.2
theorem SX6_isStepRight {m b : Nat} {φ0 : Nat → Nat} {σo : fS} {q : Int × fS} {φ : Nat → Nat} {h : eH} {s : fS} {this : Nat} {p0' : Int32} {p0 : Int} (R : fC m b φ0 σo φ h s) (ep0 : p0' = iI p0) (rp0 : r32 p0) (hF : FX6_isStepRight this p0 s = some q) : gG m b φ0 σo lI q (fX6_isStepRight this p0' h) := by
  subst ep0
  unfold FX6_isStepRight at hF
  unfold fX6_isStepRight
  refine s_K hF (fun t2 hF => ?_)
  refine s_kok R t2 (Nat.le_of_ble_eq_true rfl) ?_
  refine s_call R (Nat.zero_le _) (fun _ hq => SX6_word (b := 0) (R.rf) (c_lit 6 6 rfl) ⟨by decide, by decide⟩ rfl rp0 hq) hF (fun f3 rv3 h3 q2 R3 e3 E3 hF => ?_)
  refine s_call R3 (Nat.zero_le _) (fun _ hq => SX6_a (b := 0) (R3.rf) e3.1 e3.2 hq) hF (fun f4 rv4 h4 q3 R4 e4 E4 hF => ?_)
  refine s_if (i_le e4.1 (c_lit 128 128 rfl) e4.2 ⟨by decide, by decide⟩) hF (fun c5 hF => ?_) (fun c5 hF => ?_)
  ·
    refine s_call R4 (Nat.zero_le _) (fun _ hq => SX6_c (b := 0) (R4.rf) e3.1 e3.2 hq) hF (fun f6 rv6 h6 q5 R6 e6 E6 hF => ?_)
    refine s_if (i_lt e6.1 (c_lit 128 128 rfl) e6.2 ⟨by decide, by decide⟩) hF (fun c7 hF => ?_) (fun c7 hF => ?_)
    ·
      exact SX6_isStepRight_b53 R6 rfl rp0 e3.1 e3.2 (c_lit 0 0 rfl) ⟨by decide, by decide⟩ hF
    ·
      exact SX6_isStepRight_b53 R6 rfl rp0 e3.1 e3.2 (c_lit 1 1 rfl) ⟨by decide, by decide⟩ hF
  ·
    refine s_call R4 (Nat.zero_le _) (fun _ hq => SX6_far (b := 0) (R4.rf) e3.1 e3.2 hq) hF (fun f8 rv8 h8 q7 R8 e8 E8 hF => ?_)
    refine s_K hF (fun t10 hF => ?_)
    refine s_oo hF (fun a8 e9 hF => ?_)
    refine s_gA R8 t10 (Nat.le_of_ble_eq_true rfl) rfl e9 (fun x9_ y9_ => ?_)
    refine s_KA hF (fun y12 z12 hF => ?_)
    refine s_rI R8 y12 z12 (by decide) rfl (c_lit 6 6 rfl) ⟨by decide, by decide⟩ hF (fun x10 ra11 hF => ?_)
    refine s_if (i_le rfl e8.1 ra11 e8.2) hF (fun c13 hF => ?_) (fun c13 hF => ?_)
    ·
      exact SX6_isStepRight_b37 R8 (c_lit 0 0 rfl) ⟨by decide, by decide⟩ hF
    ·
      exact SX6_isStepRight_b37 R8 (c_lit 1 1 rfl) ⟨by decide, by decide⟩ hF
def FX6_isProgramRight_b92 (N : Nat) : Nat → Nat → Int → Int → Int → fS → Option (Int × fS)
  | 0, _, _, _, _, _ => none
  | n + 1, l0, l1, l2, l3, s =>
    if l1 ≤ l3 then
      uZ l2 (l2, s)
    else
      (uK 5 s l0).bind fun _ =>
      (FX6_isStepRight l0 l3 s).bind fun q4 =>
      FX6_isProgramRight_b92 N n l0 l1 (iand l2 q4.1) (iadd l3 1) q4.2
theorem SX6_isProgramRight_b92 {m b : Nat} {φ0 : Nat → Nat} {σo : fS} {N : Nat} {q : Int × fS} : ∀ {n : Nat} {φ : Nat → Nat} {h : eH} {s : fS} {l0 : Nat} {l1' : Int32} {l1 : Int} {l2' : Int32} {l2 : Int} {l3' : Int32} {l3 : Int}, fC m b φ0 σo φ h s → l1' = iI l1 → r32 l1 → l2' = iI l2 → r32 l2 → l3' = iI l3 → r32 l3 → FX6_isProgramRight_b92 N n l0 l1 l2 l3 s = some q → gG m b φ0 σo lI q (fX6_isProgramRight_b92 N n l0 l1' l2' l3' h) := by
  intro n
  induction n with
 | zero => intro φ h s l0 l1' l1 l2' l2 l3' l3 R el1 rl1 el2 rl2 el3 rl3 hF; simp [FX6_isProgramRight_b92] at hF
  | succ n ih =>
    intro φ h s l0 l1' l1 l2' l2 l3' l3 R el1 rl1 el2 rl2 el3 rl3 hF
    subst el1; subst el2; subst el3
    rw [FX6_isProgramRight_b92] at hF
    rw [fX6_isProgramRight_b92]
    refine s_if (i_le rfl rfl rl1 rl3) hF (fun c1 hF => ?_) (fun c1 hF => ?_)
    ·
      exact g_z R rfl hF ⟨rfl, rl2⟩
    ·
      refine s_K hF (fun t3 hF => ?_)
      refine s_kok R t3 (Nat.le_of_ble_eq_true rfl) ?_
      refine s_call R (Nat.zero_le _) (fun _ hq => SX6_isStepRight (b := 0) (R.rf) rfl rl3 hq) hF (fun f4 rv4 h4 q4 R4 e4 E4 hF => ?_)
      exact ih R4 rfl rl1 (c_and rfl e4.1) (rr_I _) (c_add rfl (c_lit 1 1 rfl)) (rr_I _) hF
def FX6_isProgramRight_b85 (N : Nat) (l0 : Nat) (l1 : Int) (s0 : Nat) (s1 : Int) (s : fS) : Option (Int × fS) :=
  (uK 5 s s0).bind fun _ =>
  (uPI s s0 9 s1).bind fun σ1 =>
  FX6_isProgramRight_b92 N N l0 l1 1 0 σ1
theorem SX6_isProgramRight_b85 {m b : Nat} {φ0 : Nat → Nat} {σo : fS} {N : Nat} {q : Int × fS} {φ : Nat → Nat} {h : eH} {s : fS} {l0 : Nat} {l1' : Int32} {l1 : Int} {s0 : Nat} {s1' : Int32} {s1 : Int} (R : fC m b φ0 σo φ h s) (el1 : l1' = iI l1) (rl1 : r32 l1) (es1 : s1' = iI s1) (rs1 : r32 s1) (hF : FX6_isProgramRight_b85 N l0 l1 s0 s1 s = some q) : gG m b φ0 σo lI q (fX6_isProgramRight_b85 N l0 l1' s0 s1' h) := by
  subst el1; subst es1
  unfold FX6_isProgramRight_b85 at hF
  unfold fX6_isProgramRight_b85
  refine s_K hF (fun t2 hF => ?_)
  refine s_pI R t2 (Nat.le_of_ble_eq_true rfl) rfl rfl rs1 hF (fun h1 σ1 R1 T1 hF => ?_)
  exact SX6_isProgramRight_b92 (N := N) R1 rfl rl1 (c_lit 1 1 rfl) ⟨by decide, by decide⟩ (c_lit 0 0 rfl) ⟨by decide, by decide⟩ hF
def FX6_isProgramRight_b84 (N : Nat) (l0 : Nat) (l1 : Int) (s0 : Nat) (s : fS) : Option (Int × fS) :=
  FX6_isProgramRight_b85 N l0 l1 s0 (-1) s
theorem SX6_isProgramRight_b84 {m b : Nat} {φ0 : Nat → Nat} {σo : fS} {N : Nat} {q : Int × fS} {φ : Nat → Nat} {h : eH} {s : fS} {l0 : Nat} {l1' : Int32} {l1 : Int} {s0 : Nat} (R : fC m b φ0 σo φ h s) (el1 : l1' = iI l1) (rl1 : r32 l1) (hF : FX6_isProgramRight_b84 N l0 l1 s0 s = some q) : gG m b φ0 σo lI q (fX6_isProgramRight_b84 N l0 l1' s0 h) := by
  subst el1
  unfold FX6_isProgramRight_b84 at hF
  unfold fX6_isProgramRight_b84
  exact SX6_isProgramRight_b85 (N := N) R rfl rl1 (c_lit (-1) (-1) rfl) ⟨by decide, by decide⟩ hF
def FX6_isProgramRight_b43 (N : Nat) (l0 : Nat) (l1 : Int) (s0 : Nat) (s1 : Int) (s : fS) : Option (Int × fS) :=
  (uK 5 s s0).bind fun _ =>
  (uPI s s0 8 s1).bind fun σ1 =>
  if l1 ≤ 0 then
    FX6_isProgramRight_b84 N l0 l1 l0 σ1
  else
    (uK 5 σ1 l0).bind fun _ =>
    (FX6_word l0 6 (isub l1 1) σ1).bind fun q5 =>
    (FX6_a q5.1 q5.2).bind fun q6 =>
    if ¬ (q6.1 = 255) then
      FX6_isProgramRight_b84 N l0 l1 l0 q6.2
    else
      (uK 5 q6.2 l0).bind fun _ =>
      (FX6_word l0 6 (isub l1 1) q6.2).bind fun q9 =>
      (FX6_far q9.1 q9.2).bind fun q10 =>
      FX6_isProgramRight_b85 N l0 l1 l0 q10.1 q10.2
theorem SX6_isProgramRight_b43 {m b : Nat} {φ0 : Nat → Nat} {σo : fS} {N : Nat} {q : Int × fS} {φ : Nat → Nat} {h : eH} {s : fS} {l0 : Nat} {l1' : Int32} {l1 : Int} {s0 : Nat} {s1' : Int32} {s1 : Int} (R : fC m b φ0 σo φ h s) (el1 : l1' = iI l1) (rl1 : r32 l1) (es1 : s1' = iI s1) (rs1 : r32 s1) (hF : FX6_isProgramRight_b43 N l0 l1 s0 s1 s = some q) : gG m b φ0 σo lI q (fX6_isProgramRight_b43 N l0 l1' s0 s1' h) := by
  subst el1; subst es1
  unfold FX6_isProgramRight_b43 at hF
  unfold fX6_isProgramRight_b43
  refine s_K hF (fun t2 hF => ?_)
  refine s_pI R t2 (Nat.le_of_ble_eq_true rfl) rfl rfl rs1 hF (fun h1 σ1 R1 T1 hF => ?_)
  refine s_if (i_le rfl (c_lit 0 0 rfl) rl1 ⟨by decide, by decide⟩) hF (fun c3 hF => ?_) (fun c3 hF => ?_)
  ·
    exact SX6_isProgramRight_b84 (N := N) R1 rfl rl1 hF
  ·
    refine s_K hF (fun t5 hF => ?_)
    refine s_kok R1 t5 (Nat.le_of_ble_eq_true rfl) ?_
    refine s_call R1 (Nat.zero_le _) (fun _ hq => SX6_word (b := 0) (R1.rf) (c_lit 6 6 rfl) ⟨by decide, by decide⟩ (c_sub rfl (c_lit 1 1 rfl)) (rr_I _) hq) hF (fun f6 rv6 h6 q5 R6 e6 E6 hF => ?_)
    refine s_call R6 (Nat.zero_le _) (fun _ hq => SX6_a (b := 0) (R6.rf) e6.1 e6.2 hq) hF (fun f7 rv7 h7 q6 R7 e7 E7 hF => ?_)
    refine s_if (not_congr (i_eq e7.1 (c_lit 255 255 rfl) e7.2 ⟨by decide, by decide⟩)) hF (fun c8 hF => ?_) (fun c8 hF => ?_)
    ·
      exact SX6_isProgramRight_b84 (N := N) R7 rfl rl1 hF
    ·
      refine s_K hF (fun t10 hF => ?_)
      refine s_kok R7 t10 (Nat.le_of_ble_eq_true rfl) ?_
      refine s_call R7 (Nat.zero_le _) (fun _ hq => SX6_word (b := 0) (R7.rf) (c_lit 6 6 rfl) ⟨by decide, by decide⟩ (c_sub rfl (c_lit 1 1 rfl)) (rr_I _) hq) hF (fun f11 rv11 h11 q9 R11 e11 E11 hF => ?_)
      refine s_call R11 (Nat.zero_le _) (fun _ hq => SX6_far (b := 0) (R11.rf) e11.1 e11.2 hq) hF (fun f12 rv12 h12 q10 R12 e12 E12 hF => ?_)
      exact SX6_isProgramRight_b85 (N := N) R12 rfl rl1 e12.1 e12.2 hF
def FX6_isProgramRight_b42 (N : Nat) (l0 : Nat) (l1 : Int) (s0 : Nat) (s : fS) : Option (Int × fS) :=
  FX6_isProgramRight_b43 N l0 l1 s0 (-1) s
theorem SX6_isProgramRight_b42 {m b : Nat} {φ0 : Nat → Nat} {σo : fS} {N : Nat} {q : Int × fS} {φ : Nat → Nat} {h : eH} {s : fS} {l0 : Nat} {l1' : Int32} {l1 : Int} {s0 : Nat} (R : fC m b φ0 σo φ h s) (el1 : l1' = iI l1) (rl1 : r32 l1) (hF : FX6_isProgramRight_b42 N l0 l1 s0 s = some q) : gG m b φ0 σo lI q (fX6_isProgramRight_b42 N l0 l1' s0 h) := by
  subst el1
  unfold FX6_isProgramRight_b42 at hF
  unfold fX6_isProgramRight_b42
  exact SX6_isProgramRight_b43 (N := N) R rfl rl1 (c_lit (-1) (-1) rfl) ⟨by decide, by decide⟩ hF
def FX6_isProgramRight (N : Nat) (this : Nat) (s : fS) : Option (Int × fS) :=
  (uK 5 s this).bind fun _ =>
  (s.o this 3).bind fun a1 =>
  (uKA 100 s a1).bind fun _ =>
  (uRI s a1 6).bind fun x3 =>
  if x3 ≤ 0 then
    FX6_isProgramRight_b42 N this x3 this s
  else
    (uK 5 s this).bind fun _ =>
    (FX6_word this 6 0 s).bind fun q7 =>
    (FX6_a q7.1 q7.2).bind fun q8 =>
    if ¬ (q8.1 = 255) then
      FX6_isProgramRight_b42 N this x3 this q8.2
    else
      (uK 5 q8.2 this).bind fun _ =>
      (FX6_word this 6 0 q8.2).bind fun q11 =>
      (FX6_b q11.1 q11.2).bind fun q12 =>
      FX6_isProgramRight_b43 N this x3 this q12.1 q12.2
theorem SX6_isProgramRight {m b : Nat} {φ0 : Nat → Nat} {σo : fS} {N : Nat} {q : Int × fS} {φ : Nat → Nat} {h : eH} {s : fS} {this : Nat} (R : fC m b φ0 σo φ h s) (hF : FX6_isProgramRight N this s = some q) : gG m b φ0 σo lI q (fX6_isProgramRight N this h) := by
  unfold FX6_isProgramRight at hF
  unfold fX6_isProgramRight
  refine s_K hF (fun t2 hF => ?_)
  refine s_oo hF (fun a1 e1 hF => ?_)
  refine s_gA R t2 (Nat.le_of_ble_eq_true rfl) rfl e1 (fun x1_ y1_ => ?_)
  refine s_KA hF (fun y4 z4 hF => ?_)
  refine s_rI R y4 z4 (by decide) rfl (c_lit 6 6 rfl) ⟨by decide, by decide⟩ hF (fun x3 ra3 hF => ?_)
  refine s_if (i_le rfl (c_lit 0 0 rfl) ra3 ⟨by decide, by decide⟩) hF (fun c5 hF => ?_) (fun c5 hF => ?_)
  ·
    exact SX6_isProgramRight_b42 (N := N) R rfl ra3 hF
  ·
    refine s_K hF (fun t7 hF => ?_)
    refine s_kok R t7 (Nat.le_of_ble_eq_true rfl) ?_
    refine s_call R (Nat.zero_le _) (fun _ hq => SX6_word (b := 0) (R.rf) (c_lit 6 6 rfl) ⟨by decide, by decide⟩ (c_lit 0 0 rfl) ⟨by decide, by decide⟩ hq) hF (fun f8 rv8 h8 q7 R8 e8 E8 hF => ?_)
    refine s_call R8 (Nat.zero_le _) (fun _ hq => SX6_a (b := 0) (R8.rf) e8.1 e8.2 hq) hF (fun f9 rv9 h9 q8 R9 e9 E9 hF => ?_)
    refine s_if (not_congr (i_eq e9.1 (c_lit 255 255 rfl) e9.2 ⟨by decide, by decide⟩)) hF (fun c10 hF => ?_) (fun c10 hF => ?_)
    ·
      exact SX6_isProgramRight_b42 (N := N) R9 rfl ra3 hF
    ·
      refine s_K hF (fun t12 hF => ?_)
      refine s_kok R9 t12 (Nat.le_of_ble_eq_true rfl) ?_
      refine s_call R9 (Nat.zero_le _) (fun _ hq => SX6_word (b := 0) (R9.rf) (c_lit 6 6 rfl) ⟨by decide, by decide⟩ (c_lit 0 0 rfl) ⟨by decide, by decide⟩ hq) hF (fun f13 rv13 h13 q11 R13 e13 E13 hF => ?_)
      refine s_call R13 (Nat.zero_le _) (fun _ hq => SX6_b (b := 0) (R13.rf) e13.1 e13.2 hq) hF (fun f14 rv14 h14 q12 R14 e14 E14 hF => ?_)
      exact SX6_isProgramRight_b43 (N := N) R14 rfl ra3 e14.1 e14.2 hF
def FX6_areRecipesRight_b94 (N : Nat) (K4 : Nat → Int → Int → fS → Option (Int × fS)) (l0 : Nat) (l2 : Int) (s0 : Int) (s1 : Int) (s : fS) : Option (Int × fS) :=
  K4 l0 (iand s0 s1) (iadd l2 1) s
theorem SX6_areRecipesRight_b94 {m b : Nat} {φ0 : Nat → Nat} {σo : fS} {N : Nat} {k4 : Nat → Int32 → Int32 → eH → Option (Int32 × eH)} {K4 : Nat → Int → Int → fS → Option (Int × fS)} {q : Int × fS} (hk4 : ∀ {φ : Nat → Nat} {h : eH} {s : fS} {l0 : Nat} {l1' : Int32} {l1 : Int} {l2' : Int32} {l2 : Int}, fC m b φ0 σo φ h s → l1' = iI l1 → r32 l1 → l2' = iI l2 → r32 l2 → K4 l0 l1 l2 s = some q → gG m b φ0 σo lI q (k4 l0 l1' l2' h)) {φ : Nat → Nat} {h : eH} {s : fS} {l0 : Nat} {l2' : Int32} {l2 : Int} {s0' : Int32} {s0 : Int} {s1' : Int32} {s1 : Int} (R : fC m b φ0 σo φ h s) (el2 : l2' = iI l2) (rl2 : r32 l2) (es0 : s0' = iI s0) (rs0 : r32 s0) (es1 : s1' = iI s1) (rs1 : r32 s1) (hF : FX6_areRecipesRight_b94 N K4 l0 l2 s0 s1 s = some q) : gG m b φ0 σo lI q (fX6_areRecipesRight_b94 N k4 l0 l2' s0' s1' h) := by
  subst el2; subst es0; subst es1
  unfold FX6_areRecipesRight_b94 at hF
  unfold fX6_areRecipesRight_b94
  exact hk4 R (c_and rfl rfl) (rr_I _) (c_add rfl (c_lit 1 1 rfl)) (rr_I _) hF
def FX6_areRecipesRight_b89 (N : Nat) (K4 : Nat → Int → Int → fS → Option (Int × fS)) (l0 : Nat) (l2 : Int) (s0 : Int) (s : fS) : Option (Int × fS) :=
  FX6_areRecipesRight_b94 N K4 l0 l2 s0 1 s
theorem SX6_areRecipesRight_b89 {m b : Nat} {φ0 : Nat → Nat} {σo : fS} {N : Nat} {k4 : Nat → Int32 → Int32 → eH → Option (Int32 × eH)} {K4 : Nat → Int → Int → fS → Option (Int × fS)} {q : Int × fS} (hk4 : ∀ {φ : Nat → Nat} {h : eH} {s : fS} {l0 : Nat} {l1' : Int32} {l1 : Int} {l2' : Int32} {l2 : Int}, fC m b φ0 σo φ h s → l1' = iI l1 → r32 l1 → l2' = iI l2 → r32 l2 → K4 l0 l1 l2 s = some q → gG m b φ0 σo lI q (k4 l0 l1' l2' h)) {φ : Nat → Nat} {h : eH} {s : fS} {l0 : Nat} {l2' : Int32} {l2 : Int} {s0' : Int32} {s0 : Int} (R : fC m b φ0 σo φ h s) (el2 : l2' = iI l2) (rl2 : r32 l2) (es0 : s0' = iI s0) (rs0 : r32 s0) (hF : FX6_areRecipesRight_b89 N K4 l0 l2 s0 s = some q) : gG m b φ0 σo lI q (fX6_areRecipesRight_b89 N k4 l0 l2' s0' h) := by
  subst el2; subst es0
  unfold FX6_areRecipesRight_b89 at hF
  unfold fX6_areRecipesRight_b89
  exact SX6_areRecipesRight_b94 (N := N) (k4 := k4) (K4 := K4) @hk4 R rfl rl2 rfl rs0 (c_lit 1 1 rfl) ⟨by decide, by decide⟩ hF
def FX6_areRecipesRight_b93 (N : Nat) (K4 : Nat → Int → Int → fS → Option (Int × fS)) (l0 : Nat) (l2 : Int) (s0 : Int) (s : fS) : Option (Int × fS) :=
  FX6_areRecipesRight_b94 N K4 l0 l2 s0 0 s
theorem SX6_areRecipesRight_b93 {m b : Nat} {φ0 : Nat → Nat} {σo : fS} {N : Nat} {k4 : Nat → Int32 → Int32 → eH → Option (Int32 × eH)} {K4 : Nat → Int → Int → fS → Option (Int × fS)} {q : Int × fS} (hk4 : ∀ {φ : Nat → Nat} {h : eH} {s : fS} {l0 : Nat} {l1' : Int32} {l1 : Int} {l2' : Int32} {l2 : Int}, fC m b φ0 σo φ h s → l1' = iI l1 → r32 l1 → l2' = iI l2 → r32 l2 → K4 l0 l1 l2 s = some q → gG m b φ0 σo lI q (k4 l0 l1' l2' h)) {φ : Nat → Nat} {h : eH} {s : fS} {l0 : Nat} {l2' : Int32} {l2 : Int} {s0' : Int32} {s0 : Int} (R : fC m b φ0 σo φ h s) (el2 : l2' = iI l2) (rl2 : r32 l2) (es0 : s0' = iI s0) (rs0 : r32 s0) (hF : FX6_areRecipesRight_b93 N K4 l0 l2 s0 s = some q) : gG m b φ0 σo lI q (fX6_areRecipesRight_b93 N k4 l0 l2' s0' h) := by
  subst el2; subst es0
  unfold FX6_areRecipesRight_b93 at hF
  unfold fX6_areRecipesRight_b93
  exact SX6_areRecipesRight_b94 (N := N) (k4 := k4) (K4 := K4) @hk4 R rfl rl2 rfl rs0 (c_lit 0 0 rfl) ⟨by decide, by decide⟩ hF
def FX6_areRecipesRight_b71 (N : Nat) (K4 : Nat → Int → Int → fS → Option (Int × fS)) (l0 : Nat) (l2 : Int) (l3 : Int) (s0 : Int) (s : fS) : Option (Int × fS) :=
  (FX6_c l3 s).bind fun q1 =>
  if q1.1 = 0 then
    FX6_areRecipesRight_b89 N K4 l0 l2 s0 q1.2
  else
    (FX6_c l3 q1.2).bind fun q3 =>
    (uK 5 q3.2 l0).bind fun _ =>
    (FX6_has l0 q3.1 q3.2).bind fun q5 =>
    if q5.1 = 0 then
      FX6_areRecipesRight_b93 N K4 l0 l2 s0 q5.2
    else
      FX6_areRecipesRight_b89 N K4 l0 l2 s0 q5.2
theorem SX6_areRecipesRight_b71 {m b : Nat} {φ0 : Nat → Nat} {σo : fS} {N : Nat} {k4 : Nat → Int32 → Int32 → eH → Option (Int32 × eH)} {K4 : Nat → Int → Int → fS → Option (Int × fS)} {q : Int × fS} (hk4 : ∀ {φ : Nat → Nat} {h : eH} {s : fS} {l0 : Nat} {l1' : Int32} {l1 : Int} {l2' : Int32} {l2 : Int}, fC m b φ0 σo φ h s → l1' = iI l1 → r32 l1 → l2' = iI l2 → r32 l2 → K4 l0 l1 l2 s = some q → gG m b φ0 σo lI q (k4 l0 l1' l2' h)) {φ : Nat → Nat} {h : eH} {s : fS} {l0 : Nat} {l2' : Int32} {l2 : Int} {l3' : Int32} {l3 : Int} {s0' : Int32} {s0 : Int} (R : fC m b φ0 σo φ h s) (el2 : l2' = iI l2) (rl2 : r32 l2) (el3 : l3' = iI l3) (rl3 : r32 l3) (es0 : s0' = iI s0) (rs0 : r32 s0) (hF : FX6_areRecipesRight_b71 N K4 l0 l2 l3 s0 s = some q) : gG m b φ0 σo lI q (fX6_areRecipesRight_b71 N k4 l0 l2' l3' s0' h) := by
  subst el2; subst el3; subst es0
  unfold FX6_areRecipesRight_b71 at hF
  unfold fX6_areRecipesRight_b71
  refine s_call R (Nat.zero_le _) (fun _ hq => SX6_c (b := 0) (R.rf) rfl rl3 hq) hF (fun f1 rv1 h1 q1 R1 e1 E1 hF => ?_)
  refine s_if (i_eq e1.1 (c_lit 0 0 rfl) e1.2 ⟨by decide, by decide⟩) hF (fun c2 hF => ?_) (fun c2 hF => ?_)
  ·
    exact SX6_areRecipesRight_b89 (N := N) (k4 := k4) (K4 := K4) @hk4 R1 rfl rl2 rfl rs0 hF
  ·
    refine s_call R1 (Nat.zero_le _) (fun _ hq => SX6_c (b := 0) (R1.rf) rfl rl3 hq) hF (fun f3 rv3 h3 q3 R3 e3 E3 hF => ?_)
    refine s_K hF (fun t5 hF => ?_)
    refine s_kok R3 t5 (Nat.le_of_ble_eq_true rfl) ?_
    refine s_call R3 (Nat.zero_le _) (fun _ hq => SX6_has (b := 0) (R3.rf) e3.1 e3.2 hq) hF (fun f6 rv6 h6 q5 R6 e6 E6 hF => ?_)
    refine s_if (i_eq e6.1 (c_lit 0 0 rfl) e6.2 ⟨by decide, by decide⟩) hF (fun c7 hF => ?_) (fun c7 hF => ?_)
    ·
      exact SX6_areRecipesRight_b93 (N := N) (k4 := k4) (K4 := K4) @hk4 R6 rfl rl2 rfl rs0 hF
    ·
      exact SX6_areRecipesRight_b89 (N := N) (k4 := k4) (K4 := K4) @hk4 R6 rfl rl2 rfl rs0 hF
def FX6_areRecipesRight_b53 (N : Nat) (K4 : Nat → Int → Int → fS → Option (Int × fS)) (l0 : Nat) (l2 : Int) (l3 : Int) (s0 : Int) (s : fS) : Option (Int × fS) :=
  (FX6_b l3 s).bind fun q1 =>
  if q1.1 = 0 then
    FX6_areRecipesRight_b71 N K4 l0 l2 l3 s0 q1.2
  else
    (FX6_b l3 q1.2).bind fun q3 =>
    (uK 5 q3.2 l0).bind fun _ =>
    (FX6_has l0 q3.1 q3.2).bind fun q5 =>
    if q5.1 = 0 then
      FX6_areRecipesRight_b93 N K4 l0 l2 s0 q5.2
    else
      FX6_areRecipesRight_b71 N K4 l0 l2 l3 s0 q5.2
theorem SX6_areRecipesRight_b53 {m b : Nat} {φ0 : Nat → Nat} {σo : fS} {N : Nat} {k4 : Nat → Int32 → Int32 → eH → Option (Int32 × eH)} {K4 : Nat → Int → Int → fS → Option (Int × fS)} {q : Int × fS} (hk4 : ∀ {φ : Nat → Nat} {h : eH} {s : fS} {l0 : Nat} {l1' : Int32} {l1 : Int} {l2' : Int32} {l2 : Int}, fC m b φ0 σo φ h s → l1' = iI l1 → r32 l1 → l2' = iI l2 → r32 l2 → K4 l0 l1 l2 s = some q → gG m b φ0 σo lI q (k4 l0 l1' l2' h)) {φ : Nat → Nat} {h : eH} {s : fS} {l0 : Nat} {l2' : Int32} {l2 : Int} {l3' : Int32} {l3 : Int} {s0' : Int32} {s0 : Int} (R : fC m b φ0 σo φ h s) (el2 : l2' = iI l2) (rl2 : r32 l2) (el3 : l3' = iI l3) (rl3 : r32 l3) (es0 : s0' = iI s0) (rs0 : r32 s0) (hF : FX6_areRecipesRight_b53 N K4 l0 l2 l3 s0 s = some q) : gG m b φ0 σo lI q (fX6_areRecipesRight_b53 N k4 l0 l2' l3' s0' h) := by
  subst el2; subst el3; subst es0
  unfold FX6_areRecipesRight_b53 at hF
  unfold fX6_areRecipesRight_b53
  refine s_call R (Nat.zero_le _) (fun _ hq => SX6_b (b := 0) (R.rf) rfl rl3 hq) hF (fun f1 rv1 h1 q1 R1 e1 E1 hF => ?_)
  refine s_if (i_eq e1.1 (c_lit 0 0 rfl) e1.2 ⟨by decide, by decide⟩) hF (fun c2 hF => ?_) (fun c2 hF => ?_)
  ·
    exact SX6_areRecipesRight_b71 (N := N) (k4 := k4) (K4 := K4) @hk4 R1 rfl rl2 rfl rl3 rfl rs0 hF
  ·
    refine s_call R1 (Nat.zero_le _) (fun _ hq => SX6_b (b := 0) (R1.rf) rfl rl3 hq) hF (fun f3 rv3 h3 q3 R3 e3 E3 hF => ?_)
    refine s_K hF (fun t5 hF => ?_)
    refine s_kok R3 t5 (Nat.le_of_ble_eq_true rfl) ?_
    refine s_call R3 (Nat.zero_le _) (fun _ hq => SX6_has (b := 0) (R3.rf) e3.1 e3.2 hq) hF (fun f6 rv6 h6 q5 R6 e6 E6 hF => ?_)
    refine s_if (i_eq e6.1 (c_lit 0 0 rfl) e6.2 ⟨by decide, by decide⟩) hF (fun c7 hF => ?_) (fun c7 hF => ?_)
    ·
      exact SX6_areRecipesRight_b93 (N := N) (k4 := k4) (K4 := K4) @hk4 R6 rfl rl2 rfl rs0 hF
    ·
      exact SX6_areRecipesRight_b71 (N := N) (k4 := k4) (K4 := K4) @hk4 R6 rfl rl2 rfl rl3 rfl rs0 hF
def FX6_areRecipesRight_b4 (N : Nat) : Nat → Nat → Int → Int → fS → Option (Int × fS)
  | 0, _, _, _, _ => none
  | n + 1, l0, l1, l2, s =>
    (uK 5 s l0).bind fun _ =>
    (s.o l0 3).bind fun a1 =>
    (uKA 100 s a1).bind fun _ =>
    (uRI s a1 8).bind fun x3 =>
    if x3 ≤ l2 then
      uZ l1 (l1, s)
    else
      (uK 5 s l0).bind fun _ =>
      (FX6_word l0 8 l2 s).bind fun q8 =>
      (FX6_d q8.1 q8.2).bind fun q9 =>
      (uK 5 q9.2 l0).bind fun _ =>
      (FX6_has l0 q9.1 q9.2).bind fun q11 =>
      if q11.1 = 0 then
        FX6_areRecipesRight_b93 N (FX6_areRecipesRight_b4 N n) l0 l2 l1 q11.2
      else
        (FX6_a q8.1 q11.2).bind fun q13 =>
        if q13.1 = 0 then
          FX6_areRecipesRight_b53 N (FX6_areRecipesRight_b4 N n) l0 l2 q8.1 l1 q13.2
        else
          (FX6_a q8.1 q13.2).bind fun q15 =>
          (uK 5 q15.2 l0).bind fun _ =>
          (FX6_has l0 q15.1 q15.2).bind fun q17 =>
          if q17.1 = 0 then
            FX6_areRecipesRight_b93 N (FX6_areRecipesRight_b4 N n) l0 l2 l1 q17.2
          else
            FX6_areRecipesRight_b53 N (FX6_areRecipesRight_b4 N n) l0 l2 q8.1 l1 q17.2
theorem SX6_areRecipesRight_b4 {m b : Nat} {φ0 : Nat → Nat} {σo : fS} {N : Nat} {q : Int × fS} : ∀ {n : Nat} {φ : Nat → Nat} {h : eH} {s : fS} {l0 : Nat} {l1' : Int32} {l1 : Int} {l2' : Int32} {l2 : Int}, fC m b φ0 σo φ h s → l1' = iI l1 → r32 l1 → l2' = iI l2 → r32 l2 → FX6_areRecipesRight_b4 N n l0 l1 l2 s = some q → gG m b φ0 σo lI q (fX6_areRecipesRight_b4 N n l0 l1' l2' h) := by
  intro n
  induction n with
 | zero => intro φ h s l0 l1' l1 l2' l2 R el1 rl1 el2 rl2 hF; simp [FX6_areRecipesRight_b4] at hF
  | succ n ih =>
    intro φ h s l0 l1' l1 l2' l2 R el1 rl1 el2 rl2 hF
    subst el1; subst el2
    rw [FX6_areRecipesRight_b4] at hF
    rw [fX6_areRecipesRight_b4]
    refine s_K hF (fun t2 hF => ?_)
    refine s_oo hF (fun a1 e1 hF => ?_)
    refine s_gA R t2 (Nat.le_of_ble_eq_true rfl) rfl e1 (fun x1_ y1_ => ?_)
    refine s_KA hF (fun y4 z4 hF => ?_)
    refine s_rI R y4 z4 (by decide) rfl (c_lit 8 8 rfl) ⟨by decide, by decide⟩ hF (fun x3 ra3 hF => ?_)
    refine s_if (i_le rfl rfl ra3 rl2) hF (fun c5 hF => ?_) (fun c5 hF => ?_)
    ·
      exact g_z R rfl hF ⟨rfl, rl1⟩
    ·
      refine s_K hF (fun t7 hF => ?_)
      refine s_kok R t7 (Nat.le_of_ble_eq_true rfl) ?_
      refine s_call R (Nat.zero_le _) (fun _ hq => SX6_word (b := 0) (R.rf) (c_lit 8 8 rfl) ⟨by decide, by decide⟩ rfl rl2 hq) hF (fun f8 rv8 h8 q8 R8 e8 E8 hF => ?_)
      refine s_call R8 (Nat.zero_le _) (fun _ hq => SX6_d (b := 0) (R8.rf) e8.1 e8.2 hq) hF (fun f9 rv9 h9 q9 R9 e9 E9 hF => ?_)
      refine s_K hF (fun t11 hF => ?_)
      refine s_kok R9 t11 (Nat.le_of_ble_eq_true rfl) ?_
      refine s_call R9 (Nat.zero_le _) (fun _ hq => SX6_has (b := 0) (R9.rf) e9.1 e9.2 hq) hF (fun f12 rv12 h12 q11 R12 e12 E12 hF => ?_)
      refine s_if (i_eq e12.1 (c_lit 0 0 rfl) e12.2 ⟨by decide, by decide⟩) hF (fun c13 hF => ?_) (fun c13 hF => ?_)
      ·
        exact SX6_areRecipesRight_b93 (N := N) (k4 := fX6_areRecipesRight_b4 N n) (K4 := FX6_areRecipesRight_b4 N n) @ih R12 rfl rl2 rfl rl1 hF
      ·
        refine s_call R12 (Nat.zero_le _) (fun _ hq => SX6_a (b := 0) (R12.rf) e8.1 e8.2 hq) hF (fun f14 rv14 h14 q13 R14 e14 E14 hF => ?_)
        refine s_if (i_eq e14.1 (c_lit 0 0 rfl) e14.2 ⟨by decide, by decide⟩) hF (fun c15 hF => ?_) (fun c15 hF => ?_)
        ·
          exact SX6_areRecipesRight_b53 (N := N) (k4 := fX6_areRecipesRight_b4 N n) (K4 := FX6_areRecipesRight_b4 N n) @ih R14 rfl rl2 e8.1 e8.2 rfl rl1 hF
        ·
          refine s_call R14 (Nat.zero_le _) (fun _ hq => SX6_a (b := 0) (R14.rf) e8.1 e8.2 hq) hF (fun f16 rv16 h16 q15 R16 e16 E16 hF => ?_)
          refine s_K hF (fun t18 hF => ?_)
          refine s_kok R16 t18 (Nat.le_of_ble_eq_true rfl) ?_
          refine s_call R16 (Nat.zero_le _) (fun _ hq => SX6_has (b := 0) (R16.rf) e16.1 e16.2 hq) hF (fun f19 rv19 h19 q17 R19 e19 E19 hF => ?_)
          refine s_if (i_eq e19.1 (c_lit 0 0 rfl) e19.2 ⟨by decide, by decide⟩) hF (fun c20 hF => ?_) (fun c20 hF => ?_)
          ·
            exact SX6_areRecipesRight_b93 (N := N) (k4 := fX6_areRecipesRight_b4 N n) (K4 := FX6_areRecipesRight_b4 N n) @ih R19 rfl rl2 rfl rl1 hF
          ·
            exact SX6_areRecipesRight_b53 (N := N) (k4 := fX6_areRecipesRight_b4 N n) (K4 := FX6_areRecipesRight_b4 N n) @ih R19 rfl rl2 e8.1 e8.2 rfl rl1 hF
def FX6_areRecipesRight (N : Nat) (this : Nat) (s : fS) : Option (Int × fS) :=
  FX6_areRecipesRight_b4 N N this 1 0 s
theorem SX6_areRecipesRight {m b : Nat} {φ0 : Nat → Nat} {σo : fS} {N : Nat} {q : Int × fS} {φ : Nat → Nat} {h : eH} {s : fS} {this : Nat} (R : fC m b φ0 σo φ h s) (hF : FX6_areRecipesRight N this s = some q) : gG m b φ0 σo lI q (fX6_areRecipesRight N this h) := by
  unfold FX6_areRecipesRight at hF
  unfold fX6_areRecipesRight
  exact SX6_areRecipesRight_b4 (N := N) R (c_lit 1 1 rfl) ⟨by decide, by decide⟩ (c_lit 0 0 rfl) ⟨by decide, by decide⟩ hF
def FX6_areParametersRight_b4 (N : Nat) : Nat → Nat → Int → Int → fS → Option (Int × fS)
  | 0, _, _, _, _ => none
  | n + 1, l0, l1, l2, s =>
    (uK 5 s l0).bind fun _ =>
    (s.o l0 3).bind fun a1 =>
    (uKA 100 s a1).bind fun _ =>
    (uRI s a1 9).bind fun x3 =>
    if x3 ≤ l2 then
      uZ l1 (l1, s)
    else
      (uK 5 s l0).bind fun _ =>
      (FX6_word l0 9 l2 s).bind fun q8 =>
      (uK 5 q8.2 l0).bind fun _ =>
      (FX6_isFraction l0 q8.1 q8.2).bind fun q10 =>
      FX6_areParametersRight_b4 N n l0 (iand l1 q10.1) (iadd l2 1) q10.2
theorem SX6_areParametersRight_b4 {m b : Nat} {φ0 : Nat → Nat} {σo : fS} {N : Nat} {q : Int × fS} : ∀ {n : Nat} {φ : Nat → Nat} {h : eH} {s : fS} {l0 : Nat} {l1' : Int32} {l1 : Int} {l2' : Int32} {l2 : Int}, fC m b φ0 σo φ h s → l1' = iI l1 → r32 l1 → l2' = iI l2 → r32 l2 → FX6_areParametersRight_b4 N n l0 l1 l2 s = some q → gG m b φ0 σo lI q (fX6_areParametersRight_b4 N n l0 l1' l2' h) := by
  intro n
  induction n with
 | zero => intro φ h s l0 l1' l1 l2' l2 R el1 rl1 el2 rl2 hF; simp [FX6_areParametersRight_b4] at hF
  | succ n ih =>
    intro φ h s l0 l1' l1 l2' l2 R el1 rl1 el2 rl2 hF
    subst el1; subst el2
    rw [FX6_areParametersRight_b4] at hF
    rw [fX6_areParametersRight_b4]
    refine s_K hF (fun t2 hF => ?_)
    refine s_oo hF (fun a1 e1 hF => ?_)
    refine s_gA R t2 (Nat.le_of_ble_eq_true rfl) rfl e1 (fun x1_ y1_ => ?_)
    refine s_KA hF (fun y4 z4 hF => ?_)
    refine s_rI R y4 z4 (by decide) rfl (c_lit 9 9 rfl) ⟨by decide, by decide⟩ hF (fun x3 ra3 hF => ?_)
    refine s_if (i_le rfl rfl ra3 rl2) hF (fun c5 hF => ?_) (fun c5 hF => ?_)
    ·
      exact g_z R rfl hF ⟨rfl, rl1⟩
    ·
      refine s_K hF (fun t7 hF => ?_)
      refine s_kok R t7 (Nat.le_of_ble_eq_true rfl) ?_
      refine s_call R (Nat.zero_le _) (fun _ hq => SX6_word (b := 0) (R.rf) (c_lit 9 9 rfl) ⟨by decide, by decide⟩ rfl rl2 hq) hF (fun f8 rv8 h8 q8 R8 e8 E8 hF => ?_)
      refine s_K hF (fun t10 hF => ?_)
      refine s_kok R8 t10 (Nat.le_of_ble_eq_true rfl) ?_
      refine s_call R8 (Nat.zero_le _) (fun _ hq => SX6_isFraction (b := 0) (R8.rf) e8.1 e8.2 hq) hF (fun f11 rv11 h11 q10 R11 e11 E11 hF => ?_)
      exact ih R11 (c_and rfl e11.1) (rr_I _) (c_add rfl (c_lit 1 1 rfl)) (rr_I _) hF
def FX6_areParametersRight (N : Nat) (this : Nat) (s : fS) : Option (Int × fS) :=
  FX6_areParametersRight_b4 N N this 1 1 s
theorem SX6_areParametersRight {m b : Nat} {φ0 : Nat → Nat} {σo : fS} {N : Nat} {q : Int × fS} {φ : Nat → Nat} {h : eH} {s : fS} {this : Nat} (R : fC m b φ0 σo φ h s) (hF : FX6_areParametersRight N this s = some q) : gG m b φ0 σo lI q (fX6_areParametersRight N this h) := by
  unfold FX6_areParametersRight at hF
  unfold fX6_areParametersRight
  exact SX6_areParametersRight_b4 (N := N) R (c_lit 1 1 rfl) ⟨by decide, by decide⟩ (c_lit 1 1 rfl) ⟨by decide, by decide⟩ hF
def FX6_check_b75 (N : Nat) (s0 : Int) (s : fS) : Option (Int × fS) :=
  some (s0, s)
theorem SX6_check_b75 {m b : Nat} {φ0 : Nat → Nat} {σo : fS} {N : Nat} {q : Int × fS} {φ : Nat → Nat} {h : eH} {s : fS} {s0' : Int32} {s0 : Int} (R : fC m b φ0 σo φ h s) (es0 : s0' = iI s0) (rs0 : r32 s0) (hF : FX6_check_b75 N s0 s = some q) : gG m b φ0 σo lI q (fX6_check_b75 N s0' h) := by
  subst es0
  unfold FX6_check_b75 at hF
  unfold fX6_check_b75
  exact g_ret R hF ⟨rfl, rs0⟩
def FX6_check (N : Nat) (this : Nat) (p0 : Nat) (s : fS) : Option (Int × fS) :=
  (uK 5 s this).bind fun _ =>
  (FX6_layOut N this p0 s).bind fun q2 =>
  if q2.1 = 0 then
    (uK 5 q2.2 this).bind fun _ =>
    (FX6_areSizesRight N this q2.2).bind fun q5 =>
    if ¬ (q5.1 = 0) then
      (uK 5 q5.2 this).bind fun _ =>
      (FX6_areTagsRight N this q5.2).bind fun q8 =>
      if ¬ (q8.1 = 0) then
        (uK 5 q8.2 this).bind fun _ =>
        (FX6_areFractions N this q8.2).bind fun q11 =>
        if ¬ (q11.1 = 0) then
          (uK 5 q11.2 this).bind fun _ =>
          (FX6_isProgramRight N this q11.2).bind fun q14 =>
          if ¬ (q14.1 = 0) then
            (uK 5 q14.2 this).bind fun _ =>
            (FX6_areRecipesRight N this q14.2).bind fun q17 =>
            if ¬ (q17.1 = 0) then
              (uK 5 q17.2 this).bind fun _ =>
              (FX6_areParametersRight N this q17.2).bind fun q20 =>
              if q20.1 = 0 then
                FX6_check_b75 N 11 q20.2
              else
                FX6_check_b75 N 0 q20.2
            else
              some (10, q17.2)
          else
            some (9, q14.2)
        else
          some (8, q11.2)
      else
        some (7, q8.2)
    else
      some (6, q5.2)
  else
    some (q2.1, q2.2)
theorem SX6_check {m b : Nat} {φ0 : Nat → Nat} {σo : fS} {N : Nat} {q : Int × fS} {φ : Nat → Nat} {h : eH} {s : fS} {this : Nat} {p0 : Nat} (R : fC m b φ0 σo φ h s) (hF : FX6_check N this p0 s = some q) : gG m b φ0 σo lI q (fX6_check N this p0 h) := by
  unfold FX6_check at hF
  unfold fX6_check
  refine s_K hF (fun t2 hF => ?_)
  refine s_kok R t2 (Nat.le_of_ble_eq_true rfl) ?_
  refine s_call R (Nat.zero_le _) (fun _ hq => SX6_layOut (b := 0) (N := N) (R.rf) hq) hF (fun f3 rv3 h3 q2 R3 e3 E3 hF => ?_)
  refine s_if (i_eq e3.1 (c_lit 0 0 rfl) e3.2 ⟨by decide, by decide⟩) hF (fun c4 hF => ?_) (fun c4 hF => ?_)
  ·
    refine s_K hF (fun t6 hF => ?_)
    refine s_kok R3 t6 (Nat.le_of_ble_eq_true rfl) ?_
    refine s_call R3 (Nat.zero_le _) (fun _ hq => SX6_areSizesRight (b := 0) (N := N) (R3.rf) hq) hF (fun f7 rv7 h7 q5 R7 e7 E7 hF => ?_)
    refine s_if (not_congr (i_eq e7.1 (c_lit 0 0 rfl) e7.2 ⟨by decide, by decide⟩)) hF (fun c8 hF => ?_) (fun c8 hF => ?_)
    ·
      refine s_K hF (fun t10 hF => ?_)
      refine s_kok R7 t10 (Nat.le_of_ble_eq_true rfl) ?_
      refine s_call R7 (Nat.zero_le _) (fun _ hq => SX6_areTagsRight (b := 0) (N := N) (R7.rf) hq) hF (fun f11 rv11 h11 q8 R11 e11 E11 hF => ?_)
      refine s_if (not_congr (i_eq e11.1 (c_lit 0 0 rfl) e11.2 ⟨by decide, by decide⟩)) hF (fun c12 hF => ?_) (fun c12 hF => ?_)
      ·
        refine s_K hF (fun t14 hF => ?_)
        refine s_kok R11 t14 (Nat.le_of_ble_eq_true rfl) ?_
        refine s_call R11 (Nat.zero_le _) (fun _ hq => SX6_areFractions (b := 0) (N := N) (R11.rf) hq) hF (fun f15 rv15 h15 q11 R15 e15 E15 hF => ?_)
        refine s_if (not_congr (i_eq e15.1 (c_lit 0 0 rfl) e15.2 ⟨by decide, by decide⟩)) hF (fun c16 hF => ?_) (fun c16 hF => ?_)
        ·
          refine s_K hF (fun t18 hF => ?_)
          refine s_kok R15 t18 (Nat.le_of_ble_eq_true rfl) ?_
          refine s_call R15 (Nat.zero_le _) (fun _ hq => SX6_isProgramRight (b := 0) (N := N) (R15.rf) hq) hF (fun f19 rv19 h19 q14 R19 e19 E19 hF => ?_)
          refine s_if (not_congr (i_eq e19.1 (c_lit 0 0 rfl) e19.2 ⟨by decide, by decide⟩)) hF (fun c20 hF => ?_) (fun c20 hF => ?_)
          ·
            refine s_K hF (fun t22 hF => ?_)
            refine s_kok R19 t22 (Nat.le_of_ble_eq_true rfl) ?_
            refine s_call R19 (Nat.zero_le _) (fun _ hq => SX6_areRecipesRight (b := 0) (N := N) (R19.rf) hq) hF (fun f23 rv23 h23 q17 R23 e23 E23 hF => ?_)
            refine s_if (not_congr (i_eq e23.1 (c_lit 0 0 rfl) e23.2 ⟨by decide, by decide⟩)) hF (fun c24 hF => ?_) (fun c24 hF => ?_)
            ·
              refine s_K hF (fun t26 hF => ?_)
              refine s_kok R23 t26 (Nat.le_of_ble_eq_true rfl) ?_
              refine s_call R23 (Nat.zero_le _) (fun _ hq => SX6_areParametersRight (b := 0) (N := N) (R23.rf) hq) hF (fun f27 rv27 h27 q20 R27 e27 E27 hF => ?_)
              refine s_if (i_eq e27.1 (c_lit 0 0 rfl) e27.2 ⟨by decide, by decide⟩) hF (fun c28 hF => ?_) (fun c28 hF => ?_)
              ·
                exact SX6_check_b75 (N := N) R27 (c_lit 11 11 rfl) ⟨by decide, by decide⟩ hF
              ·
                exact SX6_check_b75 (N := N) R27 (c_lit 0 0 rfl) ⟨by decide, by decide⟩ hF
            ·
              exact g_ret R23 hF ⟨(c_lit 10 10 rfl), ⟨by decide, by decide⟩⟩
          ·
            exact g_ret R19 hF ⟨(c_lit 9 9 rfl), ⟨by decide, by decide⟩⟩
        ·
          exact g_ret R15 hF ⟨(c_lit 8 8 rfl), ⟨by decide, by decide⟩⟩
      ·
        exact g_ret R11 hF ⟨(c_lit 7 7 rfl), ⟨by decide, by decide⟩⟩
    ·
      exact g_ret R7 hF ⟨(c_lit 6 6 rfl), ⟨by decide, by decide⟩⟩
  ·
    exact g_ret R3 hF ⟨e3.1, e3.2⟩
