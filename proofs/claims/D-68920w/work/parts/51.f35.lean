set_option maxRecDepth 100000
set_option maxHeartbeats 4000000
def FX35_addOuter_b172 (s : fS) : Option (Unit × fS) :=
  some ((), s)
theorem SX35_addOuter_b172 {m b : Nat} {φ0 : Nat → Nat} {σo : fS} (hm : 1 ≤ m) {q : Unit × fS} {φ : Nat → Nat} {h : eH} {s : fS} (R : fC m b φ0 σo φ h s) (hF : FX35_addOuter_b172 s = some q) : gG m b φ0 σo lU q (fX35_addOuter_b172 h) := by
  unfold FX35_addOuter_b172 at hF
  unfold fX35_addOuter_b172
  exact g_ret R hF trivial
def FX35_addOuter_b121 (l1 : Int) (l2 : Int) (s : fS) : Option (Unit × fS) :=
  if ¬ (l2 = 2) then
    FX35_addOuter_b172 s
  else
    (uRI s 311 l1).bind fun x6 =>
    (uRI s 311 l1).bind fun x12 =>
    (uRJ s 305 x12).bind fun x14 =>
    (uRI s 309 l1).bind fun x18 =>
    (uQJ s 305 x6 (ladd x14 x18)).bind fun σ20 =>
    (uRI σ20 310 l1).bind fun x26 =>
    (uPJ σ20 192 85 (ladd (σ20.j 192 85) x26)).bind fun σ28 =>
    FX35_addOuter_b172 σ28
theorem SX35_addOuter_b121 {m b : Nat} {φ0 : Nat → Nat} {σo : fS} (hm : 1 ≤ m) {q : Unit × fS} {φ : Nat → Nat} {h : eH} {s : fS} {l1' : Int32} {l1 : Int} {l2' : Int32} {l2 : Int} (R : fC m b φ0 σo φ h s) (el1 : l1' = iI l1) (rl1 : r32 l1) (el2 : l2' = iI l2) (rl2 : r32 l2) (hF : FX35_addOuter_b121 l1 l2 s = some q) : gG m b φ0 σo lU q (fX35_addOuter_b121 192 l1' l2' h) := by
  subst el1; subst el2
  unfold FX35_addOuter_b121 at hF
  unfold fX35_addOuter_b121
  refine s_if (not_congr (i_eq rfl (c_lit 2 2 rfl) rl2 ⟨by decide, by decide⟩)) hF (fun c1 hF => ?_) (fun c1 hF => ?_)
  ·
    exact SX35_addOuter_b172 hm R hF
  ·
    refine s_gAs R (t_192 hm R.S) (Nat.le_of_ble_eq_true rfl) rfl (o_192_83 hm R.S) (a_305 hm R) ?_
    refine s_gAs R (t_192 hm R.S) (Nat.le_of_ble_eq_true rfl) rfl (o_192_91 hm R.S) (a_311 hm R) ?_
    refine s_rI R (u_311 hm R.S).1 (u_311 hm R.S).2 (by decide) (a_311 hm R) rfl rl1 hF (fun x6 ra4 hF => ?_)
    refine s_gAs R (t_192 hm R.S) (Nat.le_of_ble_eq_true rfl) rfl (o_192_83 hm R.S) (a_305 hm R) ?_
    refine s_gAs R (t_192 hm R.S) (Nat.le_of_ble_eq_true rfl) rfl (o_192_91 hm R.S) (a_311 hm R) ?_
    refine s_rI R (u_311 hm R.S).1 (u_311 hm R.S).2 (by decide) (a_311 hm R) rfl rl1 hF (fun x12 ra7 hF => ?_)
    refine s_rJ R (u_305 hm R.S).1 (u_305 hm R.S).2 (a_305 hm R) rfl ra7 hF (fun x14 ra8 hF => ?_)
    refine s_gAs R (t_192 hm R.S) (Nat.le_of_ble_eq_true rfl) rfl (o_192_89 hm R.S) (a_309 hm R) ?_
    refine s_rI R (u_309 hm R.S).1 (u_309 hm R.S).2 (by decide) (a_309 hm R) rfl rl1 hF (fun x18 ra10 hF => ?_)
    refine s_qJ R (u_305 hm R.S).1 (u_305 hm R.S).2 (a_305 hm R) rfl ra4 (d_add rfl (c_2l rfl ra10)) (rr_J _) hF (fun h11 σ20 R11 T11 hF => ?_)
    refine s_gJ R11 (t_192 hm R11.S) (Nat.le_of_ble_eq_true rfl) rfl ?_
    refine s_gAs R11 (t_192 hm R11.S) (Nat.le_of_ble_eq_true rfl) rfl (o_192_90 hm R11.S) (a_310 hm R11) ?_
    refine s_rI R11 (u_310 hm R11.S).1 (u_310 hm R11.S).2 (by decide) (a_310 hm R11) rfl rl1 hF (fun x26 ra14 hF => ?_)
    refine s_pJ R11 (t_192 hm R11.S) (Nat.le_of_ble_eq_true rfl) rfl (d_add rfl (c_2l rfl ra14)) (rr_J _) hF (fun h15 σ28 R15 T15 hF => ?_)
    exact SX35_addOuter_b172 hm R15 hF
def FX35_addOuter_b95 (l1 : Int) (l2 : Int) (s : fS) : Option (Unit × fS) :=
  (uRI s 308 l1).bind fun x7 =>
  (uPJ s 192 79 (ladd (ladd (s.j 192 79) (s.j 192 80)) x7)).bind fun σ9 =>
  (uPJ σ9 192 80 0).bind fun σ11 =>
  FX35_addOuter_b121 l1 l2 σ11
theorem SX35_addOuter_b95 {m b : Nat} {φ0 : Nat → Nat} {σo : fS} (hm : 1 ≤ m) {q : Unit × fS} {φ : Nat → Nat} {h : eH} {s : fS} {l1' : Int32} {l1 : Int} {l2' : Int32} {l2 : Int} (R : fC m b φ0 σo φ h s) (el1 : l1' = iI l1) (rl1 : r32 l1) (el2 : l2' = iI l2) (rl2 : r32 l2) (hF : FX35_addOuter_b95 l1 l2 s = some q) : gG m b φ0 σo lU q (fX35_addOuter_b95 192 l1' l2' h) := by
  subst el1; subst el2
  unfold FX35_addOuter_b95 at hF
  unfold fX35_addOuter_b95
  refine s_gJ R (t_192 hm R.S) (Nat.le_of_ble_eq_true rfl) rfl ?_
  refine s_gJ R (t_192 hm R.S) (Nat.le_of_ble_eq_true rfl) rfl ?_
  refine s_gAs R (t_192 hm R.S) (Nat.le_of_ble_eq_true rfl) rfl (o_192_88 hm R.S) (a_308 hm R) ?_
  refine s_rI R (u_308 hm R.S).1 (u_308 hm R.S).2 (by decide) (a_308 hm R) rfl rl1 hF (fun x7 ra4 hF => ?_)
  refine s_pJ R (t_192 hm R.S) (Nat.le_of_ble_eq_true rfl) rfl (d_add (d_add rfl rfl) (c_2l rfl ra4)) (rr_J _) hF (fun h5 σ9 R5 T5 hF => ?_)
  refine s_pJ R5 (t_192 hm R5.S) (Nat.le_of_ble_eq_true rfl) rfl (d_lit 0 0 rfl) ⟨by decide, by decide⟩ hF (fun h6 σ11 R6 T6 hF => ?_)
  exact SX35_addOuter_b121 hm R6 rfl rl1 rfl rl2 hF
def FX35_addOuter_b85 (l1 : Int) (l2 : Int) (s : fS) : Option (Unit × fS) :=
  if l2 = 2 then
    FX35_addOuter_b95 l1 l2 s
  else
    if ¬ (l2 = 3) then
      FX35_addOuter_b121 l1 l2 s
    else
      FX35_addOuter_b95 l1 l2 s
theorem SX35_addOuter_b85 {m b : Nat} {φ0 : Nat → Nat} {σo : fS} (hm : 1 ≤ m) {q : Unit × fS} {φ : Nat → Nat} {h : eH} {s : fS} {l1' : Int32} {l1 : Int} {l2' : Int32} {l2 : Int} (R : fC m b φ0 σo φ h s) (el1 : l1' = iI l1) (rl1 : r32 l1) (el2 : l2' = iI l2) (rl2 : r32 l2) (hF : FX35_addOuter_b85 l1 l2 s = some q) : gG m b φ0 σo lU q (fX35_addOuter_b85 192 l1' l2' h) := by
  subst el1; subst el2
  unfold FX35_addOuter_b85 at hF
  unfold fX35_addOuter_b85
  refine s_if (i_eq rfl (c_lit 2 2 rfl) rl2 ⟨by decide, by decide⟩) hF (fun c1 hF => ?_) (fun c1 hF => ?_)
  ·
    exact SX35_addOuter_b95 hm R rfl rl1 rfl rl2 hF
  ·
    refine s_if (not_congr (i_eq rfl (c_lit 3 3 rfl) rl2 ⟨by decide, by decide⟩)) hF (fun c2 hF => ?_) (fun c2 hF => ?_)
    ·
      exact SX35_addOuter_b121 hm R rfl rl1 rfl rl2 hF
    ·
      exact SX35_addOuter_b95 hm R rfl rl1 rfl rl2 hF
def FX35_addOuter (p0 : Int) (s : fS) : Option (Unit × fS) :=
  (uRI s 307 p0).bind fun x3 =>
  if ¬ (x3 = 5) then
    FX35_addOuter_b85 p0 x3 s
  else
    (uRI s 309 p0).bind fun x12 =>
    (uPJ s 192 79 (ladd (ladd (s.j 192 79) (s.j 192 80)) x12)).bind fun σ14 =>
    (uRI σ14 310 p0).bind fun x18 =>
    (uPJ σ14 192 80 x18).bind fun σ20 =>
    if (σ20.j 192 80) ≤ (σ20.i 192 100) then
      FX35_addOuter_b85 p0 x3 σ20
    else
      (uPJ σ20 192 79 (lsub (ladd (σ20.j 192 79) (σ20.j 192 80)) (σ20.i 192 100))).bind fun σ33 =>
      (uPJ σ33 192 80 (σ33.i 192 100)).bind fun σ37 =>
      FX35_addOuter_b85 p0 x3 σ37
theorem SX35_addOuter {m b : Nat} {φ0 : Nat → Nat} {σo : fS} (hm : 1 ≤ m) {q : Unit × fS} {φ : Nat → Nat} {h : eH} {s : fS} {p0' : Int32} {p0 : Int} (R : fC m b φ0 σo φ h s) (ep0 : p0' = iI p0) (rp0 : r32 p0) (hF : FX35_addOuter p0 s = some q) : gG m b φ0 σo lU q (fX35_addOuter 192 p0' h) := by
  subst ep0
  unfold FX35_addOuter at hF
  unfold fX35_addOuter
  refine s_gAs R (t_192 hm R.S) (Nat.le_of_ble_eq_true rfl) rfl (o_192_87 hm R.S) (a_307 hm R) ?_
  refine s_rI R (u_307 hm R.S).1 (u_307 hm R.S).2 (by decide) (a_307 hm R) rfl rp0 hF (fun x3 ra2 hF => ?_)
  refine s_if (not_congr (i_eq rfl (c_lit 5 5 rfl) ra2 ⟨by decide, by decide⟩)) hF (fun c3 hF => ?_) (fun c3 hF => ?_)
  ·
    exact SX35_addOuter_b85 hm R rfl rp0 rfl ra2 hF
  ·
    refine s_gJ R (t_192 hm R.S) (Nat.le_of_ble_eq_true rfl) rfl ?_
    refine s_gJ R (t_192 hm R.S) (Nat.le_of_ble_eq_true rfl) rfl ?_
    refine s_gAs R (t_192 hm R.S) (Nat.le_of_ble_eq_true rfl) rfl (o_192_89 hm R.S) (a_309 hm R) ?_
    refine s_rI R (u_309 hm R.S).1 (u_309 hm R.S).2 (by decide) (a_309 hm R) rfl rp0 hF (fun x12 ra7 hF => ?_)
    refine s_pJ R (t_192 hm R.S) (Nat.le_of_ble_eq_true rfl) rfl (d_add (d_add rfl rfl) (c_2l rfl ra7)) (rr_J _) hF (fun h8 σ14 R8 T8 hF => ?_)
    refine s_gAs R8 (t_192 hm R8.S) (Nat.le_of_ble_eq_true rfl) rfl (o_192_90 hm R8.S) (a_310 hm R8) ?_
    refine s_rI R8 (u_310 hm R8.S).1 (u_310 hm R8.S).2 (by decide) (a_310 hm R8) rfl rp0 hF (fun x18 ra10 hF => ?_)
    refine s_pJ R8 (t_192 hm R8.S) (Nat.le_of_ble_eq_true rfl) rfl (c_2l rfl ra10) (r32.w ra10) hF (fun h11 σ20 R11 T11 hF => ?_)
    refine s_gJ R11 (t_192 hm R11.S) (Nat.le_of_ble_eq_true rfl) rfl ?_
    refine s_gI R11 (t_192 hm R11.S) (Nat.le_of_ble_eq_true rfl) rfl ?_
    refine s_if (lg_le.trans (j_le rfl (c_2l rfl (R11.ri (t_192 hm R11.S) (Nat.le_of_ble_eq_true rfl) rfl)) (R11.rj (t_192 hm R11.S) (Nat.le_of_ble_eq_true rfl) rfl) (r32.w (R11.ri (t_192 hm R11.S) (Nat.le_of_ble_eq_true rfl) rfl)))) hF (fun c14 hF => ?_) (fun c14 hF => ?_)
    ·
      exact SX35_addOuter_b85 hm R11 rfl rp0 rfl ra2 hF
    ·
      refine s_gJ R11 (t_192 hm R11.S) (Nat.le_of_ble_eq_true rfl) rfl ?_
      refine s_gJ R11 (t_192 hm R11.S) (Nat.le_of_ble_eq_true rfl) rfl ?_
      refine s_gI R11 (t_192 hm R11.S) (Nat.le_of_ble_eq_true rfl) rfl ?_
      refine s_pJ R11 (t_192 hm R11.S) (Nat.le_of_ble_eq_true rfl) rfl (d_sub (d_add rfl rfl) (c_2l rfl (R11.ri (t_192 hm R11.S) (Nat.le_of_ble_eq_true rfl) rfl))) (rr_J _) hF (fun h18 σ33 R18 T18 hF => ?_)
      refine s_gI R18 (t_192 hm R18.S) (Nat.le_of_ble_eq_true rfl) rfl ?_
      refine s_pJ R18 (t_192 hm R18.S) (Nat.le_of_ble_eq_true rfl) rfl (c_2l rfl (R18.ri (t_192 hm R18.S) (Nat.le_of_ble_eq_true rfl) rfl)) (r32.w (R18.ri (t_192 hm R18.S) (Nat.le_of_ble_eq_true rfl) rfl)) hF (fun h20 σ37 R20 T20 hF => ?_)
      exact SX35_addOuter_b85 hm R20 rfl rp0 rfl ra2 hF
def FX35_nothing_b32 (N : Nat) : Nat → Int → fS → Option (Unit × fS)
  | 0, _, _ => none
  | n + 1, l1, s =>
    if 4 ≤ l1 then
      some ((), s)
    else
      (uQJ s 305 l1 0).bind fun σ4 =>
      FX35_nothing_b32 N n (iadd l1 1) σ4
theorem SX35_nothing_b32 {m b : Nat} {φ0 : Nat → Nat} {σo : fS} (hm : 1 ≤ m) {N : Nat} {q : Unit × fS} : ∀ {n : Nat} {φ : Nat → Nat} {h : eH} {s : fS} {l1' : Int32} {l1 : Int}, fC m b φ0 σo φ h s → l1' = iI l1 → r32 l1 → FX35_nothing_b32 N n l1 s = some q → gG m b φ0 σo lU q (fX35_nothing_b32 N n 192 l1' h) := by
  intro n
  induction n with
 | zero => intro φ h s l1' l1 R el1 rl1 hF; simp [FX35_nothing_b32] at hF
  | succ n ih =>
    intro φ h s l1' l1 R el1 rl1 hF
    subst el1
    rw [FX35_nothing_b32] at hF
    rw [fX35_nothing_b32]
    refine s_if (i_le (c_lit 4 4 rfl) rfl ⟨by decide, by decide⟩ rl1) hF (fun c1 hF => ?_) (fun c1 hF => ?_)
    ·
      exact g_ret R hF trivial
    ·
      refine s_gAs R (t_192 hm R.S) (Nat.le_of_ble_eq_true rfl) rfl (o_192_83 hm R.S) (a_305 hm R) ?_
      refine s_qJ R (u_305 hm R.S).1 (u_305 hm R.S).2 (a_305 hm R) rfl rl1 (d_lit 0 0 rfl) ⟨by decide, by decide⟩ hF (fun h3 σ4 R3 T3 hF => ?_)
      exact ih R3 (c_add rfl (c_lit 1 1 rfl)) (rr_I _) hF
def FX35_nothing (N : Nat) (s : fS) : Option (Unit × fS) :=
  (uPZ s 192 78 1).bind fun σ1 =>
  (uPJ σ1 192 79 0).bind fun σ3 =>
  (uPJ σ3 192 80 0).bind fun σ5 =>
  (uPJ σ5 192 81 0).bind fun σ7 =>
  (uPJ σ7 192 82 0).bind fun σ9 =>
  (uPJ σ9 192 85 0).bind fun σ11 =>
  FX35_nothing_b32 N N 0 σ11
theorem SX35_nothing {m b : Nat} {φ0 : Nat → Nat} {σo : fS} (hm : 1 ≤ m) {N : Nat} {q : Unit × fS} {φ : Nat → Nat} {h : eH} {s : fS} (R : fC m b φ0 σo φ h s) (hF : FX35_nothing N s = some q) : gG m b φ0 σo lU q (fX35_nothing N 192 h) := by
  unfold FX35_nothing at hF
  unfold fX35_nothing
  refine s_pZ R (t_192 hm R.S) (Nat.le_of_ble_eq_true rfl) rfl (c_lit 1 1 rfl) ⟨by decide, by decide⟩ hF (fun h1 σ1 R1 T1 hF => ?_)
  refine s_pJ R1 (t_192 hm R1.S) (Nat.le_of_ble_eq_true rfl) rfl (d_lit 0 0 rfl) ⟨by decide, by decide⟩ hF (fun h2 σ3 R2 T2 hF => ?_)
  refine s_pJ R2 (t_192 hm R2.S) (Nat.le_of_ble_eq_true rfl) rfl (d_lit 0 0 rfl) ⟨by decide, by decide⟩ hF (fun h3 σ5 R3 T3 hF => ?_)
  refine s_pJ R3 (t_192 hm R3.S) (Nat.le_of_ble_eq_true rfl) rfl (d_lit 0 0 rfl) ⟨by decide, by decide⟩ hF (fun h4 σ7 R4 T4 hF => ?_)
  refine s_pJ R4 (t_192 hm R4.S) (Nat.le_of_ble_eq_true rfl) rfl (d_lit 0 0 rfl) ⟨by decide, by decide⟩ hF (fun h5 σ9 R5 T5 hF => ?_)
  refine s_pJ R5 (t_192 hm R5.S) (Nat.le_of_ble_eq_true rfl) rfl (d_lit 0 0 rfl) ⟨by decide, by decide⟩ hF (fun h6 σ11 R6 T6 hF => ?_)
  exact SX35_nothing_b32 (N := N) hm R6 (c_lit 0 0 rfl) ⟨by decide, by decide⟩ hF
def FX35_addUpTo_b42 (N : Nat) : Nat → Int → Int → fS → Option (Unit × fS)
  | 0, _, _, _ => none
  | n + 1, l1, l4, s =>
    if l1 ≤ l4 then
      some ((), s)
    else
      (FX35_addOuter l4 s).bind fun q3 =>
      FX35_addUpTo_b42 N n l1 (iadd l4 1) q3.2
theorem SX35_addUpTo_b42 {m b : Nat} {φ0 : Nat → Nat} {σo : fS} (hm : 1 ≤ m) {N : Nat} {q : Unit × fS} : ∀ {n : Nat} {φ : Nat → Nat} {h : eH} {s : fS} {l1' : Int32} {l1 : Int} {l4' : Int32} {l4 : Int}, fC m b φ0 σo φ h s → l1' = iI l1 → r32 l1 → l4' = iI l4 → r32 l4 → FX35_addUpTo_b42 N n l1 l4 s = some q → gG m b φ0 σo lU q (fX35_addUpTo_b42 N n 192 l1' l4' h) := by
  intro n
  induction n with
 | zero => intro φ h s l1' l1 l4' l4 R el1 rl1 el4 rl4 hF; simp [FX35_addUpTo_b42] at hF
  | succ n ih =>
    intro φ h s l1' l1 l4' l4 R el1 rl1 el4 rl4 hF
    subst el1; subst el4
    rw [FX35_addUpTo_b42] at hF
    rw [fX35_addUpTo_b42]
    refine s_if (i_le rfl rfl rl1 rl4) hF (fun c1 hF => ?_) (fun c1 hF => ?_)
    ·
      exact g_ret R hF trivial
    ·
      refine s_kok R (t_192 hm R.S) (Nat.le_of_ble_eq_true rfl) ?_
      refine s_call R (Nat.zero_le _) (fun _ hq => SX35_addOuter (b := 0) hm (R.rf) rfl rl4 hq) hF (fun f3 rv3 h3 q3 R3 e3 E3 hF => ?_)
      exact ih R3 rfl rl1 (c_add rfl (c_lit 1 1 rfl)) (rr_I _) hF
def FX35_addUpTo_b33 (N : Nat) (l1 : Int) (s1 : Int) (s : fS) : Option (Unit × fS) :=
  (uPJ s 192 79 s1).bind fun σ1 =>
  FX35_addUpTo_b42 N N l1 (σ1.i 192 95) σ1
theorem SX35_addUpTo_b33 {m b : Nat} {φ0 : Nat → Nat} {σo : fS} (hm : 1 ≤ m) {N : Nat} {q : Unit × fS} {φ : Nat → Nat} {h : eH} {s : fS} {l1' : Int32} {l1 : Int} {s1' : Int64} {s1 : Int} (R : fC m b φ0 σo φ h s) (el1 : l1' = iI l1) (rl1 : r32 l1) (es1 : s1' = iJ s1) (rs1 : r64 s1) (hF : FX35_addUpTo_b33 N l1 s1 s = some q) : gG m b φ0 σo lU q (fX35_addUpTo_b33 N 192 l1' 192 s1' h) := by
  subst el1; subst es1
  unfold FX35_addUpTo_b33 at hF
  unfold fX35_addUpTo_b33
  refine s_pJ R (t_192 hm R.S) (Nat.le_of_ble_eq_true rfl) rfl rfl rs1 hF (fun h1 σ1 R1 T1 hF => ?_)
  refine s_gI R1 (t_192 hm R1.S) (Nat.le_of_ble_eq_true rfl) rfl ?_
  exact SX35_addUpTo_b42 (N := N) hm R1 rfl rl1 rfl (R1.ri (t_192 hm R1.S) (Nat.le_of_ble_eq_true rfl) rfl) hF
def FX35_addUpTo (N : Nat) (p0 : Int) (s : fS) : Option (Unit × fS) :=
  (FX35_nothing N s).bind fun q2 =>
  (uRI q2.2 309 (q2.2.i 192 95)).bind fun x9 =>
  if 0 ≤ (lsub (q2.2.i 192 99) x9) then
    FX35_addUpTo_b33 N p0 (lsub (q2.2.i 192 99) x9) q2.2
  else
    FX35_addUpTo_b33 N p0 0 q2.2
theorem SX35_addUpTo {m b : Nat} {φ0 : Nat → Nat} {σo : fS} (hm : 1 ≤ m) {N : Nat} {q : Unit × fS} {φ : Nat → Nat} {h : eH} {s : fS} {p0' : Int32} {p0 : Int} (R : fC m b φ0 σo φ h s) (ep0 : p0' = iI p0) (rp0 : r32 p0) (hF : FX35_addUpTo N p0 s = some q) : gG m b φ0 σo lU q (fX35_addUpTo N 192 p0' h) := by
  subst ep0
  unfold FX35_addUpTo at hF
  unfold fX35_addUpTo
  refine s_kok R (t_192 hm R.S) (Nat.le_of_ble_eq_true rfl) ?_
  refine s_call R (Nat.zero_le _) (fun _ hq => SX35_nothing (b := 0) (N := N) hm (R.rf) hq) hF (fun f2 rv2 h2 q2 R2 e2 E2 hF => ?_)
  refine s_gI R2 (t_192 hm R2.S) (Nat.le_of_ble_eq_true rfl) rfl ?_
  refine s_gAs R2 (t_192 hm R2.S) (Nat.le_of_ble_eq_true rfl) rfl (o_192_89 hm R2.S) (a_309 hm R2) ?_
  refine s_gI R2 (t_192 hm R2.S) (Nat.le_of_ble_eq_true rfl) rfl ?_
  refine s_rI R2 (u_309 hm R2.S).1 (u_309 hm R2.S).2 (by decide) (a_309 hm R2) rfl (R2.ri (t_192 hm R2.S) (Nat.le_of_ble_eq_true rfl) rfl) hF (fun x9 ra6 hF => ?_)
  refine s_if ((lg_cmp_ge _ _).trans (j_le (d_lit 0 0 rfl) (d_sub (c_2l rfl (R2.ri (t_192 hm R2.S) (Nat.le_of_ble_eq_true rfl) rfl)) (c_2l rfl ra6)) ⟨by decide, by decide⟩ (rr_J _))) hF (fun c7 hF => ?_) (fun c7 hF => ?_)
  ·
    exact SX35_addUpTo_b33 (N := N) hm R2 rfl rp0 (d_sub (c_2l rfl (R2.ri (t_192 hm R2.S) (Nat.le_of_ble_eq_true rfl) rfl)) (c_2l rfl ra6)) (rr_J _) hF
  ·
    exact SX35_addUpTo_b33 (N := N) hm R2 rfl rp0 (d_lit 0 0 rfl) ⟨by decide, by decide⟩ hF
def FX35_isNear_b21 (s0 : Int) (s : fS) : Option (Int × fS) :=
  uZ s0 (s0, s)
theorem SX35_isNear_b21 {m b : Nat} {φ0 : Nat → Nat} {σo : fS} (hm : 1 ≤ m) {q : Int × fS} {φ : Nat → Nat} {h : eH} {s : fS} {s0' : Int32} {s0 : Int} (R : fC m b φ0 σo φ h s) (es0 : s0' = iI s0) (rs0 : r32 s0) (hF : FX35_isNear_b21 s0 s = some q) : gG m b φ0 σo lI q (fX35_isNear_b21 s0' h) := by
  subst es0
  unfold FX35_isNear_b21 at hF
  unfold fX35_isNear_b21
  exact g_z R rfl hF ⟨rfl, rs0⟩
def FX35_isNear_b20 (s : fS) : Option (Int × fS) :=
  FX35_isNear_b21 0 s
theorem SX35_isNear_b20 {m b : Nat} {φ0 : Nat → Nat} {σo : fS} (hm : 1 ≤ m) {q : Int × fS} {φ : Nat → Nat} {h : eH} {s : fS} (R : fC m b φ0 σo φ h s) (hF : FX35_isNear_b20 s = some q) : gG m b φ0 σo lI q (fX35_isNear_b20 h) := by
  unfold FX35_isNear_b20 at hF
  unfold fX35_isNear_b20
  exact SX35_isNear_b21 hm R (c_lit 0 0 rfl) ⟨by decide, by decide⟩ hF
def FX35_isNear (p0 : Int) (s : fS) : Option (Int × fS) :=
  if p0 < (-1000000000) then
    FX35_isNear_b20 s
  else
    if 1000000000 < p0 then
      FX35_isNear_b20 s
    else
      FX35_isNear_b21 1 s
theorem SX35_isNear {m b : Nat} {φ0 : Nat → Nat} {σo : fS} (hm : 1 ≤ m) {q : Int × fS} {φ : Nat → Nat} {h : eH} {s : fS} {p0' : Int64} {p0 : Int} (R : fC m b φ0 σo φ h s) (ep0 : p0' = iJ p0) (rp0 : r64 p0) (hF : FX35_isNear p0 s = some q) : gG m b φ0 σo lI q (fX35_isNear p0' h) := by
  subst ep0
  unfold FX35_isNear at hF
  unfold fX35_isNear
  refine s_if (lg_lt.trans (j_lt rfl (d_lit (-1000000000) (-1000000000) rfl) rp0 ⟨by decide, by decide⟩)) hF (fun c1 hF => ?_) (fun c1 hF => ?_)
  ·
    exact SX35_isNear_b20 hm R hF
  ·
    refine s_if ((lg_cmp_gt _ _).trans (j_lt (d_lit 1000000000 1000000000 rfl) rfl ⟨by decide, by decide⟩ rp0)) hF (fun c2 hF => ?_) (fun c2 hF => ?_)
    ·
      exact SX35_isNear_b20 hm R hF
    ·
      exact SX35_isNear_b21 hm R (c_lit 1 1 rfl) ⟨by decide, by decide⟩ hF
def FX35_areNear_b153 (N : Nat) (K4 : Int → Int → fS → Option (Int × fS)) (l2 : Int) (s0 : Int) (s : fS) : Option (Int × fS) :=
  K4 s0 (iadd l2 1) s
theorem SX35_areNear_b153 {m b : Nat} {φ0 : Nat → Nat} {σo : fS} (hm : 1 ≤ m) {N : Nat} {k4 : Nat → Int32 → Int32 → eH → Option (Int32 × eH)} {K4 : Int → Int → fS → Option (Int × fS)} {q : Int × fS} (hk4 : ∀ {φ : Nat → Nat} {h : eH} {s : fS} {l1' : Int32} {l1 : Int} {l2' : Int32} {l2 : Int}, fC m b φ0 σo φ h s → l1' = iI l1 → r32 l1 → l2' = iI l2 → r32 l2 → K4 l1 l2 s = some q → gG m b φ0 σo lI q (k4 192 l1' l2' h)) {φ : Nat → Nat} {h : eH} {s : fS} {l2' : Int32} {l2 : Int} {s0' : Int32} {s0 : Int} (R : fC m b φ0 σo φ h s) (el2 : l2' = iI l2) (rl2 : r32 l2) (es0 : s0' = iI s0) (rs0 : r32 s0) (hF : FX35_areNear_b153 N K4 l2 s0 s = some q) : gG m b φ0 σo lI q (fX35_areNear_b153 N k4 192 l2' s0' h) := by
  subst el2; subst es0
  unfold FX35_areNear_b153 at hF
  unfold fX35_areNear_b153
  exact hk4 R rfl rs0 (c_add rfl (c_lit 1 1 rfl)) (rr_I _) hF
def FX35_areNear_b148 (N : Nat) (K4 : Int → Int → fS → Option (Int × fS)) (l2 : Int) (s : fS) : Option (Int × fS) :=
  FX35_areNear_b153 N K4 l2 1 s
theorem SX35_areNear_b148 {m b : Nat} {φ0 : Nat → Nat} {σo : fS} (hm : 1 ≤ m) {N : Nat} {k4 : Nat → Int32 → Int32 → eH → Option (Int32 × eH)} {K4 : Int → Int → fS → Option (Int × fS)} {q : Int × fS} (hk4 : ∀ {φ : Nat → Nat} {h : eH} {s : fS} {l1' : Int32} {l1 : Int} {l2' : Int32} {l2 : Int}, fC m b φ0 σo φ h s → l1' = iI l1 → r32 l1 → l2' = iI l2 → r32 l2 → K4 l1 l2 s = some q → gG m b φ0 σo lI q (k4 192 l1' l2' h)) {φ : Nat → Nat} {h : eH} {s : fS} {l2' : Int32} {l2 : Int} (R : fC m b φ0 σo φ h s) (el2 : l2' = iI l2) (rl2 : r32 l2) (hF : FX35_areNear_b148 N K4 l2 s = some q) : gG m b φ0 σo lI q (fX35_areNear_b148 N k4 192 l2' h) := by
  subst el2
  unfold FX35_areNear_b148 at hF
  unfold fX35_areNear_b148
  exact SX35_areNear_b153 (N := N) (k4 := k4) (K4 := K4) hm @hk4 R rfl rl2 (c_lit 1 1 rfl) ⟨by decide, by decide⟩ hF
def FX35_areNear_b152 (N : Nat) (K4 : Int → Int → fS → Option (Int × fS)) (l2 : Int) (s : fS) : Option (Int × fS) :=
  FX35_areNear_b153 N K4 l2 0 s
theorem SX35_areNear_b152 {m b : Nat} {φ0 : Nat → Nat} {σo : fS} (hm : 1 ≤ m) {N : Nat} {k4 : Nat → Int32 → Int32 → eH → Option (Int32 × eH)} {K4 : Int → Int → fS → Option (Int × fS)} {q : Int × fS} (hk4 : ∀ {φ : Nat → Nat} {h : eH} {s : fS} {l1' : Int32} {l1 : Int} {l2' : Int32} {l2 : Int}, fC m b φ0 σo φ h s → l1' = iI l1 → r32 l1 → l2' = iI l2 → r32 l2 → K4 l1 l2 s = some q → gG m b φ0 σo lI q (k4 192 l1' l2' h)) {φ : Nat → Nat} {h : eH} {s : fS} {l2' : Int32} {l2 : Int} (R : fC m b φ0 σo φ h s) (el2 : l2' = iI l2) (rl2 : r32 l2) (hF : FX35_areNear_b152 N K4 l2 s = some q) : gG m b φ0 σo lI q (fX35_areNear_b152 N k4 192 l2' h) := by
  subst el2
  unfold FX35_areNear_b152 at hF
  unfold fX35_areNear_b152
  exact SX35_areNear_b153 (N := N) (k4 := k4) (K4 := K4) hm @hk4 R rfl rl2 (c_lit 0 0 rfl) ⟨by decide, by decide⟩ hF
def FX35_areNear_b84 (N : Nat) (K4 : Int → Int → fS → Option (Int × fS)) (l2 : Int) (l3 : Int) (s0 : Int) (s : fS) : Option (Int × fS) :=
  if s0 = 0 then
    FX35_areNear_b152 N K4 l2 s
  else
    if l3 = 0 then
      (uRJ s 316 l2).bind fun x5 =>
      (uRJ s 318 l2).bind fun x9 =>
      (FX35_isNear (ladd x5 x9) s).bind fun q11 =>
      if q11.1 = 0 then
        FX35_areNear_b152 N K4 l2 q11.2
      else
        FX35_areNear_b148 N K4 l2 q11.2
    else
      (uRJ s 318 l2).bind fun x15 =>
      if 1000000000 < x15 then
        FX35_areNear_b152 N K4 l2 s
      else
        (uRJ s 319 l2).bind fun x20 =>
        (uRJ s 320 l2).bind fun x24 =>
        if 1000000000 < (ladd x20 x24) then
          FX35_areNear_b152 N K4 l2 s
        else
          FX35_areNear_b148 N K4 l2 s
theorem SX35_areNear_b84 {m b : Nat} {φ0 : Nat → Nat} {σo : fS} (hm : 1 ≤ m) {N : Nat} {k4 : Nat → Int32 → Int32 → eH → Option (Int32 × eH)} {K4 : Int → Int → fS → Option (Int × fS)} {q : Int × fS} (hk4 : ∀ {φ : Nat → Nat} {h : eH} {s : fS} {l1' : Int32} {l1 : Int} {l2' : Int32} {l2 : Int}, fC m b φ0 σo φ h s → l1' = iI l1 → r32 l1 → l2' = iI l2 → r32 l2 → K4 l1 l2 s = some q → gG m b φ0 σo lI q (k4 192 l1' l2' h)) {φ : Nat → Nat} {h : eH} {s : fS} {l2' : Int32} {l2 : Int} {l3' : Int32} {l3 : Int} {s0' : Int32} {s0 : Int} (R : fC m b φ0 σo φ h s) (el2 : l2' = iI l2) (rl2 : r32 l2) (el3 : l3' = iI l3) (rl3 : r32 l3) (es0 : s0' = iI s0) (rs0 : r32 s0) (hF : FX35_areNear_b84 N K4 l2 l3 s0 s = some q) : gG m b φ0 σo lI q (fX35_areNear_b84 N k4 192 l2' l3' s0' h) := by
  subst el2; subst el3; subst es0
  unfold FX35_areNear_b84 at hF
  unfold fX35_areNear_b84
  refine s_if (i_eq rfl (c_lit 0 0 rfl) rs0 ⟨by decide, by decide⟩) hF (fun c1 hF => ?_) (fun c1 hF => ?_)
  ·
    exact SX35_areNear_b152 (N := N) (k4 := k4) (K4 := K4) hm @hk4 R rfl rl2 hF
  ·
    refine s_if (i_eq rfl (c_lit 0 0 rfl) rl3 ⟨by decide, by decide⟩) hF (fun c2 hF => ?_) (fun c2 hF => ?_)
    ·
      refine s_gAs R (t_192 hm R.S) (Nat.le_of_ble_eq_true rfl) rfl (o_192_105 hm R.S) (a_316 hm R) ?_
      refine s_rJ R (u_316 hm R.S).1 (u_316 hm R.S).2 (a_316 hm R) rfl rl2 hF (fun x5 ra4 hF => ?_)
      refine s_gAs R (t_192 hm R.S) (Nat.le_of_ble_eq_true rfl) rfl (o_192_107 hm R.S) (a_318 hm R) ?_
      refine s_rJ R (u_318 hm R.S).1 (u_318 hm R.S).2 (a_318 hm R) rfl rl2 hF (fun x9 ra6 hF => ?_)
      refine s_call R (Nat.zero_le _) (fun _ hq => SX35_isNear (b := 0) hm (R.rf) (d_add rfl rfl) (rr_J _) hq) hF (fun f7 rv7 h7 q11 R7 e7 E7 hF => ?_)
      refine s_if (i_eq e7.1 (c_lit 0 0 rfl) e7.2 ⟨by decide, by decide⟩) hF (fun c8 hF => ?_) (fun c8 hF => ?_)
      ·
        exact SX35_areNear_b152 (N := N) (k4 := k4) (K4 := K4) hm @hk4 R7 rfl rl2 hF
      ·
        exact SX35_areNear_b148 (N := N) (k4 := k4) (K4 := K4) hm @hk4 R7 rfl rl2 hF
    ·
      refine s_gAs R (t_192 hm R.S) (Nat.le_of_ble_eq_true rfl) rfl (o_192_107 hm R.S) (a_318 hm R) ?_
      refine s_rJ R (u_318 hm R.S).1 (u_318 hm R.S).2 (a_318 hm R) rfl rl2 hF (fun x15 ra10 hF => ?_)
      refine s_if ((lg_cmp_gt _ _).trans (j_lt (d_lit 1000000000 1000000000 rfl) rfl ⟨by decide, by decide⟩ ra10)) hF (fun c11 hF => ?_) (fun c11 hF => ?_)
      ·
        exact SX35_areNear_b152 (N := N) (k4 := k4) (K4 := K4) hm @hk4 R rfl rl2 hF
      ·
        refine s_gAs R (t_192 hm R.S) (Nat.le_of_ble_eq_true rfl) rfl (o_192_108 hm R.S) (a_319 hm R) ?_
        refine s_rJ R (u_319 hm R.S).1 (u_319 hm R.S).2 (a_319 hm R) rfl rl2 hF (fun x20 ra13 hF => ?_)
        refine s_gAs R (t_192 hm R.S) (Nat.le_of_ble_eq_true rfl) rfl (o_192_109 hm R.S) (a_320 hm R) ?_
        refine s_rJ R (u_320 hm R.S).1 (u_320 hm R.S).2 (a_320 hm R) rfl rl2 hF (fun x24 ra15 hF => ?_)
        refine s_if ((lg_cmp_gt _ _).trans (j_lt (d_lit 1000000000 1000000000 rfl) (d_add rfl rfl) ⟨by decide, by decide⟩ (rr_J _))) hF (fun c16 hF => ?_) (fun c16 hF => ?_)
        ·
          exact SX35_areNear_b152 (N := N) (k4 := k4) (K4 := K4) hm @hk4 R rfl rl2 hF
        ·
          exact SX35_areNear_b148 (N := N) (k4 := k4) (K4 := K4) hm @hk4 R rfl rl2 hF
def FX35_areNear_b83 (N : Nat) (K4 : Int → Int → fS → Option (Int × fS)) (l2 : Int) (l3 : Int) (s : fS) : Option (Int × fS) :=
  FX35_areNear_b84 N K4 l2 l3 0 s
theorem SX35_areNear_b83 {m b : Nat} {φ0 : Nat → Nat} {σo : fS} (hm : 1 ≤ m) {N : Nat} {k4 : Nat → Int32 → Int32 → eH → Option (Int32 × eH)} {K4 : Int → Int → fS → Option (Int × fS)} {q : Int × fS} (hk4 : ∀ {φ : Nat → Nat} {h : eH} {s : fS} {l1' : Int32} {l1 : Int} {l2' : Int32} {l2 : Int}, fC m b φ0 σo φ h s → l1' = iI l1 → r32 l1 → l2' = iI l2 → r32 l2 → K4 l1 l2 s = some q → gG m b φ0 σo lI q (k4 192 l1' l2' h)) {φ : Nat → Nat} {h : eH} {s : fS} {l2' : Int32} {l2 : Int} {l3' : Int32} {l3 : Int} (R : fC m b φ0 σo φ h s) (el2 : l2' = iI l2) (rl2 : r32 l2) (el3 : l3' = iI l3) (rl3 : r32 l3) (hF : FX35_areNear_b83 N K4 l2 l3 s = some q) : gG m b φ0 σo lI q (fX35_areNear_b83 N k4 192 l2' l3' h) := by
  subst el2; subst el3
  unfold FX35_areNear_b83 at hF
  unfold fX35_areNear_b83
  exact SX35_areNear_b84 (N := N) (k4 := k4) (K4 := K4) hm @hk4 R rfl rl2 rfl rl3 (c_lit 0 0 rfl) ⟨by decide, by decide⟩ hF
def FX35_areNear_b53 (N : Nat) (K4 : Int → Int → fS → Option (Int × fS)) (l1 : Int) (l2 : Int) (l3 : Int) (s0 : Int) (s : fS) : Option (Int × fS) :=
  if l1 = 0 then
    FX35_areNear_b83 N K4 l2 l3 s
  else
    (uRJ s 316 l2).bind fun x4 =>
    (FX35_isNear x4 s).bind fun q6 =>
    if q6.1 = 0 then
      FX35_areNear_b83 N K4 l2 l3 q6.2
    else
      (FX35_isNear s0 q6.2).bind fun q8 =>
      if q8.1 = 0 then
        FX35_areNear_b83 N K4 l2 l3 q8.2
      else
        FX35_areNear_b84 N K4 l2 l3 1 q8.2
theorem SX35_areNear_b53 {m b : Nat} {φ0 : Nat → Nat} {σo : fS} (hm : 1 ≤ m) {N : Nat} {k4 : Nat → Int32 → Int32 → eH → Option (Int32 × eH)} {K4 : Int → Int → fS → Option (Int × fS)} {q : Int × fS} (hk4 : ∀ {φ : Nat → Nat} {h : eH} {s : fS} {l1' : Int32} {l1 : Int} {l2' : Int32} {l2 : Int}, fC m b φ0 σo φ h s → l1' = iI l1 → r32 l1 → l2' = iI l2 → r32 l2 → K4 l1 l2 s = some q → gG m b φ0 σo lI q (k4 192 l1' l2' h)) {φ : Nat → Nat} {h : eH} {s : fS} {l1' : Int32} {l1 : Int} {l2' : Int32} {l2 : Int} {l3' : Int32} {l3 : Int} {s0' : Int64} {s0 : Int} (R : fC m b φ0 σo φ h s) (el1 : l1' = iI l1) (rl1 : r32 l1) (el2 : l2' = iI l2) (rl2 : r32 l2) (el3 : l3' = iI l3) (rl3 : r32 l3) (es0 : s0' = iJ s0) (rs0 : r64 s0) (hF : FX35_areNear_b53 N K4 l1 l2 l3 s0 s = some q) : gG m b φ0 σo lI q (fX35_areNear_b53 N k4 192 l1' l2' l3' s0' h) := by
  subst el1; subst el2; subst el3; subst es0
  unfold FX35_areNear_b53 at hF
  unfold fX35_areNear_b53
  refine s_if (i_eq rfl (c_lit 0 0 rfl) rl1 ⟨by decide, by decide⟩) hF (fun c1 hF => ?_) (fun c1 hF => ?_)
  ·
    exact SX35_areNear_b83 (N := N) (k4 := k4) (K4 := K4) hm @hk4 R rfl rl2 rfl rl3 hF
  ·
    refine s_gAs R (t_192 hm R.S) (Nat.le_of_ble_eq_true rfl) rfl (o_192_105 hm R.S) (a_316 hm R) ?_
    refine s_rJ R (u_316 hm R.S).1 (u_316 hm R.S).2 (a_316 hm R) rfl rl2 hF (fun x4 ra3 hF => ?_)
    refine s_call R (Nat.zero_le _) (fun _ hq => SX35_isNear (b := 0) hm (R.rf) rfl ra3 hq) hF (fun f4 rv4 h4 q6 R4 e4 E4 hF => ?_)
    refine s_if (i_eq e4.1 (c_lit 0 0 rfl) e4.2 ⟨by decide, by decide⟩) hF (fun c5 hF => ?_) (fun c5 hF => ?_)
    ·
      exact SX35_areNear_b83 (N := N) (k4 := k4) (K4 := K4) hm @hk4 R4 rfl rl2 rfl rl3 hF
    ·
      refine s_call R4 (Nat.zero_le _) (fun _ hq => SX35_isNear (b := 0) hm (R4.rf) rfl rs0 hq) hF (fun f6 rv6 h6 q8 R6 e6 E6 hF => ?_)
      refine s_if (i_eq e6.1 (c_lit 0 0 rfl) e6.2 ⟨by decide, by decide⟩) hF (fun c7 hF => ?_) (fun c7 hF => ?_)
      ·
        exact SX35_areNear_b83 (N := N) (k4 := k4) (K4 := K4) hm @hk4 R6 rfl rl2 rfl rl3 hF
      ·
        exact SX35_areNear_b84 (N := N) (k4 := k4) (K4 := K4) hm @hk4 R6 rfl rl2 rfl rl3 (c_lit 1 1 rfl) ⟨by decide, by decide⟩ hF
def FX35_areNear_b26 (N : Nat) (K4 : Int → Int → fS → Option (Int × fS)) (l1 : Int) (l2 : Int) (s0 : Int) (s : fS) : Option (Int × fS) :=
  if s0 = 0 then
    (uRJ s 317 l2).bind fun x4 =>
    FX35_areNear_b53 N K4 l1 l2 s0 x4 s
  else
    (uRJ s 317 l2).bind fun x8 =>
    (uRJ s 320 l2).bind fun x12 =>
    FX35_areNear_b53 N K4 l1 l2 s0 (ladd x8 x12) s
theorem SX35_areNear_b26 {m b : Nat} {φ0 : Nat → Nat} {σo : fS} (hm : 1 ≤ m) {N : Nat} {k4 : Nat → Int32 → Int32 → eH → Option (Int32 × eH)} {K4 : Int → Int → fS → Option (Int × fS)} {q : Int × fS} (hk4 : ∀ {φ : Nat → Nat} {h : eH} {s : fS} {l1' : Int32} {l1 : Int} {l2' : Int32} {l2 : Int}, fC m b φ0 σo φ h s → l1' = iI l1 → r32 l1 → l2' = iI l2 → r32 l2 → K4 l1 l2 s = some q → gG m b φ0 σo lI q (k4 192 l1' l2' h)) {φ : Nat → Nat} {h : eH} {s : fS} {l1' : Int32} {l1 : Int} {l2' : Int32} {l2 : Int} {s0' : Int32} {s0 : Int} (R : fC m b φ0 σo φ h s) (el1 : l1' = iI l1) (rl1 : r32 l1) (el2 : l2' = iI l2) (rl2 : r32 l2) (es0 : s0' = iI s0) (rs0 : r32 s0) (hF : FX35_areNear_b26 N K4 l1 l2 s0 s = some q) : gG m b φ0 σo lI q (fX35_areNear_b26 N k4 192 l1' l2' s0' h) := by
  subst el1; subst el2; subst es0
  unfold FX35_areNear_b26 at hF
  unfold fX35_areNear_b26
  refine s_if (i_eq rfl (c_lit 0 0 rfl) rs0 ⟨by decide, by decide⟩) hF (fun c1 hF => ?_) (fun c1 hF => ?_)
  ·
    refine s_gAs R (t_192 hm R.S) (Nat.le_of_ble_eq_true rfl) rfl (o_192_106 hm R.S) (a_317 hm R) ?_
    refine s_rJ R (u_317 hm R.S).1 (u_317 hm R.S).2 (a_317 hm R) rfl rl2 hF (fun x4 ra3 hF => ?_)
    exact SX35_areNear_b53 (N := N) (k4 := k4) (K4 := K4) hm @hk4 R rfl rl1 rfl rl2 rfl rs0 rfl ra3 hF
  ·
    refine s_gAs R (t_192 hm R.S) (Nat.le_of_ble_eq_true rfl) rfl (o_192_106 hm R.S) (a_317 hm R) ?_
    refine s_rJ R (u_317 hm R.S).1 (u_317 hm R.S).2 (a_317 hm R) rfl rl2 hF (fun x8 ra5 hF => ?_)
    refine s_gAs R (t_192 hm R.S) (Nat.le_of_ble_eq_true rfl) rfl (o_192_109 hm R.S) (a_320 hm R) ?_
    refine s_rJ R (u_320 hm R.S).1 (u_320 hm R.S).2 (a_320 hm R) rfl rl2 hF (fun x12 ra7 hF => ?_)
    exact SX35_areNear_b53 (N := N) (k4 := k4) (K4 := K4) hm @hk4 R rfl rl1 rfl rl2 rfl rs0 (d_add rfl rfl) (rr_J _) hF
def FX35_areNear_b4 (N : Nat) : Nat → Int → Int → fS → Option (Int × fS)
  | 0, _, _, _ => none
  | n + 1, l1, l2, s =>
    if (s.i 192 102) ≤ l2 then
      uZ l1 (l1, s)
    else
      (uRI s 314 l2).bind fun x7 =>
      if 0 ≤ x7 then
        FX35_areNear_b26 N (FX35_areNear_b4 N n) l1 l2 0 s
      else
        FX35_areNear_b26 N (FX35_areNear_b4 N n) l1 l2 1 s
theorem SX35_areNear_b4 {m b : Nat} {φ0 : Nat → Nat} {σo : fS} (hm : 1 ≤ m) {N : Nat} {q : Int × fS} : ∀ {n : Nat} {φ : Nat → Nat} {h : eH} {s : fS} {l1' : Int32} {l1 : Int} {l2' : Int32} {l2 : Int}, fC m b φ0 σo φ h s → l1' = iI l1 → r32 l1 → l2' = iI l2 → r32 l2 → FX35_areNear_b4 N n l1 l2 s = some q → gG m b φ0 σo lI q (fX35_areNear_b4 N n 192 l1' l2' h) := by
  intro n
  induction n with
 | zero => intro φ h s l1' l1 l2' l2 R el1 rl1 el2 rl2 hF; simp [FX35_areNear_b4] at hF
  | succ n ih =>
    intro φ h s l1' l1 l2' l2 R el1 rl1 el2 rl2 hF
    subst el1; subst el2
    rw [FX35_areNear_b4] at hF
    rw [fX35_areNear_b4]
    refine s_gI R (t_192 hm R.S) (Nat.le_of_ble_eq_true rfl) rfl ?_
    refine s_if (i_le rfl rfl (R.ri (t_192 hm R.S) (Nat.le_of_ble_eq_true rfl) rfl) rl2) hF (fun c2 hF => ?_) (fun c2 hF => ?_)
    ·
      exact g_z R rfl hF ⟨rfl, rl1⟩
    ·
      refine s_gAs R (t_192 hm R.S) (Nat.le_of_ble_eq_true rfl) rfl (o_192_103 hm R.S) (a_314 hm R) ?_
      refine s_rI R (u_314 hm R.S).1 (u_314 hm R.S).2 (by decide) (a_314 hm R) rfl rl2 hF (fun x7 ra4 hF => ?_)
      refine s_if (i_le (c_lit 0 0 rfl) rfl ⟨by decide, by decide⟩ ra4) hF (fun c5 hF => ?_) (fun c5 hF => ?_)
      ·
        exact SX35_areNear_b26 (N := N) (k4 := fX35_areNear_b4 N n) (K4 := FX35_areNear_b4 N n) hm @ih R rfl rl1 rfl rl2 (c_lit 0 0 rfl) ⟨by decide, by decide⟩ hF
      ·
        exact SX35_areNear_b26 (N := N) (k4 := fX35_areNear_b4 N n) (K4 := FX35_areNear_b4 N n) hm @ih R rfl rl1 rfl rl2 (c_lit 1 1 rfl) ⟨by decide, by decide⟩ hF
def FX35_areNear (N : Nat) (s : fS) : Option (Int × fS) :=
  FX35_areNear_b4 N N 1 0 s
theorem SX35_areNear {m b : Nat} {φ0 : Nat → Nat} {σo : fS} (hm : 1 ≤ m) {N : Nat} {q : Int × fS} {φ : Nat → Nat} {h : eH} {s : fS} (R : fC m b φ0 σo φ h s) (hF : FX35_areNear N s = some q) : gG m b φ0 σo lI q (fX35_areNear N 192 h) := by
  unfold FX35_areNear at hF
  unfold fX35_areNear
  exact SX35_areNear_b4 (N := N) hm R (c_lit 1 1 rfl) ⟨by decide, by decide⟩ (c_lit 0 0 rfl) ⟨by decide, by decide⟩ hF
def FX35_now (p0 : Int) (s : fS) : Option (Int × fS) :=
  (uRI s 265 (iadd (imul 3812 (s.i 192 21)) p0)).bind fun x5 =>
  some (x5, s)
theorem SX35_now {m b : Nat} {φ0 : Nat → Nat} {σo : fS} (hm : 1 ≤ m) {q : Int × fS} {φ : Nat → Nat} {h : eH} {s : fS} {p0' : Int32} {p0 : Int} (R : fC m b φ0 σo φ h s) (ep0 : p0' = iI p0) (rp0 : r32 p0) (hF : FX35_now p0 s = some q) : gG m b φ0 σo lI q (fX35_now 192 p0' h) := by
  subst ep0
  unfold FX35_now at hF
  unfold fX35_now
  refine s_gAs R (t_192 hm R.S) (Nat.le_of_ble_eq_true rfl) rfl (o_192_22 hm R.S) (a_265 hm R) ?_
  refine s_gI R (t_192 hm R.S) (Nat.le_of_ble_eq_true rfl) rfl ?_
  refine s_rI R (u_265 hm R.S).1 (u_265 hm R.S).2 (by decide) (a_265 hm R) (c_add (c_mul (c_lit 3812 3812 rfl) rfl) rfl) (rr_I _) hF (fun x5 ra3 hF => ?_)
  exact g_ret R hF ⟨rfl, ra3⟩
def FX35_around (p0 : Int) (p1 : Int) (s : fS) : Option (Unit × fS) :=
  (FX35_now (iadd 2247 (imul 4 p1)) s).bind fun q6 =>
  (uQI q6.2 223 p0 q6.1).bind fun σ7 =>
  (FX35_now (iadd (iadd 2247 (imul 4 p1)) 1) σ7).bind fun q14 =>
  (uQI q14.2 224 p0 q14.1).bind fun σ15 =>
  (FX35_now (iadd (iadd 2247 (imul 4 p1)) 2) σ15).bind fun q22 =>
  (uQI q22.2 225 p0 q22.1).bind fun σ23 =>
  (FX35_now (iadd (iadd 2247 (imul 4 p1)) 3) σ23).bind fun q30 =>
  (uQI q30.2 226 p0 q30.1).bind fun σ31 =>
  some ((), σ31)
theorem SX35_around {m b : Nat} {φ0 : Nat → Nat} {σo : fS} (hm : 1 ≤ m) {q : Unit × fS} {φ : Nat → Nat} {h : eH} {s : fS} {p0' : Int32} {p0 : Int} {p1' : Int32} {p1 : Int} (R : fC m b φ0 σo φ h s) (ep0 : p0' = iI p0) (rp0 : r32 p0) (ep1 : p1' = iI p1) (rp1 : r32 p1) (hF : FX35_around p0 p1 s = some q) : gG m b φ0 σo lU q (fX35_around 192 p0' p1' h) := by
  subst ep0; subst ep1
  unfold FX35_around at hF
  unfold fX35_around
  refine s_gO R (t_192 hm R.S) (Nat.le_of_ble_eq_true rfl) rfl (o_192_6 hm R.S) ?_
  refine s_gAs R (t_213 hm R.S) (Nat.le_of_ble_eq_true rfl) rfl (o_213_12 hm R.S) (a_223 hm R) ?_
  refine s_kok R (t_192 hm R.S) (Nat.le_of_ble_eq_true rfl) ?_
  refine s_call R (Nat.zero_le _) (fun _ hq => SX35_now (b := 0) hm (R.rf) (c_add (c_lit 2247 2247 rfl) (c_mul (c_lit 4 4 rfl) rfl)) (rr_I _) hq) hF (fun f4 rv4 h4 q6 R4 e4 E4 hF => ?_)
  refine s_qI R4 (u_223 hm R4.S).1 (u_223 hm R4.S).2 (by decide) (a_223 hm R4) rfl rp0 e4.1 e4.2 hF (fun h5 σ7 R5 T5 hF => ?_)
  refine s_gO R5 (t_192 hm R5.S) (Nat.le_of_ble_eq_true rfl) rfl (o_192_6 hm R5.S) ?_
  refine s_gAs R5 (t_213 hm R5.S) (Nat.le_of_ble_eq_true rfl) rfl (o_213_13 hm R5.S) (a_224 hm R5) ?_
  refine s_kok R5 (t_192 hm R5.S) (Nat.le_of_ble_eq_true rfl) ?_
  refine s_call R5 (Nat.zero_le _) (fun _ hq => SX35_now (b := 0) hm (R5.rf) (c_add (c_add (c_lit 2247 2247 rfl) (c_mul (c_lit 4 4 rfl) rfl)) (c_lit 1 1 rfl)) (rr_I _) hq) hF (fun f9 rv9 h9 q14 R9 e9 E9 hF => ?_)
  refine s_qI R9 (u_224 hm R9.S).1 (u_224 hm R9.S).2 (by decide) (a_224 hm R9) rfl rp0 e9.1 e9.2 hF (fun h10 σ15 R10 T10 hF => ?_)
  refine s_gO R10 (t_192 hm R10.S) (Nat.le_of_ble_eq_true rfl) rfl (o_192_6 hm R10.S) ?_
  refine s_gAs R10 (t_213 hm R10.S) (Nat.le_of_ble_eq_true rfl) rfl (o_213_14 hm R10.S) (a_225 hm R10) ?_
  refine s_kok R10 (t_192 hm R10.S) (Nat.le_of_ble_eq_true rfl) ?_
  refine s_call R10 (Nat.zero_le _) (fun _ hq => SX35_now (b := 0) hm (R10.rf) (c_add (c_add (c_lit 2247 2247 rfl) (c_mul (c_lit 4 4 rfl) rfl)) (c_lit 2 2 rfl)) (rr_I _) hq) hF (fun f14 rv14 h14 q22 R14 e14 E14 hF => ?_)
  refine s_qI R14 (u_225 hm R14.S).1 (u_225 hm R14.S).2 (by decide) (a_225 hm R14) rfl rp0 e14.1 e14.2 hF (fun h15 σ23 R15 T15 hF => ?_)
  refine s_gO R15 (t_192 hm R15.S) (Nat.le_of_ble_eq_true rfl) rfl (o_192_6 hm R15.S) ?_
  refine s_gAs R15 (t_213 hm R15.S) (Nat.le_of_ble_eq_true rfl) rfl (o_213_15 hm R15.S) (a_226 hm R15) ?_
  refine s_kok R15 (t_192 hm R15.S) (Nat.le_of_ble_eq_true rfl) ?_
  refine s_call R15 (Nat.zero_le _) (fun _ hq => SX35_now (b := 0) hm (R15.rf) (c_add (c_add (c_lit 2247 2247 rfl) (c_mul (c_lit 4 4 rfl) rfl)) (c_lit 3 3 rfl)) (rr_I _) hq) hF (fun f19 rv19 h19 q30 R19 e19 E19 hF => ?_)
  refine s_qI R19 (u_226 hm R19.S).1 (u_226 hm R19.S).2 (by decide) (a_226 hm R19) rfl rp0 e19.1 e19.2 hF (fun h20 σ31 R20 T20 hF => ?_)
  exact g_ret R20 hF trivial
def FX35_fail_b16 (s1 : Int) (s : fS) : Option (Unit × fS) :=
  (uPI s 192 46 s1).bind fun σ1 =>
  some ((), σ1)
theorem SX35_fail_b16 {m b : Nat} {φ0 : Nat → Nat} {σo : fS} (hm : 1 ≤ m) {q : Unit × fS} {φ : Nat → Nat} {h : eH} {s : fS} {s1' : Int32} {s1 : Int} (R : fC m b φ0 σo φ h s) (es1 : s1' = iI s1) (rs1 : r32 s1) (hF : FX35_fail_b16 s1 s = some q) : gG m b φ0 σo lU q (fX35_fail_b16 192 s1' h) := by
  subst es1
  unfold FX35_fail_b16 at hF
  unfold fX35_fail_b16
  refine s_pI R (t_192 hm R.S) (Nat.le_of_ble_eq_true rfl) rfl rfl rs1 hF (fun h1 σ1 R1 T1 hF => ?_)
  exact g_ret R1 hF trivial
def FX35_fail (p0 : Int) (s : fS) : Option (Unit × fS) :=
  if ¬ ((s.i 192 46) = 0) then
    FX35_fail_b16 (s.i 192 46) s
  else
    FX35_fail_b16 p0 s
theorem SX35_fail {m b : Nat} {φ0 : Nat → Nat} {σo : fS} (hm : 1 ≤ m) {q : Unit × fS} {φ : Nat → Nat} {h : eH} {s : fS} {p0' : Int32} {p0 : Int} (R : fC m b φ0 σo φ h s) (ep0 : p0' = iI p0) (rp0 : r32 p0) (hF : FX35_fail p0 s = some q) : gG m b φ0 σo lU q (fX35_fail 192 p0' h) := by
  subst ep0
  unfold FX35_fail at hF
  unfold fX35_fail
  refine s_gI R (t_192 hm R.S) (Nat.le_of_ble_eq_true rfl) rfl ?_
  refine s_if (not_congr (i_eq rfl (c_lit 0 0 rfl) (R.ri (t_192 hm R.S) (Nat.le_of_ble_eq_true rfl) rfl) ⟨by decide, by decide⟩)) hF (fun c2 hF => ?_) (fun c2 hF => ?_)
  ·
    refine s_gI R (t_192 hm R.S) (Nat.le_of_ble_eq_true rfl) rfl ?_
    exact SX35_fail_b16 hm R rfl (R.ri (t_192 hm R.S) (Nat.le_of_ble_eq_true rfl) rfl) hF
  ·
    exact SX35_fail_b16 hm R rfl rp0 hF
def FX35_small_b39 (SN : fS → Option (Int × fS)) (s0 : Int) (s : fS) : Option (Int × fS) :=
  some (s0, s)
theorem SX35_small_b39 {m b : Nat} {φ0 : Nat → Nat} {σo : fS} (hm : 1 ≤ m) {sN : Nat → eH → Option (Int32 × eH)} {SN : fS → Option (Int × fS)} {q : Int × fS} (hsN : ∀ {φ : Nat → Nat} {h : eH} {s : fS} {q}, fC m 1 φ s φ h s → SN s = some q → gG m 1 φ s lI q (sN 192 h)) {φ : Nat → Nat} {h : eH} {s : fS} {s0' : Int32} {s0 : Int} (R : fC m b φ0 σo φ h s) (es0 : s0' = iI s0) (rs0 : r32 s0) (hF : FX35_small_b39 SN s0 s = some q) : gG m b φ0 σo lI q (fX35_small_b39 sN s0' h) := by
  subst es0
  unfold FX35_small_b39 at hF
  unfold fX35_small_b39
  exact g_ret R hF ⟨rfl, rs0⟩
def FX35_small_b27 (SN : fS → Option (Int × fS)) (l2 : Int) (s : fS) : Option (Int × fS) :=
  if (s.i 192 46) ≤ 0 then
    FX35_small_b39 SN l2 s
  else
    FX35_small_b39 SN 0 s
theorem SX35_small_b27 {m b : Nat} {φ0 : Nat → Nat} {σo : fS} (hm : 1 ≤ m) {sN : Nat → eH → Option (Int32 × eH)} {SN : fS → Option (Int × fS)} {q : Int × fS} (hsN : ∀ {φ : Nat → Nat} {h : eH} {s : fS} {q}, fC m 1 φ s φ h s → SN s = some q → gG m 1 φ s lI q (sN 192 h)) {φ : Nat → Nat} {h : eH} {s : fS} {l2' : Int32} {l2 : Int} (R : fC m b φ0 σo φ h s) (el2 : l2' = iI l2) (rl2 : r32 l2) (hF : FX35_small_b27 SN l2 s = some q) : gG m b φ0 σo lI q (fX35_small_b27 sN 192 l2' h) := by
  subst el2
  unfold FX35_small_b27 at hF
  unfold fX35_small_b27
  refine s_gI R (t_192 hm R.S) (Nat.le_of_ble_eq_true rfl) rfl ?_
  refine s_if (i_le rfl (c_lit 0 0 rfl) (R.ri (t_192 hm R.S) (Nat.le_of_ble_eq_true rfl) rfl) ⟨by decide, by decide⟩) hF (fun c2 hF => ?_) (fun c2 hF => ?_)
  ·
    exact SX35_small_b39 (sN := sN) (SN := SN) hm @hsN R rfl rl2 hF
  ·
    exact SX35_small_b39 (sN := sN) (SN := SN) hm @hsN R (c_lit 0 0 rfl) ⟨by decide, by decide⟩ hF
def FX35_small_b21 (SN : fS → Option (Int × fS)) (l2 : Int) (s : fS) : Option (Int × fS) :=
  (FX35_fail 7 s).bind fun q2 =>
  FX35_small_b27 SN l2 q2.2
theorem SX35_small_b21 {m b : Nat} {φ0 : Nat → Nat} {σo : fS} (hm : 1 ≤ m) {sN : Nat → eH → Option (Int32 × eH)} {SN : fS → Option (Int × fS)} {q : Int × fS} (hsN : ∀ {φ : Nat → Nat} {h : eH} {s : fS} {q}, fC m 1 φ s φ h s → SN s = some q → gG m 1 φ s lI q (sN 192 h)) {φ : Nat → Nat} {h : eH} {s : fS} {l2' : Int32} {l2 : Int} (R : fC m b φ0 σo φ h s) (el2 : l2' = iI l2) (rl2 : r32 l2) (hF : FX35_small_b21 SN l2 s = some q) : gG m b φ0 σo lI q (fX35_small_b21 sN 192 l2' h) := by
  subst el2
  unfold FX35_small_b21 at hF
  unfold fX35_small_b21
  refine s_kok R (t_192 hm R.S) (Nat.le_of_ble_eq_true rfl) ?_
  refine s_call R (Nat.zero_le _) (fun _ hq => SX35_fail (b := 0) hm (R.rf) (c_lit 7 7 rfl) ⟨by decide, by decide⟩ hq) hF (fun f2 rv2 h2 q2 R2 e2 E2 hF => ?_)
  exact SX35_small_b27 (sN := sN) (SN := SN) hm @hsN R2 rfl rl2 hF
def FX35_small (SN : fS → Option (Int × fS)) (p0 : Int) (s : fS) : Option (Int × fS) :=
  (SN s).bind fun q2 =>
  if ¬ ((q2.2.i 192 46) = 0) then
    FX35_small_b27 SN q2.1 q2.2
  else
    if q2.1 < 0 then
      FX35_small_b21 SN q2.1 q2.2
    else
      if q2.1 ≤ p0 then
        FX35_small_b27 SN q2.1 q2.2
      else
        FX35_small_b21 SN q2.1 q2.2
theorem SX35_small {m b : Nat} {φ0 : Nat → Nat} {σo : fS} (hm : 1 ≤ m) (hb : 1 ≤ b) {sN : Nat → eH → Option (Int32 × eH)} {SN : fS → Option (Int × fS)} {q : Int × fS} (hsN : ∀ {φ : Nat → Nat} {h : eH} {s : fS} {q}, fC m 1 φ s φ h s → SN s = some q → gG m 1 φ s lI q (sN 192 h)) {φ : Nat → Nat} {h : eH} {s : fS} {p0' : Int32} {p0 : Int} (R : fC m b φ0 σo φ h s) (ep0 : p0' = iI p0) (rp0 : r32 p0) (hF : FX35_small SN p0 s = some q) : gG m b φ0 σo lI q (fX35_small sN 192 p0' h) := by
  subst ep0
  unfold FX35_small at hF
  unfold fX35_small
  refine s_kok R (t_192 hm R.S) (Nat.le_of_ble_eq_true rfl) ?_
  refine s_call R hb (fun _ hq => hsN (R.rf)  hq) hF (fun f2 rv2 h2 q2 R2 e2 E2 hF => ?_)
  refine s_gI R2 (t_192 hm R2.S) (Nat.le_of_ble_eq_true rfl) rfl ?_
  refine s_if (not_congr (i_eq rfl (c_lit 0 0 rfl) (R2.ri (t_192 hm R2.S) (Nat.le_of_ble_eq_true rfl) rfl) ⟨by decide, by decide⟩)) hF (fun c4 hF => ?_) (fun c4 hF => ?_)
  ·
    exact SX35_small_b27 (sN := sN) (SN := SN) hm @hsN R2 e2.1 e2.2 hF
  ·
    refine s_if (i_lt e2.1 (c_lit 0 0 rfl) e2.2 ⟨by decide, by decide⟩) hF (fun c5 hF => ?_) (fun c5 hF => ?_)
    ·
      exact SX35_small_b21 (sN := sN) (SN := SN) hm @hsN R2 e2.1 e2.2 hF
    ·
      refine s_if (i_le e2.1 rfl e2.2 rp0) hF (fun c6 hF => ?_) (fun c6 hF => ?_)
      ·
        exact SX35_small_b27 (sN := sN) (SN := SN) hm @hsN R2 e2.1 e2.2 hF
      ·
        exact SX35_small_b21 (sN := sN) (SN := SN) hm @hsN R2 e2.1 e2.2 hF
def FX35_at_b104 (SN : fS → Option (Int × fS)) (s0 : Int) (s : fS) : Option (Int × fS) :=
  some (s0, s)
theorem SX35_at_b104 {m b : Nat} {φ0 : Nat → Nat} {σo : fS} (hm : 1 ≤ m) {sN : Nat → eH → Option (Int32 × eH)} {SN : fS → Option (Int × fS)} {q : Int × fS} (hsN : ∀ {φ : Nat → Nat} {h : eH} {s : fS} {q}, fC m 1 φ s φ h s → SN s = some q → gG m 1 φ s lI q (sN 192 h)) {φ : Nat → Nat} {h : eH} {s : fS} {s0' : Int32} {s0 : Int} (R : fC m b φ0 σo φ h s) (es0 : s0' = iI s0) (rs0 : r32 s0) (hF : FX35_at_b104 SN s0 s = some q) : gG m b φ0 σo lI q (fX35_at_b104 sN s0' h) := by
  subst es0
  unfold FX35_at_b104 at hF
  unfold fX35_at_b104
  exact g_ret R hF ⟨rfl, rs0⟩
def FX35_at (SN : fS → Option (Int × fS)) (p0 : Int) (s : fS) : Option (Int × fS) :=
  if ¬ (p0 = 41) then
    if ¬ (p0 = 42) then
      if ¬ (p0 = 43) then
        if 83 ≤ p0 then
          if 89 ≤ p0 then
            FX35_at_b104 SN (iadd 2247 (imul 4 (isub (iadd 256 p0) 89))) s
          else
            FX35_at_b104 SN (isub (iadd 2241 p0) 83) s
        else
          FX35_at_b104 SN (isub (iadd 1972 p0) 70) s
      else
        (FX35_small SN 255 s).bind fun q7 =>
        some ((iadd 2247 (imul 4 q7.1)), q7.2)
    else
      (FX35_small SN 255 s).bind fun q9 =>
      some ((iadd 1985 q9.1), q9.2)
  else
    (FX35_small SN 255 s).bind fun q11 =>
    some ((iadd 1716 q11.1), q11.2)
theorem SX35_at {m b : Nat} {φ0 : Nat → Nat} {σo : fS} (hm : 1 ≤ m) (hb : 1 ≤ b) {sN : Nat → eH → Option (Int32 × eH)} {SN : fS → Option (Int × fS)} {q : Int × fS} (hsN : ∀ {φ : Nat → Nat} {h : eH} {s : fS} {q}, fC m 1 φ s φ h s → SN s = some q → gG m 1 φ s lI q (sN 192 h)) {φ : Nat → Nat} {h : eH} {s : fS} {p0' : Int32} {p0 : Int} (R : fC m b φ0 σo φ h s) (ep0 : p0' = iI p0) (rp0 : r32 p0) (hF : FX35_at SN p0 s = some q) : gG m b φ0 σo lI q (fX35_at sN 192 p0' h) := by
  subst ep0
  unfold FX35_at at hF
  unfold fX35_at
  refine s_if (not_congr (i_eq rfl (c_lit 41 41 rfl) rp0 ⟨by decide, by decide⟩)) hF (fun c1 hF => ?_) (fun c1 hF => ?_)
  ·
    refine s_if (not_congr (i_eq rfl (c_lit 42 42 rfl) rp0 ⟨by decide, by decide⟩)) hF (fun c2 hF => ?_) (fun c2 hF => ?_)
    ·
      refine s_if (not_congr (i_eq rfl (c_lit 43 43 rfl) rp0 ⟨by decide, by decide⟩)) hF (fun c3 hF => ?_) (fun c3 hF => ?_)
      ·
        refine s_if (i_le (c_lit 83 83 rfl) rfl ⟨by decide, by decide⟩ rp0) hF (fun c4 hF => ?_) (fun c4 hF => ?_)
        ·
          refine s_if (i_le (c_lit 89 89 rfl) rfl ⟨by decide, by decide⟩ rp0) hF (fun c5 hF => ?_) (fun c5 hF => ?_)
          ·
            exact SX35_at_b104 (sN := sN) (SN := SN) hm @hsN R (c_add (c_lit 2247 2247 rfl) (c_mul (c_lit 4 4 rfl) (c_sub (c_add (c_lit 256 256 rfl) rfl) (c_lit 89 89 rfl)))) (rr_I _) hF
          ·
            exact SX35_at_b104 (sN := sN) (SN := SN) hm @hsN R (c_sub (c_add (c_lit 2241 2241 rfl) rfl) (c_lit 83 83 rfl)) (rr_I _) hF
        ·
          exact SX35_at_b104 (sN := sN) (SN := SN) hm @hsN R (c_sub (c_add (c_lit 1972 1972 rfl) rfl) (c_lit 70 70 rfl)) (rr_I _) hF
      ·
        refine s_kok R (t_192 hm R.S) (Nat.le_of_ble_eq_true rfl) ?_
        refine s_call R hb (fun _ hq => SX35_small (b := 1) (sN := sN) (SN := SN) hm (Nat.le_of_ble_eq_true rfl) @hsN (R.rf) (c_lit 255 255 rfl) ⟨by decide, by decide⟩ hq) hF (fun f7 rv7 h7 q7 R7 e7 E7 hF => ?_)
        exact g_ret R7 hF ⟨(c_add (c_lit 2247 2247 rfl) (c_mul (c_lit 4 4 rfl) e7.1)), (rr_I _)⟩
    ·
      refine s_kok R (t_192 hm R.S) (Nat.le_of_ble_eq_true rfl) ?_
      refine s_call R hb (fun _ hq => SX35_small (b := 1) (sN := sN) (SN := SN) hm (Nat.le_of_ble_eq_true rfl) @hsN (R.rf) (c_lit 255 255 rfl) ⟨by decide, by decide⟩ hq) hF (fun f9 rv9 h9 q9 R9 e9 E9 hF => ?_)
      exact g_ret R9 hF ⟨(c_add (c_lit 1985 1985 rfl) e9.1), (rr_I _)⟩
  ·
    refine s_kok R (t_192 hm R.S) (Nat.le_of_ble_eq_true rfl) ?_
    refine s_call R hb (fun _ hq => SX35_small (b := 1) (sN := sN) (SN := SN) hm (Nat.le_of_ble_eq_true rfl) @hsN (R.rf) (c_lit 255 255 rfl) ⟨by decide, by decide⟩ hq) hF (fun f11 rv11 h11 q11 R11 e11 E11 hF => ?_)
    exact g_ret R11 hF ⟨(c_add (c_lit 1716 1716 rfl) e11.1), (rr_I _)⟩
def FX35_bad_b82 (s0 : Int) (s : fS) : Option (Int × fS) :=
  some (s0, s)
theorem SX35_bad_b82 {m b : Nat} {φ0 : Nat → Nat} {σo : fS} (hm : 1 ≤ m) {q : Int × fS} {φ : Nat → Nat} {h : eH} {s : fS} {s0' : Int32} {s0 : Int} (R : fC m b φ0 σo φ h s) (es0 : s0' = iI s0) (rs0 : r32 s0) (hF : FX35_bad_b82 s0 s = some q) : gG m b φ0 σo lI q (fX35_bad_b82 s0' h) := by
  subst es0
  unfold FX35_bad_b82 at hF
  unfold fX35_bad_b82
  exact g_ret R hF ⟨rfl, rs0⟩
def FX35_bad_b50 (l4 : Int) (s : fS) : Option (Int × fS) :=
  if l4 ≤ 1290 then
    FX35_bad_b82 (l2i (ldiv (ladd (lmul (lmul l4 l4) l4) 131072) 262144)) s
  else
    FX35_bad_b82 10000 s
theorem SX35_bad_b50 {m b : Nat} {φ0 : Nat → Nat} {σo : fS} (hm : 1 ≤ m) {q : Int × fS} {φ : Nat → Nat} {h : eH} {s : fS} {l4' : Int64} {l4 : Int} (R : fC m b φ0 σo φ h s) (el4 : l4' = iJ l4) (rl4 : r64 l4) (hF : FX35_bad_b50 l4 s = some q) : gG m b φ0 σo lI q (fX35_bad_b50 l4' h) := by
  subst el4
  unfold FX35_bad_b50 at hF
  unfold fX35_bad_b50
  refine s_if (lg_le.trans (j_le rfl (d_lit 1290 1290 rfl) rl4 ⟨by decide, by decide⟩)) hF (fun c1 hF => ?_) (fun c1 hF => ?_)
  ·
    exact SX35_bad_b82 hm R (d_2i (d_div (d_add (d_mul (d_mul rfl rfl) rfl) (d_lit 131072 131072 rfl)) (d_lit 262144 262144 rfl))) (rr_I _) hF
  ·
    exact SX35_bad_b82 hm R (c_lit 10000 10000 rfl) ⟨by decide, by decide⟩ hF
def FX35_bad (p0 : Int) (p1 : Int) (s : fS) : Option (Int × fS) :=
  if ¬ (p1 = 0) then
    if 7230584 < p0 then
      if p1 < 1663497 then
        FX35_bad_b50 p0 s
      else
        if (ldiv p1 297) = 0 then none else
        FX35_bad_b50 (ldiv p0 (ldiv p1 297)) s
    else
      if p1 = 0 then none else
      FX35_bad_b50 (ldiv (lmul 297 p0) p1) s
  else
    some (10000, s)
theorem SX35_bad {m b : Nat} {φ0 : Nat → Nat} {σo : fS} (hm : 1 ≤ m) {q : Int × fS} {φ : Nat → Nat} {h : eH} {s : fS} {p0' : Int64} {p0 : Int} {p1' : Int64} {p1 : Int} (R : fC m b φ0 σo φ h s) (ep0 : p0' = iJ p0) (rp0 : r64 p0) (ep1 : p1' = iJ p1) (rp1 : r64 p1) (hF : FX35_bad p0 p1 s = some q) : gG m b φ0 σo lI q (fX35_bad p0' p1' h) := by
  subst ep0; subst ep1
  unfold FX35_bad at hF
  unfold fX35_bad
  refine s_if (not_congr (lg_eq.trans (j_eq rfl (d_lit 0 0 rfl) rp1 ⟨by decide, by decide⟩))) hF (fun c1 hF => ?_) (fun c1 hF => ?_)
  ·
    refine s_if ((lg_cmp_gt _ _).trans (j_lt (d_lit 7230584 7230584 rfl) rfl ⟨by decide, by decide⟩ rp0)) hF (fun c2 hF => ?_) (fun c2 hF => ?_)
    ·
      refine s_if (lg_lt.trans (j_lt rfl (d_lit 1663497 1663497 rfl) rp1 ⟨by decide, by decide⟩)) hF (fun c3 hF => ?_) (fun c3 hF => ?_)
      ·
        exact SX35_bad_b50 hm R rfl rp0 hF
      ·
        refine s_div (j_eq (d_div rfl (d_lit 297 297 rfl)) (d_lit 0 0 rfl) (rr_J _) ⟨by decide, by decide⟩) hF (fun c4 hF => ?_)
        exact SX35_bad_b50 hm R (d_div rfl (d_div rfl (d_lit 297 297 rfl))) (rr_J _) hF
    ·
      refine s_div (j_eq rfl (d_lit 0 0 rfl) rp1 ⟨by decide, by decide⟩) hF (fun c5 hF => ?_)
      exact SX35_bad_b50 hm R (d_div (d_mul (d_lit 297 297 rfl) rfl) rfl) (rr_J _) hF
  ·
    exact g_ret R hF ⟨(c_lit 10000 10000 rfl), ⟨by decide, by decide⟩⟩
def FX35_badness_b64 (s0 : Int) (s : fS) : Option (Int × fS) :=
  some (s0, s)
theorem SX35_badness_b64 {m b : Nat} {φ0 : Nat → Nat} {σo : fS} (hm : 1 ≤ m) {q : Int × fS} {φ : Nat → Nat} {h : eH} {s : fS} {s0' : Int32} {s0 : Int} (R : fC m b φ0 σo φ h s) (es0 : s0' = iI s0) (rs0 : r32 s0) (hF : FX35_badness_b64 s0 s = some q) : gG m b φ0 σo lI q (fX35_badness_b64 s0' h) := by
  subst es0
  unfold FX35_badness_b64 at hF
  unfold fX35_badness_b64
  exact g_ret R hF ⟨rfl, rs0⟩
def FX35_badness_b90 (s0 : Int) (s : fS) : Option (Int × fS) :=
  some (s0, s)
theorem SX35_badness_b90 {m b : Nat} {φ0 : Nat → Nat} {σo : fS} (hm : 1 ≤ m) {q : Int × fS} {φ : Nat → Nat} {h : eH} {s : fS} {s0' : Int32} {s0 : Int} (R : fC m b φ0 σo φ h s) (es0 : s0' = iI s0) (rs0 : r32 s0) (hF : FX35_badness_b90 s0 s = some q) : gG m b φ0 σo lI q (fX35_badness_b90 s0' h) := by
  subst es0
  unfold FX35_badness_b90 at hF
  unfold fX35_badness_b90
  exact g_ret R hF ⟨rfl, rs0⟩
def FX35_badness (s : fS) : Option (Int × fS) :=
  if ¬ ((lsub (s.i 192 98) (s.j 192 79)) = 0) then
    if (lsub (s.i 192 98) (s.j 192 79)) ≤ 0 then
      if (lneg (lsub (s.i 192 98) (s.j 192 79))) ≤ (s.j 192 85) then
        (FX35_bad (lneg (lsub (s.i 192 98) (s.j 192 79))) (s.j 192 85) s).bind fun q12 =>
        FX35_badness_b90 q12.1 q12.2
      else
        FX35_badness_b90 1073741823 s
    else
      (uRJ s 305 1).bind fun x15 =>
      (uRJ s 305 2).bind fun x19 =>
      (uRJ s 305 3).bind fun x23 =>
      if (ladd (ladd x15 x19) x23) ≤ 0 then
        (uRJ s 305 0).bind fun x28 =>
        (FX35_bad (lsub (s.i 192 98) (s.j 192 79)) x28 s).bind fun q30 =>
        FX35_badness_b64 q30.1 q30.2
      else
        FX35_badness_b64 0 s
  else
    some (0, s)
theorem SX35_badness {m b : Nat} {φ0 : Nat → Nat} {σo : fS} (hm : 1 ≤ m) {q : Int × fS} {φ : Nat → Nat} {h : eH} {s : fS} (R : fC m b φ0 σo φ h s) (hF : FX35_badness s = some q) : gG m b φ0 σo lI q (fX35_badness 192 h) := by
  unfold FX35_badness at hF
  unfold fX35_badness
  refine s_gI R (t_192 hm R.S) (Nat.le_of_ble_eq_true rfl) rfl ?_
  refine s_gJ R (t_192 hm R.S) (Nat.le_of_ble_eq_true rfl) rfl ?_
  refine s_if (not_congr (lg_eq.trans (j_eq (d_sub (c_2l rfl (R.ri (t_192 hm R.S) (Nat.le_of_ble_eq_true rfl) rfl)) rfl) (d_lit 0 0 rfl) (rr_J _) ⟨by decide, by decide⟩))) hF (fun c3 hF => ?_) (fun c3 hF => ?_)
  ·
    refine s_if (lg_le.trans (j_le (d_sub (c_2l rfl (R.ri (t_192 hm R.S) (Nat.le_of_ble_eq_true rfl) rfl)) rfl) (d_lit 0 0 rfl) (rr_J _) ⟨by decide, by decide⟩)) hF (fun c4 hF => ?_) (fun c4 hF => ?_)
    ·
      refine s_gJ R (t_192 hm R.S) (Nat.le_of_ble_eq_true rfl) rfl ?_
      refine s_if (lg_le.trans (j_le (d_neg (d_sub (c_2l rfl (R.ri (t_192 hm R.S) (Nat.le_of_ble_eq_true rfl) rfl)) rfl)) rfl (rr_J _) (R.rj (t_192 hm R.S) (Nat.le_of_ble_eq_true rfl) rfl))) hF (fun c6 hF => ?_) (fun c6 hF => ?_)
      ·
        refine s_gJ R (t_192 hm R.S) (Nat.le_of_ble_eq_true rfl) rfl ?_
        refine s_call R (Nat.zero_le _) (fun _ hq => SX35_bad (b := 0) hm (R.rf) (d_neg (d_sub (c_2l rfl (R.ri (t_192 hm R.S) (Nat.le_of_ble_eq_true rfl) rfl)) rfl)) (rr_J _) rfl (R.rj (t_192 hm R.S) (Nat.le_of_ble_eq_true rfl) rfl) hq) hF (fun f8 rv8 h8 q12 R8 e8 E8 hF => ?_)
        exact SX35_badness_b90 hm R8 e8.1 e8.2 hF
      ·
        exact SX35_badness_b90 hm R (c_lit 1073741823 1073741823 rfl) ⟨by decide, by decide⟩ hF
    ·
      refine s_gAs R (t_192 hm R.S) (Nat.le_of_ble_eq_true rfl) rfl (o_192_83 hm R.S) (a_305 hm R) ?_
      refine s_rJ R (u_305 hm R.S).1 (u_305 hm R.S).2 (a_305 hm R) (c_lit 1 1 rfl) ⟨by decide, by decide⟩ hF (fun x15 ra10 hF => ?_)
      refine s_gAs R (t_192 hm R.S) (Nat.le_of_ble_eq_true rfl) rfl (o_192_83 hm R.S) (a_305 hm R) ?_
      refine s_rJ R (u_305 hm R.S).1 (u_305 hm R.S).2 (a_305 hm R) (c_lit 2 2 rfl) ⟨by decide, by decide⟩ hF (fun x19 ra12 hF => ?_)
      refine s_gAs R (t_192 hm R.S) (Nat.le_of_ble_eq_true rfl) rfl (o_192_83 hm R.S) (a_305 hm R) ?_
      refine s_rJ R (u_305 hm R.S).1 (u_305 hm R.S).2 (a_305 hm R) (c_lit 3 3 rfl) ⟨by decide, by decide⟩ hF (fun x23 ra14 hF => ?_)
      refine s_if (lg_le.trans (j_le (d_add (d_add rfl rfl) rfl) (d_lit 0 0 rfl) (rr_J _) ⟨by decide, by decide⟩)) hF (fun c15 hF => ?_) (fun c15 hF => ?_)
      ·
        refine s_gAs R (t_192 hm R.S) (Nat.le_of_ble_eq_true rfl) rfl (o_192_83 hm R.S) (a_305 hm R) ?_
        refine s_rJ R (u_305 hm R.S).1 (u_305 hm R.S).2 (a_305 hm R) (c_lit 0 0 rfl) ⟨by decide, by decide⟩ hF (fun x28 ra17 hF => ?_)
        refine s_call R (Nat.zero_le _) (fun _ hq => SX35_bad (b := 0) hm (R.rf) (d_sub (c_2l rfl (R.ri (t_192 hm R.S) (Nat.le_of_ble_eq_true rfl) rfl)) rfl) (rr_J _) rfl ra17 hq) hF (fun f18 rv18 h18 q30 R18 e18 E18 hF => ?_)
        exact SX35_badness_b64 hm R18 e18.1 e18.2 hF
      ·
        exact SX35_badness_b64 hm R (c_lit 0 0 rfl) ⟨by decide, by decide⟩ hF
  ·
    exact g_ret R hF ⟨(c_lit 0 0 rfl), ⟨by decide, by decide⟩⟩
def FX35_bare_b16 (s0 : Int) (s : fS) : Option (Int × fS) :=
  some (s0, s)
theorem SX35_bare_b16 {m b : Nat} {φ0 : Nat → Nat} {σo : fS} (hm : 1 ≤ m) {q : Int × fS} {φ : Nat → Nat} {h : eH} {s : fS} {s0' : Int32} {s0 : Int} (R : fC m b φ0 σo φ h s) (es0 : s0' = iI s0) (rs0 : r32 s0) (hF : FX35_bare_b16 s0 s = some q) : gG m b φ0 σo lI q (fX35_bare_b16 s0' h) := by
  subst es0
  unfold FX35_bare_b16 at hF
  unfold fX35_bare_b16
  exact g_ret R hF ⟨rfl, rs0⟩
def FX35_bare (p0 : Int) (s : fS) : Option (Int × fS) :=
  if p0 < 524288 then
    FX35_bare_b16 p0 s
  else
    FX35_bare_b16 (isub p0 524288) s
theorem SX35_bare {m b : Nat} {φ0 : Nat → Nat} {σo : fS} (hm : 1 ≤ m) {q : Int × fS} {φ : Nat → Nat} {h : eH} {s : fS} {p0' : Int32} {p0 : Int} (R : fC m b φ0 σo φ h s) (ep0 : p0' = iI p0) (rp0 : r32 p0) (hF : FX35_bare p0 s = some q) : gG m b φ0 σo lI q (fX35_bare p0' h) := by
  subst ep0
  unfold FX35_bare at hF
  unfold fX35_bare
  refine s_if (i_lt rfl (c_lit 524288 524288 rfl) rp0 ⟨by decide, by decide⟩) hF (fun c1 hF => ?_) (fun c1 hF => ?_)
  ·
    exact SX35_bare_b16 hm R rfl rp0 hF
  ·
    exact SX35_bare_b16 hm R (c_sub rfl (c_lit 524288 524288 rfl)) (rr_I _) hF
def FX35_isCharacter_b15 (s0 : Int) (s : fS) : Option (Int × fS) :=
  uZ s0 (s0, s)
theorem SX35_isCharacter_b15 {m b : Nat} {φ0 : Nat → Nat} {σo : fS} (hm : 1 ≤ m) {q : Int × fS} {φ : Nat → Nat} {h : eH} {s : fS} {s0' : Int32} {s0 : Int} (R : fC m b φ0 σo φ h s) (es0 : s0' = iI s0) (rs0 : r32 s0) (hF : FX35_isCharacter_b15 s0 s = some q) : gG m b φ0 σo lI q (fX35_isCharacter_b15 s0' h) := by
  subst es0
  unfold FX35_isCharacter_b15 at hF
  unfold fX35_isCharacter_b15
  exact g_z R rfl hF ⟨rfl, rs0⟩
def FX35_isCharacter_b14 (s : fS) : Option (Int × fS) :=
  FX35_isCharacter_b15 0 s
theorem SX35_isCharacter_b14 {m b : Nat} {φ0 : Nat → Nat} {σo : fS} (hm : 1 ≤ m) {q : Int × fS} {φ : Nat → Nat} {h : eH} {s : fS} (R : fC m b φ0 σo φ h s) (hF : FX35_isCharacter_b14 s = some q) : gG m b φ0 σo lI q (fX35_isCharacter_b14 h) := by
  unfold FX35_isCharacter_b14 at hF
  unfold fX35_isCharacter_b14
  exact SX35_isCharacter_b15 hm R (c_lit 0 0 rfl) ⟨by decide, by decide⟩ hF
def FX35_isCharacter (p0 : Int) (s : fS) : Option (Int × fS) :=
  if p0 < 0 then
    FX35_isCharacter_b14 s
  else
    if 65536 ≤ p0 then
      FX35_isCharacter_b14 s
    else
      FX35_isCharacter_b15 1 s
theorem SX35_isCharacter {m b : Nat} {φ0 : Nat → Nat} {σo : fS} (hm : 1 ≤ m) {q : Int × fS} {φ : Nat → Nat} {h : eH} {s : fS} {p0' : Int32} {p0 : Int} (R : fC m b φ0 σo φ h s) (ep0 : p0' = iI p0) (rp0 : r32 p0) (hF : FX35_isCharacter p0 s = some q) : gG m b φ0 σo lI q (fX35_isCharacter p0' h) := by
  subst ep0
  unfold FX35_isCharacter at hF
  unfold fX35_isCharacter
  refine s_if (i_lt rfl (c_lit 0 0 rfl) rp0 ⟨by decide, by decide⟩) hF (fun c1 hF => ?_) (fun c1 hF => ?_)
  ·
    exact SX35_isCharacter_b14 hm R hF
  ·
    refine s_if (i_le (c_lit 65536 65536 rfl) rfl ⟨by decide, by decide⟩ rp0) hF (fun c2 hF => ?_) (fun c2 hF => ?_)
    ·
      exact SX35_isCharacter_b14 hm R hF
    ·
      exact SX35_isCharacter_b15 hm R (c_lit 1 1 rfl) ⟨by decide, by decide⟩ hF
def FX35_isOf_b21 (s0 : Int) (s : fS) : Option (Int × fS) :=
  uZ s0 (s0, s)
theorem SX35_isOf_b21 {m b : Nat} {φ0 : Nat → Nat} {σo : fS} (hm : 1 ≤ m) {q : Int × fS} {φ : Nat → Nat} {h : eH} {s : fS} {s0' : Int32} {s0 : Int} (R : fC m b φ0 σo φ h s) (es0 : s0' = iI s0) (rs0 : r32 s0) (hF : FX35_isOf_b21 s0 s = some q) : gG m b φ0 σo lI q (fX35_isOf_b21 s0' h) := by
  subst es0
  unfold FX35_isOf_b21 at hF
  unfold fX35_isOf_b21
  exact g_z R rfl hF ⟨rfl, rs0⟩
def FX35_isOf_b20 (s : fS) : Option (Int × fS) :=
  FX35_isOf_b21 0 s
theorem SX35_isOf_b20 {m b : Nat} {φ0 : Nat → Nat} {σo : fS} (hm : 1 ≤ m) {q : Int × fS} {φ : Nat → Nat} {h : eH} {s : fS} (R : fC m b φ0 σo φ h s) (hF : FX35_isOf_b20 s = some q) : gG m b φ0 σo lI q (fX35_isOf_b20 h) := by
  unfold FX35_isOf_b20 at hF
  unfold fX35_isOf_b20
  exact SX35_isOf_b21 hm R (c_lit 0 0 rfl) ⟨by decide, by decide⟩ hF
def FX35_isOf (p0 : Int) (p1 : Int) (s : fS) : Option (Int × fS) :=
  (FX35_isCharacter p0 s).bind fun q1 =>
  if q1.1 = 0 then
    FX35_isOf_b20 q1.2
  else
    if ¬ ((idiv p0 256) = p1) then
      FX35_isOf_b20 q1.2
    else
      FX35_isOf_b21 1 q1.2
theorem SX35_isOf {m b : Nat} {φ0 : Nat → Nat} {σo : fS} (hm : 1 ≤ m) {q : Int × fS} {φ : Nat → Nat} {h : eH} {s : fS} {p0' : Int32} {p0 : Int} {p1' : Int32} {p1 : Int} (R : fC m b φ0 σo φ h s) (ep0 : p0' = iI p0) (rp0 : r32 p0) (ep1 : p1' = iI p1) (rp1 : r32 p1) (hF : FX35_isOf p0 p1 s = some q) : gG m b φ0 σo lI q (fX35_isOf p0' p1' h) := by
  subst ep0; subst ep1
  unfold FX35_isOf at hF
  unfold fX35_isOf
  refine s_call R (Nat.zero_le _) (fun _ hq => SX35_isCharacter (b := 0) hm (R.rf) rfl rp0 hq) hF (fun f1 rv1 h1 q1 R1 e1 E1 hF => ?_)
  refine s_if (i_eq e1.1 (c_lit 0 0 rfl) e1.2 ⟨by decide, by decide⟩) hF (fun c2 hF => ?_) (fun c2 hF => ?_)
  ·
    exact SX35_isOf_b20 hm R1 hF
  ·
    refine s_if (not_congr (i_eq (c_div rfl (c_lit 256 256 rfl)) rfl (rr_I _) rp1)) hF (fun c3 hF => ?_) (fun c3 hF => ?_)
    ·
      exact SX35_isOf_b20 hm R1 hF
    ·
      exact SX35_isOf_b21 hm R1 (c_lit 1 1 rfl) ⟨by decide, by decide⟩ hF
def FX35_bareOf_b29 (N : Nat) (s : fS) : Option (Unit × fS) :=
  some ((), s)
theorem SX35_bareOf_b29 {m b : Nat} {φ0 : Nat → Nat} {σo : fS} (hm : 1 ≤ m) {N : Nat} {q : Unit × fS} {φ : Nat → Nat} {h : eH} {s : fS} (R : fC m b φ0 σo φ h s) (hF : FX35_bareOf_b29 N s = some q) : gG m b φ0 σo lU q (fX35_bareOf_b29 N h) := by
  unfold FX35_bareOf_b29 at hF
  unfold fX35_bareOf_b29
  exact g_ret R hF trivial
def FX35_bareOf_b101 (N : Nat) (K35 : Int → Int → Int → Int → fS → Option (Unit × fS)) (l1 : Int) (l2 : Int) (l3 : Int) (l4 : Int) (s : fS) : Option (Unit × fS) :=
  K35 l1 l2 l3 (iadd l4 1) s
theorem SX35_bareOf_b101 {m b : Nat} {φ0 : Nat → Nat} {σo : fS} (hm : 1 ≤ m) {N : Nat} {k35 : Nat → Int32 → Int32 → Int32 → Int32 → eH → Option (Unit × eH)} {K35 : Int → Int → Int → Int → fS → Option (Unit × fS)} {q : Unit × fS} (hk35 : ∀ {φ : Nat → Nat} {h : eH} {s : fS} {l1' : Int32} {l1 : Int} {l2' : Int32} {l2 : Int} {l3' : Int32} {l3 : Int} {l4' : Int32} {l4 : Int}, fC m b φ0 σo φ h s → l1' = iI l1 → r32 l1 → l2' = iI l2 → r32 l2 → l3' = iI l3 → r32 l3 → l4' = iI l4 → r32 l4 → K35 l1 l2 l3 l4 s = some q → gG m b φ0 σo lU q (k35 192 l1' l2' l3' l4' h)) {φ : Nat → Nat} {h : eH} {s : fS} {l1' : Int32} {l1 : Int} {l2' : Int32} {l2 : Int} {l3' : Int32} {l3 : Int} {l4' : Int32} {l4 : Int} (R : fC m b φ0 σo φ h s) (el1 : l1' = iI l1) (rl1 : r32 l1) (el2 : l2' = iI l2) (rl2 : r32 l2) (el3 : l3' = iI l3) (rl3 : r32 l3) (el4 : l4' = iI l4) (rl4 : r32 l4) (hF : FX35_bareOf_b101 N K35 l1 l2 l3 l4 s = some q) : gG m b φ0 σo lU q (fX35_bareOf_b101 N k35 192 l1' l2' l3' l4' h) := by
  subst el1; subst el2; subst el3; subst el4
  unfold FX35_bareOf_b101 at hF
  unfold fX35_bareOf_b101
  exact hk35 R rfl rl1 rfl rl2 rfl rl3 (c_add rfl (c_lit 1 1 rfl)) (rr_I _) hF
def FX35_bareOf_b87 (N : Nat) (K35 : Int → Int → Int → Int → fS → Option (Unit × fS)) (l1 : Int) (l2 : Int) (l4 : Int) (s0 : Int) (s : fS) : Option (Unit × fS) :=
  if ¬ (s0 = 0) then
    FX35_bareOf_b101 N K35 l1 l2 s0 l4 s
  else
    if (isub l2 1) ≤ l4 then
      FX35_bareOf_b101 N K35 l1 l2 s0 l4 s
    else
      some ((), s)
theorem SX35_bareOf_b87 {m b : Nat} {φ0 : Nat → Nat} {σo : fS} (hm : 1 ≤ m) {N : Nat} {k35 : Nat → Int32 → Int32 → Int32 → Int32 → eH → Option (Unit × eH)} {K35 : Int → Int → Int → Int → fS → Option (Unit × fS)} {q : Unit × fS} (hk35 : ∀ {φ : Nat → Nat} {h : eH} {s : fS} {l1' : Int32} {l1 : Int} {l2' : Int32} {l2 : Int} {l3' : Int32} {l3 : Int} {l4' : Int32} {l4 : Int}, fC m b φ0 σo φ h s → l1' = iI l1 → r32 l1 → l2' = iI l2 → r32 l2 → l3' = iI l3 → r32 l3 → l4' = iI l4 → r32 l4 → K35 l1 l2 l3 l4 s = some q → gG m b φ0 σo lU q (k35 192 l1' l2' l3' l4' h)) {φ : Nat → Nat} {h : eH} {s : fS} {l1' : Int32} {l1 : Int} {l2' : Int32} {l2 : Int} {l4' : Int32} {l4 : Int} {s0' : Int32} {s0 : Int} (R : fC m b φ0 σo φ h s) (el1 : l1' = iI l1) (rl1 : r32 l1) (el2 : l2' = iI l2) (rl2 : r32 l2) (el4 : l4' = iI l4) (rl4 : r32 l4) (es0 : s0' = iI s0) (rs0 : r32 s0) (hF : FX35_bareOf_b87 N K35 l1 l2 l4 s0 s = some q) : gG m b φ0 σo lU q (fX35_bareOf_b87 N k35 192 l1' l2' l4' s0' h) := by
  subst el1; subst el2; subst el4; subst es0
  unfold FX35_bareOf_b87 at hF
  unfold fX35_bareOf_b87
  refine s_if (not_congr (i_eq rfl (c_lit 0 0 rfl) rs0 ⟨by decide, by decide⟩)) hF (fun c1 hF => ?_) (fun c1 hF => ?_)
  ·
    exact SX35_bareOf_b101 (N := N) (k35 := k35) (K35 := K35) hm @hk35 R rfl rl1 rfl rl2 rfl rs0 rfl rl4 hF
  ·
    refine s_if (i_le (c_sub rfl (c_lit 1 1 rfl)) rfl (rr_I _) rl4) hF (fun c2 hF => ?_) (fun c2 hF => ?_)
    ·
      exact SX35_bareOf_b101 (N := N) (k35 := k35) (K35 := K35) hm @hk35 R rfl rl1 rfl rl2 rfl rs0 rfl rl4 hF
    ·
      exact g_ret R hF trivial
def FX35_bareOf_b110 (N : Nat) : Nat → Int → Int → Int → fS → Option (Unit × fS)
  | 0, _, _, _, _ => none
  | n + 1, l1, l2, l4, s =>
    if (isub l2 2) ≤ l4 then
      (uQI s 280 l1 (isub l2 2)).bind fun σ4 =>
      some ((), σ4)
    else
      (uRI s 279 (iadd (iadd (imul 11000 l1) l4) 1)).bind fun x10 =>
      (uQI s 279 (iadd (imul 11000 l1) l4) x10).bind fun σ12 =>
      FX35_bareOf_b110 N n l1 l2 (iadd l4 1) σ12
theorem SX35_bareOf_b110 {m b : Nat} {φ0 : Nat → Nat} {σo : fS} (hm : 1 ≤ m) {N : Nat} {q : Unit × fS} : ∀ {n : Nat} {φ : Nat → Nat} {h : eH} {s : fS} {l1' : Int32} {l1 : Int} {l2' : Int32} {l2 : Int} {l4' : Int32} {l4 : Int}, fC m b φ0 σo φ h s → l1' = iI l1 → r32 l1 → l2' = iI l2 → r32 l2 → l4' = iI l4 → r32 l4 → FX35_bareOf_b110 N n l1 l2 l4 s = some q → gG m b φ0 σo lU q (fX35_bareOf_b110 N n 192 l1' l2' l4' h) := by
  intro n
  induction n with
 | zero => intro φ h s l1' l1 l2' l2 l4' l4 R el1 rl1 el2 rl2 el4 rl4 hF; simp [FX35_bareOf_b110] at hF
  | succ n ih =>
    intro φ h s l1' l1 l2' l2 l4' l4 R el1 rl1 el2 rl2 el4 rl4 hF
    subst el1; subst el2; subst el4
    rw [FX35_bareOf_b110] at hF
    rw [fX35_bareOf_b110]
    refine s_if (i_le (c_sub rfl (c_lit 2 2 rfl)) rfl (rr_I _) rl4) hF (fun c1 hF => ?_) (fun c1 hF => ?_)
    ·
      refine s_gAs R (t_192 hm R.S) (Nat.le_of_ble_eq_true rfl) rfl (o_192_40 hm R.S) (a_280 hm R) ?_
      refine s_qI R (u_280 hm R.S).1 (u_280 hm R.S).2 (by decide) (a_280 hm R) rfl rl1 (c_sub rfl (c_lit 2 2 rfl)) (rr_I _) hF (fun h3 σ4 R3 T3 hF => ?_)
      exact g_ret R3 hF trivial
    ·
      refine s_gAs R (t_192 hm R.S) (Nat.le_of_ble_eq_true rfl) rfl (o_192_39 hm R.S) (a_279 hm R) ?_
      refine s_gAs R (t_192 hm R.S) (Nat.le_of_ble_eq_true rfl) rfl (o_192_39 hm R.S) (a_279 hm R) ?_
      refine s_rI R (u_279 hm R.S).1 (u_279 hm R.S).2 (by decide) (a_279 hm R) (c_add (c_add (c_mul (c_lit 11000 11000 rfl) rfl) rfl) (c_lit 1 1 rfl)) (rr_I _) hF (fun x10 ra6 hF => ?_)
      refine s_qI R (u_279 hm R.S).1 (u_279 hm R.S).2 (by decide) (a_279 hm R) (c_add (c_mul (c_lit 11000 11000 rfl) rfl) rfl) (rr_I _) rfl ra6 hF (fun h7 σ12 R7 T7 hF => ?_)
      exact ih R7 rfl rl1 rfl rl2 (c_add rfl (c_lit 1 1 rfl)) (rr_I _) hF
def FX35_bareOf_b35 (N : Nat) : Nat → Int → Int → Int → Int → fS → Option (Unit × fS)
  | 0, _, _, _, _, _ => none
  | n + 1, l1, l2, l3, l4, s =>
    if l2 ≤ l4 then
      FX35_bareOf_b110 N N l1 l2 0 s
    else
      (uRI s 279 (iadd (imul 11000 l1) l4)).bind fun x4 =>
      (FX35_isOf x4 1 s).bind fun q6 =>
      if q6.1 = 0 then
        (FX35_isOf x4 2 q6.2).bind fun q8 =>
        if q8.1 = 0 then
          FX35_bareOf_b87 N (FX35_bareOf_b35 N n) l1 l2 l4 l3 q8.2
        else
          FX35_bareOf_b87 N (FX35_bareOf_b35 N n) l1 l2 l4 (isub l3 1) q8.2
      else
        FX35_bareOf_b87 N (FX35_bareOf_b35 N n) l1 l2 l4 (iadd l3 1) q6.2
theorem SX35_bareOf_b35 {m b : Nat} {φ0 : Nat → Nat} {σo : fS} (hm : 1 ≤ m) {N : Nat} {q : Unit × fS} : ∀ {n : Nat} {φ : Nat → Nat} {h : eH} {s : fS} {l1' : Int32} {l1 : Int} {l2' : Int32} {l2 : Int} {l3' : Int32} {l3 : Int} {l4' : Int32} {l4 : Int}, fC m b φ0 σo φ h s → l1' = iI l1 → r32 l1 → l2' = iI l2 → r32 l2 → l3' = iI l3 → r32 l3 → l4' = iI l4 → r32 l4 → FX35_bareOf_b35 N n l1 l2 l3 l4 s = some q → gG m b φ0 σo lU q (fX35_bareOf_b35 N n 192 l1' l2' l3' l4' h) := by
  intro n
  induction n with
 | zero => intro φ h s l1' l1 l2' l2 l3' l3 l4' l4 R el1 rl1 el2 rl2 el3 rl3 el4 rl4 hF; simp [FX35_bareOf_b35] at hF
  | succ n ih =>
    intro φ h s l1' l1 l2' l2 l3' l3 l4' l4 R el1 rl1 el2 rl2 el3 rl3 el4 rl4 hF
    subst el1; subst el2; subst el3; subst el4
    rw [FX35_bareOf_b35] at hF
    rw [fX35_bareOf_b35]
    refine s_if (i_le rfl rfl rl2 rl4) hF (fun c1 hF => ?_) (fun c1 hF => ?_)
    ·
      exact SX35_bareOf_b110 (N := N) hm R rfl rl1 rfl rl2 (c_lit 0 0 rfl) ⟨by decide, by decide⟩ hF
    ·
      refine s_gAs R (t_192 hm R.S) (Nat.le_of_ble_eq_true rfl) rfl (o_192_39 hm R.S) (a_279 hm R) ?_
      refine s_rI R (u_279 hm R.S).1 (u_279 hm R.S).2 (by decide) (a_279 hm R) (c_add (c_mul (c_lit 11000 11000 rfl) rfl) rfl) (rr_I _) hF (fun x4 ra3 hF => ?_)
      refine s_call R (Nat.zero_le _) (fun _ hq => SX35_isOf (b := 0) hm (R.rf) rfl ra3 (c_lit 1 1 rfl) ⟨by decide, by decide⟩ hq) hF (fun f4 rv4 h4 q6 R4 e4 E4 hF => ?_)
      refine s_if (i_eq e4.1 (c_lit 0 0 rfl) e4.2 ⟨by decide, by decide⟩) hF (fun c5 hF => ?_) (fun c5 hF => ?_)
      ·
        refine s_call R4 (Nat.zero_le _) (fun _ hq => SX35_isOf (b := 0) hm (R4.rf) rfl ra3 (c_lit 2 2 rfl) ⟨by decide, by decide⟩ hq) hF (fun f6 rv6 h6 q8 R6 e6 E6 hF => ?_)
        refine s_if (i_eq e6.1 (c_lit 0 0 rfl) e6.2 ⟨by decide, by decide⟩) hF (fun c7 hF => ?_) (fun c7 hF => ?_)
        ·
          exact SX35_bareOf_b87 (N := N) (k35 := fX35_bareOf_b35 N n) (K35 := FX35_bareOf_b35 N n) hm @ih R6 rfl rl1 rfl rl2 rfl rl4 rfl rl3 hF
        ·
          exact SX35_bareOf_b87 (N := N) (k35 := fX35_bareOf_b35 N n) (K35 := FX35_bareOf_b35 N n) hm @ih R6 rfl rl1 rfl rl2 rfl rl4 (c_sub rfl (c_lit 1 1 rfl)) (rr_I _) hF
      ·
        exact SX35_bareOf_b87 (N := N) (k35 := fX35_bareOf_b35 N n) (K35 := FX35_bareOf_b35 N n) hm @ih R4 rfl rl1 rfl rl2 rfl rl4 (c_add rfl (c_lit 1 1 rfl)) (rr_I _) hF
def FX35_bareOf (N : Nat) (p0 : Int) (s : fS) : Option (Unit × fS) :=
  (uRI s 280 p0).bind fun x3 =>
  if x3 < 2 then
    FX35_bareOf_b29 N s
  else
    (uRI s 279 (imul 11000 p0)).bind fun x8 =>
    (FX35_isOf x8 1 s).bind fun q10 =>
    if ¬ (q10.1 = 0) then
      FX35_bareOf_b35 N N p0 x3 0 0 q10.2
    else
      FX35_bareOf_b29 N q10.2
theorem SX35_bareOf {m b : Nat} {φ0 : Nat → Nat} {σo : fS} (hm : 1 ≤ m) {N : Nat} {q : Unit × fS} {φ : Nat → Nat} {h : eH} {s : fS} {p0' : Int32} {p0 : Int} (R : fC m b φ0 σo φ h s) (ep0 : p0' = iI p0) (rp0 : r32 p0) (hF : FX35_bareOf N p0 s = some q) : gG m b φ0 σo lU q (fX35_bareOf N 192 p0' h) := by
  subst ep0
  unfold FX35_bareOf at hF
  unfold fX35_bareOf
  refine s_gAs R (t_192 hm R.S) (Nat.le_of_ble_eq_true rfl) rfl (o_192_40 hm R.S) (a_280 hm R) ?_
  refine s_rI R (u_280 hm R.S).1 (u_280 hm R.S).2 (by decide) (a_280 hm R) rfl rp0 hF (fun x3 ra2 hF => ?_)
  refine s_if (i_lt rfl (c_lit 2 2 rfl) ra2 ⟨by decide, by decide⟩) hF (fun c3 hF => ?_) (fun c3 hF => ?_)
  ·
    exact SX35_bareOf_b29 (N := N) hm R hF
  ·
    refine s_gAs R (t_192 hm R.S) (Nat.le_of_ble_eq_true rfl) rfl (o_192_39 hm R.S) (a_279 hm R) ?_
    refine s_rI R (u_279 hm R.S).1 (u_279 hm R.S).2 (by decide) (a_279 hm R) (c_mul (c_lit 11000 11000 rfl) rfl) (rr_I _) hF (fun x8 ra5 hF => ?_)
    refine s_call R (Nat.zero_le _) (fun _ hq => SX35_isOf (b := 0) hm (R.rf) rfl ra5 (c_lit 1 1 rfl) ⟨by decide, by decide⟩ hq) hF (fun f6 rv6 h6 q10 R6 e6 E6 hF => ?_)
    refine s_if (not_congr (i_eq e6.1 (c_lit 0 0 rfl) e6.2 ⟨by decide, by decide⟩)) hF (fun c7 hF => ?_) (fun c7 hF => ?_)
    ·
      exact SX35_bareOf_b35 (N := N) hm R6 rfl rp0 rfl ra2 (c_lit 0 0 rfl) ⟨by decide, by decide⟩ (c_lit 0 0 rfl) ⟨by decide, by decide⟩ hF
    ·
      exact SX35_bareOf_b29 (N := N) hm R6 hF
def FX35_beginLine_b82 (N : Nat) : Nat → Int → Int → Int → fS → Option (Int × fS)
  | 0, _, _, _, _ => none
  | n + 1, l1, l2, l3, s =>
    if l2 ≤ l3 then
      (uQI s 260 (s.i 192 12) 13).bind fun σ6 =>
      (uPI σ6 192 12 (iadd (σ6.i 192 12) 1)).bind fun σ10 =>
      (uPI σ10 192 13 0).bind fun σ12 =>
      (uPI σ12 192 9 (iadd l1 1)).bind fun σ14 =>
      (uPI σ14 192 10 (iadd (σ14.i 192 10) 1)).bind fun σ18 =>
      (uPI σ18 192 14 0).bind fun σ20 =>
      some (1, σ20)
    else
      (uRI s 193 l3).bind fun x28 =>
      (uQI s 260 (s.i 192 12) (iand x28 255)).bind fun σ30 =>
      (uPI σ30 192 12 (iadd (σ30.i 192 12) 1)).bind fun σ34 =>
      FX35_beginLine_b82 N n l1 l2 (iadd l3 1) σ34
theorem SX35_beginLine_b82 {m b : Nat} {φ0 : Nat → Nat} {σo : fS} (hm : 1 ≤ m) {N : Nat} {q : Int × fS} : ∀ {n : Nat} {φ : Nat → Nat} {h : eH} {s : fS} {l1' : Int32} {l1 : Int} {l2' : Int32} {l2 : Int} {l3' : Int32} {l3 : Int}, fC m b φ0 σo φ h s → l1' = iI l1 → r32 l1 → l2' = iI l2 → r32 l2 → l3' = iI l3 → r32 l3 → FX35_beginLine_b82 N n l1 l2 l3 s = some q → gG m b φ0 σo lI q (fX35_beginLine_b82 N n 192 l1' l2' l3' h) := by
  intro n
  induction n with
 | zero => intro φ h s l1' l1 l2' l2 l3' l3 R el1 rl1 el2 rl2 el3 rl3 hF; simp [FX35_beginLine_b82] at hF
  | succ n ih =>
    intro φ h s l1' l1 l2' l2 l3' l3 R el1 rl1 el2 rl2 el3 rl3 hF
    subst el1; subst el2; subst el3
    rw [FX35_beginLine_b82] at hF
    rw [fX35_beginLine_b82]
    refine s_if (i_le rfl rfl rl2 rl3) hF (fun c1 hF => ?_) (fun c1 hF => ?_)
    ·
      refine s_gAs R (t_192 hm R.S) (Nat.le_of_ble_eq_true rfl) rfl (o_192_11 hm R.S) (a_260 hm R) ?_
      refine s_gI R (t_192 hm R.S) (Nat.le_of_ble_eq_true rfl) rfl ?_
      refine s_qI R (u_260 hm R.S).1 (u_260 hm R.S).2 (by decide) (a_260 hm R) rfl (R.ri (t_192 hm R.S) (Nat.le_of_ble_eq_true rfl) rfl) (c_lit 13 13 rfl) ⟨by decide, by decide⟩ hF (fun h4 σ6 R4 T4 hF => ?_)
      refine s_gI R4 (t_192 hm R4.S) (Nat.le_of_ble_eq_true rfl) rfl ?_
      refine s_pI R4 (t_192 hm R4.S) (Nat.le_of_ble_eq_true rfl) rfl (c_add rfl (c_lit 1 1 rfl)) (rr_I _) hF (fun h6 σ10 R6 T6 hF => ?_)
      refine s_pI R6 (t_192 hm R6.S) (Nat.le_of_ble_eq_true rfl) rfl (c_lit 0 0 rfl) ⟨by decide, by decide⟩ hF (fun h7 σ12 R7 T7 hF => ?_)
      refine s_pI R7 (t_192 hm R7.S) (Nat.le_of_ble_eq_true rfl) rfl (c_add rfl (c_lit 1 1 rfl)) (rr_I _) hF (fun h8 σ14 R8 T8 hF => ?_)
      refine s_gI R8 (t_192 hm R8.S) (Nat.le_of_ble_eq_true rfl) rfl ?_
      refine s_pI R8 (t_192 hm R8.S) (Nat.le_of_ble_eq_true rfl) rfl (c_add rfl (c_lit 1 1 rfl)) (rr_I _) hF (fun h10 σ18 R10 T10 hF => ?_)
      refine s_pI R10 (t_192 hm R10.S) (Nat.le_of_ble_eq_true rfl) rfl (c_lit 0 0 rfl) ⟨by decide, by decide⟩ hF (fun h11 σ20 R11 T11 hF => ?_)
      exact g_ret R11 hF ⟨(c_lit 1 1 rfl), ⟨by decide, by decide⟩⟩
    ·
      refine s_gAs R (t_192 hm R.S) (Nat.le_of_ble_eq_true rfl) rfl (o_192_11 hm R.S) (a_260 hm R) ?_
      refine s_gI R (t_192 hm R.S) (Nat.le_of_ble_eq_true rfl) rfl ?_
      refine s_gAs R (t_192 hm R.S) (Nat.le_of_ble_eq_true rfl) rfl (o_192_2 hm R.S) (a_193 hm R) ?_
      refine s_rI R (u_193 hm R.S).1 (u_193 hm R.S).2 (by decide) (a_193 hm R) rfl rl3 hF (fun x28 ra15 hF => ?_)
      refine s_qI R (u_260 hm R.S).1 (u_260 hm R.S).2 (by decide) (a_260 hm R) rfl (R.ri (t_192 hm R.S) (Nat.le_of_ble_eq_true rfl) rfl) (c_and rfl (c_lit 255 255 rfl)) (rr_I _) hF (fun h16 σ30 R16 T16 hF => ?_)
      refine s_gI R16 (t_192 hm R16.S) (Nat.le_of_ble_eq_true rfl) rfl ?_
      refine s_pI R16 (t_192 hm R16.S) (Nat.le_of_ble_eq_true rfl) rfl (c_add rfl (c_lit 1 1 rfl)) (rr_I _) hF (fun h18 σ34 R18 T18 hF => ?_)
      exact ih R18 rfl rl1 rfl rl2 (c_add rfl (c_lit 1 1 rfl)) (rr_I _) hF
def FX35_beginLine_b72 (N : Nat) (l1 : Int) (l2 : Int) (s : fS) : Option (Int × fS) :=
  (uPI s 192 12 0).bind fun σ1 =>
  FX35_beginLine_b82 N N l1 l2 (σ1.i 192 9) σ1
theorem SX35_beginLine_b72 {m b : Nat} {φ0 : Nat → Nat} {σo : fS} (hm : 1 ≤ m) {N : Nat} {q : Int × fS} {φ : Nat → Nat} {h : eH} {s : fS} {l1' : Int32} {l1 : Int} {l2' : Int32} {l2 : Int} (R : fC m b φ0 σo φ h s) (el1 : l1' = iI l1) (rl1 : r32 l1) (el2 : l2' = iI l2) (rl2 : r32 l2) (hF : FX35_beginLine_b72 N l1 l2 s = some q) : gG m b φ0 σo lI q (fX35_beginLine_b72 N 192 l1' l2' h) := by
  subst el1; subst el2
  unfold FX35_beginLine_b72 at hF
  unfold fX35_beginLine_b72
  refine s_pI R (t_192 hm R.S) (Nat.le_of_ble_eq_true rfl) rfl (c_lit 0 0 rfl) ⟨by decide, by decide⟩ hF (fun h1 σ1 R1 T1 hF => ?_)
  refine s_gI R1 (t_192 hm R1.S) (Nat.le_of_ble_eq_true rfl) rfl ?_
  exact SX35_beginLine_b82 (N := N) hm R1 rfl rl1 rfl rl2 rfl (R1.ri (t_192 hm R1.S) (Nat.le_of_ble_eq_true rfl) rfl) hF
def FX35_beginLine_b45 (N : Nat) : Nat → Int → Int → fS → Option (Int × fS)
  | 0, _, _, _ => none
  | n + 1, l1, l2, s =>
    if l2 ≤ (s.i 192 9) then
      FX35_beginLine_b72 N l1 l2 s
    else
      (uRI s 193 (isub l2 1)).bind fun x6 =>
      if ¬ (x6 = 32) then
        FX35_beginLine_b72 N l1 l2 s
      else
        FX35_beginLine_b45 N n l1 (iadd l2 (-1)) s
theorem SX35_beginLine_b45 {m b : Nat} {φ0 : Nat → Nat} {σo : fS} (hm : 1 ≤ m) {N : Nat} {q : Int × fS} : ∀ {n : Nat} {φ : Nat → Nat} {h : eH} {s : fS} {l1' : Int32} {l1 : Int} {l2' : Int32} {l2 : Int}, fC m b φ0 σo φ h s → l1' = iI l1 → r32 l1 → l2' = iI l2 → r32 l2 → FX35_beginLine_b45 N n l1 l2 s = some q → gG m b φ0 σo lI q (fX35_beginLine_b45 N n 192 l1' l2' h) := by
  intro n
  induction n with
 | zero => intro φ h s l1' l1 l2' l2 R el1 rl1 el2 rl2 hF; simp [FX35_beginLine_b45] at hF
  | succ n ih =>
    intro φ h s l1' l1 l2' l2 R el1 rl1 el2 rl2 hF
    subst el1; subst el2
    rw [FX35_beginLine_b45] at hF
    rw [fX35_beginLine_b45]
    refine s_gI R (t_192 hm R.S) (Nat.le_of_ble_eq_true rfl) rfl ?_
    refine s_if (i_le rfl rfl rl2 (R.ri (t_192 hm R.S) (Nat.le_of_ble_eq_true rfl) rfl)) hF (fun c2 hF => ?_) (fun c2 hF => ?_)
    ·
      exact SX35_beginLine_b72 (N := N) hm R rfl rl1 rfl rl2 hF
    ·
      refine s_gAs R (t_192 hm R.S) (Nat.le_of_ble_eq_true rfl) rfl (o_192_2 hm R.S) (a_193 hm R) ?_
      refine s_rI R (u_193 hm R.S).1 (u_193 hm R.S).2 (by decide) (a_193 hm R) (c_sub rfl (c_lit 1 1 rfl)) (rr_I _) hF (fun x6 ra4 hF => ?_)
      refine s_if (not_congr (i_eq rfl (c_lit 32 32 rfl) ra4 ⟨by decide, by decide⟩)) hF (fun c5 hF => ?_) (fun c5 hF => ?_)
      ·
        exact SX35_beginLine_b72 (N := N) hm R rfl rl1 rfl rl2 hF
      ·
        exact ih R rfl rl1 (c_add rfl (c_lit (-1) (-1) rfl)) (rr_I _) hF
def FX35_beginLine_b43 (N : Nat) (l1 : Int) (s : fS) : Option (Int × fS) :=
  FX35_beginLine_b45 N N l1 l1 s
theorem SX35_beginLine_b43 {m b : Nat} {φ0 : Nat → Nat} {σo : fS} (hm : 1 ≤ m) {N : Nat} {q : Int × fS} {φ : Nat → Nat} {h : eH} {s : fS} {l1' : Int32} {l1 : Int} (R : fC m b φ0 σo φ h s) (el1 : l1' = iI l1) (rl1 : r32 l1) (hF : FX35_beginLine_b43 N l1 s = some q) : gG m b φ0 σo lI q (fX35_beginLine_b43 N 192 l1' h) := by
  subst el1
  unfold FX35_beginLine_b43 at hF
  unfold fX35_beginLine_b43
  exact SX35_beginLine_b45 (N := N) hm R rfl rl1 rfl rl1 hF
def FX35_beginLine_b18 (N : Nat) : Nat → Int → fS → Option (Int × fS)
  | 0, _, _ => none
  | n + 1, l1, s =>
    if (s.i 192 8) ≤ l1 then
      FX35_beginLine_b43 N l1 s
    else
      (uRI s 193 l1).bind fun x6 =>
      if x6 = 10 then
        FX35_beginLine_b43 N l1 s
      else
        FX35_beginLine_b18 N n (iadd l1 1) s
theorem SX35_beginLine_b18 {m b : Nat} {φ0 : Nat → Nat} {σo : fS} (hm : 1 ≤ m) {N : Nat} {q : Int × fS} : ∀ {n : Nat} {φ : Nat → Nat} {h : eH} {s : fS} {l1' : Int32} {l1 : Int}, fC m b φ0 σo φ h s → l1' = iI l1 → r32 l1 → FX35_beginLine_b18 N n l1 s = some q → gG m b φ0 σo lI q (fX35_beginLine_b18 N n 192 l1' h) := by
  intro n
  induction n with
 | zero => intro φ h s l1' l1 R el1 rl1 hF; simp [FX35_beginLine_b18] at hF
  | succ n ih =>
    intro φ h s l1' l1 R el1 rl1 hF
    subst el1
    rw [FX35_beginLine_b18] at hF
    rw [fX35_beginLine_b18]
    refine s_gI R (t_192 hm R.S) (Nat.le_of_ble_eq_true rfl) rfl ?_
    refine s_if (i_le rfl rfl (R.ri (t_192 hm R.S) (Nat.le_of_ble_eq_true rfl) rfl) rl1) hF (fun c2 hF => ?_) (fun c2 hF => ?_)
    ·
      exact SX35_beginLine_b43 (N := N) hm R rfl rl1 hF
    ·
      refine s_gAs R (t_192 hm R.S) (Nat.le_of_ble_eq_true rfl) rfl (o_192_2 hm R.S) (a_193 hm R) ?_
      refine s_rI R (u_193 hm R.S).1 (u_193 hm R.S).2 (by decide) (a_193 hm R) rfl rl1 hF (fun x6 ra4 hF => ?_)
      refine s_if (i_eq rfl (c_lit 10 10 rfl) ra4 ⟨by decide, by decide⟩) hF (fun c5 hF => ?_) (fun c5 hF => ?_)
      ·
        exact SX35_beginLine_b43 (N := N) hm R rfl rl1 hF
      ·
        exact ih R (c_add rfl (c_lit 1 1 rfl)) (rr_I _) hF
def FX35_beginLine (N : Nat) (s : fS) : Option (Int × fS) :=
  if (s.i 192 9) < (s.i 192 8) then
    FX35_beginLine_b18 N N (s.i 192 9) s
  else
    some (0, s)
theorem SX35_beginLine {m b : Nat} {φ0 : Nat → Nat} {σo : fS} (hm : 1 ≤ m) {N : Nat} {q : Int × fS} {φ : Nat → Nat} {h : eH} {s : fS} (R : fC m b φ0 σo φ h s) (hF : FX35_beginLine N s = some q) : gG m b φ0 σo lI q (fX35_beginLine N 192 h) := by
  unfold FX35_beginLine at hF
  unfold fX35_beginLine
  refine s_gI R (t_192 hm R.S) (Nat.le_of_ble_eq_true rfl) rfl ?_
  refine s_gI R (t_192 hm R.S) (Nat.le_of_ble_eq_true rfl) rfl ?_
  refine s_if (i_lt rfl rfl (R.ri (t_192 hm R.S) (Nat.le_of_ble_eq_true rfl) rfl) (R.ri (t_192 hm R.S) (Nat.le_of_ble_eq_true rfl) rfl)) hF (fun c3 hF => ?_) (fun c3 hF => ?_)
  ·
    refine s_gI R (t_192 hm R.S) (Nat.le_of_ble_eq_true rfl) rfl ?_
    exact SX35_beginLine_b18 (N := N) hm R rfl (R.ri (t_192 hm R.S) (Nat.le_of_ble_eq_true rfl) rfl) hF
  ·
    exact g_ret R hF ⟨(c_lit 0 0 rfl), ⟨by decide, by decide⟩⟩
def FX35_mode (s : fS) : Option (Int × fS) :=
  (uRI s 285 (isub (s.i 192 51) 1)).bind fun x5 =>
  some (x5, s)
theorem SX35_mode {m b : Nat} {φ0 : Nat → Nat} {σo : fS} (hm : 1 ≤ m) {q : Int × fS} {φ : Nat → Nat} {h : eH} {s : fS} (R : fC m b φ0 σo φ h s) (hF : FX35_mode s = some q) : gG m b φ0 σo lI q (fX35_mode 192 h) := by
  unfold FX35_mode at hF
  unfold fX35_mode
  refine s_gAs R (t_192 hm R.S) (Nat.le_of_ble_eq_true rfl) rfl (o_192_52 hm R.S) (a_285 hm R) ?_
  refine s_gI R (t_192 hm R.S) (Nat.le_of_ble_eq_true rfl) rfl ?_
  refine s_rI R (u_285 hm R.S).1 (u_285 hm R.S).2 (by decide) (a_285 hm R) (c_sub rfl (c_lit 1 1 rfl)) (rr_I _) hF (fun x5 ra3 hF => ?_)
  exact g_ret R hF ⟨rfl, ra3⟩
def FX35_openPage_b86 (N : Nat) (K0 : fS → Option (Unit × fS)) (s1 : Int) (s : fS) : Option (Unit × fS) :=
  (uPI s 192 100 s1).bind fun σ1 =>
  K0 σ1
theorem SX35_openPage_b86 {m b : Nat} {φ0 : Nat → Nat} {σo : fS} (hm : 1 ≤ m) {N : Nat} {k0 : Nat → eH → Option (Unit × eH)} {K0 : fS → Option (Unit × fS)} {q : Unit × fS} (hk0 : ∀ {φ : Nat → Nat} {h : eH} {s : fS} , fC m b φ0 σo φ h s → K0 s = some q → gG m b φ0 σo lU q (k0 192 h)) {φ : Nat → Nat} {h : eH} {s : fS} {s1' : Int32} {s1 : Int} (R : fC m b φ0 σo φ h s) (es1 : s1' = iI s1) (rs1 : r32 s1) (hF : FX35_openPage_b86 N K0 s1 s = some q) : gG m b φ0 σo lU q (fX35_openPage_b86 N k0 192 192 s1' h) := by
  subst es1
  unfold FX35_openPage_b86 at hF
  unfold fX35_openPage_b86
  refine s_pI R (t_192 hm R.S) (Nat.le_of_ble_eq_true rfl) rfl rfl rs1 hF (fun h1 σ1 R1 T1 hF => ?_)
  exact hk0 R1 hF
def FX35_openPage_b62 (N : Nat) (K0 : fS → Option (Unit × fS)) (l2 : Int) (s1 : Int) (s : fS) : Option (Unit × fS) :=
  (uPI s 192 98 s1).bind fun σ1 =>
  (FX35_now 3283 σ1).bind fun q4 =>
  (uPI q4.2 192 99 q4.1).bind fun σ5 =>
  if 0 ≤ l2 then
    FX35_openPage_b86 N K0 l2 σ5
  else
    FX35_openPage_b86 N K0 0 σ5
theorem SX35_openPage_b62 {m b : Nat} {φ0 : Nat → Nat} {σo : fS} (hm : 1 ≤ m) {N : Nat} {k0 : Nat → eH → Option (Unit × eH)} {K0 : fS → Option (Unit × fS)} {q : Unit × fS} (hk0 : ∀ {φ : Nat → Nat} {h : eH} {s : fS} , fC m b φ0 σo φ h s → K0 s = some q → gG m b φ0 σo lU q (k0 192 h)) {φ : Nat → Nat} {h : eH} {s : fS} {l2' : Int32} {l2 : Int} {s1' : Int32} {s1 : Int} (R : fC m b φ0 σo φ h s) (el2 : l2' = iI l2) (rl2 : r32 l2) (es1 : s1' = iI s1) (rs1 : r32 s1) (hF : FX35_openPage_b62 N K0 l2 s1 s = some q) : gG m b φ0 σo lU q (fX35_openPage_b62 N k0 192 l2' 192 s1' h) := by
  subst el2; subst es1
  unfold FX35_openPage_b62 at hF
  unfold fX35_openPage_b62
  refine s_pI R (t_192 hm R.S) (Nat.le_of_ble_eq_true rfl) rfl rfl rs1 hF (fun h1 σ1 R1 T1 hF => ?_)
  refine s_kok R1 (t_192 hm R1.S) (Nat.le_of_ble_eq_true rfl) ?_
  refine s_call R1 (Nat.zero_le _) (fun _ hq => SX35_now (b := 0) hm (R1.rf) (c_lit 3283 3283 rfl) ⟨by decide, by decide⟩ hq) hF (fun f3 rv3 h3 q4 R3 e3 E3 hF => ?_)
  refine s_pI R3 (t_192 hm R3.S) (Nat.le_of_ble_eq_true rfl) rfl e3.1 e3.2 hF (fun h4 σ5 R4 T4 hF => ?_)
  refine s_if (i_le (c_lit 0 0 rfl) rfl ⟨by decide, by decide⟩ rl2) hF (fun c5 hF => ?_) (fun c5 hF => ?_)
  ·
    exact SX35_openPage_b86 (N := N) (k0 := k0) (K0 := K0) hm @hk0 R4 rfl rl2 hF
  ·
    exact SX35_openPage_b86 (N := N) (k0 := k0) (K0 := K0) hm @hk0 R4 (c_lit 0 0 rfl) ⟨by decide, by decide⟩ hF
def FX35_openPage_b105 (N : Nat) (s : fS) : Option (Unit × fS) :=
  some ((), s)
theorem SX35_openPage_b105 {m b : Nat} {φ0 : Nat → Nat} {σo : fS} (hm : 1 ≤ m) {N : Nat} {q : Unit × fS} {φ : Nat → Nat} {h : eH} {s : fS} (R : fC m b φ0 σo φ h s) (hF : FX35_openPage_b105 N s = some q) : gG m b φ0 σo lU q (fX35_openPage_b105 N h) := by
  unfold FX35_openPage_b105 at hF
  unfold fX35_openPage_b105
  exact g_ret R hF trivial
def FX35_openPage_b0 (N : Nat) : Nat → fS → Option (Unit × fS)
  | 0, _ => none
  | n + 1, s =>
    if ¬ ((s.i 192 94) = 0) then
      FX35_openPage_b105 N s
    else
      if (s.i 192 86) ≤ (s.i 192 95) then
        FX35_openPage_b105 N s
      else
        (uRI s 307 (s.i 192 95)).bind fun x13 =>
        if ¬ (x13 = 5) then
          (uPI s 192 95 (iadd (s.i 192 95) 1)).bind fun σ18 =>
          FX35_openPage_b0 N n σ18
        else
          (uPZ s 192 94 1).bind fun σ20 =>
          (FX35_now 2242 σ20).bind fun q23 =>
          (FX35_now 2245 q23.2).bind fun q25 =>
          if 0 ≤ q23.1 then
            FX35_openPage_b62 N (FX35_openPage_b0 N n) q25.1 q23.1 q25.2
          else
            FX35_openPage_b62 N (FX35_openPage_b0 N n) q25.1 0 q25.2
theorem SX35_openPage_b0 {m b : Nat} {φ0 : Nat → Nat} {σo : fS} (hm : 1 ≤ m) {N : Nat} {q : Unit × fS} : ∀ {n : Nat} {φ : Nat → Nat} {h : eH} {s : fS} , fC m b φ0 σo φ h s → FX35_openPage_b0 N n s = some q → gG m b φ0 σo lU q (fX35_openPage_b0 N n 192 h) := by
  intro n
  induction n with
 | zero => intro φ h s R hF; simp [FX35_openPage_b0] at hF
  | succ n ih =>
    intro φ h s  R  hF
    rw [FX35_openPage_b0] at hF
    rw [fX35_openPage_b0]
    refine s_gI R (t_192 hm R.S) (Nat.le_of_ble_eq_true rfl) rfl ?_
    refine s_if (not_congr (i_eq rfl (c_lit 0 0 rfl) (R.ri (t_192 hm R.S) (Nat.le_of_ble_eq_true rfl) rfl) ⟨by decide, by decide⟩)) hF (fun c2 hF => ?_) (fun c2 hF => ?_)
    ·
      exact SX35_openPage_b105 (N := N) hm R hF
    ·
      refine s_gI R (t_192 hm R.S) (Nat.le_of_ble_eq_true rfl) rfl ?_
      refine s_gI R (t_192 hm R.S) (Nat.le_of_ble_eq_true rfl) rfl ?_
      refine s_if (i_le rfl rfl (R.ri (t_192 hm R.S) (Nat.le_of_ble_eq_true rfl) rfl) (R.ri (t_192 hm R.S) (Nat.le_of_ble_eq_true rfl) rfl)) hF (fun c5 hF => ?_) (fun c5 hF => ?_)
      ·
        exact SX35_openPage_b105 (N := N) hm R hF
      ·
        refine s_gAs R (t_192 hm R.S) (Nat.le_of_ble_eq_true rfl) rfl (o_192_87 hm R.S) (a_307 hm R) ?_
        refine s_gI R (t_192 hm R.S) (Nat.le_of_ble_eq_true rfl) rfl ?_
        refine s_rI R (u_307 hm R.S).1 (u_307 hm R.S).2 (by decide) (a_307 hm R) rfl (R.ri (t_192 hm R.S) (Nat.le_of_ble_eq_true rfl) rfl) hF (fun x13 ra8 hF => ?_)
        refine s_if (not_congr (i_eq rfl (c_lit 5 5 rfl) ra8 ⟨by decide, by decide⟩)) hF (fun c9 hF => ?_) (fun c9 hF => ?_)
        ·
          refine s_gI R (t_192 hm R.S) (Nat.le_of_ble_eq_true rfl) rfl ?_
          refine s_pI R (t_192 hm R.S) (Nat.le_of_ble_eq_true rfl) rfl (c_add rfl (c_lit 1 1 rfl)) (rr_I _) hF (fun h11 σ18 R11 T11 hF => ?_)
          exact ih R11 hF
        ·
          refine s_pZ R (t_192 hm R.S) (Nat.le_of_ble_eq_true rfl) rfl (c_lit 1 1 rfl) ⟨by decide, by decide⟩ hF (fun h12 σ20 R12 T12 hF => ?_)
          refine s_kok R12 (t_192 hm R12.S) (Nat.le_of_ble_eq_true rfl) ?_
          refine s_call R12 (Nat.zero_le _) (fun _ hq => SX35_now (b := 0) hm (R12.rf) (c_lit 2242 2242 rfl) ⟨by decide, by decide⟩ hq) hF (fun f14 rv14 h14 q23 R14 e14 E14 hF => ?_)
          refine s_kok R14 (t_192 hm R14.S) (Nat.le_of_ble_eq_true rfl) ?_
          refine s_call R14 (Nat.zero_le _) (fun _ hq => SX35_now (b := 0) hm (R14.rf) (c_lit 2245 2245 rfl) ⟨by decide, by decide⟩ hq) hF (fun f16 rv16 h16 q25 R16 e16 E16 hF => ?_)
          refine s_if (i_le (c_lit 0 0 rfl) e14.1 ⟨by decide, by decide⟩ e14.2) hF (fun c17 hF => ?_) (fun c17 hF => ?_)
          ·
            exact SX35_openPage_b62 (N := N) (k0 := fX35_openPage_b0 N n) (K0 := FX35_openPage_b0 N n) hm @ih R16 e16.1 e16.2 e14.1 e14.2 hF
          ·
            exact SX35_openPage_b62 (N := N) (k0 := fX35_openPage_b0 N n) (K0 := FX35_openPage_b0 N n) hm @ih R16 e16.1 e16.2 (c_lit 0 0 rfl) ⟨by decide, by decide⟩ hF
def FX35_openPage (N : Nat) (s : fS) : Option (Unit × fS) :=
  FX35_openPage_b0 N N s
theorem SX35_openPage {m b : Nat} {φ0 : Nat → Nat} {σo : fS} (hm : 1 ≤ m) {N : Nat} {q : Unit × fS} {φ : Nat → Nat} {h : eH} {s : fS} (R : fC m b φ0 σo φ h s) (hF : FX35_openPage N s = some q) : gG m b φ0 σo lU q (fX35_openPage N 192 h) := by
  unfold FX35_openPage at hF
  unfold fX35_openPage
  exact SX35_openPage_b0 (N := N) hm R hF
def FX35_penaltyAt_b29 (s0 : Int) (s : fS) : Option (Int × fS) :=
  some (s0, s)
theorem SX35_penaltyAt_b29 {m b : Nat} {φ0 : Nat → Nat} {σo : fS} (hm : 1 ≤ m) {q : Int × fS} {φ : Nat → Nat} {h : eH} {s : fS} {s0' : Int32} {s0 : Int} (R : fC m b φ0 σo φ h s) (es0 : s0' = iI s0) (rs0 : r32 s0) (hF : FX35_penaltyAt_b29 s0 s = some q) : gG m b φ0 σo lI q (fX35_penaltyAt_b29 s0' h) := by
  subst es0
  unfold FX35_penaltyAt_b29 at hF
  unfold fX35_penaltyAt_b29
  exact g_ret R hF ⟨rfl, rs0⟩
def FX35_penaltyAt_b69 (s0 : Int) (s : fS) : Option (Int × fS) :=
  some (s0, s)
theorem SX35_penaltyAt_b69 {m b : Nat} {φ0 : Nat → Nat} {σo : fS} (hm : 1 ≤ m) {q : Int × fS} {φ : Nat → Nat} {h : eH} {s : fS} {s0' : Int32} {s0 : Int} (R : fC m b φ0 σo φ h s) (es0 : s0' = iI s0) (rs0 : r32 s0) (hF : FX35_penaltyAt_b69 s0 s = some q) : gG m b φ0 σo lI q (fX35_penaltyAt_b69 s0' h) := by
  subst es0
  unfold FX35_penaltyAt_b69 at hF
  unfold fX35_penaltyAt_b69
  exact g_ret R hF ⟨rfl, rs0⟩
def FX35_penaltyAt_b66 (s : fS) : Option (Int × fS) :=
  FX35_penaltyAt_b69 10000 s
theorem SX35_penaltyAt_b66 {m b : Nat} {φ0 : Nat → Nat} {σo : fS} (hm : 1 ≤ m) {q : Int × fS} {φ : Nat → Nat} {h : eH} {s : fS} (R : fC m b φ0 σo φ h s) (hF : FX35_penaltyAt_b66 s = some q) : gG m b φ0 σo lI q (fX35_penaltyAt_b66 h) := by
  unfold FX35_penaltyAt_b66 at hF
  unfold fX35_penaltyAt_b66
  exact SX35_penaltyAt_b69 hm R (c_lit 10000 10000 rfl) ⟨by decide, by decide⟩ hF
def FX35_penaltyAt_b92 (s0 : Int) (s : fS) : Option (Int × fS) :=
  some (s0, s)
theorem SX35_penaltyAt_b92 {m b : Nat} {φ0 : Nat → Nat} {σo : fS} (hm : 1 ≤ m) {q : Int × fS} {φ : Nat → Nat} {h : eH} {s : fS} {s0' : Int32} {s0 : Int} (R : fC m b φ0 σo φ h s) (es0 : s0' = iI s0) (rs0 : r32 s0) (hF : FX35_penaltyAt_b92 s0 s = some q) : gG m b φ0 σo lI q (fX35_penaltyAt_b92 s0' h) := by
  subst es0
  unfold FX35_penaltyAt_b92 at hF
  unfold fX35_penaltyAt_b92
  exact g_ret R hF ⟨rfl, rs0⟩
def FX35_penaltyAt (p0 : Int) (s : fS) : Option (Int × fS) :=
  (uRI s 307 p0).bind fun x3 =>
  if ¬ (x3 = 2) then
    (uRI s 307 p0).bind fun x8 =>
    if ¬ (x8 = 3) then
      (uRI s 307 p0).bind fun x13 =>
      if ¬ (x13 = 4) then
        FX35_penaltyAt_b92 10000 s
      else
        (uRI s 308 p0).bind fun x18 =>
        FX35_penaltyAt_b92 x18 s
    else
      if (s.i 192 86) ≤ (iadd p0 1) then
        FX35_penaltyAt_b66 s
      else
        (uRI s 307 (iadd p0 1)).bind fun x25 =>
        if ¬ (x25 = 2) then
          FX35_penaltyAt_b66 s
        else
          FX35_penaltyAt_b69 0 s
  else
    (uRI s 307 (isub p0 1)).bind fun x30 =>
    if ¬ (x30 = 5) then
      FX35_penaltyAt_b29 10000 s
    else
      FX35_penaltyAt_b29 0 s
theorem SX35_penaltyAt {m b : Nat} {φ0 : Nat → Nat} {σo : fS} (hm : 1 ≤ m) {q : Int × fS} {φ : Nat → Nat} {h : eH} {s : fS} {p0' : Int32} {p0 : Int} (R : fC m b φ0 σo φ h s) (ep0 : p0' = iI p0) (rp0 : r32 p0) (hF : FX35_penaltyAt p0 s = some q) : gG m b φ0 σo lI q (fX35_penaltyAt 192 p0' h) := by
  subst ep0
  unfold FX35_penaltyAt at hF
  unfold fX35_penaltyAt
  refine s_gAs R (t_192 hm R.S) (Nat.le_of_ble_eq_true rfl) rfl (o_192_87 hm R.S) (a_307 hm R) ?_
  refine s_rI R (u_307 hm R.S).1 (u_307 hm R.S).2 (by decide) (a_307 hm R) rfl rp0 hF (fun x3 ra2 hF => ?_)
  refine s_if (not_congr (i_eq rfl (c_lit 2 2 rfl) ra2 ⟨by decide, by decide⟩)) hF (fun c3 hF => ?_) (fun c3 hF => ?_)
  ·
    refine s_gAs R (t_192 hm R.S) (Nat.le_of_ble_eq_true rfl) rfl (o_192_87 hm R.S) (a_307 hm R) ?_
    refine s_rI R (u_307 hm R.S).1 (u_307 hm R.S).2 (by decide) (a_307 hm R) rfl rp0 hF (fun x8 ra5 hF => ?_)
    refine s_if (not_congr (i_eq rfl (c_lit 3 3 rfl) ra5 ⟨by decide, by decide⟩)) hF (fun c6 hF => ?_) (fun c6 hF => ?_)
    ·
      refine s_gAs R (t_192 hm R.S) (Nat.le_of_ble_eq_true rfl) rfl (o_192_87 hm R.S) (a_307 hm R) ?_
      refine s_rI R (u_307 hm R.S).1 (u_307 hm R.S).2 (by decide) (a_307 hm R) rfl rp0 hF (fun x13 ra8 hF => ?_)
      refine s_if (not_congr (i_eq rfl (c_lit 4 4 rfl) ra8 ⟨by decide, by decide⟩)) hF (fun c9 hF => ?_) (fun c9 hF => ?_)
      ·
        exact SX35_penaltyAt_b92 hm R (c_lit 10000 10000 rfl) ⟨by decide, by decide⟩ hF
      ·
        refine s_gAs R (t_192 hm R.S) (Nat.le_of_ble_eq_true rfl) rfl (o_192_88 hm R.S) (a_308 hm R) ?_
        refine s_rI R (u_308 hm R.S).1 (u_308 hm R.S).2 (by decide) (a_308 hm R) rfl rp0 hF (fun x18 ra11 hF => ?_)
        exact SX35_penaltyAt_b92 hm R rfl ra11 hF
    ·
      refine s_gI R (t_192 hm R.S) (Nat.le_of_ble_eq_true rfl) rfl ?_
      refine s_if (i_le rfl (c_add rfl (c_lit 1 1 rfl)) (R.ri (t_192 hm R.S) (Nat.le_of_ble_eq_true rfl) rfl) (rr_I _)) hF (fun c13 hF => ?_) (fun c13 hF => ?_)
      ·
        exact SX35_penaltyAt_b66 hm R hF
      ·
        refine s_gAs R (t_192 hm R.S) (Nat.le_of_ble_eq_true rfl) rfl (o_192_87 hm R.S) (a_307 hm R) ?_
        refine s_rI R (u_307 hm R.S).1 (u_307 hm R.S).2 (by decide) (a_307 hm R) (c_add rfl (c_lit 1 1 rfl)) (rr_I _) hF (fun x25 ra15 hF => ?_)
        refine s_if (not_congr (i_eq rfl (c_lit 2 2 rfl) ra15 ⟨by decide, by decide⟩)) hF (fun c16 hF => ?_) (fun c16 hF => ?_)
        ·
          exact SX35_penaltyAt_b66 hm R hF
        ·
          exact SX35_penaltyAt_b69 hm R (c_lit 0 0 rfl) ⟨by decide, by decide⟩ hF
  ·
    refine s_gAs R (t_192 hm R.S) (Nat.le_of_ble_eq_true rfl) rfl (o_192_87 hm R.S) (a_307 hm R) ?_
    refine s_rI R (u_307 hm R.S).1 (u_307 hm R.S).2 (by decide) (a_307 hm R) (c_sub rfl (c_lit 1 1 rfl)) (rr_I _) hF (fun x30 ra18 hF => ?_)
    refine s_if (not_congr (i_eq rfl (c_lit 5 5 rfl) ra18 ⟨by decide, by decide⟩)) hF (fun c19 hF => ?_) (fun c19 hF => ?_)
    ·
      exact SX35_penaltyAt_b29 hm R (c_lit 10000 10000 rfl) ⟨by decide, by decide⟩ hF
    ·
      exact SX35_penaltyAt_b29 hm R (c_lit 0 0 rfl) ⟨by decide, by decide⟩ hF
def FX35_cost_b44 (s0 : Int) (s : fS) : Option (Int × fS) :=
  some (s0, s)
theorem SX35_cost_b44 {m b : Nat} {φ0 : Nat → Nat} {σo : fS} (hm : 1 ≤ m) {q : Int × fS} {φ : Nat → Nat} {h : eH} {s : fS} {s0' : Int32} {s0 : Int} (R : fC m b φ0 σo φ h s) (es0 : s0' = iI s0) (rs0 : r32 s0) (hF : FX35_cost_b44 s0 s = some q) : gG m b φ0 σo lI q (fX35_cost_b44 s0' h) := by
  subst es0
  unfold FX35_cost_b44 at hF
  unfold fX35_cost_b44
  exact g_ret R hF ⟨rfl, rs0⟩
def FX35_cost (p0 : Int) (s : fS) : Option (Int × fS) :=
  (FX35_badness s).bind fun q2 =>
  if ¬ (q2.1 = 1073741823) then
    if (-10000) < p0 then
      if 10000 ≤ q2.1 then
        FX35_cost_b44 100000 q2.2
      else
        FX35_cost_b44 (iadd q2.1 p0) q2.2
    else
      FX35_cost_b44 p0 q2.2
  else
    FX35_cost_b44 1073741823 q2.2
theorem SX35_cost {m b : Nat} {φ0 : Nat → Nat} {σo : fS} (hm : 1 ≤ m) {q : Int × fS} {φ : Nat → Nat} {h : eH} {s : fS} {p0' : Int32} {p0 : Int} (R : fC m b φ0 σo φ h s) (ep0 : p0' = iI p0) (rp0 : r32 p0) (hF : FX35_cost p0 s = some q) : gG m b φ0 σo lI q (fX35_cost 192 p0' h) := by
  subst ep0
  unfold FX35_cost at hF
  unfold fX35_cost
  refine s_kok R (t_192 hm R.S) (Nat.le_of_ble_eq_true rfl) ?_
  refine s_call R (Nat.zero_le _) (fun _ hq => SX35_badness (b := 0) hm (R.rf) hq) hF (fun f2 rv2 h2 q2 R2 e2 E2 hF => ?_)
  refine s_if (not_congr (i_eq e2.1 (c_lit 1073741823 1073741823 rfl) e2.2 ⟨by decide, by decide⟩)) hF (fun c3 hF => ?_) (fun c3 hF => ?_)
  ·
    refine s_if (i_lt (c_lit (-10000) (-10000) rfl) rfl ⟨by decide, by decide⟩ rp0) hF (fun c4 hF => ?_) (fun c4 hF => ?_)
    ·
      refine s_if (i_le (c_lit 10000 10000 rfl) e2.1 ⟨by decide, by decide⟩ e2.2) hF (fun c5 hF => ?_) (fun c5 hF => ?_)
      ·
        exact SX35_cost_b44 hm R2 (c_lit 100000 100000 rfl) ⟨by decide, by decide⟩ hF
      ·
        exact SX35_cost_b44 hm R2 (c_add e2.1 rfl) (rr_I _) hF
    ·
      exact SX35_cost_b44 hm R2 rfl rp0 hF
  ·
    exact SX35_cost_b44 hm R2 (c_lit 1073741823 1073741823 rfl) ⟨by decide, by decide⟩ hF
def FX35_breaks_b139 (N : Nat) (s : fS) : Option (Int × fS) :=
  some (1, s)
theorem SX35_breaks_b139 {m b : Nat} {φ0 : Nat → Nat} {σo : fS} (hm : 1 ≤ m) {N : Nat} {q : Int × fS} {φ : Nat → Nat} {h : eH} {s : fS} (R : fC m b φ0 σo φ h s) (hF : FX35_breaks_b139 N s = some q) : gG m b φ0 σo lI q (fX35_breaks_b139 N h) := by
  unfold FX35_breaks_b139 at hF
  unfold fX35_breaks_b139
  exact g_ret R hF ⟨(c_lit 1 1 rfl), ⟨by decide, by decide⟩⟩
def FX35_breaks_b141 (N : Nat) (K38 : Int → fS → Option (Int × fS)) (l1 : Int) (s : fS) : Option (Int × fS) :=
  (FX35_addOuter l1 s).bind fun q2 =>
  K38 (iadd l1 1) q2.2
theorem SX35_breaks_b141 {m b : Nat} {φ0 : Nat → Nat} {σo : fS} (hm : 1 ≤ m) {N : Nat} {k38 : Nat → Int32 → eH → Option (Int32 × eH)} {K38 : Int → fS → Option (Int × fS)} {q : Int × fS} (hk38 : ∀ {φ : Nat → Nat} {h : eH} {s : fS} {l1' : Int32} {l1 : Int}, fC m b φ0 σo φ h s → l1' = iI l1 → r32 l1 → K38 l1 s = some q → gG m b φ0 σo lI q (k38 192 l1' h)) {φ : Nat → Nat} {h : eH} {s : fS} {l1' : Int32} {l1 : Int} (R : fC m b φ0 σo φ h s) (el1 : l1' = iI l1) (rl1 : r32 l1) (hF : FX35_breaks_b141 N K38 l1 s = some q) : gG m b φ0 σo lI q (fX35_breaks_b141 N k38 192 l1' h) := by
  subst el1
  unfold FX35_breaks_b141 at hF
  unfold fX35_breaks_b141
  refine s_kok R (t_192 hm R.S) (Nat.le_of_ble_eq_true rfl) ?_
  refine s_call R (Nat.zero_le _) (fun _ hq => SX35_addOuter (b := 0) hm (R.rf) rfl rl1 hq) hF (fun f2 rv2 h2 q2 R2 e2 E2 hF => ?_)
  exact hk38 R2 (c_add rfl (c_lit 1 1 rfl)) (rr_I _) hF
def FX35_breaks_b122 (N : Nat) (K38 : Int → fS → Option (Int × fS)) (l1 : Int) (l2 : Int) (l3 : Int) (s1 : Int) (s : fS) : Option (Int × fS) :=
  (uPI s 192 97 s1).bind fun σ1 =>
  if l3 = 1073741823 then
    FX35_breaks_b139 N σ1
  else
    if (-10000) < l2 then
      FX35_breaks_b141 N K38 l1 σ1
    else
      FX35_breaks_b139 N σ1
theorem SX35_breaks_b122 {m b : Nat} {φ0 : Nat → Nat} {σo : fS} (hm : 1 ≤ m) {N : Nat} {k38 : Nat → Int32 → eH → Option (Int32 × eH)} {K38 : Int → fS → Option (Int × fS)} {q : Int × fS} (hk38 : ∀ {φ : Nat → Nat} {h : eH} {s : fS} {l1' : Int32} {l1 : Int}, fC m b φ0 σo φ h s → l1' = iI l1 → r32 l1 → K38 l1 s = some q → gG m b φ0 σo lI q (k38 192 l1' h)) {φ : Nat → Nat} {h : eH} {s : fS} {l1' : Int32} {l1 : Int} {l2' : Int32} {l2 : Int} {l3' : Int32} {l3 : Int} {s1' : Int32} {s1 : Int} (R : fC m b φ0 σo φ h s) (el1 : l1' = iI l1) (rl1 : r32 l1) (el2 : l2' = iI l2) (rl2 : r32 l2) (el3 : l3' = iI l3) (rl3 : r32 l3) (es1 : s1' = iI s1) (rs1 : r32 s1) (hF : FX35_breaks_b122 N K38 l1 l2 l3 s1 s = some q) : gG m b φ0 σo lI q (fX35_breaks_b122 N k38 192 l1' l2' l3' 192 s1' h) := by
  subst el1; subst el2; subst el3; subst es1
  unfold FX35_breaks_b122 at hF
  unfold fX35_breaks_b122
  refine s_pI R (t_192 hm R.S) (Nat.le_of_ble_eq_true rfl) rfl rfl rs1 hF (fun h1 σ1 R1 T1 hF => ?_)
  refine s_if (i_eq rfl (c_lit 1073741823 1073741823 rfl) rl3 ⟨by decide, by decide⟩) hF (fun c2 hF => ?_) (fun c2 hF => ?_)
  ·
    exact SX35_breaks_b139 (N := N) hm R1 hF
  ·
    refine s_if (i_lt (c_lit (-10000) (-10000) rfl) rfl ⟨by decide, by decide⟩ rl2) hF (fun c3 hF => ?_) (fun c3 hF => ?_)
    ·
      exact SX35_breaks_b141 (N := N) (k38 := k38) (K38 := K38) hm @hk38 R1 rfl rl1 hF
    ·
      exact SX35_breaks_b139 (N := N) hm R1 hF
def FX35_breaks_b102 (N : Nat) (K38 : Int → fS → Option (Int × fS)) (l1 : Int) (l2 : Int) (l3 : Int) (s1 : Int) (s : fS) : Option (Int × fS) :=
  (uPI s 192 96 s1).bind fun σ1 =>
  if (σ1.i 192 97) < l3 then
    FX35_breaks_b122 N K38 l1 l2 l3 (σ1.i 192 97) σ1
  else
    FX35_breaks_b122 N K38 l1 l2 l3 l3 σ1
theorem SX35_breaks_b102 {m b : Nat} {φ0 : Nat → Nat} {σo : fS} (hm : 1 ≤ m) {N : Nat} {k38 : Nat → Int32 → eH → Option (Int32 × eH)} {K38 : Int → fS → Option (Int × fS)} {q : Int × fS} (hk38 : ∀ {φ : Nat → Nat} {h : eH} {s : fS} {l1' : Int32} {l1 : Int}, fC m b φ0 σo φ h s → l1' = iI l1 → r32 l1 → K38 l1 s = some q → gG m b φ0 σo lI q (k38 192 l1' h)) {φ : Nat → Nat} {h : eH} {s : fS} {l1' : Int32} {l1 : Int} {l2' : Int32} {l2 : Int} {l3' : Int32} {l3 : Int} {s1' : Int32} {s1 : Int} (R : fC m b φ0 σo φ h s) (el1 : l1' = iI l1) (rl1 : r32 l1) (el2 : l2' = iI l2) (rl2 : r32 l2) (el3 : l3' = iI l3) (rl3 : r32 l3) (es1 : s1' = iI s1) (rs1 : r32 s1) (hF : FX35_breaks_b102 N K38 l1 l2 l3 s1 s = some q) : gG m b φ0 σo lI q (fX35_breaks_b102 N k38 192 l1' l2' l3' 192 s1' h) := by
  subst el1; subst el2; subst el3; subst es1
  unfold FX35_breaks_b102 at hF
  unfold fX35_breaks_b102
  refine s_pI R (t_192 hm R.S) (Nat.le_of_ble_eq_true rfl) rfl rfl rs1 hF (fun h1 σ1 R1 T1 hF => ?_)
  refine s_gI R1 (t_192 hm R1.S) (Nat.le_of_ble_eq_true rfl) rfl ?_
  refine s_if (i_lt rfl rfl (R1.ri (t_192 hm R1.S) (Nat.le_of_ble_eq_true rfl) rfl) rl3) hF (fun c3 hF => ?_) (fun c3 hF => ?_)
  ·
    refine s_gI R1 (t_192 hm R1.S) (Nat.le_of_ble_eq_true rfl) rfl ?_
    exact SX35_breaks_b122 (N := N) (k38 := k38) (K38 := K38) hm @hk38 R1 rfl rl1 rfl rl2 rfl rl3 rfl (R1.ri (t_192 hm R1.S) (Nat.le_of_ble_eq_true rfl) rfl) hF
  ·
    exact SX35_breaks_b122 (N := N) (k38 := k38) (K38 := K38) hm @hk38 R1 rfl rl1 rfl rl2 rfl rl3 rfl rl3 hF
def FX35_breaks_b66 (N : Nat) (K38 : Int → fS → Option (Int × fS)) (l1 : Int) (s : fS) : Option (Int × fS) :=
  (FX35_penaltyAt l1 s).bind fun q2 =>
  if 10000 ≤ q2.1 then
    FX35_breaks_b141 N K38 l1 q2.2
  else
    (FX35_cost q2.1 q2.2).bind fun q5 =>
    if (q5.2.i 192 97) < q5.1 then
      FX35_breaks_b102 N K38 l1 q2.1 q5.1 (q5.2.i 192 96) q5.2
    else
      FX35_breaks_b102 N K38 l1 q2.1 q5.1 l1 q5.2
theorem SX35_breaks_b66 {m b : Nat} {φ0 : Nat → Nat} {σo : fS} (hm : 1 ≤ m) {N : Nat} {k38 : Nat → Int32 → eH → Option (Int32 × eH)} {K38 : Int → fS → Option (Int × fS)} {q : Int × fS} (hk38 : ∀ {φ : Nat → Nat} {h : eH} {s : fS} {l1' : Int32} {l1 : Int}, fC m b φ0 σo φ h s → l1' = iI l1 → r32 l1 → K38 l1 s = some q → gG m b φ0 σo lI q (k38 192 l1' h)) {φ : Nat → Nat} {h : eH} {s : fS} {l1' : Int32} {l1 : Int} (R : fC m b φ0 σo φ h s) (el1 : l1' = iI l1) (rl1 : r32 l1) (hF : FX35_breaks_b66 N K38 l1 s = some q) : gG m b φ0 σo lI q (fX35_breaks_b66 N k38 192 l1' h) := by
  subst el1
  unfold FX35_breaks_b66 at hF
  unfold fX35_breaks_b66
  refine s_kok R (t_192 hm R.S) (Nat.le_of_ble_eq_true rfl) ?_
  refine s_call R (Nat.zero_le _) (fun _ hq => SX35_penaltyAt (b := 0) hm (R.rf) rfl rl1 hq) hF (fun f2 rv2 h2 q2 R2 e2 E2 hF => ?_)
  refine s_if (i_le (c_lit 10000 10000 rfl) e2.1 ⟨by decide, by decide⟩ e2.2) hF (fun c3 hF => ?_) (fun c3 hF => ?_)
  ·
    exact SX35_breaks_b141 (N := N) (k38 := k38) (K38 := K38) hm @hk38 R2 rfl rl1 hF
  ·
    refine s_kok R2 (t_192 hm R2.S) (Nat.le_of_ble_eq_true rfl) ?_
    refine s_call R2 (Nat.zero_le _) (fun _ hq => SX35_cost (b := 0) hm (R2.rf) e2.1 e2.2 hq) hF (fun f5 rv5 h5 q5 R5 e5 E5 hF => ?_)
    refine s_gI R5 (t_192 hm R5.S) (Nat.le_of_ble_eq_true rfl) rfl ?_
    refine s_if (i_lt rfl e5.1 (R5.ri (t_192 hm R5.S) (Nat.le_of_ble_eq_true rfl) rfl) e5.2) hF (fun c7 hF => ?_) (fun c7 hF => ?_)
    ·
      refine s_gI R5 (t_192 hm R5.S) (Nat.le_of_ble_eq_true rfl) rfl ?_
      exact SX35_breaks_b102 (N := N) (k38 := k38) (K38 := K38) hm @hk38 R5 rfl rl1 e2.1 e2.2 e5.1 e5.2 rfl (R5.ri (t_192 hm R5.S) (Nat.le_of_ble_eq_true rfl) rfl) hF
    ·
      exact SX35_breaks_b102 (N := N) (k38 := k38) (K38 := K38) hm @hk38 R5 rfl rl1 e2.1 e2.2 e5.1 e5.2 rfl rl1 hF
def FX35_breaks_b152 (N : Nat) (s : fS) : Option (Int × fS) :=
  some (0, s)
theorem SX35_breaks_b152 {m b : Nat} {φ0 : Nat → Nat} {σo : fS} (hm : 1 ≤ m) {N : Nat} {q : Int × fS} {φ : Nat → Nat} {h : eH} {s : fS} (R : fC m b φ0 σo φ h s) (hF : FX35_breaks_b152 N s = some q) : gG m b φ0 σo lI q (fX35_breaks_b152 N h) := by
  unfold FX35_breaks_b152 at hF
  unfold fX35_breaks_b152
  exact g_ret R hF ⟨(c_lit 0 0 rfl), ⟨by decide, by decide⟩⟩
def FX35_breaks_b38 (N : Nat) : Nat → Int → fS → Option (Int × fS)
  | 0, _, _ => none
  | n + 1, l1, s =>
    if (s.i 192 86) ≤ l1 then
      FX35_breaks_b152 N s
    else
      (uRI s 307 l1).bind fun x6 =>
      if ¬ (x6 = 3) then
        FX35_breaks_b66 N (FX35_breaks_b38 N n) l1 s
      else
        if (s.i 192 86) ≤ (iadd l1 1) then
          FX35_breaks_b152 N s
        else
          FX35_breaks_b66 N (FX35_breaks_b38 N n) l1 s
theorem SX35_breaks_b38 {m b : Nat} {φ0 : Nat → Nat} {σo : fS} (hm : 1 ≤ m) {N : Nat} {q : Int × fS} : ∀ {n : Nat} {φ : Nat → Nat} {h : eH} {s : fS} {l1' : Int32} {l1 : Int}, fC m b φ0 σo φ h s → l1' = iI l1 → r32 l1 → FX35_breaks_b38 N n l1 s = some q → gG m b φ0 σo lI q (fX35_breaks_b38 N n 192 l1' h) := by
  intro n
  induction n with
 | zero => intro φ h s l1' l1 R el1 rl1 hF; simp [FX35_breaks_b38] at hF
  | succ n ih =>
    intro φ h s l1' l1 R el1 rl1 hF
    subst el1
    rw [FX35_breaks_b38] at hF
    rw [fX35_breaks_b38]
    refine s_gI R (t_192 hm R.S) (Nat.le_of_ble_eq_true rfl) rfl ?_
    refine s_if (i_le rfl rfl (R.ri (t_192 hm R.S) (Nat.le_of_ble_eq_true rfl) rfl) rl1) hF (fun c2 hF => ?_) (fun c2 hF => ?_)
    ·
      exact SX35_breaks_b152 (N := N) hm R hF
    ·
      refine s_gAs R (t_192 hm R.S) (Nat.le_of_ble_eq_true rfl) rfl (o_192_87 hm R.S) (a_307 hm R) ?_
      refine s_rI R (u_307 hm R.S).1 (u_307 hm R.S).2 (by decide) (a_307 hm R) rfl rl1 hF (fun x6 ra4 hF => ?_)
      refine s_if (not_congr (i_eq rfl (c_lit 3 3 rfl) ra4 ⟨by decide, by decide⟩)) hF (fun c5 hF => ?_) (fun c5 hF => ?_)
      ·
        exact SX35_breaks_b66 (N := N) (k38 := fX35_breaks_b38 N n) (K38 := FX35_breaks_b38 N n) hm @ih R rfl rl1 hF
      ·
        refine s_gI R (t_192 hm R.S) (Nat.le_of_ble_eq_true rfl) rfl ?_
        refine s_if (i_le rfl (c_add rfl (c_lit 1 1 rfl)) (R.ri (t_192 hm R.S) (Nat.le_of_ble_eq_true rfl) rfl) (rr_I _)) hF (fun c7 hF => ?_) (fun c7 hF => ?_)
        ·
          exact SX35_breaks_b152 (N := N) hm R hF
        ·
          exact SX35_breaks_b66 (N := N) (k38 := fX35_breaks_b38 N n) (K38 := FX35_breaks_b38 N n) hm @ih R rfl rl1 hF
def FX35_breaks (N : Nat) (s : fS) : Option (Int × fS) :=
  (uPI s 192 96 (-1)).bind fun σ1 =>
  (uPI σ1 192 97 1073741823).bind fun σ3 =>
  if ¬ ((σ3.i 192 94) = 0) then
    (FX35_addUpTo N (iadd (σ3.i 192 95) 1) σ3).bind fun q11 =>
    FX35_breaks_b38 N N (iadd (q11.2.i 192 95) 1) q11.2
  else
    some (0, σ3)
theorem SX35_breaks {m b : Nat} {φ0 : Nat → Nat} {σo : fS} (hm : 1 ≤ m) {N : Nat} {q : Int × fS} {φ : Nat → Nat} {h : eH} {s : fS} (R : fC m b φ0 σo φ h s) (hF : FX35_breaks N s = some q) : gG m b φ0 σo lI q (fX35_breaks N 192 h) := by
  unfold FX35_breaks at hF
  unfold fX35_breaks
  refine s_pI R (t_192 hm R.S) (Nat.le_of_ble_eq_true rfl) rfl (c_lit (-1) (-1) rfl) ⟨by decide, by decide⟩ hF (fun h1 σ1 R1 T1 hF => ?_)
  refine s_pI R1 (t_192 hm R1.S) (Nat.le_of_ble_eq_true rfl) rfl (c_lit 1073741823 1073741823 rfl) ⟨by decide, by decide⟩ hF (fun h2 σ3 R2 T2 hF => ?_)
  refine s_gI R2 (t_192 hm R2.S) (Nat.le_of_ble_eq_true rfl) rfl ?_
  refine s_if (not_congr (i_eq rfl (c_lit 0 0 rfl) (R2.ri (t_192 hm R2.S) (Nat.le_of_ble_eq_true rfl) rfl) ⟨by decide, by decide⟩)) hF (fun c4 hF => ?_) (fun c4 hF => ?_)
  ·
    refine s_gI R2 (t_192 hm R2.S) (Nat.le_of_ble_eq_true rfl) rfl ?_
    refine s_kok R2 (t_192 hm R2.S) (Nat.le_of_ble_eq_true rfl) ?_
    refine s_call R2 (Nat.zero_le _) (fun _ hq => SX35_addUpTo (b := 0) (N := N) hm (R2.rf) (c_add rfl (c_lit 1 1 rfl)) (rr_I _) hq) hF (fun f7 rv7 h7 q11 R7 e7 E7 hF => ?_)
    refine s_gI R7 (t_192 hm R7.S) (Nat.le_of_ble_eq_true rfl) rfl ?_
    exact SX35_breaks_b38 (N := N) hm R7 (c_add rfl (c_lit 1 1 rfl)) (rr_I _) hF
  ·
    exact g_ret R2 hF ⟨(c_lit 0 0 rfl), ⟨by decide, by decide⟩⟩
def FX35_pageOrder_b35 (N : Nat) (K5 : Int → Int → Int → fS → Option (Int × fS)) (l1 : Int) (l4 : Int) (s0 : Int) (s : fS) : Option (Int × fS) :=
  K5 l1 s0 (iadd l4 1) s
theorem SX35_pageOrder_b35 {m b : Nat} {φ0 : Nat → Nat} {σo : fS} (hm : 1 ≤ m) {N : Nat} {k5 : Nat → Int64 → Int32 → Int32 → eH → Option (Int32 × eH)} {K5 : Int → Int → Int → fS → Option (Int × fS)} {q : Int × fS} (hk5 : ∀ {φ : Nat → Nat} {h : eH} {s : fS} {l1' : Int64} {l1 : Int} {l3' : Int32} {l3 : Int} {l4' : Int32} {l4 : Int}, fC m b φ0 σo φ h s → l1' = iJ l1 → r64 l1 → l3' = iI l3 → r32 l3 → l4' = iI l4 → r32 l4 → K5 l1 l3 l4 s = some q → gG m b φ0 σo lI q (k5 192 l1' l3' l4' h)) {φ : Nat → Nat} {h : eH} {s : fS} {l1' : Int64} {l1 : Int} {l4' : Int32} {l4 : Int} {s0' : Int32} {s0 : Int} (R : fC m b φ0 σo φ h s) (el1 : l1' = iJ l1) (rl1 : r64 l1) (el4 : l4' = iI l4) (rl4 : r32 l4) (es0 : s0' = iI s0) (rs0 : r32 s0) (hF : FX35_pageOrder_b35 N K5 l1 l4 s0 s = some q) : gG m b φ0 σo lI q (fX35_pageOrder_b35 N k5 192 l1' l4' s0' h) := by
  subst el1; subst el4; subst es0
  unfold FX35_pageOrder_b35 at hF
  unfold fX35_pageOrder_b35
  exact hk5 R rfl rl1 rfl rs0 (c_add rfl (c_lit 1 1 rfl)) (rr_I _) hF
def FX35_pageOrder_b42 (N : Nat) (l3 : Int) (s : fS) : Option (Int × fS) :=
  some (l3, s)
theorem SX35_pageOrder_b42 {m b : Nat} {φ0 : Nat → Nat} {σo : fS} (hm : 1 ≤ m) {N : Nat} {q : Int × fS} {φ : Nat → Nat} {h : eH} {s : fS} {l3' : Int32} {l3 : Int} (R : fC m b φ0 σo φ h s) (el3 : l3' = iI l3) (rl3 : r32 l3) (hF : FX35_pageOrder_b42 N l3 s = some q) : gG m b φ0 σo lI q (fX35_pageOrder_b42 N l3' h) := by
  subst el3
  unfold FX35_pageOrder_b42 at hF
  unfold fX35_pageOrder_b42
  exact g_ret R hF ⟨rfl, rl3⟩
def FX35_pageOrder_b5 (N : Nat) : Nat → Int → Int → Int → fS → Option (Int × fS)
  | 0, _, _, _, _ => none
  | n + 1, l1, l3, l4, s =>
    if 4 ≤ l4 then
      FX35_pageOrder_b42 N l3 s
    else
      if l1 ≤ 0 then
        FX35_pageOrder_b42 N l3 s
      else
        (uRJ s 305 l4).bind fun x5 =>
        if x5 ≤ 0 then
          FX35_pageOrder_b35 N (FX35_pageOrder_b5 N n) l1 l4 l3 s
        else
          FX35_pageOrder_b35 N (FX35_pageOrder_b5 N n) l1 l4 l4 s
theorem SX35_pageOrder_b5 {m b : Nat} {φ0 : Nat → Nat} {σo : fS} (hm : 1 ≤ m) {N : Nat} {q : Int × fS} : ∀ {n : Nat} {φ : Nat → Nat} {h : eH} {s : fS} {l1' : Int64} {l1 : Int} {l3' : Int32} {l3 : Int} {l4' : Int32} {l4 : Int}, fC m b φ0 σo φ h s → l1' = iJ l1 → r64 l1 → l3' = iI l3 → r32 l3 → l4' = iI l4 → r32 l4 → FX35_pageOrder_b5 N n l1 l3 l4 s = some q → gG m b φ0 σo lI q (fX35_pageOrder_b5 N n 192 l1' l3' l4' h) := by
  intro n
  induction n with
 | zero => intro φ h s l1' l1 l3' l3 l4' l4 R el1 rl1 el3 rl3 el4 rl4 hF; simp [FX35_pageOrder_b5] at hF
  | succ n ih =>
    intro φ h s l1' l1 l3' l3 l4' l4 R el1 rl1 el3 rl3 el4 rl4 hF
    subst el1; subst el3; subst el4
    rw [FX35_pageOrder_b5] at hF
    rw [fX35_pageOrder_b5]
    refine s_if (i_le (c_lit 4 4 rfl) rfl ⟨by decide, by decide⟩ rl4) hF (fun c1 hF => ?_) (fun c1 hF => ?_)
    ·
      exact SX35_pageOrder_b42 (N := N) hm R rfl rl3 hF
    ·
      refine s_if (lg_le.trans (j_le rfl (d_lit 0 0 rfl) rl1 ⟨by decide, by decide⟩)) hF (fun c2 hF => ?_) (fun c2 hF => ?_)
      ·
        exact SX35_pageOrder_b42 (N := N) hm R rfl rl3 hF
      ·
        refine s_gAs R (t_192 hm R.S) (Nat.le_of_ble_eq_true rfl) rfl (o_192_83 hm R.S) (a_305 hm R) ?_
        refine s_rJ R (u_305 hm R.S).1 (u_305 hm R.S).2 (a_305 hm R) rfl rl4 hF (fun x5 ra4 hF => ?_)
        refine s_if (lg_le.trans (j_le rfl (d_lit 0 0 rfl) ra4 ⟨by decide, by decide⟩)) hF (fun c5 hF => ?_) (fun c5 hF => ?_)
        ·
          exact SX35_pageOrder_b35 (N := N) (k5 := fX35_pageOrder_b5 N n) (K5 := FX35_pageOrder_b5 N n) hm @ih R rfl rl1 rfl rl4 rfl rl3 hF
        ·
          exact SX35_pageOrder_b35 (N := N) (k5 := fX35_pageOrder_b5 N n) (K5 := FX35_pageOrder_b5 N n) hm @ih R rfl rl1 rfl rl4 rfl rl4 hF
def FX35_pageOrder (N : Nat) (p0 : Int) (s : fS) : Option (Int × fS) :=
  FX35_pageOrder_b5 N N p0 0 1 s
theorem SX35_pageOrder {m b : Nat} {φ0 : Nat → Nat} {σo : fS} (hm : 1 ≤ m) {N : Nat} {q : Int × fS} {φ : Nat → Nat} {h : eH} {s : fS} {p0' : Int64} {p0 : Int} (R : fC m b φ0 σo φ h s) (ep0 : p0' = iJ p0) (rp0 : r64 p0) (hF : FX35_pageOrder N p0 s = some q) : gG m b φ0 σo lI q (fX35_pageOrder N 192 p0' h) := by
  subst ep0
  unfold FX35_pageOrder at hF
  unfold fX35_pageOrder
  exact SX35_pageOrder_b5 (N := N) hm R rfl rp0 (c_lit 0 0 rfl) ⟨by decide, by decide⟩ (c_lit 1 1 rfl) ⟨by decide, by decide⟩ hF
def FX35_nearestOf_b81 (N : Nat) (s0 : Int) (s : fS) : Option (Int × fS) :=
  some (s0, s)
theorem SX35_nearestOf_b81 {m b : Nat} {φ0 : Nat → Nat} {σo : fS} (hm : 1 ≤ m) {N : Nat} {q : Int × fS} {φ : Nat → Nat} {h : eH} {s : fS} {s0' : Int64} {s0 : Int} (R : fC m b φ0 σo φ h s) (es0 : s0' = iJ s0) (rs0 : r64 s0) (hF : FX35_nearestOf_b81 N s0 s = some q) : gG m b φ0 σo lJ q (fX35_nearestOf_b81 N s0' h) := by
  subst es0
  unfold FX35_nearestOf_b81 at hF
  unfold fX35_nearestOf_b81
  exact g_ret R hF ⟨rfl, rs0⟩
def FX35_nearestOf_b10 (N : Nat) : Nat → Int → Int → Int → Int → Int → Int → fS → Option (Int × fS)
  | 0, _, _, _, _, _, _, _ => none
  | n + 1, l0, l2, l4, l6, l8, l10, s =>
    if l10 < 0 then
      if l8 < (lsub l4 l8) then
        FX35_nearestOf_b81 N l6 s
      else
        FX35_nearestOf_b81 N (ladd l6 1) s
    else
      if l4 = 0 then none else
      if l4 = 0 then none else
      FX35_nearestOf_b10 N n l0 l2 l4 (ladd (lmul l6 65536) (ldiv (ladd (lmul l8 65536) (lmul (land (lshr l0 l10) 65535) l2)) l4)) (lrem (ladd (lmul l8 65536) (lmul (land (lshr l0 l10) 65535) l2)) l4) (iadd l10 (-16)) s
theorem SX35_nearestOf_b10 {m b : Nat} {φ0 : Nat → Nat} {σo : fS} (hm : 1 ≤ m) {N : Nat} {q : Int × fS} : ∀ {n : Nat} {φ : Nat → Nat} {h : eH} {s : fS} {l0' : Int64} {l0 : Int} {l2' : Int64} {l2 : Int} {l4' : Int64} {l4 : Int} {l6' : Int64} {l6 : Int} {l8' : Int64} {l8 : Int} {l10' : Int32} {l10 : Int}, fC m b φ0 σo φ h s → l0' = iJ l0 → r64 l0 → l2' = iJ l2 → r64 l2 → l4' = iJ l4 → r64 l4 → l6' = iJ l6 → r64 l6 → l8' = iJ l8 → r64 l8 → l10' = iI l10 → r32 l10 → FX35_nearestOf_b10 N n l0 l2 l4 l6 l8 l10 s = some q → gG m b φ0 σo lJ q (fX35_nearestOf_b10 N n l0' l2' l4' l6' l8' l10' h) := by
  intro n
  induction n with
 | zero => intro φ h s l0' l0 l2' l2 l4' l4 l6' l6 l8' l8 l10' l10 R el0 rl0 el2 rl2 el4 rl4 el6 rl6 el8 rl8 el10 rl10 hF; simp [FX35_nearestOf_b10] at hF
  | succ n ih =>
    intro φ h s l0' l0 l2' l2 l4' l4 l6' l6 l8' l8 l10' l10 R el0 rl0 el2 rl2 el4 rl4 el6 rl6 el8 rl8 el10 rl10 hF
    subst el0; subst el2; subst el4; subst el6; subst el8; subst el10
    rw [FX35_nearestOf_b10] at hF
    rw [fX35_nearestOf_b10]
    refine s_if (i_lt rfl (c_lit 0 0 rfl) rl10 ⟨by decide, by decide⟩) hF (fun c1 hF => ?_) (fun c1 hF => ?_)
    ·
      refine s_if (lg_lt.trans (j_lt rfl (d_sub rfl rfl) rl8 (rr_J _))) hF (fun c2 hF => ?_) (fun c2 hF => ?_)
      ·
        exact SX35_nearestOf_b81 (N := N) hm R rfl rl6 hF
      ·
        exact SX35_nearestOf_b81 (N := N) hm R (d_add rfl (d_lit 1 1 rfl)) (rr_J _) hF
    ·
      refine s_div (j_eq rfl (d_lit 0 0 rfl) rl4 ⟨by decide, by decide⟩) hF (fun c3 hF => ?_)
      refine s_div (j_eq rfl (d_lit 0 0 rfl) rl4 ⟨by decide, by decide⟩) hF (fun c4 hF => ?_)
      exact ih R rfl rl0 rfl rl2 rfl rl4 (d_add (d_mul rfl (d_lit 65536 65536 rfl)) (d_div (d_add (d_mul rfl (d_lit 65536 65536 rfl)) (d_mul (d_and (d_shr rfl (c_2l rfl rl10)) (d_lit 65535 65535 rfl)) rfl)) rfl)) (rr_J _) (d_rem (d_add (d_mul rfl (d_lit 65536 65536 rfl)) (d_mul (d_and (d_shr rfl (c_2l rfl rl10)) (d_lit 65535 65535 rfl)) rfl)) rfl) (rr_J _) (c_add rfl (c_lit (-16) (-16) rfl)) (rr_I _) hF
def FX35_nearestOf (N : Nat) (p0 : Int) (p1 : Int) (p2 : Int) (s : fS) : Option (Int × fS) :=
  FX35_nearestOf_b10 N N p0 p1 p2 0 0 48 s
theorem SX35_nearestOf {m b : Nat} {φ0 : Nat → Nat} {σo : fS} (hm : 1 ≤ m) {N : Nat} {q : Int × fS} {φ : Nat → Nat} {h : eH} {s : fS} {p0' : Int64} {p0 : Int} {p1' : Int64} {p1 : Int} {p2' : Int64} {p2 : Int} (R : fC m b φ0 σo φ h s) (ep0 : p0' = iJ p0) (rp0 : r64 p0) (ep1 : p1' = iJ p1) (rp1 : r64 p1) (ep2 : p2' = iJ p2) (rp2 : r64 p2) (hF : FX35_nearestOf N p0 p1 p2 s = some q) : gG m b φ0 σo lJ q (fX35_nearestOf N p0' p1' p2' h) := by
  subst ep0; subst ep1; subst ep2
  unfold FX35_nearestOf at hF
  unfold fX35_nearestOf
  exact SX35_nearestOf_b10 (N := N) hm R rfl rp0 rfl rp1 rfl rp2 (d_lit 0 0 rfl) ⟨by decide, by decide⟩ (d_lit 0 0 rfl) ⟨by decide, by decide⟩ (c_lit 48 48 rfl) ⟨by decide, by decide⟩ hF
def FX35_stands_b85 (N : Nat) (l7 : Int) (s : fS) : Option (Int × fS) :=
  some (l7, s)
theorem SX35_stands_b85 {m b : Nat} {φ0 : Nat → Nat} {σo : fS} (hm : 1 ≤ m) {N : Nat} {q : Int × fS} {φ : Nat → Nat} {h : eH} {s : fS} {l7' : Int64} {l7 : Int} (R : fC m b φ0 σo φ h s) (el7 : l7' = iJ l7) (rl7 : r64 l7) (hF : FX35_stands_b85 N l7 s = some q) : gG m b φ0 σo lJ q (fX35_stands_b85 N l7' h) := by
  subst el7
  unfold FX35_stands_b85 at hF
  unfold fX35_stands_b85
  exact g_ret R hF ⟨rfl, rl7⟩
def FX35_stands_b128 (N : Nat) (l5 : Int) (s0 : Int) (s1 : Int) (s : fS) : Option (Int × fS) :=
  (FX35_nearestOf N s1 (s.j 192 85) l5 s).bind fun q3 =>
  some ((lsub s0 q3.1), q3.2)
theorem SX35_stands_b128 {m b : Nat} {φ0 : Nat → Nat} {σo : fS} (hm : 1 ≤ m) {N : Nat} {q : Int × fS} {φ : Nat → Nat} {h : eH} {s : fS} {l5' : Int64} {l5 : Int} {s0' : Int64} {s0 : Int} {s1' : Int64} {s1 : Int} (R : fC m b φ0 σo φ h s) (el5 : l5' = iJ l5) (rl5 : r64 l5) (es0 : s0' = iJ s0) (rs0 : r64 s0) (es1 : s1' = iJ s1) (rs1 : r64 s1) (hF : FX35_stands_b128 N l5 s0 s1 s = some q) : gG m b φ0 σo lJ q (fX35_stands_b128 N 192 l5' s0' s1' h) := by
  subst el5; subst es0; subst es1
  unfold FX35_stands_b128 at hF
  unfold fX35_stands_b128
  refine s_gJ R (t_192 hm R.S) (Nat.le_of_ble_eq_true rfl) rfl ?_
  refine s_call R (Nat.zero_le _) (fun _ hq => SX35_nearestOf (b := 0) (N := N) hm (R.rf) rfl rs1 rfl (R.rj (t_192 hm R.S) (Nat.le_of_ble_eq_true rfl) rfl) rfl rl5 hq) hF (fun f2 rv2 h2 q3 R2 e2 E2 hF => ?_)
  exact g_ret R2 hF ⟨(d_sub rfl e2.1), (rr_J _)⟩
def FX35_stands_b46 (N : Nat) (l1 : Int) (l2 : Int) (l4 : Int) (s0 : Int) (s : fS) : Option (Int × fS) :=
  (FX35_addUpTo N l1 s).bind fun q2 =>
  (uRI q2.2 309 l1).bind fun x9 =>
  if l2 = 0 then
    FX35_stands_b85 N (ladd (ladd (q2.2.j 192 79) (q2.2.j 192 80)) x9) q2.2
  else
    if ¬ (s0 = 0) then
      if l2 ≤ 0 then
        if s0 ≤ (lneg l2) then
          FX35_stands_b128 N s0 (ladd (ladd (q2.2.j 192 79) (q2.2.j 192 80)) x9) s0 q2.2
        else
          FX35_stands_b128 N s0 (ladd (ladd (q2.2.j 192 79) (q2.2.j 192 80)) x9) (lneg l2) q2.2
      else
        (uRJ q2.2 305 l4).bind fun x17 =>
        (FX35_nearestOf N l2 x17 s0 q2.2).bind fun q19 =>
        some ((ladd (ladd (ladd (q2.2.j 192 79) (q2.2.j 192 80)) x9) q19.1), q19.2)
    else
      FX35_stands_b85 N (ladd (ladd (q2.2.j 192 79) (q2.2.j 192 80)) x9) q2.2
theorem SX35_stands_b46 {m b : Nat} {φ0 : Nat → Nat} {σo : fS} (hm : 1 ≤ m) {N : Nat} {q : Int × fS} {φ : Nat → Nat} {h : eH} {s : fS} {l1' : Int32} {l1 : Int} {l2' : Int64} {l2 : Int} {l4' : Int32} {l4 : Int} {s0' : Int64} {s0 : Int} (R : fC m b φ0 σo φ h s) (el1 : l1' = iI l1) (rl1 : r32 l1) (el2 : l2' = iJ l2) (rl2 : r64 l2) (el4 : l4' = iI l4) (rl4 : r32 l4) (es0 : s0' = iJ s0) (rs0 : r64 s0) (hF : FX35_stands_b46 N l1 l2 l4 s0 s = some q) : gG m b φ0 σo lJ q (fX35_stands_b46 N 192 l1' l2' l4' s0' h) := by
  subst el1; subst el2; subst el4; subst es0
  unfold FX35_stands_b46 at hF
  unfold fX35_stands_b46
  refine s_kok R (t_192 hm R.S) (Nat.le_of_ble_eq_true rfl) ?_
  refine s_call R (Nat.zero_le _) (fun _ hq => SX35_addUpTo (b := 0) (N := N) hm (R.rf) rfl rl1 hq) hF (fun f2 rv2 h2 q2 R2 e2 E2 hF => ?_)
  refine s_gJ R2 (t_192 hm R2.S) (Nat.le_of_ble_eq_true rfl) rfl ?_
  refine s_gJ R2 (t_192 hm R2.S) (Nat.le_of_ble_eq_true rfl) rfl ?_
  refine s_gAs R2 (t_192 hm R2.S) (Nat.le_of_ble_eq_true rfl) rfl (o_192_89 hm R2.S) (a_309 hm R2) ?_
  refine s_rI R2 (u_309 hm R2.S).1 (u_309 hm R2.S).2 (by decide) (a_309 hm R2) rfl rl1 hF (fun x9 ra6 hF => ?_)
  refine s_if (lg_eq.trans (j_eq rfl (d_lit 0 0 rfl) rl2 ⟨by decide, by decide⟩)) hF (fun c7 hF => ?_) (fun c7 hF => ?_)
  ·
    exact SX35_stands_b85 (N := N) hm R2 (d_add (d_add rfl rfl) (c_2l rfl ra6)) (rr_J _) hF
  ·
    refine s_if (not_congr (lg_eq.trans (j_eq rfl (d_lit 0 0 rfl) rs0 ⟨by decide, by decide⟩))) hF (fun c8 hF => ?_) (fun c8 hF => ?_)
    ·
      refine s_if (lg_le.trans (j_le rfl (d_lit 0 0 rfl) rl2 ⟨by decide, by decide⟩)) hF (fun c9 hF => ?_) (fun c9 hF => ?_)
      ·
        refine s_if ((lg_cmp_ge _ _).trans (j_le rfl (d_neg rfl) rs0 (rr_J _))) hF (fun c10 hF => ?_) (fun c10 hF => ?_)
        ·
          exact SX35_stands_b128 (N := N) hm R2 rfl rs0 (d_add (d_add rfl rfl) (c_2l rfl ra6)) (rr_J _) rfl rs0 hF
        ·
          exact SX35_stands_b128 (N := N) hm R2 rfl rs0 (d_add (d_add rfl rfl) (c_2l rfl ra6)) (rr_J _) (d_neg rfl) (rr_J _) hF
      ·
        refine s_gAs R2 (t_192 hm R2.S) (Nat.le_of_ble_eq_true rfl) rfl (o_192_83 hm R2.S) (a_305 hm R2) ?_
        refine s_rJ R2 (u_305 hm R2.S).1 (u_305 hm R2.S).2 (a_305 hm R2) rfl rl4 hF (fun x17 ra12 hF => ?_)
        refine s_call R2 (Nat.zero_le _) (fun _ hq => SX35_nearestOf (b := 0) (N := N) hm (R2.rf) rfl rl2 rfl ra12 rfl rs0 hq) hF (fun f13 rv13 h13 q19 R13 e13 E13 hF => ?_)
        exact g_ret R13 hF ⟨(d_add (d_add (d_add rfl rfl) (c_2l rfl ra6)) e13.1), (rr_J _)⟩
    ·
      exact SX35_stands_b85 (N := N) hm R2 (d_add (d_add rfl rfl) (c_2l rfl ra6)) (rr_J _) hF
def FX35_stands (N : Nat) (p0 : Int) (s : fS) : Option (Int × fS) :=
  (FX35_addUpTo N (s.i 192 96) s).bind fun q4 =>
  (FX35_pageOrder N (lsub (q4.2.i 192 98) (q4.2.j 192 79)) q4.2).bind fun q10 =>
  if (lsub (q4.2.i 192 98) (q4.2.j 192 79)) ≤ 0 then
    FX35_stands_b46 N p0 (lsub (q4.2.i 192 98) (q4.2.j 192 79)) q10.1 (q10.2.j 192 85) q10.2
  else
    (uRJ q10.2 305 q10.1).bind fun x16 =>
    FX35_stands_b46 N p0 (lsub (q4.2.i 192 98) (q4.2.j 192 79)) q10.1 x16 q10.2
theorem SX35_stands {m b : Nat} {φ0 : Nat → Nat} {σo : fS} (hm : 1 ≤ m) {N : Nat} {q : Int × fS} {φ : Nat → Nat} {h : eH} {s : fS} {p0' : Int32} {p0 : Int} (R : fC m b φ0 σo φ h s) (ep0 : p0' = iI p0) (rp0 : r32 p0) (hF : FX35_stands N p0 s = some q) : gG m b φ0 σo lJ q (fX35_stands N 192 p0' h) := by
  subst ep0
  unfold FX35_stands at hF
  unfold fX35_stands
  refine s_gI R (t_192 hm R.S) (Nat.le_of_ble_eq_true rfl) rfl ?_
  refine s_kok R (t_192 hm R.S) (Nat.le_of_ble_eq_true rfl) ?_
  refine s_call R (Nat.zero_le _) (fun _ hq => SX35_addUpTo (b := 0) (N := N) hm (R.rf) rfl (R.ri (t_192 hm R.S) (Nat.le_of_ble_eq_true rfl) rfl) hq) hF (fun f3 rv3 h3 q4 R3 e3 E3 hF => ?_)
  refine s_gI R3 (t_192 hm R3.S) (Nat.le_of_ble_eq_true rfl) rfl ?_
  refine s_gJ R3 (t_192 hm R3.S) (Nat.le_of_ble_eq_true rfl) rfl ?_
  refine s_kok R3 (t_192 hm R3.S) (Nat.le_of_ble_eq_true rfl) ?_
  refine s_call R3 (Nat.zero_le _) (fun _ hq => SX35_pageOrder (b := 0) (N := N) hm (R3.rf) (d_sub (c_2l rfl (R3.ri (t_192 hm R3.S) (Nat.le_of_ble_eq_true rfl) rfl)) rfl) (rr_J _) hq) hF (fun f7 rv7 h7 q10 R7 e7 E7 hF => ?_)
  refine s_if (lg_le.trans (j_le (d_sub (c_2l rfl (R3.ri (t_192 hm R3.S) (Nat.le_of_ble_eq_true rfl) rfl)) rfl) (d_lit 0 0 rfl) (rr_J _) ⟨by decide, by decide⟩)) hF (fun c8 hF => ?_) (fun c8 hF => ?_)
  ·
    refine s_gJ R7 (t_192 hm R7.S) (Nat.le_of_ble_eq_true rfl) rfl ?_
    exact SX35_stands_b46 (N := N) hm R7 rfl rp0 (d_sub (c_2l rfl (R3.ri (t_192 hm R3.S) (Nat.le_of_ble_eq_true rfl) rfl)) rfl) (rr_J _) e7.1 e7.2 rfl (R7.rj (t_192 hm R7.S) (Nat.le_of_ble_eq_true rfl) rfl) hF
  ·
    refine s_gAs R7 (t_192 hm R7.S) (Nat.le_of_ble_eq_true rfl) rfl (o_192_83 hm R7.S) (a_305 hm R7) ?_
    refine s_rJ R7 (u_305 hm R7.S).1 (u_305 hm R7.S).2 (a_305 hm R7) e7.1 e7.2 hF (fun x16 ra11 hF => ?_)
    exact SX35_stands_b46 (N := N) hm R7 rfl rp0 (d_sub (c_2l rfl (R3.ri (t_192 hm R3.S) (Nat.le_of_ble_eq_true rfl) rfl)) rfl) (rr_J _) e7.1 e7.2 rfl ra11 hF
def FX35_pageWidth_b108 (N : Nat) (K7 : Int → Int → fS → Option (Int × fS)) (l1 : Int) (l3 : Int) (s : fS) : Option (Int × fS) :=
  K7 l1 (iadd l3 1) s
theorem SX35_pageWidth_b108 {m b : Nat} {φ0 : Nat → Nat} {σo : fS} (hm : 1 ≤ m) {N : Nat} {k7 : Nat → Int64 → Int32 → eH → Option (Int64 × eH)} {K7 : Int → Int → fS → Option (Int × fS)} {q : Int × fS} (hk7 : ∀ {φ : Nat → Nat} {h : eH} {s : fS} {l1' : Int64} {l1 : Int} {l3' : Int32} {l3 : Int}, fC m b φ0 σo φ h s → l1' = iJ l1 → r64 l1 → l3' = iI l3 → r32 l3 → K7 l1 l3 s = some q → gG m b φ0 σo lJ q (k7 192 l1' l3' h)) {φ : Nat → Nat} {h : eH} {s : fS} {l1' : Int64} {l1 : Int} {l3' : Int32} {l3 : Int} (R : fC m b φ0 σo φ h s) (el1 : l1' = iJ l1) (rl1 : r64 l1) (el3 : l3' = iI l3) (rl3 : r32 l3) (hF : FX35_pageWidth_b108 N K7 l1 l3 s = some q) : gG m b φ0 σo lJ q (fX35_pageWidth_b108 N k7 192 l1' l3' h) := by
  subst el1; subst el3
  unfold FX35_pageWidth_b108 at hF
  unfold fX35_pageWidth_b108
  exact hk7 R rfl rl1 (c_add rfl (c_lit 1 1 rfl)) (rr_I _) hF
def FX35_pageWidth_b107 (N : Nat) (K7 : Int → Int → fS → Option (Int × fS)) (l3 : Int) (s0 : Int) (s : fS) : Option (Int × fS) :=
  FX35_pageWidth_b108 N K7 s0 l3 s
theorem SX35_pageWidth_b107 {m b : Nat} {φ0 : Nat → Nat} {σo : fS} (hm : 1 ≤ m) {N : Nat} {k7 : Nat → Int64 → Int32 → eH → Option (Int64 × eH)} {K7 : Int → Int → fS → Option (Int × fS)} {q : Int × fS} (hk7 : ∀ {φ : Nat → Nat} {h : eH} {s : fS} {l1' : Int64} {l1 : Int} {l3' : Int32} {l3 : Int}, fC m b φ0 σo φ h s → l1' = iJ l1 → r64 l1 → l3' = iI l3 → r32 l3 → K7 l1 l3 s = some q → gG m b φ0 σo lJ q (k7 192 l1' l3' h)) {φ : Nat → Nat} {h : eH} {s : fS} {l3' : Int32} {l3 : Int} {s0' : Int64} {s0 : Int} (R : fC m b φ0 σo φ h s) (el3 : l3' = iI l3) (rl3 : r32 l3) (es0 : s0' = iJ s0) (rs0 : r64 s0) (hF : FX35_pageWidth_b107 N K7 l3 s0 s = some q) : gG m b φ0 σo lJ q (fX35_pageWidth_b107 N k7 192 l3' s0' h) := by
  subst el3; subst es0
  unfold FX35_pageWidth_b107 at hF
  unfold fX35_pageWidth_b107
  exact SX35_pageWidth_b108 (N := N) (k7 := k7) (K7 := K7) hm @hk7 R rfl rs0 rfl rl3 hF
def FX35_pageWidth_b92 (N : Nat) (K7 : Int → Int → fS → Option (Int × fS)) (l1 : Int) (l3 : Int) (s0 : Int) (s : fS) : Option (Int × fS) :=
  if s0 ≤ l1 then
    FX35_pageWidth_b107 N K7 l3 l1 s
  else
    FX35_pageWidth_b107 N K7 l3 s0 s
theorem SX35_pageWidth_b92 {m b : Nat} {φ0 : Nat → Nat} {σo : fS} (hm : 1 ≤ m) {N : Nat} {k7 : Nat → Int64 → Int32 → eH → Option (Int64 × eH)} {K7 : Int → Int → fS → Option (Int × fS)} {q : Int × fS} (hk7 : ∀ {φ : Nat → Nat} {h : eH} {s : fS} {l1' : Int64} {l1 : Int} {l3' : Int32} {l3 : Int}, fC m b φ0 σo φ h s → l1' = iJ l1 → r64 l1 → l3' = iI l3 → r32 l3 → K7 l1 l3 s = some q → gG m b φ0 σo lJ q (k7 192 l1' l3' h)) {φ : Nat → Nat} {h : eH} {s : fS} {l1' : Int64} {l1 : Int} {l3' : Int32} {l3 : Int} {s0' : Int64} {s0 : Int} (R : fC m b φ0 σo φ h s) (el1 : l1' = iJ l1) (rl1 : r64 l1) (el3 : l3' = iI l3) (rl3 : r32 l3) (es0 : s0' = iJ s0) (rs0 : r64 s0) (hF : FX35_pageWidth_b92 N K7 l1 l3 s0 s = some q) : gG m b φ0 σo lJ q (fX35_pageWidth_b92 N k7 192 l1' l3' s0' h) := by
  subst el1; subst el3; subst es0
  unfold FX35_pageWidth_b92 at hF
  unfold fX35_pageWidth_b92
  refine s_if (lg_le.trans (j_le rfl rfl rs0 rl1)) hF (fun c1 hF => ?_) (fun c1 hF => ?_)
  ·
    exact SX35_pageWidth_b107 (N := N) (k7 := k7) (K7 := K7) hm @hk7 R rfl rl3 rfl rl1 hF
  ·
    exact SX35_pageWidth_b107 (N := N) (k7 := k7) (K7 := K7) hm @hk7 R rfl rl3 rfl rs0 hF
def FX35_pageWidth_b39 (N : Nat) (K7 : Int → Int → fS → Option (Int × fS)) (l1 : Int) (l3 : Int) (s0 : Int) (s : fS) : Option (Int × fS) :=
  if s0 = 0 then
    (uRI s 312 l3).bind fun x6 =>
    (uRI s 295 x6).bind fun x8 =>
    (uRI s 313 l3).bind fun x12 =>
    FX35_pageWidth_b92 N K7 l1 l3 (ladd x8 x12) s
  else
    (uRI s 313 l3).bind fun x16 =>
    if ¬ (x16 = (-1073741824)) then
      (uRI s 313 l3).bind fun x21 =>
      FX35_pageWidth_b92 N K7 l1 l3 x21 s
    else
      FX35_pageWidth_b92 N K7 l1 l3 0 s
theorem SX35_pageWidth_b39 {m b : Nat} {φ0 : Nat → Nat} {σo : fS} (hm : 1 ≤ m) {N : Nat} {k7 : Nat → Int64 → Int32 → eH → Option (Int64 × eH)} {K7 : Int → Int → fS → Option (Int × fS)} {q : Int × fS} (hk7 : ∀ {φ : Nat → Nat} {h : eH} {s : fS} {l1' : Int64} {l1 : Int} {l3' : Int32} {l3 : Int}, fC m b φ0 σo φ h s → l1' = iJ l1 → r64 l1 → l3' = iI l3 → r32 l3 → K7 l1 l3 s = some q → gG m b φ0 σo lJ q (k7 192 l1' l3' h)) {φ : Nat → Nat} {h : eH} {s : fS} {l1' : Int64} {l1 : Int} {l3' : Int32} {l3 : Int} {s0' : Int32} {s0 : Int} (R : fC m b φ0 σo φ h s) (el1 : l1' = iJ l1) (rl1 : r64 l1) (el3 : l3' = iI l3) (rl3 : r32 l3) (es0 : s0' = iI s0) (rs0 : r32 s0) (hF : FX35_pageWidth_b39 N K7 l1 l3 s0 s = some q) : gG m b φ0 σo lJ q (fX35_pageWidth_b39 N k7 192 l1' l3' s0' h) := by
  subst el1; subst el3; subst es0
  unfold FX35_pageWidth_b39 at hF
  unfold fX35_pageWidth_b39
  refine s_if (i_eq rfl (c_lit 0 0 rfl) rs0 ⟨by decide, by decide⟩) hF (fun c1 hF => ?_) (fun c1 hF => ?_)
  ·
    refine s_gAs R (t_192 hm R.S) (Nat.le_of_ble_eq_true rfl) rfl (o_192_68 hm R.S) (a_295 hm R) ?_
    refine s_gAs R (t_192 hm R.S) (Nat.le_of_ble_eq_true rfl) rfl (o_192_92 hm R.S) (a_312 hm R) ?_
    refine s_rI R (u_312 hm R.S).1 (u_312 hm R.S).2 (by decide) (a_312 hm R) rfl rl3 hF (fun x6 ra4 hF => ?_)
    refine s_rI R (u_295 hm R.S).1 (u_295 hm R.S).2 (by decide) (a_295 hm R) rfl ra4 hF (fun x8 ra5 hF => ?_)
    refine s_gAs R (t_192 hm R.S) (Nat.le_of_ble_eq_true rfl) rfl (o_192_93 hm R.S) (a_313 hm R) ?_
    refine s_rI R (u_313 hm R.S).1 (u_313 hm R.S).2 (by decide) (a_313 hm R) rfl rl3 hF (fun x12 ra7 hF => ?_)
    exact SX35_pageWidth_b92 (N := N) (k7 := k7) (K7 := K7) hm @hk7 R rfl rl1 rfl rl3 (d_add (c_2l rfl ra5) (c_2l rfl ra7)) (rr_J _) hF
  ·
    refine s_gAs R (t_192 hm R.S) (Nat.le_of_ble_eq_true rfl) rfl (o_192_93 hm R.S) (a_313 hm R) ?_
    refine s_rI R (u_313 hm R.S).1 (u_313 hm R.S).2 (by decide) (a_313 hm R) rfl rl3 hF (fun x16 ra9 hF => ?_)
    refine s_if (not_congr (i_eq rfl (c_lit (-1073741824) (-1073741824) rfl) ra9 ⟨by decide, by decide⟩)) hF (fun c10 hF => ?_) (fun c10 hF => ?_)
    ·
      refine s_gAs R (t_192 hm R.S) (Nat.le_of_ble_eq_true rfl) rfl (o_192_93 hm R.S) (a_313 hm R) ?_
      refine s_rI R (u_313 hm R.S).1 (u_313 hm R.S).2 (by decide) (a_313 hm R) rfl rl3 hF (fun x21 ra12 hF => ?_)
      exact SX35_pageWidth_b92 (N := N) (k7 := k7) (K7 := K7) hm @hk7 R rfl rl1 rfl rl3 (c_2l rfl ra12) (r32.w ra12) hF
    ·
      exact SX35_pageWidth_b92 (N := N) (k7 := k7) (K7 := K7) hm @hk7 R rfl rl1 rfl rl3 (d_lit 0 0 rfl) ⟨by decide, by decide⟩ hF
def FX35_pageWidth_b7 (N : Nat) : Nat → Int → Int → fS → Option (Int × fS)
  | 0, _, _, _ => none
  | n + 1, l1, l3, s =>
    if (s.i 192 96) ≤ l3 then
      some (l1, s)
    else
      (uRI s 307 l3).bind fun x6 =>
      if ¬ (x6 = 5) then
        FX35_pageWidth_b108 N (FX35_pageWidth_b7 N n) l1 l3 s
      else
        (uRI s 312 l3).bind fun x11 =>
        if 0 ≤ x11 then
          FX35_pageWidth_b39 N (FX35_pageWidth_b7 N n) l1 l3 0 s
        else
          FX35_pageWidth_b39 N (FX35_pageWidth_b7 N n) l1 l3 1 s
theorem SX35_pageWidth_b7 {m b : Nat} {φ0 : Nat → Nat} {σo : fS} (hm : 1 ≤ m) {N : Nat} {q : Int × fS} : ∀ {n : Nat} {φ : Nat → Nat} {h : eH} {s : fS} {l1' : Int64} {l1 : Int} {l3' : Int32} {l3 : Int}, fC m b φ0 σo φ h s → l1' = iJ l1 → r64 l1 → l3' = iI l3 → r32 l3 → FX35_pageWidth_b7 N n l1 l3 s = some q → gG m b φ0 σo lJ q (fX35_pageWidth_b7 N n 192 l1' l3' h) := by
  intro n
  induction n with
 | zero => intro φ h s l1' l1 l3' l3 R el1 rl1 el3 rl3 hF; simp [FX35_pageWidth_b7] at hF
  | succ n ih =>
    intro φ h s l1' l1 l3' l3 R el1 rl1 el3 rl3 hF
    subst el1; subst el3
    rw [FX35_pageWidth_b7] at hF
    rw [fX35_pageWidth_b7]
    refine s_gI R (t_192 hm R.S) (Nat.le_of_ble_eq_true rfl) rfl ?_
    refine s_if (i_le rfl rfl (R.ri (t_192 hm R.S) (Nat.le_of_ble_eq_true rfl) rfl) rl3) hF (fun c2 hF => ?_) (fun c2 hF => ?_)
    ·
      exact g_ret R hF ⟨rfl, rl1⟩
    ·
      refine s_gAs R (t_192 hm R.S) (Nat.le_of_ble_eq_true rfl) rfl (o_192_87 hm R.S) (a_307 hm R) ?_
      refine s_rI R (u_307 hm R.S).1 (u_307 hm R.S).2 (by decide) (a_307 hm R) rfl rl3 hF (fun x6 ra4 hF => ?_)
      refine s_if (not_congr (i_eq rfl (c_lit 5 5 rfl) ra4 ⟨by decide, by decide⟩)) hF (fun c5 hF => ?_) (fun c5 hF => ?_)
      ·
        exact SX35_pageWidth_b108 (N := N) (k7 := fX35_pageWidth_b7 N n) (K7 := FX35_pageWidth_b7 N n) hm @ih R rfl rl1 rfl rl3 hF
      ·
        refine s_gAs R (t_192 hm R.S) (Nat.le_of_ble_eq_true rfl) rfl (o_192_92 hm R.S) (a_312 hm R) ?_
        refine s_rI R (u_312 hm R.S).1 (u_312 hm R.S).2 (by decide) (a_312 hm R) rfl rl3 hF (fun x11 ra7 hF => ?_)
        refine s_if (i_le (c_lit 0 0 rfl) rfl ⟨by decide, by decide⟩ ra7) hF (fun c8 hF => ?_) (fun c8 hF => ?_)
        ·
          exact SX35_pageWidth_b39 (N := N) (k7 := fX35_pageWidth_b7 N n) (K7 := FX35_pageWidth_b7 N n) hm @ih R rfl rl1 rfl rl3 (c_lit 0 0 rfl) ⟨by decide, by decide⟩ hF
        ·
          exact SX35_pageWidth_b39 (N := N) (k7 := fX35_pageWidth_b7 N n) (K7 := FX35_pageWidth_b7 N n) hm @ih R rfl rl1 rfl rl3 (c_lit 1 1 rfl) ⟨by decide, by decide⟩ hF
def FX35_pageWidth (N : Nat) (s : fS) : Option (Int × fS) :=
  FX35_pageWidth_b7 N N 0 (s.i 192 95) s
theorem SX35_pageWidth {m b : Nat} {φ0 : Nat → Nat} {σo : fS} (hm : 1 ≤ m) {N : Nat} {q : Int × fS} {φ : Nat → Nat} {h : eH} {s : fS} (R : fC m b φ0 σo φ h s) (hF : FX35_pageWidth N s = some q) : gG m b φ0 σo lJ q (fX35_pageWidth N 192 h) := by
  unfold FX35_pageWidth at hF
  unfold fX35_pageWidth
  refine s_gI R (t_192 hm R.S) (Nat.le_of_ble_eq_true rfl) rfl ?_
  exact SX35_pageWidth_b7 (N := N) hm R (d_lit 0 0 rfl) ⟨by decide, by decide⟩ rfl (R.ri (t_192 hm R.S) (Nat.le_of_ble_eq_true rfl) rfl) hF
def FX35_note (p0 : Int) (p1 : Int) (p2 : Int) (p3 : Int) (p4 : Int) (p5 : Int) (p6 : Int) (s : fS) : Option (Int × fS) :=
  if ¬ ((s.i 192 102) = 3000) then
    (uQI s 314 (s.i 192 102) p0).bind fun σ8 =>
    (uQI σ8 315 (σ8.i 192 102) p1).bind fun σ14 =>
    (uQJ σ14 316 (σ14.i 192 102) p2).bind fun σ20 =>
    (uQJ σ20 317 (σ20.i 192 102) p3).bind fun σ26 =>
    (uQJ σ26 318 (σ26.i 192 102) p4).bind fun σ32 =>
    (uQJ σ32 319 (σ32.i 192 102) p5).bind fun σ38 =>
    (uQJ σ38 320 (σ38.i 192 102) p6).bind fun σ44 =>
    (uPI σ44 192 102 (iadd (σ44.i 192 102) 1)).bind fun σ48 =>
    some (1, σ48)
  else
    some (0, s)
theorem SX35_note {m b : Nat} {φ0 : Nat → Nat} {σo : fS} (hm : 1 ≤ m) {q : Int × fS} {φ : Nat → Nat} {h : eH} {s : fS} {p0' : Int32} {p0 : Int} {p1' : Int32} {p1 : Int} {p2' : Int64} {p2 : Int} {p3' : Int64} {p3 : Int} {p4' : Int64} {p4 : Int} {p5' : Int64} {p5 : Int} {p6' : Int64} {p6 : Int} (R : fC m b φ0 σo φ h s) (ep0 : p0' = iI p0) (rp0 : r32 p0) (ep1 : p1' = iI p1) (rp1 : r32 p1) (ep2 : p2' = iJ p2) (rp2 : r64 p2) (ep3 : p3' = iJ p3) (rp3 : r64 p3) (ep4 : p4' = iJ p4) (rp4 : r64 p4) (ep5 : p5' = iJ p5) (rp5 : r64 p5) (ep6 : p6' = iJ p6) (rp6 : r64 p6) (hF : FX35_note p0 p1 p2 p3 p4 p5 p6 s = some q) : gG m b φ0 σo lI q (fX35_note 192 p0' p1' p2' p3' p4' p5' p6' h) := by
  subst ep0; subst ep1; subst ep2; subst ep3; subst ep4; subst ep5; subst ep6
  unfold FX35_note at hF
  unfold fX35_note
  refine s_gI R (t_192 hm R.S) (Nat.le_of_ble_eq_true rfl) rfl ?_
  refine s_if (not_congr (i_eq rfl (c_lit 3000 3000 rfl) (R.ri (t_192 hm R.S) (Nat.le_of_ble_eq_true rfl) rfl) ⟨by decide, by decide⟩)) hF (fun c2 hF => ?_) (fun c2 hF => ?_)
  ·
    refine s_gAs R (t_192 hm R.S) (Nat.le_of_ble_eq_true rfl) rfl (o_192_103 hm R.S) (a_314 hm R) ?_
    refine s_gI R (t_192 hm R.S) (Nat.le_of_ble_eq_true rfl) rfl ?_
    refine s_qI R (u_314 hm R.S).1 (u_314 hm R.S).2 (by decide) (a_314 hm R) rfl (R.ri (t_192 hm R.S) (Nat.le_of_ble_eq_true rfl) rfl) rfl rp0 hF (fun h5 σ8 R5 T5 hF => ?_)
    refine s_gAs R5 (t_192 hm R5.S) (Nat.le_of_ble_eq_true rfl) rfl (o_192_104 hm R5.S) (a_315 hm R5) ?_
    refine s_gI R5 (t_192 hm R5.S) (Nat.le_of_ble_eq_true rfl) rfl ?_
    refine s_qI R5 (u_315 hm R5.S).1 (u_315 hm R5.S).2 (by decide) (a_315 hm R5) rfl (R5.ri (t_192 hm R5.S) (Nat.le_of_ble_eq_true rfl) rfl) rfl rp1 hF (fun h8 σ14 R8 T8 hF => ?_)
    refine s_gAs R8 (t_192 hm R8.S) (Nat.le_of_ble_eq_true rfl) rfl (o_192_105 hm R8.S) (a_316 hm R8) ?_
    refine s_gI R8 (t_192 hm R8.S) (Nat.le_of_ble_eq_true rfl) rfl ?_
    refine s_qJ R8 (u_316 hm R8.S).1 (u_316 hm R8.S).2 (a_316 hm R8) rfl (R8.ri (t_192 hm R8.S) (Nat.le_of_ble_eq_true rfl) rfl) rfl rp2 hF (fun h11 σ20 R11 T11 hF => ?_)
    refine s_gAs R11 (t_192 hm R11.S) (Nat.le_of_ble_eq_true rfl) rfl (o_192_106 hm R11.S) (a_317 hm R11) ?_
    refine s_gI R11 (t_192 hm R11.S) (Nat.le_of_ble_eq_true rfl) rfl ?_
    refine s_qJ R11 (u_317 hm R11.S).1 (u_317 hm R11.S).2 (a_317 hm R11) rfl (R11.ri (t_192 hm R11.S) (Nat.le_of_ble_eq_true rfl) rfl) rfl rp3 hF (fun h14 σ26 R14 T14 hF => ?_)
    refine s_gAs R14 (t_192 hm R14.S) (Nat.le_of_ble_eq_true rfl) rfl (o_192_107 hm R14.S) (a_318 hm R14) ?_
    refine s_gI R14 (t_192 hm R14.S) (Nat.le_of_ble_eq_true rfl) rfl ?_
    refine s_qJ R14 (u_318 hm R14.S).1 (u_318 hm R14.S).2 (a_318 hm R14) rfl (R14.ri (t_192 hm R14.S) (Nat.le_of_ble_eq_true rfl) rfl) rfl rp4 hF (fun h17 σ32 R17 T17 hF => ?_)
    refine s_gAs R17 (t_192 hm R17.S) (Nat.le_of_ble_eq_true rfl) rfl (o_192_108 hm R17.S) (a_319 hm R17) ?_
    refine s_gI R17 (t_192 hm R17.S) (Nat.le_of_ble_eq_true rfl) rfl ?_
    refine s_qJ R17 (u_319 hm R17.S).1 (u_319 hm R17.S).2 (a_319 hm R17) rfl (R17.ri (t_192 hm R17.S) (Nat.le_of_ble_eq_true rfl) rfl) rfl rp5 hF (fun h20 σ38 R20 T20 hF => ?_)
    refine s_gAs R20 (t_192 hm R20.S) (Nat.le_of_ble_eq_true rfl) rfl (o_192_109 hm R20.S) (a_320 hm R20) ?_
    refine s_gI R20 (t_192 hm R20.S) (Nat.le_of_ble_eq_true rfl) rfl ?_
    refine s_qJ R20 (u_320 hm R20.S).1 (u_320 hm R20.S).2 (a_320 hm R20) rfl (R20.ri (t_192 hm R20.S) (Nat.le_of_ble_eq_true rfl) rfl) rfl rp6 hF (fun h23 σ44 R23 T23 hF => ?_)
    refine s_gI R23 (t_192 hm R23.S) (Nat.le_of_ble_eq_true rfl) rfl ?_
    refine s_pI R23 (t_192 hm R23.S) (Nat.le_of_ble_eq_true rfl) rfl (c_add rfl (c_lit 1 1 rfl)) (rr_I _) hF (fun h25 σ48 R25 T25 hF => ?_)
    exact g_ret R25 hF ⟨(c_lit 1 1 rfl), ⟨by decide, by decide⟩⟩
  ·
    exact g_ret R hF ⟨(c_lit 0 0 rfl), ⟨by decide, by decide⟩⟩
def FX35_layPage_b163 (N : Nat) (SL : Int → Int → Int → fS → Option (Int × fS)) (K7 : Int → Int → fS → Option (Int × fS)) (l1 : Int) (l2 : Int) (s : fS) : Option (Int × fS) :=
  K7 l1 (iadd l2 1) s
theorem SX35_layPage_b163 {m b : Nat} {φ0 : Nat → Nat} {σo : fS} (hm : 1 ≤ m) (hb : 1 ≤ b) {N : Nat} {sL : Nat → Int32 → Int64 → Int64 → eH → Option (Int32 × eH)} {SL : Int → Int → Int → fS → Option (Int × fS)} {k7 : Nat → Int32 → Int32 → eH → Option (Int32 × eH)} {K7 : Int → Int → fS → Option (Int × fS)} {q : Int × fS} (hsL : ∀ {φ : Nat → Nat} {h : eH} {s : fS} {x1' : Int32} {x1 : Int} {x2' : Int64} {x2 : Int} {x3' : Int64} {x3 : Int} {q}, fC m 1 φ s φ h s → x1' = iI x1 → r32 x1 → x2' = iJ x2 → r64 x2 → x3' = iJ x3 → r64 x3 → SL x1 x2 x3 s = some q → gG m 1 φ s lI q (sL 192 x1' x2' x3' h)) (hk7 : ∀ {φ : Nat → Nat} {h : eH} {s : fS} {l1' : Int32} {l1 : Int} {l2' : Int32} {l2 : Int}, fC m b φ0 σo φ h s → l1' = iI l1 → r32 l1 → l2' = iI l2 → r32 l2 → K7 l1 l2 s = some q → gG m b φ0 σo lI q (k7 192 l1' l2' h)) {φ : Nat → Nat} {h : eH} {s : fS} {l1' : Int32} {l1 : Int} {l2' : Int32} {l2 : Int} (R : fC m b φ0 σo φ h s) (el1 : l1' = iI l1) (rl1 : r32 l1) (el2 : l2' = iI l2) (rl2 : r32 l2) (hF : FX35_layPage_b163 N SL K7 l1 l2 s = some q) : gG m b φ0 σo lI q (fX35_layPage_b163 N sL k7 192 l1' l2' h) := by
  subst el1; subst el2
  unfold FX35_layPage_b163 at hF
  unfold fX35_layPage_b163
  exact hk7 R rfl rl1 (c_add rfl (c_lit 1 1 rfl)) (rr_I _) hF
def FX35_layPage_b162 (N : Nat) (SL : Int → Int → Int → fS → Option (Int × fS)) (K7 : Int → Int → fS → Option (Int × fS)) (l2 : Int) (s0 : Int) (s : fS) : Option (Int × fS) :=
  FX35_layPage_b163 N SL K7 s0 l2 s
theorem SX35_layPage_b162 {m b : Nat} {φ0 : Nat → Nat} {σo : fS} (hm : 1 ≤ m) (hb : 1 ≤ b) {N : Nat} {sL : Nat → Int32 → Int64 → Int64 → eH → Option (Int32 × eH)} {SL : Int → Int → Int → fS → Option (Int × fS)} {k7 : Nat → Int32 → Int32 → eH → Option (Int32 × eH)} {K7 : Int → Int → fS → Option (Int × fS)} {q : Int × fS} (hsL : ∀ {φ : Nat → Nat} {h : eH} {s : fS} {x1' : Int32} {x1 : Int} {x2' : Int64} {x2 : Int} {x3' : Int64} {x3 : Int} {q}, fC m 1 φ s φ h s → x1' = iI x1 → r32 x1 → x2' = iJ x2 → r64 x2 → x3' = iJ x3 → r64 x3 → SL x1 x2 x3 s = some q → gG m 1 φ s lI q (sL 192 x1' x2' x3' h)) (hk7 : ∀ {φ : Nat → Nat} {h : eH} {s : fS} {l1' : Int32} {l1 : Int} {l2' : Int32} {l2 : Int}, fC m b φ0 σo φ h s → l1' = iI l1 → r32 l1 → l2' = iI l2 → r32 l2 → K7 l1 l2 s = some q → gG m b φ0 σo lI q (k7 192 l1' l2' h)) {φ : Nat → Nat} {h : eH} {s : fS} {l2' : Int32} {l2 : Int} {s0' : Int32} {s0 : Int} (R : fC m b φ0 σo φ h s) (el2 : l2' = iI l2) (rl2 : r32 l2) (es0 : s0' = iI s0) (rs0 : r32 s0) (hF : FX35_layPage_b162 N SL K7 l2 s0 s = some q) : gG m b φ0 σo lI q (fX35_layPage_b162 N sL k7 192 l2' s0' h) := by
  subst el2; subst es0
  unfold FX35_layPage_b162 at hF
  unfold fX35_layPage_b162
  exact SX35_layPage_b163 (N := N) (sL := sL) (SL := SL) (k7 := k7) (K7 := K7) hm hb @hsL @hk7 R rfl rs0 rfl rl2 hF
def FX35_layPage_b157 (N : Nat) (SL : Int → Int → Int → fS → Option (Int × fS)) (K7 : Int → Int → fS → Option (Int × fS)) (l2 : Int) (s : fS) : Option (Int × fS) :=
  FX35_layPage_b162 N SL K7 l2 1 s
theorem SX35_layPage_b157 {m b : Nat} {φ0 : Nat → Nat} {σo : fS} (hm : 1 ≤ m) (hb : 1 ≤ b) {N : Nat} {sL : Nat → Int32 → Int64 → Int64 → eH → Option (Int32 × eH)} {SL : Int → Int → Int → fS → Option (Int × fS)} {k7 : Nat → Int32 → Int32 → eH → Option (Int32 × eH)} {K7 : Int → Int → fS → Option (Int × fS)} {q : Int × fS} (hsL : ∀ {φ : Nat → Nat} {h : eH} {s : fS} {x1' : Int32} {x1 : Int} {x2' : Int64} {x2 : Int} {x3' : Int64} {x3 : Int} {q}, fC m 1 φ s φ h s → x1' = iI x1 → r32 x1 → x2' = iJ x2 → r64 x2 → x3' = iJ x3 → r64 x3 → SL x1 x2 x3 s = some q → gG m 1 φ s lI q (sL 192 x1' x2' x3' h)) (hk7 : ∀ {φ : Nat → Nat} {h : eH} {s : fS} {l1' : Int32} {l1 : Int} {l2' : Int32} {l2 : Int}, fC m b φ0 σo φ h s → l1' = iI l1 → r32 l1 → l2' = iI l2 → r32 l2 → K7 l1 l2 s = some q → gG m b φ0 σo lI q (k7 192 l1' l2' h)) {φ : Nat → Nat} {h : eH} {s : fS} {l2' : Int32} {l2 : Int} (R : fC m b φ0 σo φ h s) (el2 : l2' = iI l2) (rl2 : r32 l2) (hF : FX35_layPage_b157 N SL K7 l2 s = some q) : gG m b φ0 σo lI q (fX35_layPage_b157 N sL k7 192 l2' h) := by
  subst el2
  unfold FX35_layPage_b157 at hF
  unfold fX35_layPage_b157
  exact SX35_layPage_b162 (N := N) (sL := sL) (SL := SL) (k7 := k7) (K7 := K7) hm hb @hsL @hk7 R rfl rl2 (c_lit 1 1 rfl) ⟨by decide, by decide⟩ hF
def FX35_layPage_b100 (N : Nat) (SL : Int → Int → Int → fS → Option (Int × fS)) (K7 : Int → Int → fS → Option (Int × fS)) (l2 : Int) (s0 : Int) (s : fS) : Option (Int × fS) :=
  if s0 ≤ 0 then
    FX35_layPage_b157 N SL K7 l2 s
  else
    (uRI s 309 l2).bind fun x4 =>
    (uRI s 310 l2).bind fun x8 =>
    if (ladd x4 x8) ≤ 0 then
      FX35_layPage_b157 N SL K7 l2 s
    else
      (FX35_stands N l2 s).bind fun q12 =>
      (uRI q12.2 309 l2).bind fun x15 =>
      (uRI q12.2 310 l2).bind fun x19 =>
      (FX35_note (-1) 0 0 q12.1 s0 x15 x19 q12.2).bind fun q22 =>
      if q22.1 = 0 then
        FX35_layPage_b162 N SL K7 l2 0 q22.2
      else
        FX35_layPage_b157 N SL K7 l2 q22.2
theorem SX35_layPage_b100 {m b : Nat} {φ0 : Nat → Nat} {σo : fS} (hm : 1 ≤ m) (hb : 1 ≤ b) {N : Nat} {sL : Nat → Int32 → Int64 → Int64 → eH → Option (Int32 × eH)} {SL : Int → Int → Int → fS → Option (Int × fS)} {k7 : Nat → Int32 → Int32 → eH → Option (Int32 × eH)} {K7 : Int → Int → fS → Option (Int × fS)} {q : Int × fS} (hsL : ∀ {φ : Nat → Nat} {h : eH} {s : fS} {x1' : Int32} {x1 : Int} {x2' : Int64} {x2 : Int} {x3' : Int64} {x3 : Int} {q}, fC m 1 φ s φ h s → x1' = iI x1 → r32 x1 → x2' = iJ x2 → r64 x2 → x3' = iJ x3 → r64 x3 → SL x1 x2 x3 s = some q → gG m 1 φ s lI q (sL 192 x1' x2' x3' h)) (hk7 : ∀ {φ : Nat → Nat} {h : eH} {s : fS} {l1' : Int32} {l1 : Int} {l2' : Int32} {l2 : Int}, fC m b φ0 σo φ h s → l1' = iI l1 → r32 l1 → l2' = iI l2 → r32 l2 → K7 l1 l2 s = some q → gG m b φ0 σo lI q (k7 192 l1' l2' h)) {φ : Nat → Nat} {h : eH} {s : fS} {l2' : Int32} {l2 : Int} {s0' : Int64} {s0 : Int} (R : fC m b φ0 σo φ h s) (el2 : l2' = iI l2) (rl2 : r32 l2) (es0 : s0' = iJ s0) (rs0 : r64 s0) (hF : FX35_layPage_b100 N SL K7 l2 s0 s = some q) : gG m b φ0 σo lI q (fX35_layPage_b100 N sL k7 192 l2' s0' h) := by
  subst el2; subst es0
  unfold FX35_layPage_b100 at hF
  unfold fX35_layPage_b100
  refine s_if (lg_le.trans (j_le rfl (d_lit 0 0 rfl) rs0 ⟨by decide, by decide⟩)) hF (fun c1 hF => ?_) (fun c1 hF => ?_)
  ·
    exact SX35_layPage_b157 (N := N) (sL := sL) (SL := SL) (k7 := k7) (K7 := K7) hm hb @hsL @hk7 R rfl rl2 hF
  ·
    refine s_gAs R (t_192 hm R.S) (Nat.le_of_ble_eq_true rfl) rfl (o_192_89 hm R.S) (a_309 hm R) ?_
    refine s_rI R (u_309 hm R.S).1 (u_309 hm R.S).2 (by decide) (a_309 hm R) rfl rl2 hF (fun x4 ra3 hF => ?_)
    refine s_gAs R (t_192 hm R.S) (Nat.le_of_ble_eq_true rfl) rfl (o_192_90 hm R.S) (a_310 hm R) ?_
    refine s_rI R (u_310 hm R.S).1 (u_310 hm R.S).2 (by decide) (a_310 hm R) rfl rl2 hF (fun x8 ra5 hF => ?_)
    refine s_if (lg_le.trans (j_le (d_add (c_2l rfl ra3) (c_2l rfl ra5)) (d_lit 0 0 rfl) (rr_J _) ⟨by decide, by decide⟩)) hF (fun c6 hF => ?_) (fun c6 hF => ?_)
    ·
      exact SX35_layPage_b157 (N := N) (sL := sL) (SL := SL) (k7 := k7) (K7 := K7) hm hb @hsL @hk7 R rfl rl2 hF
    ·
      refine s_kok R (t_192 hm R.S) (Nat.le_of_ble_eq_true rfl) ?_
      refine s_call R (Nat.zero_le _) (fun _ hq => SX35_stands (b := 0) (N := N) hm (R.rf) rfl rl2 hq) hF (fun f8 rv8 h8 q12 R8 e8 E8 hF => ?_)
      refine s_gAs R8 (t_192 hm R8.S) (Nat.le_of_ble_eq_true rfl) rfl (o_192_89 hm R8.S) (a_309 hm R8) ?_
      refine s_rI R8 (u_309 hm R8.S).1 (u_309 hm R8.S).2 (by decide) (a_309 hm R8) rfl rl2 hF (fun x15 ra10 hF => ?_)
      refine s_gAs R8 (t_192 hm R8.S) (Nat.le_of_ble_eq_true rfl) rfl (o_192_90 hm R8.S) (a_310 hm R8) ?_
      refine s_rI R8 (u_310 hm R8.S).1 (u_310 hm R8.S).2 (by decide) (a_310 hm R8) rfl rl2 hF (fun x19 ra12 hF => ?_)
      refine s_kok R8 (t_192 hm R8.S) (Nat.le_of_ble_eq_true rfl) ?_
      refine s_call R8 (Nat.zero_le _) (fun _ hq => SX35_note (b := 0) hm (R8.rf) (c_lit (-1) (-1) rfl) ⟨by decide, by decide⟩ (c_lit 0 0 rfl) ⟨by decide, by decide⟩ (d_lit 0 0 rfl) ⟨by decide, by decide⟩ e8.1 e8.2 rfl rs0 (c_2l rfl ra10) (r32.w ra10) (c_2l rfl ra12) (r32.w ra12) hq) hF (fun f14 rv14 h14 q22 R14 e14 E14 hF => ?_)
      refine s_if (i_eq e14.1 (c_lit 0 0 rfl) e14.2 ⟨by decide, by decide⟩) hF (fun c15 hF => ?_) (fun c15 hF => ?_)
      ·
        exact SX35_layPage_b162 (N := N) (sL := sL) (SL := SL) (k7 := k7) (K7 := K7) hm hb @hsL @hk7 R14 rfl rl2 (c_lit 0 0 rfl) ⟨by decide, by decide⟩ hF
      ·
        exact SX35_layPage_b157 (N := N) (sL := sL) (SL := SL) (k7 := k7) (K7 := K7) hm hb @hsL @hk7 R14 rfl rl2 hF
def FX35_layPage_b64 (N : Nat) (SL : Int → Int → Int → fS → Option (Int × fS)) (K7 : Int → Int → fS → Option (Int × fS)) (l1 : Int) (l2 : Int) (s : fS) : Option (Int × fS) :=
  (uRI s 307 l2).bind fun x3 =>
  if ¬ (x3 = 5) then
    FX35_layPage_b163 N SL K7 l1 l2 s
  else
    (uRI s 313 l2).bind fun x8 =>
    if ¬ (x8 = (-1073741824)) then
      (uRI s 313 l2).bind fun x13 =>
      FX35_layPage_b100 N SL K7 l2 x13 s
    else
      (FX35_pageWidth N s).bind fun q16 =>
      FX35_layPage_b100 N SL K7 l2 q16.1 q16.2
theorem SX35_layPage_b64 {m b : Nat} {φ0 : Nat → Nat} {σo : fS} (hm : 1 ≤ m) (hb : 1 ≤ b) {N : Nat} {sL : Nat → Int32 → Int64 → Int64 → eH → Option (Int32 × eH)} {SL : Int → Int → Int → fS → Option (Int × fS)} {k7 : Nat → Int32 → Int32 → eH → Option (Int32 × eH)} {K7 : Int → Int → fS → Option (Int × fS)} {q : Int × fS} (hsL : ∀ {φ : Nat → Nat} {h : eH} {s : fS} {x1' : Int32} {x1 : Int} {x2' : Int64} {x2 : Int} {x3' : Int64} {x3 : Int} {q}, fC m 1 φ s φ h s → x1' = iI x1 → r32 x1 → x2' = iJ x2 → r64 x2 → x3' = iJ x3 → r64 x3 → SL x1 x2 x3 s = some q → gG m 1 φ s lI q (sL 192 x1' x2' x3' h)) (hk7 : ∀ {φ : Nat → Nat} {h : eH} {s : fS} {l1' : Int32} {l1 : Int} {l2' : Int32} {l2 : Int}, fC m b φ0 σo φ h s → l1' = iI l1 → r32 l1 → l2' = iI l2 → r32 l2 → K7 l1 l2 s = some q → gG m b φ0 σo lI q (k7 192 l1' l2' h)) {φ : Nat → Nat} {h : eH} {s : fS} {l1' : Int32} {l1 : Int} {l2' : Int32} {l2 : Int} (R : fC m b φ0 σo φ h s) (el1 : l1' = iI l1) (rl1 : r32 l1) (el2 : l2' = iI l2) (rl2 : r32 l2) (hF : FX35_layPage_b64 N SL K7 l1 l2 s = some q) : gG m b φ0 σo lI q (fX35_layPage_b64 N sL k7 192 l1' l2' h) := by
  subst el1; subst el2
  unfold FX35_layPage_b64 at hF
  unfold fX35_layPage_b64
  refine s_gAs R (t_192 hm R.S) (Nat.le_of_ble_eq_true rfl) rfl (o_192_87 hm R.S) (a_307 hm R) ?_
  refine s_rI R (u_307 hm R.S).1 (u_307 hm R.S).2 (by decide) (a_307 hm R) rfl rl2 hF (fun x3 ra2 hF => ?_)
  refine s_if (not_congr (i_eq rfl (c_lit 5 5 rfl) ra2 ⟨by decide, by decide⟩)) hF (fun c3 hF => ?_) (fun c3 hF => ?_)
  ·
    exact SX35_layPage_b163 (N := N) (sL := sL) (SL := SL) (k7 := k7) (K7 := K7) hm hb @hsL @hk7 R rfl rl1 rfl rl2 hF
  ·
    refine s_gAs R (t_192 hm R.S) (Nat.le_of_ble_eq_true rfl) rfl (o_192_93 hm R.S) (a_313 hm R) ?_
    refine s_rI R (u_313 hm R.S).1 (u_313 hm R.S).2 (by decide) (a_313 hm R) rfl rl2 hF (fun x8 ra5 hF => ?_)
    refine s_if (not_congr (i_eq rfl (c_lit (-1073741824) (-1073741824) rfl) ra5 ⟨by decide, by decide⟩)) hF (fun c6 hF => ?_) (fun c6 hF => ?_)
    ·
      refine s_gAs R (t_192 hm R.S) (Nat.le_of_ble_eq_true rfl) rfl (o_192_93 hm R.S) (a_313 hm R) ?_
      refine s_rI R (u_313 hm R.S).1 (u_313 hm R.S).2 (by decide) (a_313 hm R) rfl rl2 hF (fun x13 ra8 hF => ?_)
      exact SX35_layPage_b100 (N := N) (sL := sL) (SL := SL) (k7 := k7) (K7 := K7) hm hb @hsL @hk7 R rfl rl2 (c_2l rfl ra8) (r32.w ra8) hF
    ·
      refine s_kok R (t_192 hm R.S) (Nat.le_of_ble_eq_true rfl) ?_
      refine s_call R (Nat.zero_le _) (fun _ hq => SX35_pageWidth (b := 0) (N := N) hm (R.rf) hq) hF (fun f10 rv10 h10 q16 R10 e10 E10 hF => ?_)
      exact SX35_layPage_b100 (N := N) (sL := sL) (SL := SL) (k7 := k7) (K7 := K7) hm hb @hsL @hk7 R10 rfl rl2 e10.1 e10.2 hF
def FX35_layPage_b169 (N : Nat) (SL : Int → Int → Int → fS → Option (Int × fS)) (l1 : Int) (s : fS) : Option (Int × fS) :=
  uZ l1 (l1, s)
theorem SX35_layPage_b169 {m b : Nat} {φ0 : Nat → Nat} {σo : fS} (hm : 1 ≤ m) {N : Nat} {sL : Nat → Int32 → Int64 → Int64 → eH → Option (Int32 × eH)} {SL : Int → Int → Int → fS → Option (Int × fS)} {q : Int × fS} (hsL : ∀ {φ : Nat → Nat} {h : eH} {s : fS} {x1' : Int32} {x1 : Int} {x2' : Int64} {x2 : Int} {x3' : Int64} {x3 : Int} {q}, fC m 1 φ s φ h s → x1' = iI x1 → r32 x1 → x2' = iJ x2 → r64 x2 → x3' = iJ x3 → r64 x3 → SL x1 x2 x3 s = some q → gG m 1 φ s lI q (sL 192 x1' x2' x3' h)) {φ : Nat → Nat} {h : eH} {s : fS} {l1' : Int32} {l1 : Int} (R : fC m b φ0 σo φ h s) (el1 : l1' = iI l1) (rl1 : r32 l1) (hF : FX35_layPage_b169 N SL l1 s = some q) : gG m b φ0 σo lI q (fX35_layPage_b169 N sL l1' h) := by
  subst el1
  unfold FX35_layPage_b169 at hF
  unfold fX35_layPage_b169
  exact g_z R rfl hF ⟨rfl, rl1⟩
def FX35_layPage_b7 (N : Nat) (SL : Int → Int → Int → fS → Option (Int × fS)) : Nat → Int → Int → fS → Option (Int × fS)
  | 0, _, _, _ => none
  | n + 1, l1, l2, s =>
    if (s.i 192 96) ≤ l2 then
      FX35_layPage_b169 N SL l1 s
    else
      if l1 = 0 then
        FX35_layPage_b169 N SL l1 s
      else
        (uRI s 307 l2).bind fun x7 =>
        if ¬ (x7 = 5) then
          FX35_layPage_b64 N SL (FX35_layPage_b7 N SL n) l1 l2 s
        else
          (uRI s 312 l2).bind fun x12 =>
          if x12 < 0 then
            FX35_layPage_b64 N SL (FX35_layPage_b7 N SL n) l1 l2 s
          else
            (uRI s 312 l2).bind fun x17 =>
            (uRI s 313 l2).bind fun x21 =>
            (FX35_stands N l2 s).bind fun q24 =>
            (SL x17 x21 q24.1 q24.2).bind fun q26 =>
            FX35_layPage_b163 N SL (FX35_layPage_b7 N SL n) q26.1 l2 q26.2
theorem SX35_layPage_b7 {m b : Nat} {φ0 : Nat → Nat} {σo : fS} (hm : 1 ≤ m) (hb : 1 ≤ b) {N : Nat} {sL : Nat → Int32 → Int64 → Int64 → eH → Option (Int32 × eH)} {SL : Int → Int → Int → fS → Option (Int × fS)} {q : Int × fS} (hsL : ∀ {φ : Nat → Nat} {h : eH} {s : fS} {x1' : Int32} {x1 : Int} {x2' : Int64} {x2 : Int} {x3' : Int64} {x3 : Int} {q}, fC m 1 φ s φ h s → x1' = iI x1 → r32 x1 → x2' = iJ x2 → r64 x2 → x3' = iJ x3 → r64 x3 → SL x1 x2 x3 s = some q → gG m 1 φ s lI q (sL 192 x1' x2' x3' h)) : ∀ {n : Nat} {φ : Nat → Nat} {h : eH} {s : fS} {l1' : Int32} {l1 : Int} {l2' : Int32} {l2 : Int}, fC m b φ0 σo φ h s → l1' = iI l1 → r32 l1 → l2' = iI l2 → r32 l2 → FX35_layPage_b7 N SL n l1 l2 s = some q → gG m b φ0 σo lI q (fX35_layPage_b7 N sL n 192 l1' l2' h) := by
  intro n
  induction n with
 | zero => intro φ h s l1' l1 l2' l2 R el1 rl1 el2 rl2 hF; simp [FX35_layPage_b7] at hF
  | succ n ih =>
    intro φ h s l1' l1 l2' l2 R el1 rl1 el2 rl2 hF
    subst el1; subst el2
    rw [FX35_layPage_b7] at hF
    rw [fX35_layPage_b7]
    refine s_gI R (t_192 hm R.S) (Nat.le_of_ble_eq_true rfl) rfl ?_
    refine s_if (i_le rfl rfl (R.ri (t_192 hm R.S) (Nat.le_of_ble_eq_true rfl) rfl) rl2) hF (fun c2 hF => ?_) (fun c2 hF => ?_)
    ·
      exact SX35_layPage_b169 (N := N) (sL := sL) (SL := SL) hm @hsL R rfl rl1 hF
    ·
      refine s_if (i_eq rfl (c_lit 0 0 rfl) rl1 ⟨by decide, by decide⟩) hF (fun c3 hF => ?_) (fun c3 hF => ?_)
      ·
        exact SX35_layPage_b169 (N := N) (sL := sL) (SL := SL) hm @hsL R rfl rl1 hF
      ·
        refine s_gAs R (t_192 hm R.S) (Nat.le_of_ble_eq_true rfl) rfl (o_192_87 hm R.S) (a_307 hm R) ?_
        refine s_rI R (u_307 hm R.S).1 (u_307 hm R.S).2 (by decide) (a_307 hm R) rfl rl2 hF (fun x7 ra5 hF => ?_)
        refine s_if (not_congr (i_eq rfl (c_lit 5 5 rfl) ra5 ⟨by decide, by decide⟩)) hF (fun c6 hF => ?_) (fun c6 hF => ?_)
        ·
          exact SX35_layPage_b64 (N := N) (sL := sL) (SL := SL) (k7 := fX35_layPage_b7 N sL n) (K7 := FX35_layPage_b7 N SL n) hm hb @hsL @ih R rfl rl1 rfl rl2 hF
        ·
          refine s_gAs R (t_192 hm R.S) (Nat.le_of_ble_eq_true rfl) rfl (o_192_92 hm R.S) (a_312 hm R) ?_
          refine s_rI R (u_312 hm R.S).1 (u_312 hm R.S).2 (by decide) (a_312 hm R) rfl rl2 hF (fun x12 ra8 hF => ?_)
          refine s_if (i_lt rfl (c_lit 0 0 rfl) ra8 ⟨by decide, by decide⟩) hF (fun c9 hF => ?_) (fun c9 hF => ?_)
          ·
            exact SX35_layPage_b64 (N := N) (sL := sL) (SL := SL) (k7 := fX35_layPage_b7 N sL n) (K7 := FX35_layPage_b7 N SL n) hm hb @hsL @ih R rfl rl1 rfl rl2 hF
          ·
            refine s_gAs R (t_192 hm R.S) (Nat.le_of_ble_eq_true rfl) rfl (o_192_92 hm R.S) (a_312 hm R) ?_
            refine s_rI R (u_312 hm R.S).1 (u_312 hm R.S).2 (by decide) (a_312 hm R) rfl rl2 hF (fun x17 ra11 hF => ?_)
            refine s_gAs R (t_192 hm R.S) (Nat.le_of_ble_eq_true rfl) rfl (o_192_93 hm R.S) (a_313 hm R) ?_
            refine s_rI R (u_313 hm R.S).1 (u_313 hm R.S).2 (by decide) (a_313 hm R) rfl rl2 hF (fun x21 ra13 hF => ?_)
            refine s_kok R (t_192 hm R.S) (Nat.le_of_ble_eq_true rfl) ?_
            refine s_call R (Nat.zero_le _) (fun _ hq => SX35_stands (b := 0) (N := N) hm (R.rf) rfl rl2 hq) hF (fun f15 rv15 h15 q24 R15 e15 E15 hF => ?_)
            refine s_kok R15 (t_192 hm R15.S) (Nat.le_of_ble_eq_true rfl) ?_
            refine s_call R15 hb (fun _ hq => hsL (R15.rf) rfl ra11 (c_2l rfl ra13) (r32.w ra13) e15.1 e15.2 hq) hF (fun f17 rv17 h17 q26 R17 e17 E17 hF => ?_)
            exact SX35_layPage_b163 (N := N) (sL := sL) (SL := SL) (k7 := fX35_layPage_b7 N sL n) (K7 := FX35_layPage_b7 N SL n) hm hb @hsL @ih R17 e17.1 e17.2 rfl rl2 hF
def FX35_layPage (N : Nat) (SL : Int → Int → Int → fS → Option (Int × fS)) (s : fS) : Option (Int × fS) :=
  FX35_layPage_b7 N SL N 1 (s.i 192 95) s
theorem SX35_layPage {m b : Nat} {φ0 : Nat → Nat} {σo : fS} (hm : 1 ≤ m) (hb : 1 ≤ b) {N : Nat} {sL : Nat → Int32 → Int64 → Int64 → eH → Option (Int32 × eH)} {SL : Int → Int → Int → fS → Option (Int × fS)} {q : Int × fS} (hsL : ∀ {φ : Nat → Nat} {h : eH} {s : fS} {x1' : Int32} {x1 : Int} {x2' : Int64} {x2 : Int} {x3' : Int64} {x3 : Int} {q}, fC m 1 φ s φ h s → x1' = iI x1 → r32 x1 → x2' = iJ x2 → r64 x2 → x3' = iJ x3 → r64 x3 → SL x1 x2 x3 s = some q → gG m 1 φ s lI q (sL 192 x1' x2' x3' h)) {φ : Nat → Nat} {h : eH} {s : fS} (R : fC m b φ0 σo φ h s) (hF : FX35_layPage N SL s = some q) : gG m b φ0 σo lI q (fX35_layPage N sL 192 h) := by
  unfold FX35_layPage at hF
  unfold fX35_layPage
  refine s_gI R (t_192 hm R.S) (Nat.le_of_ble_eq_true rfl) rfl ?_
  exact SX35_layPage_b7 (N := N) (sL := sL) (SL := SL) hm hb @hsL R (c_lit 1 1 rfl) ⟨by decide, by decide⟩ rfl (R.ri (t_192 hm R.S) (Nat.le_of_ble_eq_true rfl) rfl) hF
def FX35_counter (p0 : Int) (s : fS) : Option (Int × fS) :=
  (FX35_now (iadd 1716 p0) s).bind fun q2 =>
  some (q2.1, q2.2)
theorem SX35_counter {m b : Nat} {φ0 : Nat → Nat} {σo : fS} (hm : 1 ≤ m) {q : Int × fS} {φ : Nat → Nat} {h : eH} {s : fS} {p0' : Int32} {p0 : Int} (R : fC m b φ0 σo φ h s) (ep0 : p0' = iI p0) (rp0 : r32 p0) (hF : FX35_counter p0 s = some q) : gG m b φ0 σo lI q (fX35_counter 192 p0' h) := by
  subst ep0
  unfold FX35_counter at hF
  unfold fX35_counter
  refine s_kok R (t_192 hm R.S) (Nat.le_of_ble_eq_true rfl) ?_
  refine s_call R (Nat.zero_le _) (fun _ hq => SX35_now (b := 0) hm (R.rf) (c_add (c_lit 1716 1716 rfl) rfl) (rr_I _) hq) hF (fun f2 rv2 h2 q2 R2 e2 E2 hF => ?_)
  exact g_ret R2 hF ⟨e2.1, e2.2⟩
def FX38_findMoves_b6 (N : Nat) : Nat → Int → Int → Int → fS → Option (Unit × fS)
  | 0, _, _, _, _ => none
  | n + 1, l1, l2, l3, s =>
    if (s.i 243 13) ≤ l3 then
      some ((), s)
    else
      (uRI s 253 l3).bind fun x8 =>
      (uQI s 257 l3 (isub x8 l1)).bind fun σ10 =>
      (uRI σ10 254 l3).bind fun x16 =>
      (uQI σ10 258 l3 (isub x16 l2)).bind fun σ18 =>
      (uRI σ18 254 l3).bind fun x22 =>
      (uRI σ18 253 l3).bind fun x26 =>
      (uRI σ18 256 l3).bind fun x30 =>
      FX38_findMoves_b6 N n (iadd x26 x30) x22 (iadd l3 1) σ18
theorem SX38_findMoves_b6 {m b : Nat} {φ0 : Nat → Nat} {σo : fS} (hm : 1 ≤ m) {N : Nat} {q : Unit × fS} : ∀ {n : Nat} {φ : Nat → Nat} {h : eH} {s : fS} {l1' : Int32} {l1 : Int} {l2' : Int32} {l2 : Int} {l3' : Int32} {l3 : Int}, fC m b φ0 σo φ h s → l1' = iI l1 → r32 l1 → l2' = iI l2 → r32 l2 → l3' = iI l3 → r32 l3 → FX38_findMoves_b6 N n l1 l2 l3 s = some q → gG m b φ0 σo lU q (fX38_findMoves_b6 N n 243 l1' l2' l3' h) := by
  intro n
  induction n with
 | zero => intro φ h s l1' l1 l2' l2 l3' l3 R el1 rl1 el2 rl2 el3 rl3 hF; simp [FX38_findMoves_b6] at hF
  | succ n ih =>
    intro φ h s l1' l1 l2' l2 l3' l3 R el1 rl1 el2 rl2 el3 rl3 hF
    subst el1; subst el2; subst el3
    rw [FX38_findMoves_b6] at hF
    rw [fX38_findMoves_b6]
    refine s_gI R (t_243 hm R.S) (Nat.le_of_ble_eq_true rfl) rfl ?_
    refine s_if (i_le rfl rfl (R.ri (t_243 hm R.S) (Nat.le_of_ble_eq_true rfl) rfl) rl3) hF (fun c2 hF => ?_) (fun c2 hF => ?_)
    ·
      exact g_ret R hF trivial
    ·
      refine s_gAs R (t_243 hm R.S) (Nat.le_of_ble_eq_true rfl) rfl (o_243_20 hm R.S) (a_257 hm R) ?_
      refine s_gAs R (t_243 hm R.S) (Nat.le_of_ble_eq_true rfl) rfl (o_243_16 hm R.S) (a_253 hm R) ?_
      refine s_rI R (u_253 hm R.S).1 (u_253 hm R.S).2 (by decide) (a_253 hm R) rfl rl3 hF (fun x8 ra5 hF => ?_)
      refine s_qI R (u_257 hm R.S).1 (u_257 hm R.S).2 (by decide) (a_257 hm R) rfl rl3 (c_sub rfl rfl) (rr_I _) hF (fun h6 σ10 R6 T6 hF => ?_)
      refine s_gAs R6 (t_243 hm R6.S) (Nat.le_of_ble_eq_true rfl) rfl (o_243_21 hm R6.S) (a_258 hm R6) ?_
      refine s_gAs R6 (t_243 hm R6.S) (Nat.le_of_ble_eq_true rfl) rfl (o_243_17 hm R6.S) (a_254 hm R6) ?_
      refine s_rI R6 (u_254 hm R6.S).1 (u_254 hm R6.S).2 (by decide) (a_254 hm R6) rfl rl3 hF (fun x16 ra9 hF => ?_)
      refine s_qI R6 (u_258 hm R6.S).1 (u_258 hm R6.S).2 (by decide) (a_258 hm R6) rfl rl3 (c_sub rfl rfl) (rr_I _) hF (fun h10 σ18 R10 T10 hF => ?_)
      refine s_gAs R10 (t_243 hm R10.S) (Nat.le_of_ble_eq_true rfl) rfl (o_243_17 hm R10.S) (a_254 hm R10) ?_
      refine s_rI R10 (u_254 hm R10.S).1 (u_254 hm R10.S).2 (by decide) (a_254 hm R10) rfl rl3 hF (fun x22 ra12 hF => ?_)
      refine s_gAs R10 (t_243 hm R10.S) (Nat.le_of_ble_eq_true rfl) rfl (o_243_16 hm R10.S) (a_253 hm R10) ?_
      refine s_rI R10 (u_253 hm R10.S).1 (u_253 hm R10.S).2 (by decide) (a_253 hm R10) rfl rl3 hF (fun x26 ra14 hF => ?_)
      refine s_gAs R10 (t_243 hm R10.S) (Nat.le_of_ble_eq_true rfl) rfl (o_243_19 hm R10.S) (a_256 hm R10) ?_
      refine s_rI R10 (u_256 hm R10.S).1 (u_256 hm R10.S).2 (by decide) (a_256 hm R10) rfl rl3 hF (fun x30 ra16 hF => ?_)
      exact ih R10 (c_add rfl rfl) (rr_I _) rfl ra12 (c_add rfl (c_lit 1 1 rfl)) (rr_I _) hF
def FX38_findMoves (N : Nat) (s : fS) : Option (Unit × fS) :=
  FX38_findMoves_b6 N N 0 0 0 s
theorem SX38_findMoves {m b : Nat} {φ0 : Nat → Nat} {σo : fS} (hm : 1 ≤ m) {N : Nat} {q : Unit × fS} {φ : Nat → Nat} {h : eH} {s : fS} (R : fC m b φ0 σo φ h s) (hF : FX38_findMoves N s = some q) : gG m b φ0 σo lU q (fX38_findMoves N 243 h) := by
  unfold FX38_findMoves at hF
  unfold fX38_findMoves
  exact SX38_findMoves_b6 (N := N) hm R (c_lit 0 0 rfl) ⟨by decide, by decide⟩ (c_lit 0 0 rfl) ⟨by decide, by decide⟩ (c_lit 0 0 rfl) ⟨by decide, by decide⟩ hF
def FX38_lay (p0 : Int) (s : fS) : Option (Unit × fS) :=
  (uQI s 249 (s.i 243 5) (i2b (i2b p0))).bind fun σ5 =>
  (uPI σ5 243 5 (iadd (σ5.i 243 5) 1)).bind fun σ9 =>
  some ((), σ9)
theorem SX38_lay {m b : Nat} {φ0 : Nat → Nat} {σo : fS} (hm : 1 ≤ m) {q : Unit × fS} {φ : Nat → Nat} {h : eH} {s : fS} {p0' : Int32} {p0 : Int} (R : fC m b φ0 σo φ h s) (ep0 : p0' = iI p0) (rp0 : r32 p0) (hF : FX38_lay p0 s = some q) : gG m b φ0 σo lU q (fX38_lay 243 p0' h) := by
  subst ep0
  unfold FX38_lay at hF
  unfold fX38_lay
  refine s_gAs R (t_243 hm R.S) (Nat.le_of_ble_eq_true rfl) rfl (o_243_6 hm R.S) (a_249 hm R) ?_
  refine s_gI R (t_243 hm R.S) (Nat.le_of_ble_eq_true rfl) rfl ?_
  refine s_qI R (u_249 hm R.S).1 (u_249 hm R.S).2 (by decide) (a_249 hm R) rfl (R.ri (t_243 hm R.S) (Nat.le_of_ble_eq_true rfl) rfl) (c_2b (c_2b rfl)) (rr_I _) hF (fun h3 σ5 R3 T3 hF => ?_)
  refine s_gI R3 (t_243 hm R3.S) (Nat.le_of_ble_eq_true rfl) rfl ?_
  refine s_pI R3 (t_243 hm R3.S) (Nat.le_of_ble_eq_true rfl) rfl (c_add rfl (c_lit 1 1 rfl)) (rr_I _) hF (fun h5 σ9 R5 T5 hF => ?_)
  exact g_ret R5 hF trivial
def FX38_layNumber_b4 (N : Nat) : Nat → Int → Int → fS → Option (Unit × fS)
  | 0, _, _, _ => none
  | n + 1, l1, l3, s =>
    if l3 < 0 then
      some ((), s)
    else
      (FX38_lay (ishr l1 (imul 8 l3)) s).bind fun q3 =>
      FX38_layNumber_b4 N n l1 (iadd l3 (-1)) q3.2
theorem SX38_layNumber_b4 {m b : Nat} {φ0 : Nat → Nat} {σo : fS} (hm : 1 ≤ m) {N : Nat} {q : Unit × fS} : ∀ {n : Nat} {φ : Nat → Nat} {h : eH} {s : fS} {l1' : Int32} {l1 : Int} {l3' : Int32} {l3 : Int}, fC m b φ0 σo φ h s → l1' = iI l1 → r32 l1 → l3' = iI l3 → r32 l3 → FX38_layNumber_b4 N n l1 l3 s = some q → gG m b φ0 σo lU q (fX38_layNumber_b4 N n 243 l1' l3' h) := by
  intro n
  induction n with
 | zero => intro φ h s l1' l1 l3' l3 R el1 rl1 el3 rl3 hF; simp [FX38_layNumber_b4] at hF
  | succ n ih =>
    intro φ h s l1' l1 l3' l3 R el1 rl1 el3 rl3 hF
    subst el1; subst el3
    rw [FX38_layNumber_b4] at hF
    rw [fX38_layNumber_b4]
    refine s_if (i_lt rfl (c_lit 0 0 rfl) rl3 ⟨by decide, by decide⟩) hF (fun c1 hF => ?_) (fun c1 hF => ?_)
    ·
      exact g_ret R hF trivial
    ·
      refine s_kok R (t_243 hm R.S) (Nat.le_of_ble_eq_true rfl) ?_
      refine s_call R (Nat.zero_le _) (fun _ hq => SX38_lay (b := 0) hm (R.rf) (c_shr rfl (c_mul (c_lit 8 8 rfl) rfl)) (rr_I _) hq) hF (fun f3 rv3 h3 q3 R3 e3 E3 hF => ?_)
      exact ih R3 rfl rl1 (c_add rfl (c_lit (-1) (-1) rfl)) (rr_I _) hF
def FX38_layNumber (N : Nat) (p0 : Int) (p1 : Int) (s : fS) : Option (Unit × fS) :=
  FX38_layNumber_b4 N N p0 (isub p1 1) s
theorem SX38_layNumber {m b : Nat} {φ0 : Nat → Nat} {σo : fS} (hm : 1 ≤ m) {N : Nat} {q : Unit × fS} {φ : Nat → Nat} {h : eH} {s : fS} {p0' : Int32} {p0 : Int} {p1' : Int32} {p1 : Int} (R : fC m b φ0 σo φ h s) (ep0 : p0' = iI p0) (rp0 : r32 p0) (ep1 : p1' = iI p1) (rp1 : r32 p1) (hF : FX38_layNumber N p0 p1 s = some q) : gG m b φ0 σo lU q (fX38_layNumber N 243 p0' p1' h) := by
  subst ep0; subst ep1
  unfold FX38_layNumber at hF
  unfold fX38_layNumber
  exact SX38_layNumber_b4 (N := N) hm R rfl rp0 (c_sub rfl (c_lit 1 1 rfl)) (rr_I _) hF
def FX38_bytesOf_b51 (s0 : Int) (s : fS) : Option (Int × fS) :=
  some (s0, s)
theorem SX38_bytesOf_b51 {m b : Nat} {φ0 : Nat → Nat} {σo : fS} (hm : 1 ≤ m) {q : Int × fS} {φ : Nat → Nat} {h : eH} {s : fS} {s0' : Int32} {s0 : Int} (R : fC m b φ0 σo φ h s) (es0 : s0' = iI s0) (rs0 : r32 s0) (hF : FX38_bytesOf_b51 s0 s = some q) : gG m b φ0 σo lI q (fX38_bytesOf_b51 s0' h) := by
  subst es0
  unfold FX38_bytesOf_b51 at hF
  unfold fX38_bytesOf_b51
  exact g_ret R hF ⟨rfl, rs0⟩
def FX38_bytesOf_b50 (s : fS) : Option (Int × fS) :=
  FX38_bytesOf_b51 4 s
theorem SX38_bytesOf_b50 {m b : Nat} {φ0 : Nat → Nat} {σo : fS} (hm : 1 ≤ m) {q : Int × fS} {φ : Nat → Nat} {h : eH} {s : fS} (R : fC m b φ0 σo φ h s) (hF : FX38_bytesOf_b50 s = some q) : gG m b φ0 σo lI q (fX38_bytesOf_b50 h) := by
  unfold FX38_bytesOf_b50 at hF
  unfold fX38_bytesOf_b50
  exact SX38_bytesOf_b51 hm R (c_lit 4 4 rfl) ⟨by decide, by decide⟩ hF
def FX38_bytesOf_b34 (l0 : Int) (s : fS) : Option (Int × fS) :=
  if l0 < (-8388608) then
    FX38_bytesOf_b50 s
  else
    if 8388608 ≤ l0 then
      FX38_bytesOf_b50 s
    else
      FX38_bytesOf_b51 3 s
theorem SX38_bytesOf_b34 {m b : Nat} {φ0 : Nat → Nat} {σo : fS} (hm : 1 ≤ m) {q : Int × fS} {φ : Nat → Nat} {h : eH} {s : fS} {l0' : Int32} {l0 : Int} (R : fC m b φ0 σo φ h s) (el0 : l0' = iI l0) (rl0 : r32 l0) (hF : FX38_bytesOf_b34 l0 s = some q) : gG m b φ0 σo lI q (fX38_bytesOf_b34 l0' h) := by
  subst el0
  unfold FX38_bytesOf_b34 at hF
  unfold fX38_bytesOf_b34
  refine s_if (i_lt rfl (c_lit (-8388608) (-8388608) rfl) rl0 ⟨by decide, by decide⟩) hF (fun c1 hF => ?_) (fun c1 hF => ?_)
  ·
    exact SX38_bytesOf_b50 hm R hF
  ·
    refine s_if (i_le (c_lit 8388608 8388608 rfl) rfl ⟨by decide, by decide⟩ rl0) hF (fun c2 hF => ?_) (fun c2 hF => ?_)
    ·
      exact SX38_bytesOf_b50 hm R hF
    ·
      exact SX38_bytesOf_b51 hm R (c_lit 3 3 rfl) ⟨by decide, by decide⟩ hF
def FX38_bytesOf_b17 (l0 : Int) (s : fS) : Option (Int × fS) :=
  if l0 < (-32768) then
    FX38_bytesOf_b34 l0 s
  else
    if 32768 ≤ l0 then
      FX38_bytesOf_b34 l0 s
    else
      FX38_bytesOf_b51 2 s
theorem SX38_bytesOf_b17 {m b : Nat} {φ0 : Nat → Nat} {σo : fS} (hm : 1 ≤ m) {q : Int × fS} {φ : Nat → Nat} {h : eH} {s : fS} {l0' : Int32} {l0 : Int} (R : fC m b φ0 σo φ h s) (el0 : l0' = iI l0) (rl0 : r32 l0) (hF : FX38_bytesOf_b17 l0 s = some q) : gG m b φ0 σo lI q (fX38_bytesOf_b17 l0' h) := by
  subst el0
  unfold FX38_bytesOf_b17 at hF
  unfold fX38_bytesOf_b17
  refine s_if (i_lt rfl (c_lit (-32768) (-32768) rfl) rl0 ⟨by decide, by decide⟩) hF (fun c1 hF => ?_) (fun c1 hF => ?_)
  ·
    exact SX38_bytesOf_b34 hm R rfl rl0 hF
  ·
    refine s_if (i_le (c_lit 32768 32768 rfl) rfl ⟨by decide, by decide⟩ rl0) hF (fun c2 hF => ?_) (fun c2 hF => ?_)
    ·
      exact SX38_bytesOf_b34 hm R rfl rl0 hF
    ·
      exact SX38_bytesOf_b51 hm R (c_lit 2 2 rfl) ⟨by decide, by decide⟩ hF
def FX38_bytesOf (p0 : Int) (s : fS) : Option (Int × fS) :=
  if p0 < (-128) then
    FX38_bytesOf_b17 p0 s
  else
    if 128 ≤ p0 then
      FX38_bytesOf_b17 p0 s
    else
      FX38_bytesOf_b51 1 s
theorem SX38_bytesOf {m b : Nat} {φ0 : Nat → Nat} {σo : fS} (hm : 1 ≤ m) {q : Int × fS} {φ : Nat → Nat} {h : eH} {s : fS} {p0' : Int32} {p0 : Int} (R : fC m b φ0 σo φ h s) (ep0 : p0' = iI p0) (rp0 : r32 p0) (hF : FX38_bytesOf p0 s = some q) : gG m b φ0 σo lI q (fX38_bytesOf p0' h) := by
  subst ep0
  unfold FX38_bytesOf at hF
  unfold fX38_bytesOf
  refine s_if (i_lt rfl (c_lit (-128) (-128) rfl) rp0 ⟨by decide, by decide⟩) hF (fun c1 hF => ?_) (fun c1 hF => ?_)
  ·
    exact SX38_bytesOf_b17 hm R rfl rp0 hF
  ·
    refine s_if (i_le (c_lit 128 128 rfl) rfl ⟨by decide, by decide⟩ rp0) hF (fun c2 hF => ?_) (fun c2 hF => ?_)
    ·
      exact SX38_bytesOf_b17 hm R rfl rp0 hF
    ·
      exact SX38_bytesOf_b51 hm R (c_lit 1 1 rfl) ⟨by decide, by decide⟩ hF
def FX38_comes_b35 (N : Nat) (K8 : Nat → Int → Int → Int → fS → Option (Int × fS)) (l1 : Nat) (l3 : Int) (l5 : Int) (s0 : Int) (s : fS) : Option (Int × fS) :=
  K8 l1 l3 s0 (iadd l5 1) s
theorem SX38_comes_b35 {m b : Nat} {φ0 : Nat → Nat} {σo : fS} (hm : 1 ≤ m) {N : Nat} {k8 : Nat → Nat → Int32 → Int32 → Int32 → eH → Option (Int32 × eH)} {K8 : Nat → Int → Int → Int → fS → Option (Int × fS)} {q : Int × fS} (hk8 : ∀ {φ : Nat → Nat} {h : eH} {s : fS} {l1' : Nat} {l1 : Nat} {l3' : Int32} {l3 : Int} {l4' : Int32} {l4 : Int} {l5' : Int32} {l5 : Int}, fC m b φ0 σo φ h s → l1' = φ l1 → s.t l1 < 128 → l3' = iI l3 → r32 l3 → l4' = iI l4 → r32 l4 → l5' = iI l5 → r32 l5 → K8 l1 l3 l4 l5 s = some q → gG m b φ0 σo lI q (k8 243 l1' l3' l4' l5' h)) {φ : Nat → Nat} {h : eH} {s : fS} {l1' : Nat} {l1 : Nat} {l3' : Int32} {l3 : Int} {l5' : Int32} {l5 : Int} {s0' : Int32} {s0 : Int} (R : fC m b φ0 σo φ h s) (el1 : l1' = φ l1) (al1 : s.t l1 < 128) (el3 : l3' = iI l3) (rl3 : r32 l3) (el5 : l5' = iI l5) (rl5 : r32 l5) (es0 : s0' = iI s0) (rs0 : r32 s0) (hF : FX38_comes_b35 N K8 l1 l3 l5 s0 s = some q) : gG m b φ0 σo lI q (fX38_comes_b35 N k8 243 l1' l3' l5' s0' h) := by
  subst el3; subst el5; subst es0
  unfold FX38_comes_b35 at hF
  unfold fX38_comes_b35
  exact hk8 R el1 al1 rfl rl3 rfl rs0 (c_add rfl (c_lit 1 1 rfl)) (rr_I _) hF
def FX38_comes_b30 (N : Nat) (K8 : Nat → Int → Int → Int → fS → Option (Int × fS)) (l1 : Nat) (l3 : Int) (l5 : Int) (s : fS) : Option (Int × fS) :=
  FX38_comes_b35 N K8 l1 l3 l5 1 s
theorem SX38_comes_b30 {m b : Nat} {φ0 : Nat → Nat} {σo : fS} (hm : 1 ≤ m) {N : Nat} {k8 : Nat → Nat → Int32 → Int32 → Int32 → eH → Option (Int32 × eH)} {K8 : Nat → Int → Int → Int → fS → Option (Int × fS)} {q : Int × fS} (hk8 : ∀ {φ : Nat → Nat} {h : eH} {s : fS} {l1' : Nat} {l1 : Nat} {l3' : Int32} {l3 : Int} {l4' : Int32} {l4 : Int} {l5' : Int32} {l5 : Int}, fC m b φ0 σo φ h s → l1' = φ l1 → s.t l1 < 128 → l3' = iI l3 → r32 l3 → l4' = iI l4 → r32 l4 → l5' = iI l5 → r32 l5 → K8 l1 l3 l4 l5 s = some q → gG m b φ0 σo lI q (k8 243 l1' l3' l4' l5' h)) {φ : Nat → Nat} {h : eH} {s : fS} {l1' : Nat} {l1 : Nat} {l3' : Int32} {l3 : Int} {l5' : Int32} {l5 : Int} (R : fC m b φ0 σo φ h s) (el1 : l1' = φ l1) (al1 : s.t l1 < 128) (el3 : l3' = iI l3) (rl3 : r32 l3) (el5 : l5' = iI l5) (rl5 : r32 l5) (hF : FX38_comes_b30 N K8 l1 l3 l5 s = some q) : gG m b φ0 σo lI q (fX38_comes_b30 N k8 243 l1' l3' l5' h) := by
  subst el3; subst el5
  unfold FX38_comes_b30 at hF
  unfold fX38_comes_b30
  exact SX38_comes_b35 (N := N) (k8 := k8) (K8 := K8) hm @hk8 R el1 al1 rfl rl3 rfl rl5 (c_lit 1 1 rfl) ⟨by decide, by decide⟩ hF
def FX38_comes_b8 (N : Nat) : Nat → Nat → Int → Int → Int → fS → Option (Int × fS)
  | 0, _, _, _, _, _ => none
  | n + 1, l1, l3, l4, l5, s =>
    if (s.i 243 13) ≤ l5 then
      uZ l4 (l4, s)
    else
      if ¬ (l4 = 0) then
        FX38_comes_b30 N (FX38_comes_b8 N n) l1 l3 l5 s
      else
        (uKA 100 s l1).bind fun _ =>
        (uRI s l1 l5).bind fun x6 =>
        if ¬ (x6 = l3) then
          FX38_comes_b35 N (FX38_comes_b8 N n) l1 l3 l5 0 s
        else
          FX38_comes_b30 N (FX38_comes_b8 N n) l1 l3 l5 s
theorem SX38_comes_b8 {m b : Nat} {φ0 : Nat → Nat} {σo : fS} (hm : 1 ≤ m) {N : Nat} {q : Int × fS} : ∀ {n : Nat} {φ : Nat → Nat} {h : eH} {s : fS} {l1' : Nat} {l1 : Nat} {l3' : Int32} {l3 : Int} {l4' : Int32} {l4 : Int} {l5' : Int32} {l5 : Int}, fC m b φ0 σo φ h s → l1' = φ l1 → s.t l1 < 128 → l3' = iI l3 → r32 l3 → l4' = iI l4 → r32 l4 → l5' = iI l5 → r32 l5 → FX38_comes_b8 N n l1 l3 l4 l5 s = some q → gG m b φ0 σo lI q (fX38_comes_b8 N n 243 l1' l3' l4' l5' h) := by
  intro n
  induction n with
 | zero => intro φ h s l1' l1 l3' l3 l4' l4 l5' l5 R el1 al1 el3 rl3 el4 rl4 el5 rl5 hF; simp [FX38_comes_b8] at hF
  | succ n ih =>
    intro φ h s l1' l1 l3' l3 l4' l4 l5' l5 R el1 al1 el3 rl3 el4 rl4 el5 rl5 hF
    subst el3; subst el4; subst el5
    rw [FX38_comes_b8] at hF
    rw [fX38_comes_b8]
    refine s_gI R (t_243 hm R.S) (Nat.le_of_ble_eq_true rfl) rfl ?_
    refine s_if (i_le rfl rfl (R.ri (t_243 hm R.S) (Nat.le_of_ble_eq_true rfl) rfl) rl5) hF (fun c2 hF => ?_) (fun c2 hF => ?_)
    ·
      exact g_z R rfl hF ⟨rfl, rl4⟩
    ·
      refine s_if (not_congr (i_eq rfl (c_lit 0 0 rfl) rl4 ⟨by decide, by decide⟩)) hF (fun c3 hF => ?_) (fun c3 hF => ?_)
      ·
        exact SX38_comes_b30 (N := N) (k8 := fX38_comes_b8 N n) (K8 := FX38_comes_b8 N n) hm @ih R el1 al1 rfl rl3 rfl rl5 hF
      ·
        refine s_KA hF (fun y5 z5 hF => ?_)
        refine s_rI R y5 z5 (by decide) el1 rfl rl5 hF (fun x6 ra4 hF => ?_)
        refine s_if (not_congr (i_eq rfl rfl ra4 rl3)) hF (fun c6 hF => ?_) (fun c6 hF => ?_)
        ·
          exact SX38_comes_b35 (N := N) (k8 := fX38_comes_b8 N n) (K8 := FX38_comes_b8 N n) hm @ih R el1 y5 rfl rl3 rfl rl5 (c_lit 0 0 rfl) ⟨by decide, by decide⟩ hF
        ·
          exact SX38_comes_b30 (N := N) (k8 := fX38_comes_b8 N n) (K8 := FX38_comes_b8 N n) hm @ih R el1 y5 rfl rl3 rfl rl5 hF
def FX38_comes (N : Nat) (p0 : Nat) (p1 : Int) (p2 : Int) (s : fS) : Option (Int × fS) :=
  FX38_comes_b8 N N p0 p2 0 (iadd p1 1) s
theorem SX38_comes {m b : Nat} {φ0 : Nat → Nat} {σo : fS} (hm : 1 ≤ m) {N : Nat} {q : Int × fS} {φ : Nat → Nat} {h : eH} {s : fS} {p0' : Nat} {p0 : Nat} {p1' : Int32} {p1 : Int} {p2' : Int32} {p2 : Int} (R : fC m b φ0 σo φ h s) (ep0 : p0' = φ p0) (ap0 : s.t p0 < 128) (ep1 : p1' = iI p1) (rp1 : r32 p1) (ep2 : p2' = iI p2) (rp2 : r32 p2) (hF : FX38_comes N p0 p1 p2 s = some q) : gG m b φ0 σo lI q (fX38_comes N 243 p0' p1' p2' h) := by
  subst ep1; subst ep2
  unfold FX38_comes at hF
  unfold fX38_comes
  exact SX38_comes_b8 (N := N) hm R ep0 ap0 rfl rp2 (c_lit 0 0 rfl) ⟨by decide, by decide⟩ (c_add rfl (c_lit 1 1 rfl)) (rr_I _) hF
