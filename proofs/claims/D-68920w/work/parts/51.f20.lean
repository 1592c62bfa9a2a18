set_option maxRecDepth 100000
set_option maxHeartbeats 4000000
def FJ1_isLatin1_b18 (s0 : Int) (s : fS) : Option (Int × fS) :=
  uZ s0 (s0, s)
theorem SJ1_isLatin1_b18 {m b : Nat} {φ0 : Nat → Nat} {σo : fS} {q : Int × fS} {φ : Nat → Nat} {h : eH} {s : fS} {s0' : Int32} {s0 : Int} (R : fC m b φ0 σo φ h s) (es0 : s0' = iI s0) (rs0 : r32 s0) (hF : FJ1_isLatin1_b18 s0 s = some q) : gG m b φ0 σo lI q (fJ1_isLatin1_b18 s0' h) := by
  subst es0
  unfold FJ1_isLatin1_b18 at hF
  unfold fJ1_isLatin1_b18
  exact g_z R rfl hF ⟨rfl, rs0⟩
def FJ1_isLatin1_b17 (s : fS) : Option (Int × fS) :=
  FJ1_isLatin1_b18 0 s
theorem SJ1_isLatin1_b17 {m b : Nat} {φ0 : Nat → Nat} {σo : fS} {q : Int × fS} {φ : Nat → Nat} {h : eH} {s : fS} (R : fC m b φ0 σo φ h s) (hF : FJ1_isLatin1_b17 s = some q) : gG m b φ0 σo lI q (fJ1_isLatin1_b17 h) := by
  unfold FJ1_isLatin1_b17 at hF
  unfold fJ1_isLatin1_b17
  exact SJ1_isLatin1_b18 R (c_lit 0 0 rfl) ⟨by decide, by decide⟩ hF
def FJ1_isLatin1 (this : Nat) (s : fS) : Option (Int × fS) :=
  if (1 : Int) = 0 then
    FJ1_isLatin1_b17 s
  else
    ((o_cod this).map Int32.toInt).bind fun x2 =>
    if ¬ (x2 = 0) then
      FJ1_isLatin1_b17 s
    else
      FJ1_isLatin1_b18 1 s
theorem SJ1_isLatin1 {m b : Nat} {φ0 : Nat → Nat} {σo : fS} {q : Int × fS} {φ : Nat → Nat} {h : eH} {s : fS} {this : Nat} (R : fC m b φ0 σo φ h s) (hF : FJ1_isLatin1 this s = some q) : gG m b φ0 σo lI q (fJ1_isLatin1 this h) := by
  unfold FJ1_isLatin1 at hF
  unfold fJ1_isLatin1
  refine s_if (i_eq (c_lit 1 1 rfl) (c_lit 0 0 rfl) ⟨by decide, by decide⟩ ⟨by decide, by decide⟩) hF (fun c1 hF => ?_) (fun c1 hF => ?_)
  ·
    exact SJ1_isLatin1_b17 R hF
  ·
    refine s_map hF (fun x2 ra2 hF => ?_)
    refine s_if (not_congr (i_eq rfl (c_lit 0 0 rfl) ra2 ⟨by decide, by decide⟩)) hF (fun c3 hF => ?_) (fun c3 hF => ?_)
    ·
      exact SJ1_isLatin1_b17 R hF
    ·
      exact SJ1_isLatin1_b18 R (c_lit 1 1 rfl) ⟨by decide, by decide⟩ hF
def FJ2_charAt (p0 : Nat) (p1 : Int) (s : fS) : Option (Int × fS) :=
  ((o_len p0).map Int32.toInt).bind fun x1 =>
  (FJ1_checkIndex p1 x1 s).bind fun q3 =>
  ((o_get p0 (iI p1)).map Int32.toInt).bind fun x4 =>
  uCr (i2c (iand x4 255)) ((i2c (iand x4 255)), q3.2)
theorem SJ2_charAt {m b : Nat} {φ0 : Nat → Nat} {σo : fS} {q : Int × fS} {φ : Nat → Nat} {h : eH} {s : fS} {p0 : Nat} {p1' : Int32} {p1 : Int} (R : fC m b φ0 σo φ h s) (ep1 : p1' = iI p1) (rp1 : r32 p1) (hF : FJ2_charAt p0 p1 s = some q) : gG m b φ0 σo lI q (fJ2_charAt p0 p1' h) := by
  subst ep1
  unfold FJ2_charAt at hF
  unfold fJ2_charAt
  refine s_map hF (fun x1 ra1 hF => ?_)
  refine s_call R (Nat.zero_le _) (fun _ hq => SJ1_checkIndex (R.rf) rfl rp1 rfl ra1 hq) hF (fun f2 rv2 h2 q3 R2 e2 E2 hF => ?_)
  refine s_map hF (fun x4 ra3 hF => ?_)
  exact g_c R2 (c_2c (c_and rfl (c_lit 255 255 rfl))) hF ⟨(c_2c (c_and rfl (c_lit 255 255 rfl))), (rr_I _)⟩
def FJ1_charAt (this : Nat) (p0 : Int) (s : fS) : Option (Int × fS) :=
  (s_ok this).bind fun _ =>
  (FJ1_isLatin1 this s).bind fun q2 =>
  if q2.1 = 0 then
    none
  else
    (o_val this).bind fun a6 =>
    (FJ2_charAt a6 p0 q2.2).bind fun q8 =>
    uCr q8.1 (q8.1, q8.2)
theorem SJ1_charAt {m b : Nat} {φ0 : Nat → Nat} {σo : fS} {q : Int × fS} {φ : Nat → Nat} {h : eH} {s : fS} {this : Nat} {p0' : Int32} {p0 : Int} (R : fC m b φ0 σo φ h s) (ep0 : p0' = iI p0) (rp0 : r32 p0) (hF : FJ1_charAt this p0 s = some q) : gG m b φ0 σo lI q (fJ1_charAt this p0' h) := by
  subst ep0
  unfold FJ1_charAt at hF
  unfold fJ1_charAt
  refine s_opt hF (fun _ hF => ?_)
  refine s_call R (Nat.zero_le _) (fun _ hq => SJ1_isLatin1 (b := 0) (R.rf) hq) hF (fun f2 rv2 h2 q2 R2 e2 E2 hF => ?_)
  refine s_if (i_eq e2.1 (c_lit 0 0 rfl) e2.2 ⟨by decide, by decide⟩) hF (fun c3 hF => ?_) (fun c3 hF => ?_)
  ·
    cases hF
  ·
    refine s_opt hF (fun a6 hF => ?_)
    refine s_call R2 (Nat.zero_le _) (fun _ hq => SJ2_charAt (b := 0) (R2.rf) rfl rp0 hq) hF (fun f5 rv5 h5 q8 R5 e5 E5 hF => ?_)
    exact g_c R5 e5.1 hF ⟨e5.1, e5.2⟩
def FJ1_coder_b14 (s0 : Int) (s : fS) : Option (Int × fS) :=
  uBr s0 (s0, s)
theorem SJ1_coder_b14 {m b : Nat} {φ0 : Nat → Nat} {σo : fS} {q : Int × fS} {φ : Nat → Nat} {h : eH} {s : fS} {s0' : Int32} {s0 : Int} (R : fC m b φ0 σo φ h s) (es0 : s0' = iI s0) (rs0 : r32 s0) (hF : FJ1_coder_b14 s0 s = some q) : gG m b φ0 σo lI q (fJ1_coder_b14 s0' h) := by
  subst es0
  unfold FJ1_coder_b14 at hF
  unfold fJ1_coder_b14
  exact g_b R rfl hF ⟨rfl, rs0⟩
def FJ1_coder (this : Nat) (s : fS) : Option (Int × fS) :=
  if (1 : Int) = 0 then
    FJ1_coder_b14 1 s
  else
    ((o_cod this).map Int32.toInt).bind fun x2 =>
    FJ1_coder_b14 x2 s
theorem SJ1_coder {m b : Nat} {φ0 : Nat → Nat} {σo : fS} {q : Int × fS} {φ : Nat → Nat} {h : eH} {s : fS} {this : Nat} (R : fC m b φ0 σo φ h s) (hF : FJ1_coder this s = some q) : gG m b φ0 σo lI q (fJ1_coder this h) := by
  unfold FJ1_coder at hF
  unfold fJ1_coder
  refine s_if (i_eq (c_lit 1 1 rfl) (c_lit 0 0 rfl) ⟨by decide, by decide⟩ ⟨by decide, by decide⟩) hF (fun c1 hF => ?_) (fun c1 hF => ?_)
  ·
    exact SJ1_coder_b14 R (c_lit 1 1 rfl) ⟨by decide, by decide⟩ hF
  ·
    refine s_map hF (fun x2 ra2 hF => ?_)
    exact SJ1_coder_b14 R rfl ra2 hF
def FJ1_length (this : Nat) (s : fS) : Option (Int × fS) :=
  (o_val this).bind fun a1 =>
  ((o_len a1).map Int32.toInt).bind fun x3 =>
  (s_ok this).bind fun _ =>
  (FJ1_coder this s).bind fun q6 =>
  some ((ishr x3 q6.1), q6.2)
theorem SJ1_length {m b : Nat} {φ0 : Nat → Nat} {σo : fS} {q : Int × fS} {φ : Nat → Nat} {h : eH} {s : fS} {this : Nat} (R : fC m b φ0 σo φ h s) (hF : FJ1_length this s = some q) : gG m b φ0 σo lI q (fJ1_length this h) := by
  unfold FJ1_length at hF
  unfold fJ1_length
  refine s_opt hF (fun a1 hF => ?_)
  refine s_map hF (fun x3 ra2 hF => ?_)
  refine s_opt hF (fun _ hF => ?_)
  refine s_call R (Nat.zero_le _) (fun _ hq => SJ1_coder (b := 0) (R.rf) hq) hF (fun f4 rv4 h4 q6 R4 e4 E4 hF => ?_)
  exact g_ret R4 hF ⟨(c_shr rfl e4.1), (rr_I _)⟩
def FJ0_fill_b5 (N : Nat) : Nat → Nat → Int → Int → Int → fS → Option (Unit × fS)
  | 0, _, _, _, _, _ => none
  | n + 1, l0, l1, l2, l3, s =>
    if l3 ≤ l2 then
      some ((), s)
    else
      (uKA 100 s l0).bind fun _ =>
      (uQI s l0 l2 l1).bind fun σ2 =>
      FJ0_fill_b5 N n l0 l1 (iadd l2 1) l3 σ2
theorem SJ0_fill_b5 {m b : Nat} {φ0 : Nat → Nat} {σo : fS} {N : Nat} {q : Unit × fS} : ∀ {n : Nat} {φ : Nat → Nat} {h : eH} {s : fS} {l0' : Nat} {l0 : Nat} {l1' : Int32} {l1 : Int} {l2' : Int32} {l2 : Int} {l3' : Int32} {l3 : Int}, fC m b φ0 σo φ h s → l0' = φ l0 → s.t l0 < 128 → l1' = iI l1 → r32 l1 → l2' = iI l2 → r32 l2 → l3' = iI l3 → r32 l3 → FJ0_fill_b5 N n l0 l1 l2 l3 s = some q → gG m b φ0 σo lU q (fJ0_fill_b5 N n l0' l1' l2' l3' h) := by
  intro n
  induction n with
 | zero => intro φ h s l0' l0 l1' l1 l2' l2 l3' l3 R el0 al0 el1 rl1 el2 rl2 el3 rl3 hF; simp [FJ0_fill_b5] at hF
  | succ n ih =>
    intro φ h s l0' l0 l1' l1 l2' l2 l3' l3 R el0 al0 el1 rl1 el2 rl2 el3 rl3 hF
    subst el1; subst el2; subst el3
    rw [FJ0_fill_b5] at hF
    rw [fJ0_fill_b5]
    refine s_if (i_le rfl rfl rl3 rl2) hF (fun c1 hF => ?_) (fun c1 hF => ?_)
    ·
      exact g_ret R hF trivial
    ·
      refine s_KA hF (fun y3 z3 hF => ?_)
      refine s_qI R y3 z3 (by decide) el0 rfl rl2 rfl rl1 hF (fun h2 σ2 R2 T2 hF => ?_)
      exact ih R2 el0 (by rw [T2]; exact y3) rfl rl1 (c_add rfl (c_lit 1 1 rfl)) (rr_I _) rfl rl3 hF
def FJ0_fill (N : Nat) (p0 : Nat) (p1 : Int) (s : fS) : Option (Unit × fS) :=
  (uKL s p0).bind fun _ =>
  FJ0_fill_b5 N N p0 p1 0 (s.n p0 : Int) s
theorem SJ0_fill {m b : Nat} {φ0 : Nat → Nat} {σo : fS} {N : Nat} {q : Unit × fS} {φ : Nat → Nat} {h : eH} {s : fS} {p0' : Nat} {p0 : Nat} {p1' : Int32} {p1 : Int} (R : fC m b φ0 σo φ h s) (ep0 : p0' = φ p0) (ap0 : s.t p0 < 128) (ep1 : p1' = iI p1) (rp1 : r32 p1) (hF : FJ0_fill N p0 p1 s = some q) : gG m b φ0 σo lU q (fJ0_fill N p0' p1' h) := by
  subst ep1
  unfold FJ0_fill at hF
  unfold fJ0_fill
  refine s_KL hF (fun y1 z1 hF => ?_)
  refine s_len R z1 y1 ep0 ?_
  exact SJ0_fill_b5 (N := N) R ep0 y1 rfl rp1 (c_lit 0 0 rfl) ⟨by decide, by decide⟩ rfl (R.rn z1 y1) hF
def FJ0_rangeCheck (p0 : Int) (p1 : Int) (p2 : Int) (s : fS) : Option (Unit × fS) :=
  if p1 ≤ p2 then
    if 0 ≤ p1 then
      if p2 ≤ p0 then
        some ((), s)
      else
        none
    else
      none
  else
    none
theorem SJ0_rangeCheck {m b : Nat} {φ0 : Nat → Nat} {σo : fS} {q : Unit × fS} {φ : Nat → Nat} {h : eH} {s : fS} {p0' : Int32} {p0 : Int} {p1' : Int32} {p1 : Int} {p2' : Int32} {p2 : Int} (R : fC m b φ0 σo φ h s) (ep0 : p0' = iI p0) (rp0 : r32 p0) (ep1 : p1' = iI p1) (rp1 : r32 p1) (ep2 : p2' = iI p2) (rp2 : r32 p2) (hF : FJ0_rangeCheck p0 p1 p2 s = some q) : gG m b φ0 σo lU q (fJ0_rangeCheck p0' p1' p2' h) := by
  subst ep0; subst ep1; subst ep2
  unfold FJ0_rangeCheck at hF
  unfold fJ0_rangeCheck
  refine s_if (i_le rfl rfl rp1 rp2) hF (fun c1 hF => ?_) (fun c1 hF => ?_)
  ·
    refine s_if (i_le (c_lit 0 0 rfl) rfl ⟨by decide, by decide⟩ rp1) hF (fun c2 hF => ?_) (fun c2 hF => ?_)
    ·
      refine s_if (i_le rfl rfl rp2 rp0) hF (fun c3 hF => ?_) (fun c3 hF => ?_)
      ·
        exact g_ret R hF trivial
      ·
        cases hF
    ·
      cases hF
  ·
    cases hF
def FJ0_fill_3_b10 (N : Nat) : Nat → Int → Int → Int → fS → Option (Unit × fS)
  | 0, _, _, _, _ => none
  | n + 1, l2, l3, l4, s =>
    if l2 ≤ l4 then
      some ((), s)
    else
      (uQI s 190 l4 l3).bind fun σ2 =>
      FJ0_fill_3_b10 N n l2 l3 (iadd l4 1) σ2
theorem SJ0_fill_3_b10 {m b : Nat} {φ0 : Nat → Nat} {σo : fS} {N : Nat} {q : Unit × fS} : ∀ {n : Nat} {φ : Nat → Nat} {h : eH} {s : fS} {l2' : Int32} {l2 : Int} {l3' : Int32} {l3 : Int} {l4' : Int32} {l4 : Int}, fC m b φ0 σo φ h s → l2' = iI l2 → r32 l2 → l3' = iI l3 → r32 l3 → l4' = iI l4 → r32 l4 → FJ0_fill_3_b10 N n l2 l3 l4 s = some q → gG m b φ0 σo lU q (fJ0_fill_3_b10 N n 190 l2' l3' l4' h) := by
  intro n
  induction n with
 | zero => intro φ h s l2' l2 l3' l3 l4' l4 R el2 rl2 el3 rl3 el4 rl4 hF; simp [FJ0_fill_3_b10] at hF
  | succ n ih =>
    intro φ h s l2' l2 l3' l3 l4' l4 R el2 rl2 el3 rl3 el4 rl4 hF
    subst el2; subst el3; subst el4
    rw [FJ0_fill_3_b10] at hF
    rw [fJ0_fill_3_b10]
    refine s_if (i_le rfl rfl rl2 rl4) hF (fun c1 hF => ?_) (fun c1 hF => ?_)
    ·
      exact g_ret R hF trivial
    ·
      refine s_qI R (u_190 R.S).1 (u_190 R.S).2 (by decide) (a_190 R) rfl rl4 rfl rl3 hF (fun h2 σ2 R2 T2 hF => ?_)
      exact ih R2 rfl rl2 rfl rl3 (c_add rfl (c_lit 1 1 rfl)) (rr_I _) hF
def FJ0_fill_3 (N : Nat) (p1 : Int) (p2 : Int) (p3 : Int) (s : fS) : Option (Unit × fS) :=
  (FJ0_rangeCheck (s.n 190 : Int) p1 p2 s).bind fun q3 =>
  FJ0_fill_3_b10 N N p2 p3 p1 q3.2
theorem SJ0_fill_3 {m b : Nat} {φ0 : Nat → Nat} {σo : fS} {N : Nat} {q : Unit × fS} {φ : Nat → Nat} {h : eH} {s : fS} {p1' : Int32} {p1 : Int} {p2' : Int32} {p2 : Int} {p3' : Int32} {p3 : Int} (R : fC m b φ0 σo φ h s) (ep1 : p1' = iI p1) (rp1 : r32 p1) (ep2 : p2' = iI p2) (rp2 : r32 p2) (ep3 : p3' = iI p3) (rp3 : r32 p3) (hF : FJ0_fill_3 N p1 p2 p3 s = some q) : gG m b φ0 σo lU q (fJ0_fill_3 N 190 p1' p2' p3' h) := by
  subst ep1; subst ep2; subst ep3
  unfold FJ0_fill_3 at hF
  unfold fJ0_fill_3
  refine s_len R (by rw [(t_190 R.S)]; decide) (by rw [(t_190 R.S)]; decide) (a_190 R) ?_
  refine s_call R (Nat.zero_le _) (fun _ hq => SJ0_rangeCheck (b := 0) (R.rf) rfl (R.rn (by rw [(t_190 R.S)]; decide) (by rw [(t_190 R.S)]; decide)) rfl rp1 rfl rp2 hq) hF (fun f2 rv2 h2 q3 R2 e2 E2 hF => ?_)
  exact SJ0_fill_3_b10 (N := N) R2 rfl rp2 rfl rp3 rfl rp1 hF
def FJ0_fill_4_b6 (N : Nat) : Nat → Int → Int → Int → fS → Option (Unit × fS)
  | 0, _, _, _, _ => none
  | n + 1, l1, l3, l4, s =>
    if l4 ≤ l3 then
      some ((), s)
    else
      (uQJ s 116 l3 l1).bind fun σ2 =>
      FJ0_fill_4_b6 N n l1 (iadd l3 1) l4 σ2
theorem SJ0_fill_4_b6 {m b : Nat} {φ0 : Nat → Nat} {σo : fS} {N : Nat} {q : Unit × fS} : ∀ {n : Nat} {φ : Nat → Nat} {h : eH} {s : fS} {l1' : Int64} {l1 : Int} {l3' : Int32} {l3 : Int} {l4' : Int32} {l4 : Int}, fC m b φ0 σo φ h s → l1' = iJ l1 → r64 l1 → l3' = iI l3 → r32 l3 → l4' = iI l4 → r32 l4 → FJ0_fill_4_b6 N n l1 l3 l4 s = some q → gG m b φ0 σo lU q (fJ0_fill_4_b6 N n 116 l1' l3' l4' h) := by
  intro n
  induction n with
 | zero => intro φ h s l1' l1 l3' l3 l4' l4 R el1 rl1 el3 rl3 el4 rl4 hF; simp [FJ0_fill_4_b6] at hF
  | succ n ih =>
    intro φ h s l1' l1 l3' l3 l4' l4 R el1 rl1 el3 rl3 el4 rl4 hF
    subst el1; subst el3; subst el4
    rw [FJ0_fill_4_b6] at hF
    rw [fJ0_fill_4_b6]
    refine s_if (i_le rfl rfl rl4 rl3) hF (fun c1 hF => ?_) (fun c1 hF => ?_)
    ·
      exact g_ret R hF trivial
    ·
      refine s_qJ R (u_116 R.S).1 (u_116 R.S).2 (a_116 R) rfl rl3 rfl rl1 hF (fun h2 σ2 R2 T2 hF => ?_)
      exact ih R2 rfl rl1 (c_add rfl (c_lit 1 1 rfl)) (rr_I _) rfl rl4 hF
def FJ0_fill_4 (N : Nat) (p1 : Int) (s : fS) : Option (Unit × fS) :=
  FJ0_fill_4_b6 N N p1 0 (s.n 116 : Int) s
theorem SJ0_fill_4 {m b : Nat} {φ0 : Nat → Nat} {σo : fS} {N : Nat} {q : Unit × fS} {φ : Nat → Nat} {h : eH} {s : fS} {p1' : Int64} {p1 : Int} (R : fC m b φ0 σo φ h s) (ep1 : p1' = iJ p1) (rp1 : r64 p1) (hF : FJ0_fill_4 N p1 s = some q) : gG m b φ0 σo lU q (fJ0_fill_4 N 116 p1' h) := by
  subst ep1
  unfold FJ0_fill_4 at hF
  unfold fJ0_fill_4
  refine s_len R (by rw [(t_116 R.S)]; decide) (by rw [(t_116 R.S)]; decide) (a_116 R) ?_
  exact SJ0_fill_4_b6 (N := N) R rfl rp1 (c_lit 0 0 rfl) ⟨by decide, by decide⟩ rfl (R.rn (by rw [(t_116 R.S)]; decide) (by rw [(t_116 R.S)]; decide)) hF
def FJ0_fill_2_b5 (N : Nat) : Nat → Int → Int → Int → fS → Option (Unit × fS)
  | 0, _, _, _, _ => none
  | n + 1, l1, l2, l3, s =>
    if l3 ≤ l2 then
      some ((), s)
    else
      (uQI s 10 l2 (iand l1 1)).bind fun σ2 =>
      FJ0_fill_2_b5 N n l1 (iadd l2 1) l3 σ2
theorem SJ0_fill_2_b5 {m b : Nat} {φ0 : Nat → Nat} {σo : fS} {N : Nat} {q : Unit × fS} : ∀ {n : Nat} {φ : Nat → Nat} {h : eH} {s : fS} {l1' : Int32} {l1 : Int} {l2' : Int32} {l2 : Int} {l3' : Int32} {l3 : Int}, fC m b φ0 σo φ h s → l1' = iI l1 → r32 l1 → l2' = iI l2 → r32 l2 → l3' = iI l3 → r32 l3 → FJ0_fill_2_b5 N n l1 l2 l3 s = some q → gG m b φ0 σo lU q (fJ0_fill_2_b5 N n 10 l1' l2' l3' h) := by
  intro n
  induction n with
 | zero => intro φ h s l1' l1 l2' l2 l3' l3 R el1 rl1 el2 rl2 el3 rl3 hF; simp [FJ0_fill_2_b5] at hF
  | succ n ih =>
    intro φ h s l1' l1 l2' l2 l3' l3 R el1 rl1 el2 rl2 el3 rl3 hF
    subst el1; subst el2; subst el3
    rw [FJ0_fill_2_b5] at hF
    rw [fJ0_fill_2_b5]
    refine s_if (i_le rfl rfl rl3 rl2) hF (fun c1 hF => ?_) (fun c1 hF => ?_)
    ·
      exact g_ret R hF trivial
    ·
      refine s_qI R (u_10 R.S).1 (u_10 R.S).2 (by decide) (a_10 R) rfl rl2 (c_and rfl (c_lit 1 1 rfl)) (rr_I _) hF (fun h2 σ2 R2 T2 hF => ?_)
      exact ih R2 rfl rl1 (c_add rfl (c_lit 1 1 rfl)) (rr_I _) rfl rl3 hF
def FJ0_fill_2 (N : Nat) (p1 : Int) (s : fS) : Option (Unit × fS) :=
  FJ0_fill_2_b5 N N p1 0 (s.n 10 : Int) s
theorem SJ0_fill_2 {m b : Nat} {φ0 : Nat → Nat} {σo : fS} {N : Nat} {q : Unit × fS} {φ : Nat → Nat} {h : eH} {s : fS} {p1' : Int32} {p1 : Int} (R : fC m b φ0 σo φ h s) (ep1 : p1' = iI p1) (rp1 : r32 p1) (hF : FJ0_fill_2 N p1 s = some q) : gG m b φ0 σo lU q (fJ0_fill_2 N 10 p1' h) := by
  subst ep1
  unfold FJ0_fill_2 at hF
  unfold fJ0_fill_2
  refine s_len R (by rw [(t_10 R.S)]; decide) (by rw [(t_10 R.S)]; decide) (a_10 R) ?_
  exact SJ0_fill_2_b5 (N := N) R rfl rp1 (c_lit 0 0 rfl) ⟨by decide, by decide⟩ rfl (R.rn (by rw [(t_10 R.S)]; decide) (by rw [(t_10 R.S)]; decide)) hF
