set_option maxRecDepth 100000
set_option maxHeartbeats 4000000
def FX7_add_b16 (l1 : Int) (l2 : Int) (l3 : Int) (l4 : Int) (l5 : Int) (l6 : Int) (s : fS) : Option (Unit × fS) :=
  (uQI s 18 (s.i 17 3) (i2b (i2b l1))).bind fun σ5 =>
  (uQI σ5 19 (imul 5 (σ5.i 17 3)) l2).bind fun σ11 =>
  (uQI σ11 19 (iadd (imul 5 (σ5.i 17 3)) 1) l3).bind fun σ15 =>
  (uQI σ15 19 (iadd (imul 5 (σ5.i 17 3)) 2) l4).bind fun σ19 =>
  (uQI σ19 19 (iadd (imul 5 (σ5.i 17 3)) 3) l5).bind fun σ23 =>
  (uQI σ23 19 (iadd (imul 5 (σ5.i 17 3)) 4) l6).bind fun σ27 =>
  (uPI σ27 17 3 (iadd (σ27.i 17 3) 1)).bind fun σ31 =>
  some ((), σ31)
theorem SX7_add_b16 {m b : Nat} {φ0 : Nat → Nat} {σo : fS} {q : Unit × fS} {φ : Nat → Nat} {h : eH} {s : fS} {l1' : Int32} {l1 : Int} {l2' : Int32} {l2 : Int} {l3' : Int32} {l3 : Int} {l4' : Int32} {l4 : Int} {l5' : Int32} {l5 : Int} {l6' : Int32} {l6 : Int} (R : fC m b φ0 σo φ h s) (el1 : l1' = iI l1) (rl1 : r32 l1) (el2 : l2' = iI l2) (rl2 : r32 l2) (el3 : l3' = iI l3) (rl3 : r32 l3) (el4 : l4' = iI l4) (rl4 : r32 l4) (el5 : l5' = iI l5) (rl5 : r32 l5) (el6 : l6' = iI l6) (rl6 : r32 l6) (hF : FX7_add_b16 l1 l2 l3 l4 l5 l6 s = some q) : gG m b φ0 σo lU q (fX7_add_b16 17 l1' l2' l3' l4' l5' l6' h) := by
  subst el1; subst el2; subst el3; subst el4; subst el5; subst el6
  unfold FX7_add_b16 at hF
  unfold fX7_add_b16
  refine s_gA R (t_17 R.S) (Nat.le_of_ble_eq_true rfl) rfl (o_17_0 R.S) (fun _ _ => ?_)
  refine s_gI R (t_17 R.S) (Nat.le_of_ble_eq_true rfl) rfl ?_
  refine s_qI R (u_18 R.S).1 (u_18 R.S).2 (by decide) rfl rfl (R.ri (t_17 R.S) (Nat.le_of_ble_eq_true rfl) rfl) (c_2b (c_2b rfl)) (rr_I _) hF (fun h3 σ5 R3 T3 hF => ?_)
  refine s_gI R3 (t_17 R3.S) (Nat.le_of_ble_eq_true rfl) rfl ?_
  refine s_gA R3 (t_17 R3.S) (Nat.le_of_ble_eq_true rfl) rfl (o_17_1 R3.S) (fun _ _ => ?_)
  refine s_qI R3 (u_19 R3.S).1 (u_19 R3.S).2 (by decide) rfl (c_mul (c_lit 5 5 rfl) rfl) (rr_I _) rfl rl2 hF (fun h6 σ11 R6 T6 hF => ?_)
  refine s_gA R6 (t_17 R6.S) (Nat.le_of_ble_eq_true rfl) rfl (o_17_1 R6.S) (fun _ _ => ?_)
  refine s_qI R6 (u_19 R6.S).1 (u_19 R6.S).2 (by decide) rfl (c_add (c_mul (c_lit 5 5 rfl) rfl) (c_lit 1 1 rfl)) (rr_I _) rfl rl3 hF (fun h8 σ15 R8 T8 hF => ?_)
  refine s_gA R8 (t_17 R8.S) (Nat.le_of_ble_eq_true rfl) rfl (o_17_1 R8.S) (fun _ _ => ?_)
  refine s_qI R8 (u_19 R8.S).1 (u_19 R8.S).2 (by decide) rfl (c_add (c_mul (c_lit 5 5 rfl) rfl) (c_lit 2 2 rfl)) (rr_I _) rfl rl4 hF (fun h10 σ19 R10 T10 hF => ?_)
  refine s_gA R10 (t_17 R10.S) (Nat.le_of_ble_eq_true rfl) rfl (o_17_1 R10.S) (fun _ _ => ?_)
  refine s_qI R10 (u_19 R10.S).1 (u_19 R10.S).2 (by decide) rfl (c_add (c_mul (c_lit 5 5 rfl) rfl) (c_lit 3 3 rfl)) (rr_I _) rfl rl5 hF (fun h12 σ23 R12 T12 hF => ?_)
  refine s_gA R12 (t_17 R12.S) (Nat.le_of_ble_eq_true rfl) rfl (o_17_1 R12.S) (fun _ _ => ?_)
  refine s_qI R12 (u_19 R12.S).1 (u_19 R12.S).2 (by decide) rfl (c_add (c_mul (c_lit 5 5 rfl) rfl) (c_lit 4 4 rfl)) (rr_I _) rfl rl6 hF (fun h14 σ27 R14 T14 hF => ?_)
  refine s_gI R14 (t_17 R14.S) (Nat.le_of_ble_eq_true rfl) rfl ?_
  refine s_pI R14 (t_17 R14.S) (Nat.le_of_ble_eq_true rfl) rfl (c_add rfl (c_lit 1 1 rfl)) (rr_I _) hF (fun h16 σ31 R16 T16 hF => ?_)
  exact g_ret R16 hF trivial
def FX7_add (p0 : Int) (p1 : Int) (p2 : Int) (p3 : Int) (p4 : Int) (p5 : Int) (s : fS) : Option (Unit × fS) :=
  if ¬ ((s.i 17 3) = (s.n 18 : Int)) then
    FX7_add_b16 p0 p1 p2 p3 p4 p5 s
  else
    (FX7_grow s).bind fun q9 =>
    FX7_add_b16 p0 p1 p2 p3 p4 p5 q9.2
theorem SX7_add {m b : Nat} {φ0 : Nat → Nat} {σo : fS} (hb : 1 ≤ b) {q : Unit × fS} {φ : Nat → Nat} {h : eH} {s : fS} {p0' : Int32} {p0 : Int} {p1' : Int32} {p1 : Int} {p2' : Int32} {p2 : Int} {p3' : Int32} {p3 : Int} {p4' : Int32} {p4 : Int} {p5' : Int32} {p5 : Int} (R : fC m b φ0 σo φ h s) (ep0 : p0' = iI p0) (rp0 : r32 p0) (ep1 : p1' = iI p1) (rp1 : r32 p1) (ep2 : p2' = iI p2) (rp2 : r32 p2) (ep3 : p3' = iI p3) (rp3 : r32 p3) (ep4 : p4' = iI p4) (rp4 : r32 p4) (ep5 : p5' = iI p5) (rp5 : r32 p5) (hF : FX7_add p0 p1 p2 p3 p4 p5 s = some q) : gG m b φ0 σo lU q (fX7_add 17 p0' p1' p2' p3' p4' p5' h) := by
  subst ep0; subst ep1; subst ep2; subst ep3; subst ep4; subst ep5
  unfold FX7_add at hF
  unfold fX7_add
  refine s_gI R (t_17 R.S) (Nat.le_of_ble_eq_true rfl) rfl ?_
  refine s_gA R (t_17 R.S) (Nat.le_of_ble_eq_true rfl) rfl (o_17_0 R.S) (fun _ _ => ?_)
  refine s_len R (by rw [(t_18 R.S)]; decide) (by rw [(t_18 R.S)]; decide) rfl ?_
  refine s_if (not_congr (i_eq rfl rfl (R.ri (t_17 R.S) (Nat.le_of_ble_eq_true rfl) rfl) (R.rn (by rw [(t_18 R.S)]; decide) (by rw [(t_18 R.S)]; decide)))) hF (fun c4 hF => ?_) (fun c4 hF => ?_)
  ·
    exact SX7_add_b16 R rfl rp0 rfl rp1 rfl rp2 rfl rp3 rfl rp4 rfl rp5 hF
  ·
    refine s_kok R (t_17 R.S) (Nat.le_of_ble_eq_true rfl) ?_
    refine s_call R hb (fun _ hq => SX7_grow (b := 1) (Nat.le_of_ble_eq_true rfl) (R.rf) hq) hF (fun f6 rv6 h6 q9 R6 e6 E6 hF => ?_)
    exact SX7_add_b16 R6 rfl rp0 rfl rp1 rfl rp2 rfl rp3 rfl rp4 rfl rp5 hF
def FX39_init (this : Nat) (s : fS) : Option (Unit × fS) :=
  some ((), s)
theorem SX39_init {m b : Nat} {φ0 : Nat → Nat} {σo : fS} {q : Unit × fS} {φ : Nat → Nat} {h : eH} {s : fS} {this : Nat} (R : fC m b φ0 σo φ h s) (hF : FX39_init this s = some q) : gG m b φ0 σo lU q (fX39_init this h) := by
  unfold FX39_init at hF
  unfold fX39_init
  exact g_ret R hF trivial
def FX19_clear_b2 (N : Nat) : Nat → Int → Int → fS → Option (Unit × fS)
  | 0, _, _, _ => none
  | n + 1, l1, l2, s =>
    if 4 ≤ l2 then
      (uPZ s 94 4 1).bind fun σ2 =>
      (uPZ σ2 94 5 l1).bind fun σ4 =>
      (uPJ σ4 94 6 0).bind fun σ6 =>
      (uPJ σ6 94 7 0).bind fun σ8 =>
      (uPJ σ8 94 8 0).bind fun σ10 =>
      (uPJ σ10 94 9 0).bind fun σ12 =>
      some ((), σ12)
    else
      (uQJ s 95 l2 0).bind fun σ16 =>
      (uQJ σ16 96 l2 0).bind fun σ20 =>
      FX19_clear_b2 N n l1 (iadd l2 1) σ20
theorem SX19_clear_b2 {m b : Nat} {φ0 : Nat → Nat} {σo : fS} {N : Nat} {q : Unit × fS} : ∀ {n : Nat} {φ : Nat → Nat} {h : eH} {s : fS} {l1' : Int32} {l1 : Int} {l2' : Int32} {l2 : Int}, fC m b φ0 σo φ h s → l1' = iI l1 → r32 l1 → l2' = iI l2 → r32 l2 → FX19_clear_b2 N n l1 l2 s = some q → gG m b φ0 σo lU q (fX19_clear_b2 N n 94 l1' l2' h) := by
  intro n
  induction n with
 | zero => intro φ h s l1' l1 l2' l2 R el1 rl1 el2 rl2 hF; simp [FX19_clear_b2] at hF
  | succ n ih =>
    intro φ h s l1' l1 l2' l2 R el1 rl1 el2 rl2 hF
    subst el1; subst el2
    rw [FX19_clear_b2] at hF
    rw [fX19_clear_b2]
    refine s_if (i_le (c_lit 4 4 rfl) rfl ⟨by decide, by decide⟩ rl2) hF (fun c1 hF => ?_) (fun c1 hF => ?_)
    ·
      refine s_pZ R (t_94 R.S) (Nat.le_of_ble_eq_true rfl) rfl (c_lit 1 1 rfl) ⟨by decide, by decide⟩ hF (fun h2 σ2 R2 T2 hF => ?_)
      refine s_pZ R2 (t_94 R2.S) (Nat.le_of_ble_eq_true rfl) rfl rfl rl1 hF (fun h3 σ4 R3 T3 hF => ?_)
      refine s_pJ R3 (t_94 R3.S) (Nat.le_of_ble_eq_true rfl) rfl (d_lit 0 0 rfl) ⟨by decide, by decide⟩ hF (fun h4 σ6 R4 T4 hF => ?_)
      refine s_pJ R4 (t_94 R4.S) (Nat.le_of_ble_eq_true rfl) rfl (d_lit 0 0 rfl) ⟨by decide, by decide⟩ hF (fun h5 σ8 R5 T5 hF => ?_)
      refine s_pJ R5 (t_94 R5.S) (Nat.le_of_ble_eq_true rfl) rfl (d_lit 0 0 rfl) ⟨by decide, by decide⟩ hF (fun h6 σ10 R6 T6 hF => ?_)
      refine s_pJ R6 (t_94 R6.S) (Nat.le_of_ble_eq_true rfl) rfl (d_lit 0 0 rfl) ⟨by decide, by decide⟩ hF (fun h7 σ12 R7 T7 hF => ?_)
      exact g_ret R7 hF trivial
    ·
      refine s_gAs R (t_94 R.S) (Nat.le_of_ble_eq_true rfl) rfl (o_94_2 R.S) (a_95 R) ?_
      refine s_qJ R (u_95 R.S).1 (u_95 R.S).2 (a_95 R) rfl rl2 (d_lit 0 0 rfl) ⟨by decide, by decide⟩ hF (fun h9 σ16 R9 T9 hF => ?_)
      refine s_gAs R9 (t_94 R9.S) (Nat.le_of_ble_eq_true rfl) rfl (o_94_3 R9.S) (a_96 R9) ?_
      refine s_qJ R9 (u_96 R9.S).1 (u_96 R9.S).2 (a_96 R9) rfl rl2 (d_lit 0 0 rfl) ⟨by decide, by decide⟩ hF (fun h11 σ20 R11 T11 hF => ?_)
      exact ih R11 rfl rl1 (c_add rfl (c_lit 1 1 rfl)) (rr_I _) hF
def FX19_clear (N : Nat) (p0 : Int) (s : fS) : Option (Unit × fS) :=
  FX19_clear_b2 N N p0 0 s
theorem SX19_clear {m b : Nat} {φ0 : Nat → Nat} {σo : fS} {N : Nat} {q : Unit × fS} {φ : Nat → Nat} {h : eH} {s : fS} {p0' : Int32} {p0 : Int} (R : fC m b φ0 σo φ h s) (ep0 : p0' = iI p0) (rp0 : r32 p0) (hF : FX19_clear N p0 s = some q) : gG m b φ0 σo lU q (fX19_clear N 94 p0' h) := by
  subst ep0
  unfold FX19_clear at hF
  unfold fX19_clear
  exact SX19_clear_b2 (N := N) R rfl rp0 (c_lit 0 0 rfl) ⟨by decide, by decide⟩ hF
def FX1_isSize_b21 (s0 : Int) (s : fS) : Option (Int × fS) :=
  uZ s0 (s0, s)
theorem SX1_isSize_b21 {m b : Nat} {φ0 : Nat → Nat} {σo : fS} {q : Int × fS} {φ : Nat → Nat} {h : eH} {s : fS} {s0' : Int32} {s0 : Int} (R : fC m b φ0 σo φ h s) (es0 : s0' = iI s0) (rs0 : r32 s0) (hF : FX1_isSize_b21 s0 s = some q) : gG m b φ0 σo lI q (fX1_isSize_b21 s0' h) := by
  subst es0
  unfold FX1_isSize_b21 at hF
  unfold fX1_isSize_b21
  exact g_z R rfl hF ⟨rfl, rs0⟩
def FX1_isSize_b20 (s : fS) : Option (Int × fS) :=
  FX1_isSize_b21 0 s
theorem SX1_isSize_b20 {m b : Nat} {φ0 : Nat → Nat} {σo : fS} {q : Int × fS} {φ : Nat → Nat} {h : eH} {s : fS} (R : fC m b φ0 σo φ h s) (hF : FX1_isSize_b20 s = some q) : gG m b φ0 σo lI q (fX1_isSize_b20 h) := by
  unfold FX1_isSize_b20 at hF
  unfold fX1_isSize_b20
  exact SX1_isSize_b21 R (c_lit 0 0 rfl) ⟨by decide, by decide⟩ hF
def FX1_isSize (p0 : Int) (s : fS) : Option (Int × fS) :=
  if p0 < (-1073741823) then
    FX1_isSize_b20 s
  else
    if 1073741823 < p0 then
      FX1_isSize_b20 s
    else
      FX1_isSize_b21 1 s
theorem SX1_isSize {m b : Nat} {φ0 : Nat → Nat} {σo : fS} {q : Int × fS} {φ : Nat → Nat} {h : eH} {s : fS} {p0' : Int64} {p0 : Int} (R : fC m b φ0 σo φ h s) (ep0 : p0' = iJ p0) (rp0 : r64 p0) (hF : FX1_isSize p0 s = some q) : gG m b φ0 σo lI q (fX1_isSize p0' h) := by
  subst ep0
  unfold FX1_isSize at hF
  unfold fX1_isSize
  refine s_if (lg_lt.trans (j_lt rfl (d_lit (-1073741823) (-1073741823) rfl) rp0 ⟨by decide, by decide⟩)) hF (fun c1 hF => ?_) (fun c1 hF => ?_)
  ·
    exact SX1_isSize_b20 R hF
  ·
    refine s_if ((lg_cmp_gt _ _).trans (j_lt (d_lit 1073741823 1073741823 rfl) rfl ⟨by decide, by decide⟩ rp0)) hF (fun c2 hF => ?_) (fun c2 hF => ?_)
    ·
      exact SX1_isSize_b20 R hF
    ·
      exact SX1_isSize_b21 R (c_lit 1 1 rfl) ⟨by decide, by decide⟩ hF
def FX19_sum (p0 : Int) (p1 : Int) (s : fS) : Option (Int × fS) :=
  (FX1_isSize (ladd p0 p1) s).bind fun q3 =>
  (uPZ q3.2 94 4 (iand (s.i 94 4) q3.1)).bind fun σ4 =>
  some ((ladd p0 p1), σ4)
theorem SX19_sum {m b : Nat} {φ0 : Nat → Nat} {σo : fS} {q : Int × fS} {φ : Nat → Nat} {h : eH} {s : fS} {p0' : Int64} {p0 : Int} {p1' : Int64} {p1 : Int} (R : fC m b φ0 σo φ h s) (ep0 : p0' = iJ p0) (rp0 : r64 p0) (ep1 : p1' = iJ p1) (rp1 : r64 p1) (hF : FX19_sum p0 p1 s = some q) : gG m b φ0 σo lJ q (fX19_sum 94 p0' p1' h) := by
  subst ep0; subst ep1
  unfold FX19_sum at hF
  unfold fX19_sum
  refine s_gI R (t_94 R.S) (Nat.le_of_ble_eq_true rfl) rfl ?_
  refine s_call R (Nat.zero_le _) (fun _ hq => SX1_isSize (b := 0) (R.rf) (d_add rfl rfl) (rr_J _) hq) hF (fun f2 rv2 h2 q3 R2 e2 E2 hF => ?_)
  refine s_pZ R2 (t_94 R2.S) (Nat.le_of_ble_eq_true rfl) rfl (c_and rfl e2.1) (rr_I _) hF (fun h3 σ4 R3 T3 hF => ?_)
  exact g_ret R3 hF ⟨(d_add rfl rfl), (rr_J _)⟩
def FX19_addSolid (p0 : Int) (p1 : Int) (p2 : Int) (s : fS) : Option (Unit × fS) :=
  if ¬ ((s.i 94 5) = 0) then
    (FX19_sum (s.j 94 6) (s.j 94 9) s).bind fun q9 =>
    (uPJ q9.2 94 6 q9.1).bind fun σ10 =>
    (FX19_sum (σ10.j 94 6) p1 σ10).bind fun q15 =>
    (uPJ q15.2 94 6 q15.1).bind fun σ16 =>
    (uPJ σ16 94 9 p2).bind fun σ18 =>
    some ((), σ18)
  else
    (FX19_sum (s.j 94 6) p0 s).bind fun q23 =>
    (uPJ q23.2 94 6 q23.1).bind fun σ24 =>
    (uPJ σ24 94 7 (lmax (σ24.j 94 7) p1)).bind fun σ28 =>
    (uPJ σ28 94 8 (lmax (σ28.j 94 8) p2)).bind fun σ32 =>
    some ((), σ32)
theorem SX19_addSolid {m b : Nat} {φ0 : Nat → Nat} {σo : fS} {q : Unit × fS} {φ : Nat → Nat} {h : eH} {s : fS} {p0' : Int32} {p0 : Int} {p1' : Int64} {p1 : Int} {p2' : Int64} {p2 : Int} (R : fC m b φ0 σo φ h s) (ep0 : p0' = iI p0) (rp0 : r32 p0) (ep1 : p1' = iJ p1) (rp1 : r64 p1) (ep2 : p2' = iJ p2) (rp2 : r64 p2) (hF : FX19_addSolid p0 p1 p2 s = some q) : gG m b φ0 σo lU q (fX19_addSolid 94 p0' p1' p2' h) := by
  subst ep0; subst ep1; subst ep2
  unfold FX19_addSolid at hF
  unfold fX19_addSolid
  refine s_gI R (t_94 R.S) (Nat.le_of_ble_eq_true rfl) rfl ?_
  refine s_if (not_congr (i_eq rfl (c_lit 0 0 rfl) (R.ri (t_94 R.S) (Nat.le_of_ble_eq_true rfl) rfl) ⟨by decide, by decide⟩)) hF (fun c2 hF => ?_) (fun c2 hF => ?_)
  ·
    refine s_gJ R (t_94 R.S) (Nat.le_of_ble_eq_true rfl) rfl ?_
    refine s_gJ R (t_94 R.S) (Nat.le_of_ble_eq_true rfl) rfl ?_
    refine s_kok R (t_94 R.S) (Nat.le_of_ble_eq_true rfl) ?_
    refine s_call R (Nat.zero_le _) (fun _ hq => SX19_sum (b := 0) (R.rf) rfl (R.rj (t_94 R.S) (Nat.le_of_ble_eq_true rfl) rfl) rfl (R.rj (t_94 R.S) (Nat.le_of_ble_eq_true rfl) rfl) hq) hF (fun f6 rv6 h6 q9 R6 e6 E6 hF => ?_)
    refine s_pJ R6 (t_94 R6.S) (Nat.le_of_ble_eq_true rfl) rfl e6.1 e6.2 hF (fun h7 σ10 R7 T7 hF => ?_)
    refine s_gJ R7 (t_94 R7.S) (Nat.le_of_ble_eq_true rfl) rfl ?_
    refine s_kok R7 (t_94 R7.S) (Nat.le_of_ble_eq_true rfl) ?_
    refine s_call R7 (Nat.zero_le _) (fun _ hq => SX19_sum (b := 0) (R7.rf) rfl (R7.rj (t_94 R7.S) (Nat.le_of_ble_eq_true rfl) rfl) rfl rp1 hq) hF (fun f10 rv10 h10 q15 R10 e10 E10 hF => ?_)
    refine s_pJ R10 (t_94 R10.S) (Nat.le_of_ble_eq_true rfl) rfl e10.1 e10.2 hF (fun h11 σ16 R11 T11 hF => ?_)
    refine s_pJ R11 (t_94 R11.S) (Nat.le_of_ble_eq_true rfl) rfl rfl rp2 hF (fun h12 σ18 R12 T12 hF => ?_)
    exact g_ret R12 hF trivial
  ·
    refine s_gJ R (t_94 R.S) (Nat.le_of_ble_eq_true rfl) rfl ?_
    refine s_kok R (t_94 R.S) (Nat.le_of_ble_eq_true rfl) ?_
    refine s_call R (Nat.zero_le _) (fun _ hq => SX19_sum (b := 0) (R.rf) rfl (R.rj (t_94 R.S) (Nat.le_of_ble_eq_true rfl) rfl) (c_2l rfl rp0) (r32.w rp0) hq) hF (fun f15 rv15 h15 q23 R15 e15 E15 hF => ?_)
    refine s_pJ R15 (t_94 R15.S) (Nat.le_of_ble_eq_true rfl) rfl e15.1 e15.2 hF (fun h16 σ24 R16 T16 hF => ?_)
    refine s_gJ R16 (t_94 R16.S) (Nat.le_of_ble_eq_true rfl) rfl ?_
    refine s_pJ R16 (t_94 R16.S) (Nat.le_of_ble_eq_true rfl) rfl (d_max rfl rfl (R16.rj (t_94 R16.S) (Nat.le_of_ble_eq_true rfl) rfl) rp1) (q_max (R16.rj (t_94 R16.S) (Nat.le_of_ble_eq_true rfl) rfl) rp1) hF (fun h18 σ28 R18 T18 hF => ?_)
    refine s_gJ R18 (t_94 R18.S) (Nat.le_of_ble_eq_true rfl) rfl ?_
    refine s_pJ R18 (t_94 R18.S) (Nat.le_of_ble_eq_true rfl) rfl (d_max rfl rfl (R18.rj (t_94 R18.S) (Nat.le_of_ble_eq_true rfl) rfl) rp2) (q_max (R18.rj (t_94 R18.S) (Nat.le_of_ble_eq_true rfl) rfl) rp2) hF (fun h20 σ32 R20 T20 hF => ?_)
    exact g_ret R20 hF trivial
def FX19_addRule_b73 (s : fS) : Option (Unit × fS) :=
  some ((), s)
theorem SX19_addRule_b73 {m b : Nat} {φ0 : Nat → Nat} {σo : fS} {q : Unit × fS} {φ : Nat → Nat} {h : eH} {s : fS} (R : fC m b φ0 σo φ h s) (hF : FX19_addRule_b73 s = some q) : gG m b φ0 σo lU q (fX19_addRule_b73 h) := by
  unfold FX19_addRule_b73 at hF
  unfold fX19_addRule_b73
  exact g_ret R hF trivial
def FX19_addRule (p0 : Int) (s : fS) : Option (Unit × fS) :=
  (FX7_solid p0 0 s).bind fun q4 =>
  (FX7_solid p0 1 q4.2).bind fun q8 =>
  (FX7_solid p0 2 q8.2).bind fun q12 =>
  (FX19_addSolid q4.1 q8.1 q12.1 q12.2).bind fun q14 =>
  if (q14.2.i 94 5) = 0 then
    FX19_addRule_b73 q14.2
  else
    (FX7_isRunning p0 0 q14.2).bind fun q21 =>
    if ¬ (q21.1 = 0) then
      FX19_addRule_b73 q21.2
    else
      (FX7_of p0 0 q21.2).bind fun q28 =>
      (uPJ q28.2 94 7 (lmax (q21.2.j 94 7) q28.1)).bind fun σ29 =>
      FX19_addRule_b73 σ29
theorem SX19_addRule {m b : Nat} {φ0 : Nat → Nat} {σo : fS} {q : Unit × fS} {φ : Nat → Nat} {h : eH} {s : fS} {p0' : Int32} {p0 : Int} (R : fC m b φ0 σo φ h s) (ep0 : p0' = iI p0) (rp0 : r32 p0) (hF : FX19_addRule p0 s = some q) : gG m b φ0 σo lU q (fX19_addRule 94 p0' h) := by
  subst ep0
  unfold FX19_addRule at hF
  unfold fX19_addRule
  refine s_gO R (t_94 R.S) (Nat.le_of_ble_eq_true rfl) rfl (o_94_0 R.S) ?_
  refine s_kok R (t_17 R.S) (Nat.le_of_ble_eq_true rfl) ?_
  refine s_call R (Nat.zero_le _) (fun _ hq => SX7_solid (b := 0) (R.rf) rfl rp0 (c_lit 0 0 rfl) ⟨by decide, by decide⟩ hq) hF (fun f3 rv3 h3 q4 R3 e3 E3 hF => ?_)
  refine s_gO R3 (t_94 R3.S) (Nat.le_of_ble_eq_true rfl) rfl (o_94_0 R3.S) ?_
  refine s_kok R3 (t_17 R3.S) (Nat.le_of_ble_eq_true rfl) ?_
  refine s_call R3 (Nat.zero_le _) (fun _ hq => SX7_solid (b := 0) (R3.rf) rfl rp0 (c_lit 1 1 rfl) ⟨by decide, by decide⟩ hq) hF (fun f6 rv6 h6 q8 R6 e6 E6 hF => ?_)
  refine s_gO R6 (t_94 R6.S) (Nat.le_of_ble_eq_true rfl) rfl (o_94_0 R6.S) ?_
  refine s_kok R6 (t_17 R6.S) (Nat.le_of_ble_eq_true rfl) ?_
  refine s_call R6 (Nat.zero_le _) (fun _ hq => SX7_solid (b := 0) (R6.rf) rfl rp0 (c_lit 2 2 rfl) ⟨by decide, by decide⟩ hq) hF (fun f9 rv9 h9 q12 R9 e9 E9 hF => ?_)
  refine s_kok R9 (t_94 R9.S) (Nat.le_of_ble_eq_true rfl) ?_
  refine s_call R9 (Nat.zero_le _) (fun _ hq => SX19_addSolid (b := 0) (R9.rf) e3.1 e3.2 (c_2l e6.1 e6.2) (r32.w e6.2) (c_2l e9.1 e9.2) (r32.w e9.2) hq) hF (fun f11 rv11 h11 q14 R11 e11 E11 hF => ?_)
  refine s_gI R11 (t_94 R11.S) (Nat.le_of_ble_eq_true rfl) rfl ?_
  refine s_if (i_eq rfl (c_lit 0 0 rfl) (R11.ri (t_94 R11.S) (Nat.le_of_ble_eq_true rfl) rfl) ⟨by decide, by decide⟩) hF (fun c13 hF => ?_) (fun c13 hF => ?_)
  ·
    exact SX19_addRule_b73 R11 hF
  ·
    refine s_gO R11 (t_94 R11.S) (Nat.le_of_ble_eq_true rfl) rfl (o_94_0 R11.S) ?_
    refine s_kok R11 (t_17 R11.S) (Nat.le_of_ble_eq_true rfl) ?_
    refine s_call R11 (Nat.zero_le _) (fun _ hq => SX7_isRunning (b := 0) (R11.rf) rfl rp0 (c_lit 0 0 rfl) ⟨by decide, by decide⟩ hq) hF (fun f16 rv16 h16 q21 R16 e16 E16 hF => ?_)
    refine s_if (not_congr (i_eq e16.1 (c_lit 0 0 rfl) e16.2 ⟨by decide, by decide⟩)) hF (fun c17 hF => ?_) (fun c17 hF => ?_)
    ·
      exact SX19_addRule_b73 R16 hF
    ·
      refine s_gJ R16 (t_94 R16.S) (Nat.le_of_ble_eq_true rfl) rfl ?_
      refine s_gO R16 (t_94 R16.S) (Nat.le_of_ble_eq_true rfl) rfl (o_94_0 R16.S) ?_
      refine s_kok R16 (t_17 R16.S) (Nat.le_of_ble_eq_true rfl) ?_
      refine s_call R16 (Nat.zero_le _) (fun _ hq => SX7_of (b := 0) (R16.rf) rfl rp0 (c_lit 0 0 rfl) ⟨by decide, by decide⟩ hq) hF (fun f21 rv21 h21 q28 R21 e21 E21 hF => ?_)
      refine s_pJ R21 (t_94 R21.S) (Nat.le_of_ble_eq_true rfl) rfl (d_max rfl (c_2l e21.1 e21.2) (R16.rj (t_94 R16.S) (Nat.le_of_ble_eq_true rfl) rfl) (r32.w e21.2)) (q_max (R16.rj (t_94 R16.S) (Nat.le_of_ble_eq_true rfl) rfl) (r32.w e21.2)) hF (fun h22 σ29 R22 T22 hF => ?_)
      exact SX19_addRule_b73 R22 hF
def FX19_addSpace (p0 : Int) (s : fS) : Option (Unit × fS) :=
  (FX19_sum (s.j 94 6) (s.j 94 9) s).bind fun q6 =>
  (uPJ q6.2 94 6 q6.1).bind fun σ7 =>
  (FX19_sum (σ7.j 94 6) p0 σ7).bind fun q12 =>
  (uPJ q12.2 94 6 q12.1).bind fun σ13 =>
  (uPJ σ13 94 9 0).bind fun σ15 =>
  some ((), σ15)
theorem SX19_addSpace {m b : Nat} {φ0 : Nat → Nat} {σo : fS} {q : Unit × fS} {φ : Nat → Nat} {h : eH} {s : fS} {p0' : Int32} {p0 : Int} (R : fC m b φ0 σo φ h s) (ep0 : p0' = iI p0) (rp0 : r32 p0) (hF : FX19_addSpace p0 s = some q) : gG m b φ0 σo lU q (fX19_addSpace 94 p0' h) := by
  subst ep0
  unfold FX19_addSpace at hF
  unfold fX19_addSpace
  refine s_gJ R (t_94 R.S) (Nat.le_of_ble_eq_true rfl) rfl ?_
  refine s_gJ R (t_94 R.S) (Nat.le_of_ble_eq_true rfl) rfl ?_
  refine s_kok R (t_94 R.S) (Nat.le_of_ble_eq_true rfl) ?_
  refine s_call R (Nat.zero_le _) (fun _ hq => SX19_sum (b := 0) (R.rf) rfl (R.rj (t_94 R.S) (Nat.le_of_ble_eq_true rfl) rfl) rfl (R.rj (t_94 R.S) (Nat.le_of_ble_eq_true rfl) rfl) hq) hF (fun f4 rv4 h4 q6 R4 e4 E4 hF => ?_)
  refine s_pJ R4 (t_94 R4.S) (Nat.le_of_ble_eq_true rfl) rfl e4.1 e4.2 hF (fun h5 σ7 R5 T5 hF => ?_)
  refine s_gJ R5 (t_94 R5.S) (Nat.le_of_ble_eq_true rfl) rfl ?_
  refine s_kok R5 (t_94 R5.S) (Nat.le_of_ble_eq_true rfl) ?_
  refine s_call R5 (Nat.zero_le _) (fun _ hq => SX19_sum (b := 0) (R5.rf) rfl (R5.rj (t_94 R5.S) (Nat.le_of_ble_eq_true rfl) rfl) (c_2l rfl rp0) (r32.w rp0) hq) hF (fun f8 rv8 h8 q12 R8 e8 E8 hF => ?_)
  refine s_pJ R8 (t_94 R8.S) (Nat.le_of_ble_eq_true rfl) rfl e8.1 e8.2 hF (fun h9 σ13 R9 T9 hF => ?_)
  refine s_pJ R9 (t_94 R9.S) (Nat.le_of_ble_eq_true rfl) rfl (d_lit 0 0 rfl) ⟨by decide, by decide⟩ hF (fun h10 σ15 R10 T10 hF => ?_)
  exact g_ret R10 hF trivial
def FX19_addBox_b81 (s : fS) : Option (Unit × fS) :=
  some ((), s)
theorem SX19_addBox_b81 {m b : Nat} {φ0 : Nat → Nat} {σo : fS} {q : Unit × fS} {φ : Nat → Nat} {h : eH} {s : fS} (R : fC m b φ0 σo φ h s) (hF : FX19_addBox_b81 s = some q) : gG m b φ0 σo lU q (fX19_addBox_b81 h) := by
  unfold FX19_addBox_b81 at hF
  unfold fX19_addBox_b81
  exact g_ret R hF trivial
def FX19_addBox (p0 : Nat) (p1 : Int) (s : fS) : Option (Unit × fS) :=
  if (s.i 94 5) = 0 then
    (uK 41 s p0).bind fun _ =>
    (uK 41 s p0).bind fun _ =>
    (FX19_sum (s.i p0 4) (ineg p1) s).bind fun q9 =>
    (uK 41 q9.2 p0).bind fun _ =>
    (FX19_sum (q9.2.i p0 5) p1 q9.2).bind fun q13 =>
    (FX19_addSolid (s.i p0 3) q9.1 q13.1 q13.2).bind fun q15 =>
    FX19_addBox_b81 q15.2
  else
    (uK 41 s p0).bind fun _ =>
    (uK 41 s p0).bind fun _ =>
    (uK 41 s p0).bind fun _ =>
    (FX19_addSolid (s.i p0 3) (s.i p0 4) (s.i p0 5) s).bind fun q23 =>
    (uK 41 q23.2 p0).bind fun _ =>
    (FX19_sum (q23.2.i p0 3) p1 q23.2).bind fun q29 =>
    (uPJ q29.2 94 7 (lmax (q23.2.j 94 7) q29.1)).bind fun σ30 =>
    FX19_addBox_b81 σ30
theorem SX19_addBox {m b : Nat} {φ0 : Nat → Nat} {σo : fS} {q : Unit × fS} {φ : Nat → Nat} {h : eH} {s : fS} {p0 : Nat} {p1' : Int32} {p1 : Int} (R : fC m b φ0 σo φ h s) (ep1 : p1' = iI p1) (rp1 : r32 p1) (hF : FX19_addBox p0 p1 s = some q) : gG m b φ0 σo lU q (fX19_addBox 94 p0 p1' h) := by
  subst ep1
  unfold FX19_addBox at hF
  unfold fX19_addBox
  refine s_gI R (t_94 R.S) (Nat.le_of_ble_eq_true rfl) rfl ?_
  refine s_if (i_eq rfl (c_lit 0 0 rfl) (R.ri (t_94 R.S) (Nat.le_of_ble_eq_true rfl) rfl) ⟨by decide, by decide⟩) hF (fun c2 hF => ?_) (fun c2 hF => ?_)
  ·
    refine s_K hF (fun t4 hF => ?_)
    refine s_gI R t4 (Nat.le_of_ble_eq_true rfl) rfl ?_
    refine s_K hF (fun t6 hF => ?_)
    refine s_gI R t6 (Nat.le_of_ble_eq_true rfl) rfl ?_
    refine s_kok R (t_94 R.S) (Nat.le_of_ble_eq_true rfl) ?_
    refine s_call R (Nat.zero_le _) (fun _ hq => SX19_sum (b := 0) (R.rf) (c_2l rfl (R.ri t6 (Nat.le_of_ble_eq_true rfl) rfl)) (r32.w (R.ri t6 (Nat.le_of_ble_eq_true rfl) rfl)) (c_2l (c_neg rfl) (rr_I _)) (r32.w (rr_I _)) hq) hF (fun f8 rv8 h8 q9 R8 e8 E8 hF => ?_)
    refine s_K hF (fun t10 hF => ?_)
    refine s_gI R8 t10 (Nat.le_of_ble_eq_true rfl) rfl ?_
    refine s_kok R8 (t_94 R8.S) (Nat.le_of_ble_eq_true rfl) ?_
    refine s_call R8 (Nat.zero_le _) (fun _ hq => SX19_sum (b := 0) (R8.rf) (c_2l rfl (R8.ri t10 (Nat.le_of_ble_eq_true rfl) rfl)) (r32.w (R8.ri t10 (Nat.le_of_ble_eq_true rfl) rfl)) (c_2l rfl rp1) (r32.w rp1) hq) hF (fun f12 rv12 h12 q13 R12 e12 E12 hF => ?_)
    refine s_kok R12 (t_94 R12.S) (Nat.le_of_ble_eq_true rfl) ?_
    refine s_call R12 (Nat.zero_le _) (fun _ hq => SX19_addSolid (b := 0) (R12.rf) rfl (R.ri t4 (Nat.le_of_ble_eq_true rfl) rfl) e8.1 e8.2 e12.1 e12.2 hq) hF (fun f14 rv14 h14 q15 R14 e14 E14 hF => ?_)
    exact SX19_addBox_b81 R14 hF
  ·
    refine s_K hF (fun t16 hF => ?_)
    refine s_gI R t16 (Nat.le_of_ble_eq_true rfl) rfl ?_
    refine s_K hF (fun t18 hF => ?_)
    refine s_gI R t18 (Nat.le_of_ble_eq_true rfl) rfl ?_
    refine s_K hF (fun t20 hF => ?_)
    refine s_gI R t20 (Nat.le_of_ble_eq_true rfl) rfl ?_
    refine s_kok R (t_94 R.S) (Nat.le_of_ble_eq_true rfl) ?_
    refine s_call R (Nat.zero_le _) (fun _ hq => SX19_addSolid (b := 0) (R.rf) rfl (R.ri t16 (Nat.le_of_ble_eq_true rfl) rfl) (c_2l rfl (R.ri t18 (Nat.le_of_ble_eq_true rfl) rfl)) (r32.w (R.ri t18 (Nat.le_of_ble_eq_true rfl) rfl)) (c_2l rfl (R.ri t20 (Nat.le_of_ble_eq_true rfl) rfl)) (r32.w (R.ri t20 (Nat.le_of_ble_eq_true rfl) rfl)) hq) hF (fun f22 rv22 h22 q23 R22 e22 E22 hF => ?_)
    refine s_gJ R22 (t_94 R22.S) (Nat.le_of_ble_eq_true rfl) rfl ?_
    refine s_K hF (fun t25 hF => ?_)
    refine s_gI R22 t25 (Nat.le_of_ble_eq_true rfl) rfl ?_
    refine s_kok R22 (t_94 R22.S) (Nat.le_of_ble_eq_true rfl) ?_
    refine s_call R22 (Nat.zero_le _) (fun _ hq => SX19_sum (b := 0) (R22.rf) (c_2l rfl (R22.ri t25 (Nat.le_of_ble_eq_true rfl) rfl)) (r32.w (R22.ri t25 (Nat.le_of_ble_eq_true rfl) rfl)) (c_2l rfl rp1) (r32.w rp1) hq) hF (fun f27 rv27 h27 q29 R27 e27 E27 hF => ?_)
    refine s_pJ R27 (t_94 R27.S) (Nat.le_of_ble_eq_true rfl) rfl (d_max rfl e27.1 (R22.rj (t_94 R22.S) (Nat.le_of_ble_eq_true rfl) rfl) e27.2) (q_max (R22.rj (t_94 R22.S) (Nat.le_of_ble_eq_true rfl) rfl) e27.2) hF (fun h28 σ30 R28 T28 hF => ?_)
    exact SX19_addBox_b81 R28 hF
def FX19_add_b255 (s : fS) : Option (Unit × fS) :=
  some ((), s)
theorem SX19_add_b255 {m b : Nat} {φ0 : Nat → Nat} {σo : fS} {q : Unit × fS} {φ : Nat → Nat} {h : eH} {s : fS} (R : fC m b φ0 σo φ h s) (hF : FX19_add_b255 s = some q) : gG m b φ0 σo lU q (fX19_add_b255 h) := by
  unfold FX19_add_b255 at hF
  unfold fX19_add_b255
  exact g_ret R hF trivial
def FX19_add (p0 : Int) (s : fS) : Option (Unit × fS) :=
  (FX7_kind p0 s).bind fun q4 =>
  if q4.1 = 0 then
    (FX7_of p0 1 q4.2).bind fun q9 =>
    (FX7_of p0 2 q9.2).bind fun q13 =>
    (FX7_of p0 3 q13.2).bind fun q17 =>
    (FX19_addSolid q9.1 q13.1 q17.1 q17.2).bind fun q19 =>
    if (q19.2.i 94 5) = 0 then
      FX19_add_b255 q19.2
    else
      (FX7_of p0 1 q19.2).bind fun q28 =>
      (uPJ q28.2 94 7 (lmax (q19.2.j 94 7) q28.1)).bind fun σ29 =>
      FX19_add_b255 σ29
  else
    if q4.1 = 1 then
      (FX19_addRule p0 q4.2).bind fun q33 =>
      FX19_add_b255 q33.2
    else
      if q4.1 = 2 then
        (FX7_of p0 0 q4.2).bind fun q38 =>
        (FX19_addSpace q38.1 q38.2).bind fun q40 =>
        (FX7_of p0 2 q40.2).bind fun q46 =>
        (FX7_of p0 2 q46.2).bind fun q52 =>
        (uRJ q52.2 95 q52.1).bind fun x53 =>
        (FX7_of p0 1 q52.2).bind fun q58 =>
        (FX19_sum x53 q58.1 q58.2).bind fun q60 =>
        (uQJ q60.2 95 q46.1 q60.1).bind fun σ61 =>
        (FX7_of p0 4 σ61).bind fun q68 =>
        (FX7_of p0 4 q68.2).bind fun q74 =>
        (uRJ q74.2 96 q74.1).bind fun x75 =>
        (FX7_of p0 3 q74.2).bind fun q80 =>
        (FX19_sum x75 q80.1 q80.2).bind fun q82 =>
        (uQJ q82.2 96 q68.1 q82.1).bind fun σ83 =>
        FX19_add_b255 σ83
      else
        if q4.1 = 3 then
          (FX7_of p0 0 q4.2).bind fun q89 =>
          (FX19_addSpace q89.1 q89.2).bind fun q91 =>
          FX19_add_b255 q91.2
        else
          (FX7_of p0 0 q4.2).bind fun q97 =>
          (uRO q97.2 21 q97.1).bind fun a98 =>
          (FX7_of p0 1 q97.2).bind fun q103 =>
          (FX19_addBox a98 q103.1 q103.2).bind fun q105 =>
          FX19_add_b255 q105.2
theorem SX19_add {m b : Nat} {φ0 : Nat → Nat} {σo : fS} {q : Unit × fS} {φ : Nat → Nat} {h : eH} {s : fS} {p0' : Int32} {p0 : Int} (R : fC m b φ0 σo φ h s) (ep0 : p0' = iI p0) (rp0 : r32 p0) (hF : FX19_add p0 s = some q) : gG m b φ0 σo lU q (fX19_add 94 p0' h) := by
  subst ep0
  unfold FX19_add at hF
  unfold fX19_add
  refine s_gO R (t_94 R.S) (Nat.le_of_ble_eq_true rfl) rfl (o_94_0 R.S) ?_
  refine s_kok R (t_17 R.S) (Nat.le_of_ble_eq_true rfl) ?_
  refine s_call R (Nat.zero_le _) (fun _ hq => SX7_kind (b := 0) (R.rf) rfl rp0 hq) hF (fun f3 rv3 h3 q4 R3 e3 E3 hF => ?_)
  refine s_if (i_eq e3.1 (c_lit 0 0 rfl) e3.2 ⟨by decide, by decide⟩) hF (fun c4 hF => ?_) (fun c4 hF => ?_)
  ·
    refine s_gO R3 (t_94 R3.S) (Nat.le_of_ble_eq_true rfl) rfl (o_94_0 R3.S) ?_
    refine s_kok R3 (t_17 R3.S) (Nat.le_of_ble_eq_true rfl) ?_
    refine s_call R3 (Nat.zero_le _) (fun _ hq => SX7_of (b := 0) (R3.rf) rfl rp0 (c_lit 1 1 rfl) ⟨by decide, by decide⟩ hq) hF (fun f7 rv7 h7 q9 R7 e7 E7 hF => ?_)
    refine s_gO R7 (t_94 R7.S) (Nat.le_of_ble_eq_true rfl) rfl (o_94_0 R7.S) ?_
    refine s_kok R7 (t_17 R7.S) (Nat.le_of_ble_eq_true rfl) ?_
    refine s_call R7 (Nat.zero_le _) (fun _ hq => SX7_of (b := 0) (R7.rf) rfl rp0 (c_lit 2 2 rfl) ⟨by decide, by decide⟩ hq) hF (fun f10 rv10 h10 q13 R10 e10 E10 hF => ?_)
    refine s_gO R10 (t_94 R10.S) (Nat.le_of_ble_eq_true rfl) rfl (o_94_0 R10.S) ?_
    refine s_kok R10 (t_17 R10.S) (Nat.le_of_ble_eq_true rfl) ?_
    refine s_call R10 (Nat.zero_le _) (fun _ hq => SX7_of (b := 0) (R10.rf) rfl rp0 (c_lit 3 3 rfl) ⟨by decide, by decide⟩ hq) hF (fun f13 rv13 h13 q17 R13 e13 E13 hF => ?_)
    refine s_kok R13 (t_94 R13.S) (Nat.le_of_ble_eq_true rfl) ?_
    refine s_call R13 (Nat.zero_le _) (fun _ hq => SX19_addSolid (b := 0) (R13.rf) e7.1 e7.2 (c_2l e10.1 e10.2) (r32.w e10.2) (c_2l e13.1 e13.2) (r32.w e13.2) hq) hF (fun f15 rv15 h15 q19 R15 e15 E15 hF => ?_)
    refine s_gI R15 (t_94 R15.S) (Nat.le_of_ble_eq_true rfl) rfl ?_
    refine s_if (i_eq rfl (c_lit 0 0 rfl) (R15.ri (t_94 R15.S) (Nat.le_of_ble_eq_true rfl) rfl) ⟨by decide, by decide⟩) hF (fun c17 hF => ?_) (fun c17 hF => ?_)
    ·
      exact SX19_add_b255 R15 hF
    ·
      refine s_gJ R15 (t_94 R15.S) (Nat.le_of_ble_eq_true rfl) rfl ?_
      refine s_gO R15 (t_94 R15.S) (Nat.le_of_ble_eq_true rfl) rfl (o_94_0 R15.S) ?_
      refine s_kok R15 (t_17 R15.S) (Nat.le_of_ble_eq_true rfl) ?_
      refine s_call R15 (Nat.zero_le _) (fun _ hq => SX7_of (b := 0) (R15.rf) rfl rp0 (c_lit 1 1 rfl) ⟨by decide, by decide⟩ hq) hF (fun f21 rv21 h21 q28 R21 e21 E21 hF => ?_)
      refine s_pJ R21 (t_94 R21.S) (Nat.le_of_ble_eq_true rfl) rfl (d_max rfl (c_2l e21.1 e21.2) (R15.rj (t_94 R15.S) (Nat.le_of_ble_eq_true rfl) rfl) (r32.w e21.2)) (q_max (R15.rj (t_94 R15.S) (Nat.le_of_ble_eq_true rfl) rfl) (r32.w e21.2)) hF (fun h22 σ29 R22 T22 hF => ?_)
      exact SX19_add_b255 R22 hF
  ·
    refine s_if (i_eq e3.1 (c_lit 1 1 rfl) e3.2 ⟨by decide, by decide⟩) hF (fun c23 hF => ?_) (fun c23 hF => ?_)
    ·
      refine s_kok R3 (t_94 R3.S) (Nat.le_of_ble_eq_true rfl) ?_
      refine s_call R3 (Nat.zero_le _) (fun _ hq => SX19_addRule (b := 0) (R3.rf) rfl rp0 hq) hF (fun f25 rv25 h25 q33 R25 e25 E25 hF => ?_)
      exact SX19_add_b255 R25 hF
    ·
      refine s_if (i_eq e3.1 (c_lit 2 2 rfl) e3.2 ⟨by decide, by decide⟩) hF (fun c26 hF => ?_) (fun c26 hF => ?_)
      ·
        refine s_gO R3 (t_94 R3.S) (Nat.le_of_ble_eq_true rfl) rfl (o_94_0 R3.S) ?_
        refine s_kok R3 (t_17 R3.S) (Nat.le_of_ble_eq_true rfl) ?_
        refine s_call R3 (Nat.zero_le _) (fun _ hq => SX7_of (b := 0) (R3.rf) rfl rp0 (c_lit 0 0 rfl) ⟨by decide, by decide⟩ hq) hF (fun f29 rv29 h29 q38 R29 e29 E29 hF => ?_)
        refine s_kok R29 (t_94 R29.S) (Nat.le_of_ble_eq_true rfl) ?_
        refine s_call R29 (Nat.zero_le _) (fun _ hq => SX19_addSpace (b := 0) (R29.rf) e29.1 e29.2 hq) hF (fun f31 rv31 h31 q40 R31 e31 E31 hF => ?_)
        refine s_gAs R31 (t_94 R31.S) (Nat.le_of_ble_eq_true rfl) rfl (o_94_2 R31.S) (a_95 R31) ?_
        refine s_gO R31 (t_94 R31.S) (Nat.le_of_ble_eq_true rfl) rfl (o_94_0 R31.S) ?_
        refine s_kok R31 (t_17 R31.S) (Nat.le_of_ble_eq_true rfl) ?_
        refine s_call R31 (Nat.zero_le _) (fun _ hq => SX7_of (b := 0) (R31.rf) rfl rp0 (c_lit 2 2 rfl) ⟨by decide, by decide⟩ hq) hF (fun f35 rv35 h35 q46 R35 e35 E35 hF => ?_)
        refine s_gAs R35 (t_94 R35.S) (Nat.le_of_ble_eq_true rfl) rfl (o_94_2 R35.S) (a_95 R35) ?_
        refine s_gO R35 (t_94 R35.S) (Nat.le_of_ble_eq_true rfl) rfl (o_94_0 R35.S) ?_
        refine s_kok R35 (t_17 R35.S) (Nat.le_of_ble_eq_true rfl) ?_
        refine s_call R35 (Nat.zero_le _) (fun _ hq => SX7_of (b := 0) (R35.rf) rfl rp0 (c_lit 2 2 rfl) ⟨by decide, by decide⟩ hq) hF (fun f39 rv39 h39 q52 R39 e39 E39 hF => ?_)
        refine s_rJ R39 (u_95 R39.S).1 (u_95 R39.S).2 (a_95 R39) e39.1 e39.2 hF (fun x53 ra40 hF => ?_)
        refine s_gO R39 (t_94 R39.S) (Nat.le_of_ble_eq_true rfl) rfl (o_94_0 R39.S) ?_
        refine s_kok R39 (t_17 R39.S) (Nat.le_of_ble_eq_true rfl) ?_
        refine s_call R39 (Nat.zero_le _) (fun _ hq => SX7_of (b := 0) (R39.rf) rfl rp0 (c_lit 1 1 rfl) ⟨by decide, by decide⟩ hq) hF (fun f43 rv43 h43 q58 R43 e43 E43 hF => ?_)
        refine s_kok R43 (t_94 R43.S) (Nat.le_of_ble_eq_true rfl) ?_
        refine s_call R43 (Nat.zero_le _) (fun _ hq => SX19_sum (b := 0) (R43.rf) rfl ra40 (c_2l e43.1 e43.2) (r32.w e43.2) hq) hF (fun f45 rv45 h45 q60 R45 e45 E45 hF => ?_)
        refine s_qJ R45 (u_95 R45.S).1 (u_95 R45.S).2 (a_95 R45) e35.1 e35.2 e45.1 e45.2 hF (fun h46 σ61 R46 T46 hF => ?_)
        refine s_gAs R46 (t_94 R46.S) (Nat.le_of_ble_eq_true rfl) rfl (o_94_3 R46.S) (a_96 R46) ?_
        refine s_gO R46 (t_94 R46.S) (Nat.le_of_ble_eq_true rfl) rfl (o_94_0 R46.S) ?_
        refine s_kok R46 (t_17 R46.S) (Nat.le_of_ble_eq_true rfl) ?_
        refine s_call R46 (Nat.zero_le _) (fun _ hq => SX7_of (b := 0) (R46.rf) rfl rp0 (c_lit 4 4 rfl) ⟨by decide, by decide⟩ hq) hF (fun f50 rv50 h50 q68 R50 e50 E50 hF => ?_)
        refine s_gAs R50 (t_94 R50.S) (Nat.le_of_ble_eq_true rfl) rfl (o_94_3 R50.S) (a_96 R50) ?_
        refine s_gO R50 (t_94 R50.S) (Nat.le_of_ble_eq_true rfl) rfl (o_94_0 R50.S) ?_
        refine s_kok R50 (t_17 R50.S) (Nat.le_of_ble_eq_true rfl) ?_
        refine s_call R50 (Nat.zero_le _) (fun _ hq => SX7_of (b := 0) (R50.rf) rfl rp0 (c_lit 4 4 rfl) ⟨by decide, by decide⟩ hq) hF (fun f54 rv54 h54 q74 R54 e54 E54 hF => ?_)
        refine s_rJ R54 (u_96 R54.S).1 (u_96 R54.S).2 (a_96 R54) e54.1 e54.2 hF (fun x75 ra55 hF => ?_)
        refine s_gO R54 (t_94 R54.S) (Nat.le_of_ble_eq_true rfl) rfl (o_94_0 R54.S) ?_
        refine s_kok R54 (t_17 R54.S) (Nat.le_of_ble_eq_true rfl) ?_
        refine s_call R54 (Nat.zero_le _) (fun _ hq => SX7_of (b := 0) (R54.rf) rfl rp0 (c_lit 3 3 rfl) ⟨by decide, by decide⟩ hq) hF (fun f58 rv58 h58 q80 R58 e58 E58 hF => ?_)
        refine s_kok R58 (t_94 R58.S) (Nat.le_of_ble_eq_true rfl) ?_
        refine s_call R58 (Nat.zero_le _) (fun _ hq => SX19_sum (b := 0) (R58.rf) rfl ra55 (c_2l e58.1 e58.2) (r32.w e58.2) hq) hF (fun f60 rv60 h60 q82 R60 e60 E60 hF => ?_)
        refine s_qJ R60 (u_96 R60.S).1 (u_96 R60.S).2 (a_96 R60) e50.1 e50.2 e60.1 e60.2 hF (fun h61 σ83 R61 T61 hF => ?_)
        exact SX19_add_b255 R61 hF
      ·
        refine s_if (i_eq e3.1 (c_lit 3 3 rfl) e3.2 ⟨by decide, by decide⟩) hF (fun c62 hF => ?_) (fun c62 hF => ?_)
        ·
          refine s_gO R3 (t_94 R3.S) (Nat.le_of_ble_eq_true rfl) rfl (o_94_0 R3.S) ?_
          refine s_kok R3 (t_17 R3.S) (Nat.le_of_ble_eq_true rfl) ?_
          refine s_call R3 (Nat.zero_le _) (fun _ hq => SX7_of (b := 0) (R3.rf) rfl rp0 (c_lit 0 0 rfl) ⟨by decide, by decide⟩ hq) hF (fun f65 rv65 h65 q89 R65 e65 E65 hF => ?_)
          refine s_kok R65 (t_94 R65.S) (Nat.le_of_ble_eq_true rfl) ?_
          refine s_call R65 (Nat.zero_le _) (fun _ hq => SX19_addSpace (b := 0) (R65.rf) e65.1 e65.2 hq) hF (fun f67 rv67 h67 q91 R67 e67 E67 hF => ?_)
          exact SX19_add_b255 R67 hF
        ·
          refine s_gAs R3 (t_94 R3.S) (Nat.le_of_ble_eq_true rfl) rfl (o_94_1 R3.S) (a_21 R3) ?_
          refine s_gO R3 (t_94 R3.S) (Nat.le_of_ble_eq_true rfl) rfl (o_94_0 R3.S) ?_
          refine s_kok R3 (t_17 R3.S) (Nat.le_of_ble_eq_true rfl) ?_
          refine s_call R3 (Nat.zero_le _) (fun _ hq => SX7_of (b := 0) (R3.rf) rfl rp0 (c_lit 0 0 rfl) ⟨by decide, by decide⟩ hq) hF (fun f71 rv71 h71 q97 R71 e71 E71 hF => ?_)
          refine s_rO R71 (u_21 R71.S).1 (u_21 R71.S).2 rfl (fun _ => rfl) (Nat.le_of_ble_eq_true rfl) (a_21 R71) e71.1 e71.2 hF (fun a98 y72 hF => ?_)
          refine s_gO R71 (t_94 R71.S) (Nat.le_of_ble_eq_true rfl) rfl (o_94_0 R71.S) ?_
          refine s_kok R71 (t_17 R71.S) (Nat.le_of_ble_eq_true rfl) ?_
          refine s_call R71 (Nat.zero_le _) (fun _ hq => SX7_of (b := 0) (R71.rf) rfl rp0 (c_lit 1 1 rfl) ⟨by decide, by decide⟩ hq) hF (fun f75 rv75 h75 q103 R75 e75 E75 hF => ?_)
          refine s_kok R75 (t_94 R75.S) (Nat.le_of_ble_eq_true rfl) ?_
          refine s_call R75 (Nat.zero_le _) (fun _ hq => SX19_addBox (b := 0) (R75.rf) e75.1 e75.2 hq) hF (fun f77 rv77 h77 q105 R77 e77 E77 hF => ?_)
          exact SX19_add_b255 R77 hF
def FX19_highest_b20 (N : Nat) (l1 : Int) (s : fS) : Option (Int × fS) :=
  some (l1, s)
theorem SX19_highest_b20 {m b : Nat} {φ0 : Nat → Nat} {σo : fS} {N : Nat} {q : Int × fS} {φ : Nat → Nat} {h : eH} {s : fS} {l1' : Int32} {l1 : Int} (R : fC m b φ0 σo φ h s) (el1 : l1' = iI l1) (rl1 : r32 l1) (hF : FX19_highest_b20 N l1 s = some q) : gG m b φ0 σo lI q (fX19_highest_b20 N l1' h) := by
  subst el1
  unfold FX19_highest_b20 at hF
  unfold fX19_highest_b20
  exact g_ret R hF ⟨rfl, rl1⟩
def FX19_highest_b2 (N : Nat) : Nat → Nat → Int → fS → Option (Int × fS)
  | 0, _, _, _ => none
  | n + 1, l0, l1, s =>
    if l1 ≤ 0 then
      FX19_highest_b20 N l1 s
    else
      (uKA 101 s l0).bind fun _ =>
      (uRJ s l0 l1).bind fun x2 =>
      if ¬ (x2 = 0) then
        FX19_highest_b20 N l1 s
      else
        FX19_highest_b2 N n l0 (iadd l1 (-1)) s
theorem SX19_highest_b2 {m b : Nat} {φ0 : Nat → Nat} {σo : fS} {N : Nat} {q : Int × fS} : ∀ {n : Nat} {φ : Nat → Nat} {h : eH} {s : fS} {l0' : Nat} {l0 : Nat} {l1' : Int32} {l1 : Int}, fC m b φ0 σo φ h s → l0' = φ l0 → s.t l0 < 128 → l1' = iI l1 → r32 l1 → FX19_highest_b2 N n l0 l1 s = some q → gG m b φ0 σo lI q (fX19_highest_b2 N n l0' l1' h) := by
  intro n
  induction n with
 | zero => intro φ h s l0' l0 l1' l1 R el0 al0 el1 rl1 hF; simp [FX19_highest_b2] at hF
  | succ n ih =>
    intro φ h s l0' l0 l1' l1 R el0 al0 el1 rl1 hF
    subst el1
    rw [FX19_highest_b2] at hF
    rw [fX19_highest_b2]
    refine s_if (i_le rfl (c_lit 0 0 rfl) rl1 ⟨by decide, by decide⟩) hF (fun c1 hF => ?_) (fun c1 hF => ?_)
    ·
      exact SX19_highest_b20 (N := N) R rfl rl1 hF
    ·
      refine s_KA hF (fun y3 z3 hF => ?_)
      refine s_rJ R y3 z3 el0 rfl rl1 hF (fun x2 ra2 hF => ?_)
      refine s_if (not_congr (lg_eq.trans (j_eq rfl (d_lit 0 0 rfl) ra2 ⟨by decide, by decide⟩))) hF (fun c4 hF => ?_) (fun c4 hF => ?_)
      ·
        exact SX19_highest_b20 (N := N) R rfl rl1 hF
      ·
        exact ih R el0 y3 (c_add rfl (c_lit (-1) (-1) rfl)) (rr_I _) hF
def FX19_highest (N : Nat) (p0 : Nat) (s : fS) : Option (Int × fS) :=
  FX19_highest_b2 N N p0 3 s
theorem SX19_highest {m b : Nat} {φ0 : Nat → Nat} {σo : fS} {N : Nat} {q : Int × fS} {φ : Nat → Nat} {h : eH} {s : fS} {p0' : Nat} {p0 : Nat} (R : fC m b φ0 σo φ h s) (ep0 : p0' = φ p0) (ap0 : s.t p0 < 128) (hF : FX19_highest N p0 s = some q) : gG m b φ0 σo lI q (fX19_highest N p0' h) := by
  unfold FX19_highest at hF
  unfold fX19_highest
  exact SX19_highest_b2 (N := N) R ep0 ap0 (c_lit 3 3 rfl) ⟨by decide, by decide⟩ hF
def FX19_badness_b89 (s0 : Int) (s : fS) : Option (Int × fS) :=
  some (s0, s)
theorem SX19_badness_b89 {m b : Nat} {φ0 : Nat → Nat} {σo : fS} {q : Int × fS} {φ : Nat → Nat} {h : eH} {s : fS} {s0' : Int32} {s0 : Int} (R : fC m b φ0 σo φ h s) (es0 : s0' = iI s0) (rs0 : r32 s0) (hF : FX19_badness_b89 s0 s = some q) : gG m b φ0 σo lI q (fX19_badness_b89 s0' h) := by
  subst es0
  unfold FX19_badness_b89 at hF
  unfold fX19_badness_b89
  exact g_ret R hF ⟨rfl, rs0⟩
def FX19_badness_b55 (s0 : Int) (s : fS) : Option (Int × fS) :=
  if s0 ≤ 1290 then
    FX19_badness_b89 (l2i (ldiv (ladd (lmul (lmul s0 s0) s0) 131072) 262144)) s
  else
    FX19_badness_b89 10000 s
theorem SX19_badness_b55 {m b : Nat} {φ0 : Nat → Nat} {σo : fS} {q : Int × fS} {φ : Nat → Nat} {h : eH} {s : fS} {s0' : Int64} {s0 : Int} (R : fC m b φ0 σo φ h s) (es0 : s0' = iJ s0) (rs0 : r64 s0) (hF : FX19_badness_b55 s0 s = some q) : gG m b φ0 σo lI q (fX19_badness_b55 s0' h) := by
  subst es0
  unfold FX19_badness_b55 at hF
  unfold fX19_badness_b55
  refine s_if (lg_le.trans (j_le rfl (d_lit 1290 1290 rfl) rs0 ⟨by decide, by decide⟩)) hF (fun c1 hF => ?_) (fun c1 hF => ?_)
  ·
    exact SX19_badness_b89 R (d_2i (d_div (d_add (d_mul (d_mul rfl rfl) rfl) (d_lit 131072 131072 rfl)) (d_lit 262144 262144 rfl))) (rr_I _) hF
  ·
    exact SX19_badness_b89 R (c_lit 10000 10000 rfl) ⟨by decide, by decide⟩ hF
def FX19_badness (p0 : Int) (p1 : Int) (s : fS) : Option (Int × fS) :=
  if ¬ (p0 = 0) then
    if ¬ (p1 = 0) then
      if 7230584 < p0 then
        if p1 < 1663497 then
          FX19_badness_b55 p0 s
        else
          if (ldiv p1 297) = 0 then none else
          FX19_badness_b55 (ldiv p0 (ldiv p1 297)) s
      else
        if p1 = 0 then none else
        FX19_badness_b55 (ldiv (lmul 297 p0) p1) s
    else
      some (10000, s)
  else
    some (0, s)
theorem SX19_badness {m b : Nat} {φ0 : Nat → Nat} {σo : fS} {q : Int × fS} {φ : Nat → Nat} {h : eH} {s : fS} {p0' : Int64} {p0 : Int} {p1' : Int64} {p1 : Int} (R : fC m b φ0 σo φ h s) (ep0 : p0' = iJ p0) (rp0 : r64 p0) (ep1 : p1' = iJ p1) (rp1 : r64 p1) (hF : FX19_badness p0 p1 s = some q) : gG m b φ0 σo lI q (fX19_badness p0' p1' h) := by
  subst ep0; subst ep1
  unfold FX19_badness at hF
  unfold fX19_badness
  refine s_if (not_congr (lg_eq.trans (j_eq rfl (d_lit 0 0 rfl) rp0 ⟨by decide, by decide⟩))) hF (fun c1 hF => ?_) (fun c1 hF => ?_)
  ·
    refine s_if (not_congr (lg_eq.trans (j_eq rfl (d_lit 0 0 rfl) rp1 ⟨by decide, by decide⟩))) hF (fun c2 hF => ?_) (fun c2 hF => ?_)
    ·
      refine s_if ((lg_cmp_gt _ _).trans (j_lt (d_lit 7230584 7230584 rfl) rfl ⟨by decide, by decide⟩ rp0)) hF (fun c3 hF => ?_) (fun c3 hF => ?_)
      ·
        refine s_if (lg_lt.trans (j_lt rfl (d_lit 1663497 1663497 rfl) rp1 ⟨by decide, by decide⟩)) hF (fun c4 hF => ?_) (fun c4 hF => ?_)
        ·
          exact SX19_badness_b55 R rfl rp0 hF
        ·
          refine s_div (j_eq (d_div rfl (d_lit 297 297 rfl)) (d_lit 0 0 rfl) (rr_J _) ⟨by decide, by decide⟩) hF (fun c5 hF => ?_)
          exact SX19_badness_b55 R (d_div rfl (d_div rfl (d_lit 297 297 rfl))) (rr_J _) hF
      ·
        refine s_div (j_eq rfl (d_lit 0 0 rfl) rp1 ⟨by decide, by decide⟩) hF (fun c6 hF => ?_)
        exact SX19_badness_b55 R (d_div (d_mul (d_lit 297 297 rfl) rfl) rfl) (rr_J _) hF
    ·
      exact g_ret R hF ⟨(c_lit 10000 10000 rfl), ⟨by decide, by decide⟩⟩
  ·
    exact g_ret R hF ⟨(c_lit 0 0 rfl), ⟨by decide, by decide⟩⟩
def FX19_setGlue_b165 (N : Nat) (s0 : Nat) (s1 : Int) (s : fS) : Option (Unit × fS) :=
  (uK 41 s s0).bind fun _ =>
  (uPI s s0 9 s1).bind fun σ1 =>
  some ((), σ1)
theorem SX19_setGlue_b165 {m b : Nat} {φ0 : Nat → Nat} {σo : fS} {N : Nat} {q : Unit × fS} {φ : Nat → Nat} {h : eH} {s : fS} {s0 : Nat} {s1' : Int32} {s1 : Int} (R : fC m b φ0 σo φ h s) (es1 : s1' = iI s1) (rs1 : r32 s1) (hF : FX19_setGlue_b165 N s0 s1 s = some q) : gG m b φ0 σo lU q (fX19_setGlue_b165 N s0 s1' h) := by
  subst es1
  unfold FX19_setGlue_b165 at hF
  unfold fX19_setGlue_b165
  refine s_K hF (fun t2 hF => ?_)
  refine s_pI R t2 (Nat.le_of_ble_eq_true rfl) rfl rfl rs1 hF (fun h1 σ1 R1 T1 hF => ?_)
  exact g_ret R1 hF trivial
def FX19_setGlue_b130 (N : Nat) (l1 : Nat) (l5 : Int) (l7 : Int) (s0 : Nat) (s1 : Int) (s : fS) : Option (Unit × fS) :=
  (uK 41 s s0).bind fun _ =>
  (uPI s s0 10 s1).bind fun σ1 =>
  if l7 = 0 then
    (uK 41 σ1 l1).bind fun _ =>
    if (σ1.i l1 7) ≤ 0 then
      (uK 41 σ1 l1).bind fun _ =>
      (FX19_badness l5 (σ1.i l1 8) σ1).bind fun q9 =>
      FX19_setGlue_b165 N l1 q9.1 q9.2
    else
      FX19_setGlue_b165 N l1 0 σ1
  else
    FX19_setGlue_b165 N l1 1000000 σ1
theorem SX19_setGlue_b130 {m b : Nat} {φ0 : Nat → Nat} {σo : fS} {N : Nat} {q : Unit × fS} {φ : Nat → Nat} {h : eH} {s : fS} {l1 : Nat} {l5' : Int64} {l5 : Int} {l7' : Int32} {l7 : Int} {s0 : Nat} {s1' : Int32} {s1 : Int} (R : fC m b φ0 σo φ h s) (el5 : l5' = iJ l5) (rl5 : r64 l5) (el7 : l7' = iI l7) (rl7 : r32 l7) (es1 : s1' = iI s1) (rs1 : r32 s1) (hF : FX19_setGlue_b130 N l1 l5 l7 s0 s1 s = some q) : gG m b φ0 σo lU q (fX19_setGlue_b130 N l1 l5' l7' s0 s1' h) := by
  subst el5; subst el7; subst es1
  unfold FX19_setGlue_b130 at hF
  unfold fX19_setGlue_b130
  refine s_K hF (fun t2 hF => ?_)
  refine s_pI R t2 (Nat.le_of_ble_eq_true rfl) rfl rfl rs1 hF (fun h1 σ1 R1 T1 hF => ?_)
  refine s_if (i_eq rfl (c_lit 0 0 rfl) rl7 ⟨by decide, by decide⟩) hF (fun c3 hF => ?_) (fun c3 hF => ?_)
  ·
    refine s_K hF (fun t5 hF => ?_)
    refine s_gI R1 t5 (Nat.le_of_ble_eq_true rfl) rfl ?_
    refine s_if (i_le rfl (c_lit 0 0 rfl) (R1.ri t5 (Nat.le_of_ble_eq_true rfl) rfl) ⟨by decide, by decide⟩) hF (fun c6 hF => ?_) (fun c6 hF => ?_)
    ·
      refine s_K hF (fun t8 hF => ?_)
      refine s_gI R1 t8 (Nat.le_of_ble_eq_true rfl) rfl ?_
      refine s_call R1 (Nat.zero_le _) (fun _ hq => SX19_badness (b := 0) (R1.rf) rfl rl5 (c_2l rfl (R1.ri t8 (Nat.le_of_ble_eq_true rfl) rfl)) (r32.w (R1.ri t8 (Nat.le_of_ble_eq_true rfl) rfl)) hq) hF (fun f9 rv9 h9 q9 R9 e9 E9 hF => ?_)
      exact SX19_setGlue_b165 (N := N) R9 e9.1 e9.2 hF
    ·
      exact SX19_setGlue_b165 (N := N) R1 (c_lit 0 0 rfl) ⟨by decide, by decide⟩ hF
  ·
    exact SX19_setGlue_b165 (N := N) R1 (c_lit 1000000 1000000 rfl) ⟨by decide, by decide⟩ hF
def FX19_setGlue_b109 (N : Nat) (l1 : Nat) (l5 : Int) (s0 : Int) (s : fS) : Option (Unit × fS) :=
  if s0 = 0 then
    FX19_setGlue_b130 N l1 l5 s0 l1 0 s
  else
    (uK 41 s l1).bind fun _ =>
    FX19_setGlue_b130 N l1 l5 s0 l1 (l2i (lsub l5 (s.i l1 8))) s
theorem SX19_setGlue_b109 {m b : Nat} {φ0 : Nat → Nat} {σo : fS} {N : Nat} {q : Unit × fS} {φ : Nat → Nat} {h : eH} {s : fS} {l1 : Nat} {l5' : Int64} {l5 : Int} {s0' : Int32} {s0 : Int} (R : fC m b φ0 σo φ h s) (el5 : l5' = iJ l5) (rl5 : r64 l5) (es0 : s0' = iI s0) (rs0 : r32 s0) (hF : FX19_setGlue_b109 N l1 l5 s0 s = some q) : gG m b φ0 σo lU q (fX19_setGlue_b109 N l1 l5' s0' h) := by
  subst el5; subst es0
  unfold FX19_setGlue_b109 at hF
  unfold fX19_setGlue_b109
  refine s_if (i_eq rfl (c_lit 0 0 rfl) rs0 ⟨by decide, by decide⟩) hF (fun c1 hF => ?_) (fun c1 hF => ?_)
  ·
    exact SX19_setGlue_b130 (N := N) R rfl rl5 rfl rs0 (c_lit 0 0 rfl) ⟨by decide, by decide⟩ hF
  ·
    refine s_K hF (fun t3 hF => ?_)
    refine s_gI R t3 (Nat.le_of_ble_eq_true rfl) rfl ?_
    exact SX19_setGlue_b130 (N := N) R rfl rl5 rfl rs0 (d_2i (d_sub rfl (c_2l rfl (R.ri t3 (Nat.le_of_ble_eq_true rfl) rfl)))) (rr_I _) hF
def FX19_setGlue_b108 (N : Nat) (l1 : Nat) (l5 : Int) (s : fS) : Option (Unit × fS) :=
  FX19_setGlue_b109 N l1 l5 0 s
theorem SX19_setGlue_b108 {m b : Nat} {φ0 : Nat → Nat} {σo : fS} {N : Nat} {q : Unit × fS} {φ : Nat → Nat} {h : eH} {s : fS} {l1 : Nat} {l5' : Int64} {l5 : Int} (R : fC m b φ0 σo φ h s) (el5 : l5' = iJ l5) (rl5 : r64 l5) (hF : FX19_setGlue_b108 N l1 l5 s = some q) : gG m b φ0 σo lU q (fX19_setGlue_b108 N l1 l5' h) := by
  subst el5
  unfold FX19_setGlue_b108 at hF
  unfold fX19_setGlue_b108
  exact SX19_setGlue_b109 (N := N) R rfl rl5 (c_lit 0 0 rfl) ⟨by decide, by decide⟩ hF
def FX19_setGlue_b78 (N : Nat) (l1 : Nat) (l2 : Int) (s0 : Int) (s : fS) : Option (Unit × fS) :=
  if 0 ≤ l2 then
    FX19_setGlue_b108 N l1 s0 s
  else
    (uK 41 s l1).bind fun _ =>
    if ¬ ((s.i l1 7) = 0) then
      FX19_setGlue_b108 N l1 s0 s
    else
      (uK 41 s l1).bind fun _ =>
      if s0 ≤ (s.i l1 8) then
        FX19_setGlue_b108 N l1 s0 s
      else
        FX19_setGlue_b109 N l1 s0 1 s
theorem SX19_setGlue_b78 {m b : Nat} {φ0 : Nat → Nat} {σo : fS} {N : Nat} {q : Unit × fS} {φ : Nat → Nat} {h : eH} {s : fS} {l1 : Nat} {l2' : Int64} {l2 : Int} {s0' : Int64} {s0 : Int} (R : fC m b φ0 σo φ h s) (el2 : l2' = iJ l2) (rl2 : r64 l2) (es0 : s0' = iJ s0) (rs0 : r64 s0) (hF : FX19_setGlue_b78 N l1 l2 s0 s = some q) : gG m b φ0 σo lU q (fX19_setGlue_b78 N l1 l2' s0' h) := by
  subst el2; subst es0
  unfold FX19_setGlue_b78 at hF
  unfold fX19_setGlue_b78
  refine s_if ((lg_cmp_ge _ _).trans (j_le (d_lit 0 0 rfl) rfl ⟨by decide, by decide⟩ rl2)) hF (fun c1 hF => ?_) (fun c1 hF => ?_)
  ·
    exact SX19_setGlue_b108 (N := N) R rfl rs0 hF
  ·
    refine s_K hF (fun t3 hF => ?_)
    refine s_gI R t3 (Nat.le_of_ble_eq_true rfl) rfl ?_
    refine s_if (not_congr (i_eq rfl (c_lit 0 0 rfl) (R.ri t3 (Nat.le_of_ble_eq_true rfl) rfl) ⟨by decide, by decide⟩)) hF (fun c4 hF => ?_) (fun c4 hF => ?_)
    ·
      exact SX19_setGlue_b108 (N := N) R rfl rs0 hF
    ·
      refine s_K hF (fun t6 hF => ?_)
      refine s_gI R t6 (Nat.le_of_ble_eq_true rfl) rfl ?_
      refine s_if ((lg_cmp_ge _ _).trans (j_le rfl (c_2l rfl (R.ri t6 (Nat.le_of_ble_eq_true rfl) rfl)) rs0 (r32.w (R.ri t6 (Nat.le_of_ble_eq_true rfl) rfl)))) hF (fun c7 hF => ?_) (fun c7 hF => ?_)
      ·
        exact SX19_setGlue_b108 (N := N) R rfl rs0 hF
      ·
        exact SX19_setGlue_b109 (N := N) R rfl rs0 (c_lit 1 1 rfl) ⟨by decide, by decide⟩ hF
def FX19_setGlue_b63 (N : Nat) (l1 : Nat) (l2 : Int) (s0 : Nat) (s1 : Int) (s : fS) : Option (Unit × fS) :=
  (uK 41 s s0).bind fun _ =>
  (uPI s s0 8 s1).bind fun σ1 =>
  if 0 ≤ l2 then
    FX19_setGlue_b78 N l1 l2 l2 σ1
  else
    FX19_setGlue_b78 N l1 l2 (lneg l2) σ1
theorem SX19_setGlue_b63 {m b : Nat} {φ0 : Nat → Nat} {σo : fS} {N : Nat} {q : Unit × fS} {φ : Nat → Nat} {h : eH} {s : fS} {l1 : Nat} {l2' : Int64} {l2 : Int} {s0 : Nat} {s1' : Int32} {s1 : Int} (R : fC m b φ0 σo φ h s) (el2 : l2' = iJ l2) (rl2 : r64 l2) (es1 : s1' = iI s1) (rs1 : r32 s1) (hF : FX19_setGlue_b63 N l1 l2 s0 s1 s = some q) : gG m b φ0 σo lU q (fX19_setGlue_b63 N l1 l2' s0 s1' h) := by
  subst el2; subst es1
  unfold FX19_setGlue_b63 at hF
  unfold fX19_setGlue_b63
  refine s_K hF (fun t2 hF => ?_)
  refine s_pI R t2 (Nat.le_of_ble_eq_true rfl) rfl rfl rs1 hF (fun h1 σ1 R1 T1 hF => ?_)
  refine s_if ((lg_cmp_ge _ _).trans (j_le (d_lit 0 0 rfl) rfl ⟨by decide, by decide⟩ rl2)) hF (fun c3 hF => ?_) (fun c3 hF => ?_)
  ·
    exact SX19_setGlue_b78 (N := N) R1 rfl rl2 rfl rl2 hF
  ·
    exact SX19_setGlue_b78 (N := N) R1 rfl rl2 (d_neg rfl) (rr_J _) hF
def FX19_setGlue_b41 (N : Nat) (l1 : Nat) (l2 : Int) (l4 : Nat) (s0 : Nat) (s1 : Int) (s : fS) : Option (Unit × fS) :=
  (uK 41 s s0).bind fun _ =>
  (uPI s s0 7 s1).bind fun σ1 =>
  if ¬ (l2 = 0) then
    (uK 41 σ1 l1).bind fun _ =>
    (uKA 101 σ1 l4).bind fun _ =>
    (uRJ σ1 l4 (σ1.i l1 7)).bind fun x6 =>
    FX19_setGlue_b63 N l1 l2 l1 (l2i x6) σ1
  else
    FX19_setGlue_b63 N l1 l2 l1 0 σ1
theorem SX19_setGlue_b41 {m b : Nat} {φ0 : Nat → Nat} {σo : fS} {N : Nat} {q : Unit × fS} {φ : Nat → Nat} {h : eH} {s : fS} {l1 : Nat} {l2' : Int64} {l2 : Int} {l4' : Nat} {l4 : Nat} {s0 : Nat} {s1' : Int32} {s1 : Int} (R : fC m b φ0 σo φ h s) (el2 : l2' = iJ l2) (rl2 : r64 l2) (el4 : l4' = φ l4) (al4 : s.t l4 < 128) (es1 : s1' = iI s1) (rs1 : r32 s1) (hF : FX19_setGlue_b41 N l1 l2 l4 s0 s1 s = some q) : gG m b φ0 σo lU q (fX19_setGlue_b41 N l1 l2' l4' s0 s1' h) := by
  subst el2; subst es1
  unfold FX19_setGlue_b41 at hF
  unfold fX19_setGlue_b41
  refine s_K hF (fun t2 hF => ?_)
  refine s_pI R t2 (Nat.le_of_ble_eq_true rfl) rfl rfl rs1 hF (fun h1 σ1 R1 T1 hF => ?_)
  refine s_if (not_congr (lg_eq.trans (j_eq rfl (d_lit 0 0 rfl) rl2 ⟨by decide, by decide⟩))) hF (fun c3 hF => ?_) (fun c3 hF => ?_)
  ·
    refine s_K hF (fun t5 hF => ?_)
    refine s_gI R1 t5 (Nat.le_of_ble_eq_true rfl) rfl ?_
    refine s_KA hF (fun y7 z7 hF => ?_)
    refine s_rJ R1 y7 z7 el4 rfl (R1.ri t5 (Nat.le_of_ble_eq_true rfl) rfl) hF (fun x6 ra6 hF => ?_)
    exact SX19_setGlue_b63 (N := N) R1 rfl rl2 (d_2i rfl) (rr_I _) hF
  ·
    exact SX19_setGlue_b63 (N := N) R1 rfl rl2 (c_lit 0 0 rfl) ⟨by decide, by decide⟩ hF
def FX19_setGlue_b23 (N : Nat) (l1 : Nat) (l2 : Int) (s0 : Nat) (s : fS) : Option (Unit × fS) :=
  if ¬ (l2 = 0) then
    (FX19_highest N s0 s).bind fun q2 =>
    FX19_setGlue_b41 N l1 l2 s0 l1 q2.1 q2.2
  else
    FX19_setGlue_b41 N l1 l2 s0 l1 0 s
theorem SX19_setGlue_b23 {m b : Nat} {φ0 : Nat → Nat} {σo : fS} {N : Nat} {q : Unit × fS} {φ : Nat → Nat} {h : eH} {s : fS} {l1 : Nat} {l2' : Int64} {l2 : Int} {s0' : Nat} {s0 : Nat} (R : fC m b φ0 σo φ h s) (el2 : l2' = iJ l2) (rl2 : r64 l2) (es0 : s0' = φ s0) (as0 : s.t s0 < 128) (hF : FX19_setGlue_b23 N l1 l2 s0 s = some q) : gG m b φ0 σo lU q (fX19_setGlue_b23 N l1 l2' s0' h) := by
  subst el2
  unfold FX19_setGlue_b23 at hF
  unfold fX19_setGlue_b23
  refine s_if (not_congr (lg_eq.trans (j_eq rfl (d_lit 0 0 rfl) rl2 ⟨by decide, by decide⟩))) hF (fun c1 hF => ?_) (fun c1 hF => ?_)
  ·
    refine s_call R (Nat.zero_le _) (fun _ hq => SX19_highest (b := 0) (N := N) (R.rf) es0 as0 hq) hF (fun f2 rv2 h2 q2 R2 e2 E2 hF => ?_)
    exact SX19_setGlue_b41 (N := N) R2 rfl rl2 (es0.trans (E2.k0 rfl _ as0).1.symm) (by rw [(E2.k0 rfl _ as0).2]; exact as0) e2.1 e2.2 hF
  ·
    exact SX19_setGlue_b41 (N := N) R rfl rl2 es0 as0 (c_lit 0 0 rfl) ⟨by decide, by decide⟩ hF
def FX19_setGlue (N : Nat) (p0 : Nat) (p1 : Int) (s : fS) : Option (Unit × fS) :=
  (uK 41 s p0).bind fun _ =>
  (uPI s p0 6 (l2i p1)).bind fun σ1 =>
  if 0 ≤ p1 then
    FX19_setGlue_b23 N p0 p1 95 σ1
  else
    FX19_setGlue_b23 N p0 p1 96 σ1
theorem SX19_setGlue {m b : Nat} {φ0 : Nat → Nat} {σo : fS} {N : Nat} {q : Unit × fS} {φ : Nat → Nat} {h : eH} {s : fS} {p0 : Nat} {p1' : Int64} {p1 : Int} (R : fC m b φ0 σo φ h s) (ep1 : p1' = iJ p1) (rp1 : r64 p1) (hF : FX19_setGlue N p0 p1 s = some q) : gG m b φ0 σo lU q (fX19_setGlue N 94 p0 p1' h) := by
  subst ep1
  unfold FX19_setGlue at hF
  unfold fX19_setGlue
  refine s_K hF (fun t2 hF => ?_)
  refine s_pI R t2 (Nat.le_of_ble_eq_true rfl) rfl (d_2i rfl) (rr_I _) hF (fun h1 σ1 R1 T1 hF => ?_)
  refine s_if ((lg_cmp_ge _ _).trans (j_le (d_lit 0 0 rfl) rfl ⟨by decide, by decide⟩ rp1)) hF (fun c3 hF => ?_) (fun c3 hF => ?_)
  ·
    refine s_gAs R1 (t_94 R1.S) (Nat.le_of_ble_eq_true rfl) rfl (o_94_2 R1.S) (a_95 R1) ?_
    exact SX19_setGlue_b23 (N := N) R1 rfl rp1 (a_95 R1) (u_95 R1.S).1 hF
  ·
    refine s_gAs R1 (t_94 R1.S) (Nat.le_of_ble_eq_true rfl) rfl (o_94_3 R1.S) (a_96 R1) ?_
    exact SX19_setGlue_b23 (N := N) R1 rfl rp1 (a_96 R1) (u_96 R1.S).1 hF
def FX19_pack_b108 (N : Nat) (K31 : Nat → Int → Int → Int → Int → Int → fS → Option (Int × fS)) (l1 : Nat) (l2 : Int) (l3 : Int) (l4 : Int) (l5 : Int) (l7 : Int) (s : fS) : Option (Int × fS) :=
  K31 l1 l2 l3 l4 l5 (iadd l7 1) s
theorem SX19_pack_b108 {m b : Nat} {φ0 : Nat → Nat} {σo : fS} {N : Nat} {k31 : Nat → Nat → Int32 → Int32 → Int32 → Int64 → Int32 → eH → Option (Int32 × eH)} {K31 : Nat → Int → Int → Int → Int → Int → fS → Option (Int × fS)} {q : Int × fS} (hk31 : ∀ {φ : Nat → Nat} {h : eH} {s : fS} {l1 : Nat} {l2' : Int32} {l2 : Int} {l3' : Int32} {l3 : Int} {l4' : Int32} {l4 : Int} {l5' : Int64} {l5 : Int} {l7' : Int32} {l7 : Int}, fC m b φ0 σo φ h s → l2' = iI l2 → r32 l2 → l3' = iI l3 → r32 l3 → l4' = iI l4 → r32 l4 → l5' = iJ l5 → r64 l5 → l7' = iI l7 → r32 l7 → K31 l1 l2 l3 l4 l5 l7 s = some q → gG m b φ0 σo lI q (k31 94 l1 l2' l3' l4' l5' l7' h)) {φ : Nat → Nat} {h : eH} {s : fS} {l1 : Nat} {l2' : Int32} {l2 : Int} {l3' : Int32} {l3 : Int} {l4' : Int32} {l4 : Int} {l5' : Int64} {l5 : Int} {l7' : Int32} {l7 : Int} (R : fC m b φ0 σo φ h s) (el2 : l2' = iI l2) (rl2 : r32 l2) (el3 : l3' = iI l3) (rl3 : r32 l3) (el4 : l4' = iI l4) (rl4 : r32 l4) (el5 : l5' = iJ l5) (rl5 : r64 l5) (el7 : l7' = iI l7) (rl7 : r32 l7) (hF : FX19_pack_b108 N K31 l1 l2 l3 l4 l5 l7 s = some q) : gG m b φ0 σo lI q (fX19_pack_b108 N k31 94 l1 l2' l3' l4' l5' l7' h) := by
  subst el2; subst el3; subst el4; subst el5; subst el7
  unfold FX19_pack_b108 at hF
  unfold fX19_pack_b108
  exact hk31 R rfl rl2 rfl rl3 rfl rl4 rfl rl5 (c_add rfl (c_lit 1 1 rfl)) (rr_I _) hF
def FX19_pack_b241 (N : Nat) (s : fS) : Option (Int × fS) :=
  some (0, s)
theorem SX19_pack_b241 {m b : Nat} {φ0 : Nat → Nat} {σo : fS} {N : Nat} {q : Int × fS} {φ : Nat → Nat} {h : eH} {s : fS} (R : fC m b φ0 σo φ h s) (hF : FX19_pack_b241 N s = some q) : gG m b φ0 σo lI q (fX19_pack_b241 N h) := by
  unfold FX19_pack_b241 at hF
  unfold fX19_pack_b241
  exact g_ret R hF ⟨(c_lit 0 0 rfl), ⟨by decide, by decide⟩⟩
def FX19_pack_b292 (N : Nat) (l1 : Nat) (s0 : Nat) (s1 : Int) (s : fS) : Option (Int × fS) :=
  (uK 41 s s0).bind fun _ =>
  (uPI s s0 4 (l2i s1)).bind fun σ1 =>
  (uK 41 σ1 l1).bind fun _ =>
  (uPI σ1 l1 5 (l2i (σ1.j 94 8))).bind fun σ5 =>
  some (1, σ5)
theorem SX19_pack_b292 {m b : Nat} {φ0 : Nat → Nat} {σo : fS} {N : Nat} {q : Int × fS} {φ : Nat → Nat} {h : eH} {s : fS} {l1 : Nat} {s0 : Nat} {s1' : Int64} {s1 : Int} (R : fC m b φ0 σo φ h s) (es1 : s1' = iJ s1) (rs1 : r64 s1) (hF : FX19_pack_b292 N l1 s0 s1 s = some q) : gG m b φ0 σo lI q (fX19_pack_b292 N 94 l1 s0 s1' h) := by
  subst es1
  unfold FX19_pack_b292 at hF
  unfold fX19_pack_b292
  refine s_K hF (fun t2 hF => ?_)
  refine s_pI R t2 (Nat.le_of_ble_eq_true rfl) rfl (d_2i rfl) (rr_I _) hF (fun h1 σ1 R1 T1 hF => ?_)
  refine s_gJ R1 (t_94 R1.S) (Nat.le_of_ble_eq_true rfl) rfl ?_
  refine s_K hF (fun t5 hF => ?_)
  refine s_pI R1 t5 (Nat.le_of_ble_eq_true rfl) rfl (d_2i rfl) (rr_I _) hF (fun h4 σ5 R4 T4 hF => ?_)
  exact g_ret R4 hF ⟨(c_lit 1 1 rfl), ⟨by decide, by decide⟩⟩
def FX19_pack_b269 (N : Nat) (l1 : Nat) (s0 : Nat) (s1 : Int) (s : fS) : Option (Int × fS) :=
  (uK 41 s s0).bind fun _ =>
  (uPI s s0 3 (l2i s1)).bind fun σ1 =>
  if (σ1.i 94 5) = 0 then
    FX19_pack_b292 N l1 l1 (σ1.j 94 7) σ1
  else
    FX19_pack_b292 N l1 l1 (σ1.j 94 6) σ1
theorem SX19_pack_b269 {m b : Nat} {φ0 : Nat → Nat} {σo : fS} {N : Nat} {q : Int × fS} {φ : Nat → Nat} {h : eH} {s : fS} {l1 : Nat} {s0 : Nat} {s1' : Int64} {s1 : Int} (R : fC m b φ0 σo φ h s) (es1 : s1' = iJ s1) (rs1 : r64 s1) (hF : FX19_pack_b269 N l1 s0 s1 s = some q) : gG m b φ0 σo lI q (fX19_pack_b269 N 94 l1 s0 s1' h) := by
  subst es1
  unfold FX19_pack_b269 at hF
  unfold fX19_pack_b269
  refine s_K hF (fun t2 hF => ?_)
  refine s_pI R t2 (Nat.le_of_ble_eq_true rfl) rfl (d_2i rfl) (rr_I _) hF (fun h1 σ1 R1 T1 hF => ?_)
  refine s_gI R1 (t_94 R1.S) (Nat.le_of_ble_eq_true rfl) rfl ?_
  refine s_if (i_eq rfl (c_lit 0 0 rfl) (R1.ri (t_94 R1.S) (Nat.le_of_ble_eq_true rfl) rfl) ⟨by decide, by decide⟩) hF (fun c4 hF => ?_) (fun c4 hF => ?_)
  ·
    refine s_gJ R1 (t_94 R1.S) (Nat.le_of_ble_eq_true rfl) rfl ?_
    exact SX19_pack_b292 (N := N) R1 rfl (R1.rj (t_94 R1.S) (Nat.le_of_ble_eq_true rfl) rfl) hF
  ·
    refine s_gJ R1 (t_94 R1.S) (Nat.le_of_ble_eq_true rfl) rfl ?_
    exact SX19_pack_b292 (N := N) R1 rfl (R1.rj (t_94 R1.S) (Nat.le_of_ble_eq_true rfl) rfl) hF
def FX19_pack_b198 (N : Nat) (l1 : Nat) (s0 : Int) (s : fS) : Option (Int × fS) :=
  (FX19_sum (s.j 94 6) s0 s).bind fun q4 =>
  (uPJ q4.2 94 6 q4.1).bind fun σ5 =>
  if (σ5.i 94 4) = 0 then
    FX19_pack_b241 N σ5
  else
    (FX1_isSize (σ5.j 94 7) σ5).bind fun q12 =>
    if q12.1 = 0 then
      FX19_pack_b241 N q12.2
    else
      (FX1_isSize (q12.2.j 94 8) q12.2).bind fun q16 =>
      if ¬ (q16.1 = 0) then
        (FX19_setGlue N l1 s0 q16.2).bind fun q19 =>
        if (q19.2.i 94 5) = 0 then
          FX19_pack_b269 N l1 l1 (q19.2.j 94 6) q19.2
        else
          FX19_pack_b269 N l1 l1 (q19.2.j 94 7) q19.2
      else
        FX19_pack_b241 N q16.2
theorem SX19_pack_b198 {m b : Nat} {φ0 : Nat → Nat} {σo : fS} {N : Nat} {q : Int × fS} {φ : Nat → Nat} {h : eH} {s : fS} {l1 : Nat} {s0' : Int64} {s0 : Int} (R : fC m b φ0 σo φ h s) (es0 : s0' = iJ s0) (rs0 : r64 s0) (hF : FX19_pack_b198 N l1 s0 s = some q) : gG m b φ0 σo lI q (fX19_pack_b198 N 94 l1 s0' h) := by
  subst es0
  unfold FX19_pack_b198 at hF
  unfold fX19_pack_b198
  refine s_gJ R (t_94 R.S) (Nat.le_of_ble_eq_true rfl) rfl ?_
  refine s_kok R (t_94 R.S) (Nat.le_of_ble_eq_true rfl) ?_
  refine s_call R (Nat.zero_le _) (fun _ hq => SX19_sum (b := 0) (R.rf) rfl (R.rj (t_94 R.S) (Nat.le_of_ble_eq_true rfl) rfl) rfl rs0 hq) hF (fun f3 rv3 h3 q4 R3 e3 E3 hF => ?_)
  refine s_pJ R3 (t_94 R3.S) (Nat.le_of_ble_eq_true rfl) rfl e3.1 e3.2 hF (fun h4 σ5 R4 T4 hF => ?_)
  refine s_gI R4 (t_94 R4.S) (Nat.le_of_ble_eq_true rfl) rfl ?_
  refine s_if (i_eq rfl (c_lit 0 0 rfl) (R4.ri (t_94 R4.S) (Nat.le_of_ble_eq_true rfl) rfl) ⟨by decide, by decide⟩) hF (fun c6 hF => ?_) (fun c6 hF => ?_)
  ·
    exact SX19_pack_b241 (N := N) R4 hF
  ·
    refine s_gJ R4 (t_94 R4.S) (Nat.le_of_ble_eq_true rfl) rfl ?_
    refine s_call R4 (Nat.zero_le _) (fun _ hq => SX1_isSize (b := 0) (R4.rf) rfl (R4.rj (t_94 R4.S) (Nat.le_of_ble_eq_true rfl) rfl) hq) hF (fun f8 rv8 h8 q12 R8 e8 E8 hF => ?_)
    refine s_if (i_eq e8.1 (c_lit 0 0 rfl) e8.2 ⟨by decide, by decide⟩) hF (fun c9 hF => ?_) (fun c9 hF => ?_)
    ·
      exact SX19_pack_b241 (N := N) R8 hF
    ·
      refine s_gJ R8 (t_94 R8.S) (Nat.le_of_ble_eq_true rfl) rfl ?_
      refine s_call R8 (Nat.zero_le _) (fun _ hq => SX1_isSize (b := 0) (R8.rf) rfl (R8.rj (t_94 R8.S) (Nat.le_of_ble_eq_true rfl) rfl) hq) hF (fun f11 rv11 h11 q16 R11 e11 E11 hF => ?_)
      refine s_if (not_congr (i_eq e11.1 (c_lit 0 0 rfl) e11.2 ⟨by decide, by decide⟩)) hF (fun c12 hF => ?_) (fun c12 hF => ?_)
      ·
        refine s_kok R11 (t_94 R11.S) (Nat.le_of_ble_eq_true rfl) ?_
        refine s_call R11 (Nat.zero_le _) (fun _ hq => SX19_setGlue (b := 0) (N := N) (R11.rf) rfl rs0 hq) hF (fun f14 rv14 h14 q19 R14 e14 E14 hF => ?_)
        refine s_gI R14 (t_94 R14.S) (Nat.le_of_ble_eq_true rfl) rfl ?_
        refine s_if (i_eq rfl (c_lit 0 0 rfl) (R14.ri (t_94 R14.S) (Nat.le_of_ble_eq_true rfl) rfl) ⟨by decide, by decide⟩) hF (fun c16 hF => ?_) (fun c16 hF => ?_)
        ·
          refine s_gJ R14 (t_94 R14.S) (Nat.le_of_ble_eq_true rfl) rfl ?_
          exact SX19_pack_b269 (N := N) R14 rfl (R14.rj (t_94 R14.S) (Nat.le_of_ble_eq_true rfl) rfl) hF
        ·
          refine s_gJ R14 (t_94 R14.S) (Nat.le_of_ble_eq_true rfl) rfl ?_
          exact SX19_pack_b269 (N := N) R14 rfl (R14.rj (t_94 R14.S) (Nat.le_of_ble_eq_true rfl) rfl) hF
      ·
        exact SX19_pack_b241 (N := N) R11 hF
def FX19_pack_b169 (N : Nat) (l1 : Nat) (l2 : Int) (l3 : Int) (s : fS) : Option (Int × fS) :=
  if ¬ (l2 = 0) then
    if ¬ (l2 = 1) then
      FX19_pack_b198 N l1 l3 s
    else
      (FX19_sum l3 (lneg (s.j 94 6)) s).bind fun q6 =>
      FX19_pack_b198 N l1 q6.1 q6.2
  else
    FX19_pack_b198 N l1 0 s
theorem SX19_pack_b169 {m b : Nat} {φ0 : Nat → Nat} {σo : fS} {N : Nat} {q : Int × fS} {φ : Nat → Nat} {h : eH} {s : fS} {l1 : Nat} {l2' : Int32} {l2 : Int} {l3' : Int32} {l3 : Int} (R : fC m b φ0 σo φ h s) (el2 : l2' = iI l2) (rl2 : r32 l2) (el3 : l3' = iI l3) (rl3 : r32 l3) (hF : FX19_pack_b169 N l1 l2 l3 s = some q) : gG m b φ0 σo lI q (fX19_pack_b169 N 94 l1 l2' l3' h) := by
  subst el2; subst el3
  unfold FX19_pack_b169 at hF
  unfold fX19_pack_b169
  refine s_if (not_congr (i_eq rfl (c_lit 0 0 rfl) rl2 ⟨by decide, by decide⟩)) hF (fun c1 hF => ?_) (fun c1 hF => ?_)
  ·
    refine s_if (not_congr (i_eq rfl (c_lit 1 1 rfl) rl2 ⟨by decide, by decide⟩)) hF (fun c2 hF => ?_) (fun c2 hF => ?_)
    ·
      exact SX19_pack_b198 (N := N) R (c_2l rfl rl3) (r32.w rl3) hF
    ·
      refine s_gJ R (t_94 R.S) (Nat.le_of_ble_eq_true rfl) rfl ?_
      refine s_kok R (t_94 R.S) (Nat.le_of_ble_eq_true rfl) ?_
      refine s_call R (Nat.zero_le _) (fun _ hq => SX19_sum (b := 0) (R.rf) (c_2l rfl rl3) (r32.w rl3) (d_neg rfl) (rr_J _) hq) hF (fun f5 rv5 h5 q6 R5 e5 E5 hF => ?_)
      exact SX19_pack_b198 (N := N) R5 e5.1 e5.2 hF
  ·
    exact SX19_pack_b198 (N := N) R (d_lit 0 0 rfl) ⟨by decide, by decide⟩ hF
def FX19_pack_b31 (N : Nat) : Nat → Nat → Int → Int → Int → Int → Int → fS → Option (Int × fS)
  | 0, _, _, _, _, _, _, _ => none
  | n + 1, l1, l2, l3, l4, l5, l7, s =>
    (uK 41 s l1).bind fun _ =>
    if (s.i l1 1) ≤ l7 then
      (uK 41 s l1).bind fun _ =>
      (uPI s l1 12 (l2i (lmin 1000000 l5))).bind fun σ4 =>
      if (σ4.i 94 5) = 0 then
        FX19_pack_b169 N l1 l2 l3 σ4
      else
        (uPJ σ4 94 8 (lmin (σ4.j 94 9) l4)).bind fun σ11 =>
        (FX19_sum (σ11.j 94 6) (lsub (σ11.j 94 9) (σ11.j 94 8)) σ11).bind fun q20 =>
        (uPJ q20.2 94 6 q20.1).bind fun σ21 =>
        FX19_pack_b169 N l1 l2 l3 σ21
    else
      (FX19_add l7 s).bind fun q24 =>
      (FX7_kind l7 q24.2).bind fun q28 =>
      if q28.1 = 4 then
        (FX7_of l7 0 q28.2).bind fun q35 =>
        (uRO q35.2 21 q35.1).bind fun a36 =>
        (uK 41 q35.2 l1).bind fun _ =>
        (uK 41 q35.2 a36).bind fun _ =>
        (uK 41 q35.2 l1).bind fun _ =>
        (uPI q35.2 l1 11 (imax (q35.2.i l1 11) (iadd (q35.2.i a36 11) 1))).bind fun σ42 =>
        (uK 41 σ42 a36).bind fun _ =>
        FX19_pack_b108 N (FX19_pack_b31 N n) l1 l2 l3 l4 (ladd l5 (σ42.i a36 12)) l7 σ42
      else
        FX19_pack_b108 N (FX19_pack_b31 N n) l1 l2 l3 l4 l5 l7 q28.2
theorem SX19_pack_b31 {m b : Nat} {φ0 : Nat → Nat} {σo : fS} {N : Nat} {q : Int × fS} : ∀ {n : Nat} {φ : Nat → Nat} {h : eH} {s : fS} {l1 : Nat} {l2' : Int32} {l2 : Int} {l3' : Int32} {l3 : Int} {l4' : Int32} {l4 : Int} {l5' : Int64} {l5 : Int} {l7' : Int32} {l7 : Int}, fC m b φ0 σo φ h s → l2' = iI l2 → r32 l2 → l3' = iI l3 → r32 l3 → l4' = iI l4 → r32 l4 → l5' = iJ l5 → r64 l5 → l7' = iI l7 → r32 l7 → FX19_pack_b31 N n l1 l2 l3 l4 l5 l7 s = some q → gG m b φ0 σo lI q (fX19_pack_b31 N n 94 l1 l2' l3' l4' l5' l7' h) := by
  intro n
  induction n with
 | zero => intro φ h s l1 l2' l2 l3' l3 l4' l4 l5' l5 l7' l7 R el2 rl2 el3 rl3 el4 rl4 el5 rl5 el7 rl7 hF; simp [FX19_pack_b31] at hF
  | succ n ih =>
    intro φ h s l1 l2' l2 l3' l3 l4' l4 l5' l5 l7' l7 R el2 rl2 el3 rl3 el4 rl4 el5 rl5 el7 rl7 hF
    subst el2; subst el3; subst el4; subst el5; subst el7
    rw [FX19_pack_b31] at hF
    rw [fX19_pack_b31]
    refine s_K hF (fun t2 hF => ?_)
    refine s_gI R t2 (Nat.le_of_ble_eq_true rfl) rfl ?_
    refine s_if (i_le rfl rfl (R.ri t2 (Nat.le_of_ble_eq_true rfl) rfl) rl7) hF (fun c3 hF => ?_) (fun c3 hF => ?_)
    ·
      refine s_K hF (fun t5 hF => ?_)
      refine s_pI R t5 (Nat.le_of_ble_eq_true rfl) rfl (d_2i (d_min (d_lit 1000000 1000000 rfl) rfl ⟨by decide, by decide⟩ rl5)) (rr_I _) hF (fun h4 σ4 R4 T4 hF => ?_)
      refine s_gI R4 (t_94 R4.S) (Nat.le_of_ble_eq_true rfl) rfl ?_
      refine s_if (i_eq rfl (c_lit 0 0 rfl) (R4.ri (t_94 R4.S) (Nat.le_of_ble_eq_true rfl) rfl) ⟨by decide, by decide⟩) hF (fun c7 hF => ?_) (fun c7 hF => ?_)
      ·
        exact SX19_pack_b169 (N := N) R4 rfl rl2 rfl rl3 hF
      ·
        refine s_gJ R4 (t_94 R4.S) (Nat.le_of_ble_eq_true rfl) rfl ?_
        refine s_pJ R4 (t_94 R4.S) (Nat.le_of_ble_eq_true rfl) rfl (d_min rfl (c_2l rfl rl4) (R4.rj (t_94 R4.S) (Nat.le_of_ble_eq_true rfl) rfl) (r32.w rl4)) (q_min (R4.rj (t_94 R4.S) (Nat.le_of_ble_eq_true rfl) rfl) (r32.w rl4)) hF (fun h9 σ11 R9 T9 hF => ?_)
        refine s_gJ R9 (t_94 R9.S) (Nat.le_of_ble_eq_true rfl) rfl ?_
        refine s_gJ R9 (t_94 R9.S) (Nat.le_of_ble_eq_true rfl) rfl ?_
        refine s_gJ R9 (t_94 R9.S) (Nat.le_of_ble_eq_true rfl) rfl ?_
        refine s_kok R9 (t_94 R9.S) (Nat.le_of_ble_eq_true rfl) ?_
        refine s_call R9 (Nat.zero_le _) (fun _ hq => SX19_sum (b := 0) (R9.rf) rfl (R9.rj (t_94 R9.S) (Nat.le_of_ble_eq_true rfl) rfl) (d_sub rfl rfl) (rr_J _) hq) hF (fun f14 rv14 h14 q20 R14 e14 E14 hF => ?_)
        refine s_pJ R14 (t_94 R14.S) (Nat.le_of_ble_eq_true rfl) rfl e14.1 e14.2 hF (fun h15 σ21 R15 T15 hF => ?_)
        exact SX19_pack_b169 (N := N) R15 rfl rl2 rfl rl3 hF
    ·
      refine s_kok R (t_94 R.S) (Nat.le_of_ble_eq_true rfl) ?_
      refine s_call R (Nat.zero_le _) (fun _ hq => SX19_add (b := 0) (R.rf) rfl rl7 hq) hF (fun f17 rv17 h17 q24 R17 e17 E17 hF => ?_)
      refine s_gO R17 (t_94 R17.S) (Nat.le_of_ble_eq_true rfl) rfl (o_94_0 R17.S) ?_
      refine s_kok R17 (t_17 R17.S) (Nat.le_of_ble_eq_true rfl) ?_
      refine s_call R17 (Nat.zero_le _) (fun _ hq => SX7_kind (b := 0) (R17.rf) rfl rl7 hq) hF (fun f20 rv20 h20 q28 R20 e20 E20 hF => ?_)
      refine s_if (i_eq e20.1 (c_lit 4 4 rfl) e20.2 ⟨by decide, by decide⟩) hF (fun c21 hF => ?_) (fun c21 hF => ?_)
      ·
        refine s_gAs R20 (t_94 R20.S) (Nat.le_of_ble_eq_true rfl) rfl (o_94_1 R20.S) (a_21 R20) ?_
        refine s_gO R20 (t_94 R20.S) (Nat.le_of_ble_eq_true rfl) rfl (o_94_0 R20.S) ?_
        refine s_kok R20 (t_17 R20.S) (Nat.le_of_ble_eq_true rfl) ?_
        refine s_call R20 (Nat.zero_le _) (fun _ hq => SX7_of (b := 0) (R20.rf) rfl rl7 (c_lit 0 0 rfl) ⟨by decide, by decide⟩ hq) hF (fun f25 rv25 h25 q35 R25 e25 E25 hF => ?_)
        refine s_rO R25 (u_21 R25.S).1 (u_21 R25.S).2 rfl (fun _ => rfl) (Nat.le_of_ble_eq_true rfl) (a_21 R25) e25.1 e25.2 hF (fun a36 y26 hF => ?_)
        refine s_K hF (fun t28 hF => ?_)
        refine s_gI R25 t28 (Nat.le_of_ble_eq_true rfl) rfl ?_
        refine s_K hF (fun t30 hF => ?_)
        refine s_gI R25 t30 (Nat.le_of_ble_eq_true rfl) rfl ?_
        refine s_K hF (fun t32 hF => ?_)
        refine s_pI R25 t32 (Nat.le_of_ble_eq_true rfl) rfl (c_max rfl (c_add rfl (c_lit 1 1 rfl)) (R25.ri t28 (Nat.le_of_ble_eq_true rfl) rfl) (rr_I _)) (r_max (R25.ri t28 (Nat.le_of_ble_eq_true rfl) rfl) (rr_I _)) hF (fun h31 σ42 R31 T31 hF => ?_)
        refine s_K hF (fun t34 hF => ?_)
        refine s_gI R31 t34 (Nat.le_of_ble_eq_true rfl) rfl ?_
        exact SX19_pack_b108 (N := N) (k31 := fX19_pack_b31 N n) (K31 := FX19_pack_b31 N n) @ih R31 rfl rl2 rfl rl3 rfl rl4 (d_add rfl (c_2l rfl (R31.ri t34 (Nat.le_of_ble_eq_true rfl) rfl))) (rr_J _) rfl rl7 hF
      ·
        exact SX19_pack_b108 (N := N) (k31 := fX19_pack_b31 N n) (K31 := FX19_pack_b31 N n) @ih R20 rfl rl2 rfl rl3 rfl rl4 rfl rl5 rfl rl7 hF
def FX19_pack (N : Nat) (p0 : Nat) (p1 : Int) (p2 : Int) (p3 : Int) (s : fS) : Option (Int × fS) :=
  (uK 41 s p0).bind fun _ =>
  (FX19_clear N (s.i p0 2) s).bind fun q4 =>
  (uK 41 q4.2 p0).bind fun _ =>
  (uPI q4.2 p0 11 1).bind fun σ5 =>
  (uK 41 σ5 p0).bind fun _ =>
  (uK 41 σ5 p0).bind fun _ =>
  (uK 41 σ5 p0).bind fun _ =>
  FX19_pack_b31 N N p0 p1 p2 p3 (isub (σ5.i p0 1) (σ5.i p0 0)) (σ5.i p0 0) σ5
theorem SX19_pack {m b : Nat} {φ0 : Nat → Nat} {σo : fS} {N : Nat} {q : Int × fS} {φ : Nat → Nat} {h : eH} {s : fS} {p0 : Nat} {p1' : Int32} {p1 : Int} {p2' : Int32} {p2 : Int} {p3' : Int32} {p3 : Int} (R : fC m b φ0 σo φ h s) (ep1 : p1' = iI p1) (rp1 : r32 p1) (ep2 : p2' = iI p2) (rp2 : r32 p2) (ep3 : p3' = iI p3) (rp3 : r32 p3) (hF : FX19_pack N p0 p1 p2 p3 s = some q) : gG m b φ0 σo lI q (fX19_pack N 94 p0 p1' p2' p3' h) := by
  subst ep1; subst ep2; subst ep3
  unfold FX19_pack at hF
  unfold fX19_pack
  refine s_K hF (fun t2 hF => ?_)
  refine s_gI R t2 (Nat.le_of_ble_eq_true rfl) rfl ?_
  refine s_kok R (t_94 R.S) (Nat.le_of_ble_eq_true rfl) ?_
  refine s_call R (Nat.zero_le _) (fun _ hq => SX19_clear (b := 0) (N := N) (R.rf) rfl (R.ri t2 (Nat.le_of_ble_eq_true rfl) rfl) hq) hF (fun f4 rv4 h4 q4 R4 e4 E4 hF => ?_)
  refine s_K hF (fun t6 hF => ?_)
  refine s_pI R4 t6 (Nat.le_of_ble_eq_true rfl) rfl (c_lit 1 1 rfl) ⟨by decide, by decide⟩ hF (fun h5 σ5 R5 T5 hF => ?_)
  refine s_K hF (fun t8 hF => ?_)
  refine s_gI R5 t8 (Nat.le_of_ble_eq_true rfl) rfl ?_
  refine s_K hF (fun t10 hF => ?_)
  refine s_gI R5 t10 (Nat.le_of_ble_eq_true rfl) rfl ?_
  refine s_K hF (fun t12 hF => ?_)
  refine s_gI R5 t12 (Nat.le_of_ble_eq_true rfl) rfl ?_
  exact SX19_pack_b31 (N := N) R5 rfl rp1 rfl rp2 rfl rp3 (c_2l (c_sub rfl rfl) (rr_I _)) (r32.w (rr_I _)) rfl (R5.ri t12 (Nat.le_of_ble_eq_true rfl) rfl) hF
def FX19_nearest_b20 (l0 : Int) (l2 : Int) (s0 : Int) (s : fS) : Option (Int × fS) :=
  if l2 = 0 then none else
  some ((ldiv (ladd l0 s0) l2), s)
theorem SX19_nearest_b20 {m b : Nat} {φ0 : Nat → Nat} {σo : fS} {q : Int × fS} {φ : Nat → Nat} {h : eH} {s : fS} {l0' : Int64} {l0 : Int} {l2' : Int64} {l2 : Int} {s0' : Int64} {s0 : Int} (R : fC m b φ0 σo φ h s) (el0 : l0' = iJ l0) (rl0 : r64 l0) (el2 : l2' = iJ l2) (rl2 : r64 l2) (es0 : s0' = iJ s0) (rs0 : r64 s0) (hF : FX19_nearest_b20 l0 l2 s0 s = some q) : gG m b φ0 σo lJ q (fX19_nearest_b20 l0' l2' s0' h) := by
  subst el0; subst el2; subst es0
  unfold FX19_nearest_b20 at hF
  unfold fX19_nearest_b20
  refine s_div (j_eq rfl (d_lit 0 0 rfl) rl2 ⟨by decide, by decide⟩) hF (fun c1 hF => ?_)
  exact g_ret R hF ⟨(d_div (d_add rfl rfl) rfl), (rr_J _)⟩
def FX19_nearest (p0 : Int) (p1 : Int) (s : fS) : Option (Int × fS) :=
  if 0 ≤ p0 then
    FX19_nearest_b20 p0 p1 (ldiv p1 2) s
  else
    FX19_nearest_b20 p0 p1 (lneg (ldiv p1 2)) s
theorem SX19_nearest {m b : Nat} {φ0 : Nat → Nat} {σo : fS} {q : Int × fS} {φ : Nat → Nat} {h : eH} {s : fS} {p0' : Int64} {p0 : Int} {p1' : Int64} {p1 : Int} (R : fC m b φ0 σo φ h s) (ep0 : p0' = iJ p0) (rp0 : r64 p0) (ep1 : p1' = iJ p1) (rp1 : r64 p1) (hF : FX19_nearest p0 p1 s = some q) : gG m b φ0 σo lJ q (fX19_nearest p0' p1' h) := by
  subst ep0; subst ep1
  unfold FX19_nearest at hF
  unfold fX19_nearest
  refine s_if ((lg_cmp_ge _ _).trans (j_le (d_lit 0 0 rfl) rfl ⟨by decide, by decide⟩ rp0)) hF (fun c1 hF => ?_) (fun c1 hF => ?_)
  ·
    exact SX19_nearest_b20 R rfl rp0 rfl rp1 (d_div rfl (d_lit 2 2 rfl)) (rr_J _) hF
  ·
    exact SX19_nearest_b20 R rfl rp0 rfl rp1 (d_neg (d_div rfl (d_lit 2 2 rfl))) (rr_J _) hF
def FX19_shareOf_b41 (s0 : Int) (s : fS) : Option (Int × fS) :=
  some (s0, s)
theorem SX19_shareOf_b41 {m b : Nat} {φ0 : Nat → Nat} {σo : fS} {q : Int × fS} {φ : Nat → Nat} {h : eH} {s : fS} {s0' : Int32} {s0 : Int} (R : fC m b φ0 σo φ h s) (es0 : s0' = iI s0) (rs0 : r32 s0) (hF : FX19_shareOf_b41 s0 s = some q) : gG m b φ0 σo lI q (fX19_shareOf_b41 s0' h) := by
  subst es0
  unfold FX19_shareOf_b41 at hF
  unfold fX19_shareOf_b41
  exact g_ret R hF ⟨rfl, rs0⟩
def FX19_shareOf_b9 (l1 : Int) (l3 : Int) (s0 : Int) (s : fS) : Option (Int × fS) :=
  (FX7_of l1 (iadd s0 1) s).bind fun q4 =>
  if ¬ (q4.1 = l3) then
    FX19_shareOf_b41 0 q4.2
  else
    (FX7_of l1 s0 q4.2).bind fun q9 =>
    FX19_shareOf_b41 q9.1 q9.2
theorem SX19_shareOf_b9 {m b : Nat} {φ0 : Nat → Nat} {σo : fS} {q : Int × fS} {φ : Nat → Nat} {h : eH} {s : fS} {l1' : Int32} {l1 : Int} {l3' : Int32} {l3 : Int} {s0' : Int32} {s0 : Int} (R : fC m b φ0 σo φ h s) (el1 : l1' = iI l1) (rl1 : r32 l1) (el3 : l3' = iI l3) (rl3 : r32 l3) (es0 : s0' = iI s0) (rs0 : r32 s0) (hF : FX19_shareOf_b9 l1 l3 s0 s = some q) : gG m b φ0 σo lI q (fX19_shareOf_b9 94 l1' l3' s0' h) := by
  subst el1; subst el3; subst es0
  unfold FX19_shareOf_b9 at hF
  unfold fX19_shareOf_b9
  refine s_gO R (t_94 R.S) (Nat.le_of_ble_eq_true rfl) rfl (o_94_0 R.S) ?_
  refine s_kok R (t_17 R.S) (Nat.le_of_ble_eq_true rfl) ?_
  refine s_call R (Nat.zero_le _) (fun _ hq => SX7_of (b := 0) (R.rf) rfl rl1 (c_add rfl (c_lit 1 1 rfl)) (rr_I _) hq) hF (fun f3 rv3 h3 q4 R3 e3 E3 hF => ?_)
  refine s_if (not_congr (i_eq e3.1 rfl e3.2 rl3)) hF (fun c4 hF => ?_) (fun c4 hF => ?_)
  ·
    exact SX19_shareOf_b41 R3 (c_lit 0 0 rfl) ⟨by decide, by decide⟩ hF
  ·
    refine s_gO R3 (t_94 R3.S) (Nat.le_of_ble_eq_true rfl) rfl (o_94_0 R3.S) ?_
    refine s_kok R3 (t_17 R3.S) (Nat.le_of_ble_eq_true rfl) ?_
    refine s_call R3 (Nat.zero_le _) (fun _ hq => SX7_of (b := 0) (R3.rf) rfl rl1 rfl rs0 hq) hF (fun f7 rv7 h7 q9 R7 e7 E7 hF => ?_)
    exact SX19_shareOf_b41 R7 e7.1 e7.2 hF
def FX19_shareOf (p0 : Int) (p1 : Int) (p2 : Int) (s : fS) : Option (Int × fS) :=
  if p1 = 0 then
    FX19_shareOf_b9 p0 p2 1 s
  else
    FX19_shareOf_b9 p0 p2 3 s
theorem SX19_shareOf {m b : Nat} {φ0 : Nat → Nat} {σo : fS} {q : Int × fS} {φ : Nat → Nat} {h : eH} {s : fS} {p0' : Int32} {p0 : Int} {p1' : Int32} {p1 : Int} {p2' : Int32} {p2 : Int} (R : fC m b φ0 σo φ h s) (ep0 : p0' = iI p0) (rp0 : r32 p0) (ep1 : p1' = iI p1) (rp1 : r32 p1) (ep2 : p2' = iI p2) (rp2 : r32 p2) (hF : FX19_shareOf p0 p1 p2 s = some q) : gG m b φ0 σo lI q (fX19_shareOf 94 p0' p1' p2' h) := by
  subst ep0; subst ep1; subst ep2
  unfold FX19_shareOf at hF
  unfold fX19_shareOf
  refine s_if (i_eq rfl (c_lit 0 0 rfl) rp1 ⟨by decide, by decide⟩) hF (fun c1 hF => ?_) (fun c1 hF => ?_)
  ·
    exact SX19_shareOf_b9 R rfl rp0 rfl rp2 (c_lit 1 1 rfl) ⟨by decide, by decide⟩ hF
  ·
    exact SX19_shareOf_b9 R rfl rp0 rfl rp2 (c_lit 3 3 rfl) ⟨by decide, by decide⟩ hF
def FX19_settle_b186 (N : Nat) (K39 : Nat → Int → Int → Int → fS → Option (Unit × fS)) (l1 : Nat) (l2 : Int) (l4 : Int) (l6 : Int) (s : fS) : Option (Unit × fS) :=
  (FX19_add l6 s).bind fun q2 =>
  K39 l1 l2 l4 (iadd l6 1) q2.2
theorem SX19_settle_b186 {m b : Nat} {φ0 : Nat → Nat} {σo : fS} {N : Nat} {k39 : Nat → Nat → Int64 → Int64 → Int32 → eH → Option (Unit × eH)} {K39 : Nat → Int → Int → Int → fS → Option (Unit × fS)} {q : Unit × fS} (hk39 : ∀ {φ : Nat → Nat} {h : eH} {s : fS} {l1 : Nat} {l2' : Int64} {l2 : Int} {l4' : Int64} {l4 : Int} {l6' : Int32} {l6 : Int}, fC m b φ0 σo φ h s → l2' = iJ l2 → r64 l2 → l4' = iJ l4 → r64 l4 → l6' = iI l6 → r32 l6 → K39 l1 l2 l4 l6 s = some q → gG m b φ0 σo lU q (k39 94 l1 l2' l4' l6' h)) {φ : Nat → Nat} {h : eH} {s : fS} {l1 : Nat} {l2' : Int64} {l2 : Int} {l4' : Int64} {l4 : Int} {l6' : Int32} {l6 : Int} (R : fC m b φ0 σo φ h s) (el2 : l2' = iJ l2) (rl2 : r64 l2) (el4 : l4' = iJ l4) (rl4 : r64 l4) (el6 : l6' = iI l6) (rl6 : r32 l6) (hF : FX19_settle_b186 N K39 l1 l2 l4 l6 s = some q) : gG m b φ0 σo lU q (fX19_settle_b186 N k39 94 l1 l2' l4' l6' h) := by
  subst el2; subst el4; subst el6
  unfold FX19_settle_b186 at hF
  unfold fX19_settle_b186
  refine s_kok R (t_94 R.S) (Nat.le_of_ble_eq_true rfl) ?_
  refine s_call R (Nat.zero_le _) (fun _ hq => SX19_add (b := 0) (R.rf) rfl rl6 hq) hF (fun f2 rv2 h2 q2 R2 e2 E2 hF => ?_)
  exact hk39 R2 rfl rl2 rfl rl4 (c_add rfl (c_lit 1 1 rfl)) (rr_I _) hF
def FX19_settle_b175 (N : Nat) (K39 : Nat → Int → Int → Int → fS → Option (Unit × fS)) (l1 : Nat) (l2 : Int) (l6 : Int) (s0 : Int) (s2 : Int) (s3 : Int) (s : fS) : Option (Unit × fS) :=
  (uK 41 s l1).bind fun _ =>
  (FX19_shareOf s2 s3 (s.i l1 7) s).bind fun q4 =>
  FX19_settle_b186 N K39 l1 l2 (ladd s0 q4.1) l6 q4.2
theorem SX19_settle_b175 {m b : Nat} {φ0 : Nat → Nat} {σo : fS} {N : Nat} {k39 : Nat → Nat → Int64 → Int64 → Int32 → eH → Option (Unit × eH)} {K39 : Nat → Int → Int → Int → fS → Option (Unit × fS)} {q : Unit × fS} (hk39 : ∀ {φ : Nat → Nat} {h : eH} {s : fS} {l1 : Nat} {l2' : Int64} {l2 : Int} {l4' : Int64} {l4 : Int} {l6' : Int32} {l6 : Int}, fC m b φ0 σo φ h s → l2' = iJ l2 → r64 l2 → l4' = iJ l4 → r64 l4 → l6' = iI l6 → r32 l6 → K39 l1 l2 l4 l6 s = some q → gG m b φ0 σo lU q (k39 94 l1 l2' l4' l6' h)) {φ : Nat → Nat} {h : eH} {s : fS} {l1 : Nat} {l2' : Int64} {l2 : Int} {l6' : Int32} {l6 : Int} {s0' : Int64} {s0 : Int} {s2' : Int32} {s2 : Int} {s3' : Int32} {s3 : Int} (R : fC m b φ0 σo φ h s) (el2 : l2' = iJ l2) (rl2 : r64 l2) (el6 : l6' = iI l6) (rl6 : r32 l6) (es0 : s0' = iJ s0) (rs0 : r64 s0) (es2 : s2' = iI s2) (rs2 : r32 s2) (es3 : s3' = iI s3) (rs3 : r32 s3) (hF : FX19_settle_b175 N K39 l1 l2 l6 s0 s2 s3 s = some q) : gG m b φ0 σo lU q (fX19_settle_b175 N k39 94 l1 l2' l6' s0' 94 s2' s3' h) := by
  subst el2; subst el6; subst es0; subst es2; subst es3
  unfold FX19_settle_b175 at hF
  unfold fX19_settle_b175
  refine s_K hF (fun t2 hF => ?_)
  refine s_gI R t2 (Nat.le_of_ble_eq_true rfl) rfl ?_
  refine s_kok R (t_94 R.S) (Nat.le_of_ble_eq_true rfl) ?_
  refine s_call R (Nat.zero_le _) (fun _ hq => SX19_shareOf (b := 0) (R.rf) rfl rs2 rfl rs3 rfl (R.ri t2 (Nat.le_of_ble_eq_true rfl) rfl) hq) hF (fun f4 rv4 h4 q4 R4 e4 E4 hF => ?_)
  exact SX19_settle_b186 (N := N) (k39 := k39) (K39 := K39) @hk39 R4 rfl rl2 (d_add rfl (c_2l e4.1 e4.2)) (rr_J _) rfl rl6 hF
def FX19_settle_b139 (N : Nat) (K39 : Nat → Int → Int → Int → fS → Option (Unit × fS)) (l1 : Nat) (l2 : Int) (l4 : Int) (l6 : Int) (l8 : Int) (s1 : Int) (s2 : Int) (s3 : Int) (s : fS) : Option (Unit × fS) :=
  (uQI s 20 s1 (l2i (ladd (ladd s2 s3) l8))).bind fun σ1 =>
  (FX7_kind l6 σ1).bind fun q6 =>
  if ¬ (q6.1 = 2) then
    FX19_settle_b186 N K39 l1 l2 l4 l6 q6.2
  else
    (uK 41 q6.2 l1).bind fun _ =>
    if 0 ≤ (q6.2.i l1 6) then
      FX19_settle_b175 N K39 l1 l2 l6 l4 l6 0 q6.2
    else
      FX19_settle_b175 N K39 l1 l2 l6 l4 l6 1 q6.2
theorem SX19_settle_b139 {m b : Nat} {φ0 : Nat → Nat} {σo : fS} {N : Nat} {k39 : Nat → Nat → Int64 → Int64 → Int32 → eH → Option (Unit × eH)} {K39 : Nat → Int → Int → Int → fS → Option (Unit × fS)} {q : Unit × fS} (hk39 : ∀ {φ : Nat → Nat} {h : eH} {s : fS} {l1 : Nat} {l2' : Int64} {l2 : Int} {l4' : Int64} {l4 : Int} {l6' : Int32} {l6 : Int}, fC m b φ0 σo φ h s → l2' = iJ l2 → r64 l2 → l4' = iJ l4 → r64 l4 → l6' = iI l6 → r32 l6 → K39 l1 l2 l4 l6 s = some q → gG m b φ0 σo lU q (k39 94 l1 l2' l4' l6' h)) {φ : Nat → Nat} {h : eH} {s : fS} {l1 : Nat} {l2' : Int64} {l2 : Int} {l4' : Int64} {l4 : Int} {l6' : Int32} {l6 : Int} {l8' : Int64} {l8 : Int} {s0' : Nat} {s1' : Int32} {s1 : Int} {s2' : Int64} {s2 : Int} {s3' : Int64} {s3 : Int} (R : fC m b φ0 σo φ h s) (el2 : l2' = iJ l2) (rl2 : r64 l2) (el4 : l4' = iJ l4) (rl4 : r64 l4) (el6 : l6' = iI l6) (rl6 : r32 l6) (el8 : l8' = iJ l8) (rl8 : r64 l8) (es0 : s0' = φ 20) (es1 : s1' = iI s1) (rs1 : r32 s1) (es2 : s2' = iJ s2) (rs2 : r64 s2) (es3 : s3' = iJ s3) (rs3 : r64 s3) (hF : FX19_settle_b139 N K39 l1 l2 l4 l6 l8 s1 s2 s3 s = some q) : gG m b φ0 σo lU q (fX19_settle_b139 N k39 94 l1 l2' l4' l6' l8' s0' s1' s2' s3' h) := by
  subst el2; subst el4; subst el6; subst el8; subst es1; subst es2; subst es3
  unfold FX19_settle_b139 at hF
  unfold fX19_settle_b139
  refine s_qI R (u_20 R.S).1 (u_20 R.S).2 (by decide) es0 rfl rs1 (d_2i (d_add (d_add rfl rfl) rfl)) (rr_I _) hF (fun h1 σ1 R1 T1 hF => ?_)
  refine s_gO R1 (t_94 R1.S) (Nat.le_of_ble_eq_true rfl) rfl (o_94_0 R1.S) ?_
  refine s_kok R1 (t_17 R1.S) (Nat.le_of_ble_eq_true rfl) ?_
  refine s_call R1 (Nat.zero_le _) (fun _ hq => SX7_kind (b := 0) (R1.rf) rfl rl6 hq) hF (fun f4 rv4 h4 q6 R4 e4 E4 hF => ?_)
  refine s_if (not_congr (i_eq e4.1 (c_lit 2 2 rfl) e4.2 ⟨by decide, by decide⟩)) hF (fun c5 hF => ?_) (fun c5 hF => ?_)
  ·
    exact SX19_settle_b186 (N := N) (k39 := k39) (K39 := K39) @hk39 R4 rfl rl2 rfl rl4 rfl rl6 hF
  ·
    refine s_K hF (fun t7 hF => ?_)
    refine s_gI R4 t7 (Nat.le_of_ble_eq_true rfl) rfl ?_
    refine s_if (i_le (c_lit 0 0 rfl) rfl ⟨by decide, by decide⟩ (R4.ri t7 (Nat.le_of_ble_eq_true rfl) rfl)) hF (fun c8 hF => ?_) (fun c8 hF => ?_)
    ·
      exact SX19_settle_b175 (N := N) (k39 := k39) (K39 := K39) @hk39 R4 rfl rl2 rfl rl6 rfl rl4 rfl rl6 (c_lit 0 0 rfl) ⟨by decide, by decide⟩ hF
    ·
      exact SX19_settle_b175 (N := N) (k39 := k39) (K39 := K39) @hk39 R4 rfl rl2 rfl rl6 rfl rl4 rfl rl6 (c_lit 1 1 rfl) ⟨by decide, by decide⟩ hF
def FX19_settle_b138 (N : Nat) (K39 : Nat → Int → Int → Int → fS → Option (Unit × fS)) (l1 : Nat) (l2 : Int) (l4 : Int) (l6 : Int) (l8 : Int) (s1 : Int) (s2 : Int) (s : fS) : Option (Unit × fS) :=
  FX19_settle_b139 N K39 l1 l2 l4 l6 l8 s1 s2 0 s
theorem SX19_settle_b138 {m b : Nat} {φ0 : Nat → Nat} {σo : fS} {N : Nat} {k39 : Nat → Nat → Int64 → Int64 → Int32 → eH → Option (Unit × eH)} {K39 : Nat → Int → Int → Int → fS → Option (Unit × fS)} {q : Unit × fS} (hk39 : ∀ {φ : Nat → Nat} {h : eH} {s : fS} {l1 : Nat} {l2' : Int64} {l2 : Int} {l4' : Int64} {l4 : Int} {l6' : Int32} {l6 : Int}, fC m b φ0 σo φ h s → l2' = iJ l2 → r64 l2 → l4' = iJ l4 → r64 l4 → l6' = iI l6 → r32 l6 → K39 l1 l2 l4 l6 s = some q → gG m b φ0 σo lU q (k39 94 l1 l2' l4' l6' h)) {φ : Nat → Nat} {h : eH} {s : fS} {l1 : Nat} {l2' : Int64} {l2 : Int} {l4' : Int64} {l4 : Int} {l6' : Int32} {l6 : Int} {l8' : Int64} {l8 : Int} {s0' : Nat} {s1' : Int32} {s1 : Int} {s2' : Int64} {s2 : Int} (R : fC m b φ0 σo φ h s) (el2 : l2' = iJ l2) (rl2 : r64 l2) (el4 : l4' = iJ l4) (rl4 : r64 l4) (el6 : l6' = iI l6) (rl6 : r32 l6) (el8 : l8' = iJ l8) (rl8 : r64 l8) (es0 : s0' = φ 20) (es1 : s1' = iI s1) (rs1 : r32 s1) (es2 : s2' = iJ s2) (rs2 : r64 s2) (hF : FX19_settle_b138 N K39 l1 l2 l4 l6 l8 s1 s2 s = some q) : gG m b φ0 σo lU q (fX19_settle_b138 N k39 94 l1 l2' l4' l6' l8' s0' s1' s2' h) := by
  subst el2; subst el4; subst el6; subst el8; subst es1; subst es2
  unfold FX19_settle_b138 at hF
  unfold fX19_settle_b138
  exact SX19_settle_b139 (N := N) (k39 := k39) (K39 := K39) @hk39 R rfl rl2 rfl rl4 rfl rl6 rfl rl8 es0 rfl rs1 rfl rs2 (d_lit 0 0 rfl) ⟨by decide, by decide⟩ hF
def FX19_settle_b104 (N : Nat) (K39 : Nat → Int → Int → Int → fS → Option (Unit × fS)) (l1 : Nat) (l2 : Int) (l4 : Int) (l6 : Int) (l7 : Int) (s0 : Int) (s : fS) : Option (Unit × fS) :=
  if (s.i 94 5) = 0 then
    FX19_settle_b138 N K39 l1 l2 l4 l6 s0 l6 (s.j 94 6) s
  else
    if l7 = 0 then
      FX19_settle_b138 N K39 l1 l2 l4 l6 s0 l6 (s.j 94 6) s
    else
      FX19_settle_b139 N K39 l1 l2 l4 l6 s0 l6 (s.j 94 6) (s.j 94 9) s
theorem SX19_settle_b104 {m b : Nat} {φ0 : Nat → Nat} {σo : fS} {N : Nat} {k39 : Nat → Nat → Int64 → Int64 → Int32 → eH → Option (Unit × eH)} {K39 : Nat → Int → Int → Int → fS → Option (Unit × fS)} {q : Unit × fS} (hk39 : ∀ {φ : Nat → Nat} {h : eH} {s : fS} {l1 : Nat} {l2' : Int64} {l2 : Int} {l4' : Int64} {l4 : Int} {l6' : Int32} {l6 : Int}, fC m b φ0 σo φ h s → l2' = iJ l2 → r64 l2 → l4' = iJ l4 → r64 l4 → l6' = iI l6 → r32 l6 → K39 l1 l2 l4 l6 s = some q → gG m b φ0 σo lU q (k39 94 l1 l2' l4' l6' h)) {φ : Nat → Nat} {h : eH} {s : fS} {l1 : Nat} {l2' : Int64} {l2 : Int} {l4' : Int64} {l4 : Int} {l6' : Int32} {l6 : Int} {l7' : Int32} {l7 : Int} {s0' : Int64} {s0 : Int} (R : fC m b φ0 σo φ h s) (el2 : l2' = iJ l2) (rl2 : r64 l2) (el4 : l4' = iJ l4) (rl4 : r64 l4) (el6 : l6' = iI l6) (rl6 : r32 l6) (el7 : l7' = iI l7) (rl7 : r32 l7) (es0 : s0' = iJ s0) (rs0 : r64 s0) (hF : FX19_settle_b104 N K39 l1 l2 l4 l6 l7 s0 s = some q) : gG m b φ0 σo lU q (fX19_settle_b104 N k39 94 l1 l2' l4' l6' l7' s0' h) := by
  subst el2; subst el4; subst el6; subst el7; subst es0
  unfold FX19_settle_b104 at hF
  unfold fX19_settle_b104
  refine s_gO R (t_94 R.S) (Nat.le_of_ble_eq_true rfl) rfl (o_94_0 R.S) ?_
  refine s_gA R (t_17 R.S) (Nat.le_of_ble_eq_true rfl) rfl (o_17_2 R.S) (fun _ _ => ?_)
  refine s_gJ R (t_94 R.S) (Nat.le_of_ble_eq_true rfl) rfl ?_
  refine s_gI R (t_94 R.S) (Nat.le_of_ble_eq_true rfl) rfl ?_
  refine s_if (i_eq rfl (c_lit 0 0 rfl) (R.ri (t_94 R.S) (Nat.le_of_ble_eq_true rfl) rfl) ⟨by decide, by decide⟩) hF (fun c5 hF => ?_) (fun c5 hF => ?_)
  ·
    exact SX19_settle_b138 (N := N) (k39 := k39) (K39 := K39) @hk39 R rfl rl2 rfl rl4 rfl rl6 rfl rs0 rfl rfl rl6 rfl (R.rj (t_94 R.S) (Nat.le_of_ble_eq_true rfl) rfl) hF
  ·
    refine s_if (i_eq rfl (c_lit 0 0 rfl) rl7 ⟨by decide, by decide⟩) hF (fun c6 hF => ?_) (fun c6 hF => ?_)
    ·
      exact SX19_settle_b138 (N := N) (k39 := k39) (K39 := K39) @hk39 R rfl rl2 rfl rl4 rfl rl6 rfl rs0 rfl rfl rl6 rfl (R.rj (t_94 R.S) (Nat.le_of_ble_eq_true rfl) rfl) hF
    ·
      refine s_gJ R (t_94 R.S) (Nat.le_of_ble_eq_true rfl) rfl ?_
      exact SX19_settle_b139 (N := N) (k39 := k39) (K39 := K39) @hk39 R rfl rl2 rfl rl4 rfl rl6 rfl rs0 rfl rfl rl6 rfl (R.rj (t_94 R.S) (Nat.le_of_ble_eq_true rfl) rfl) rfl (R.rj (t_94 R.S) (Nat.le_of_ble_eq_true rfl) rfl) hF
def FX19_settle_b79 (N : Nat) (K39 : Nat → Int → Int → Int → fS → Option (Unit × fS)) (l1 : Nat) (l2 : Int) (l4 : Int) (l6 : Int) (s0 : Int) (s : fS) : Option (Unit × fS) :=
  (uK 41 s l1).bind fun _ =>
  if ¬ ((s.i l1 8) = 0) then
    (uK 41 s l1).bind fun _ =>
    (FX19_nearest (lmul l4 l2) (s.i l1 8) s).bind fun q6 =>
    FX19_settle_b104 N K39 l1 l2 l4 l6 s0 q6.1 q6.2
  else
    FX19_settle_b104 N K39 l1 l2 l4 l6 s0 0 s
theorem SX19_settle_b79 {m b : Nat} {φ0 : Nat → Nat} {σo : fS} {N : Nat} {k39 : Nat → Nat → Int64 → Int64 → Int32 → eH → Option (Unit × eH)} {K39 : Nat → Int → Int → Int → fS → Option (Unit × fS)} {q : Unit × fS} (hk39 : ∀ {φ : Nat → Nat} {h : eH} {s : fS} {l1 : Nat} {l2' : Int64} {l2 : Int} {l4' : Int64} {l4 : Int} {l6' : Int32} {l6 : Int}, fC m b φ0 σo φ h s → l2' = iJ l2 → r64 l2 → l4' = iJ l4 → r64 l4 → l6' = iI l6 → r32 l6 → K39 l1 l2 l4 l6 s = some q → gG m b φ0 σo lU q (k39 94 l1 l2' l4' l6' h)) {φ : Nat → Nat} {h : eH} {s : fS} {l1 : Nat} {l2' : Int64} {l2 : Int} {l4' : Int64} {l4 : Int} {l6' : Int32} {l6 : Int} {s0' : Int32} {s0 : Int} (R : fC m b φ0 σo φ h s) (el2 : l2' = iJ l2) (rl2 : r64 l2) (el4 : l4' = iJ l4) (rl4 : r64 l4) (el6 : l6' = iI l6) (rl6 : r32 l6) (es0 : s0' = iI s0) (rs0 : r32 s0) (hF : FX19_settle_b79 N K39 l1 l2 l4 l6 s0 s = some q) : gG m b φ0 σo lU q (fX19_settle_b79 N k39 94 l1 l2' l4' l6' s0' h) := by
  subst el2; subst el4; subst el6; subst es0
  unfold FX19_settle_b79 at hF
  unfold fX19_settle_b79
  refine s_K hF (fun t2 hF => ?_)
  refine s_gI R t2 (Nat.le_of_ble_eq_true rfl) rfl ?_
  refine s_if (not_congr (i_eq rfl (c_lit 0 0 rfl) (R.ri t2 (Nat.le_of_ble_eq_true rfl) rfl) ⟨by decide, by decide⟩)) hF (fun c3 hF => ?_) (fun c3 hF => ?_)
  ·
    refine s_K hF (fun t5 hF => ?_)
    refine s_gI R t5 (Nat.le_of_ble_eq_true rfl) rfl ?_
    refine s_call R (Nat.zero_le _) (fun _ hq => SX19_nearest (b := 0) (R.rf) (d_mul rfl rfl) (rr_J _) (c_2l rfl (R.ri t5 (Nat.le_of_ble_eq_true rfl) rfl)) (r32.w (R.ri t5 (Nat.le_of_ble_eq_true rfl) rfl)) hq) hF (fun f6 rv6 h6 q6 R6 e6 E6 hF => ?_)
    exact SX19_settle_b104 (N := N) (k39 := k39) (K39 := K39) @hk39 R6 rfl rl2 rfl rl4 rfl rl6 rfl rs0 e6.1 e6.2 hF
  ·
    exact SX19_settle_b104 (N := N) (k39 := k39) (K39 := K39) @hk39 R rfl rl2 rfl rl4 rfl rl6 rfl rs0 (d_lit 0 0 rfl) ⟨by decide, by decide⟩ hF
def FX19_settle_b78 (N : Nat) (K39 : Nat → Int → Int → Int → fS → Option (Unit × fS)) (l1 : Nat) (l2 : Int) (l4 : Int) (l6 : Int) (s : fS) : Option (Unit × fS) :=
  FX19_settle_b79 N K39 l1 l2 l4 l6 0 s
theorem SX19_settle_b78 {m b : Nat} {φ0 : Nat → Nat} {σo : fS} {N : Nat} {k39 : Nat → Nat → Int64 → Int64 → Int32 → eH → Option (Unit × eH)} {K39 : Nat → Int → Int → Int → fS → Option (Unit × fS)} {q : Unit × fS} (hk39 : ∀ {φ : Nat → Nat} {h : eH} {s : fS} {l1 : Nat} {l2' : Int64} {l2 : Int} {l4' : Int64} {l4 : Int} {l6' : Int32} {l6 : Int}, fC m b φ0 σo φ h s → l2' = iJ l2 → r64 l2 → l4' = iJ l4 → r64 l4 → l6' = iI l6 → r32 l6 → K39 l1 l2 l4 l6 s = some q → gG m b φ0 σo lU q (k39 94 l1 l2' l4' l6' h)) {φ : Nat → Nat} {h : eH} {s : fS} {l1 : Nat} {l2' : Int64} {l2 : Int} {l4' : Int64} {l4 : Int} {l6' : Int32} {l6 : Int} (R : fC m b φ0 σo φ h s) (el2 : l2' = iJ l2) (rl2 : r64 l2) (el4 : l4' = iJ l4) (rl4 : r64 l4) (el6 : l6' = iI l6) (rl6 : r32 l6) (hF : FX19_settle_b78 N K39 l1 l2 l4 l6 s = some q) : gG m b φ0 σo lU q (fX19_settle_b78 N k39 94 l1 l2' l4' l6' h) := by
  subst el2; subst el4; subst el6
  unfold FX19_settle_b78 at hF
  unfold fX19_settle_b78
  exact SX19_settle_b79 (N := N) (k39 := k39) (K39 := K39) @hk39 R rfl rl2 rfl rl4 rfl rl6 (c_lit 0 0 rfl) ⟨by decide, by decide⟩ hF
def FX19_settle_b39 (N : Nat) : Nat → Nat → Int → Int → Int → fS → Option (Unit × fS)
  | 0, _, _, _, _, _ => none
  | n + 1, l1, l2, l4, l6, s =>
    (uK 41 s l1).bind fun _ =>
    if (s.i l1 1) ≤ l6 then
      some ((), s)
    else
      (FX7_kind l6 s).bind fun q7 =>
      if q7.1 = 2 then
        FX19_settle_b78 N (FX19_settle_b39 N n) l1 l2 l4 l6 q7.2
      else
        (FX7_kind l6 q7.2).bind fun q12 =>
        if q12.1 = 3 then
          FX19_settle_b78 N (FX19_settle_b39 N n) l1 l2 l4 l6 q12.2
        else
          FX19_settle_b79 N (FX19_settle_b39 N n) l1 l2 l4 l6 1 q12.2
theorem SX19_settle_b39 {m b : Nat} {φ0 : Nat → Nat} {σo : fS} {N : Nat} {q : Unit × fS} : ∀ {n : Nat} {φ : Nat → Nat} {h : eH} {s : fS} {l1 : Nat} {l2' : Int64} {l2 : Int} {l4' : Int64} {l4 : Int} {l6' : Int32} {l6 : Int}, fC m b φ0 σo φ h s → l2' = iJ l2 → r64 l2 → l4' = iJ l4 → r64 l4 → l6' = iI l6 → r32 l6 → FX19_settle_b39 N n l1 l2 l4 l6 s = some q → gG m b φ0 σo lU q (fX19_settle_b39 N n 94 l1 l2' l4' l6' h) := by
  intro n
  induction n with
 | zero => intro φ h s l1 l2' l2 l4' l4 l6' l6 R el2 rl2 el4 rl4 el6 rl6 hF; simp [FX19_settle_b39] at hF
  | succ n ih =>
    intro φ h s l1 l2' l2 l4' l4 l6' l6 R el2 rl2 el4 rl4 el6 rl6 hF
    subst el2; subst el4; subst el6
    rw [FX19_settle_b39] at hF
    rw [fX19_settle_b39]
    refine s_K hF (fun t2 hF => ?_)
    refine s_gI R t2 (Nat.le_of_ble_eq_true rfl) rfl ?_
    refine s_if (i_le rfl rfl (R.ri t2 (Nat.le_of_ble_eq_true rfl) rfl) rl6) hF (fun c3 hF => ?_) (fun c3 hF => ?_)
    ·
      exact g_ret R hF trivial
    ·
      refine s_gO R (t_94 R.S) (Nat.le_of_ble_eq_true rfl) rfl (o_94_0 R.S) ?_
      refine s_kok R (t_17 R.S) (Nat.le_of_ble_eq_true rfl) ?_
      refine s_call R (Nat.zero_le _) (fun _ hq => SX7_kind (b := 0) (R.rf) rfl rl6 hq) hF (fun f6 rv6 h6 q7 R6 e6 E6 hF => ?_)
      refine s_if (i_eq e6.1 (c_lit 2 2 rfl) e6.2 ⟨by decide, by decide⟩) hF (fun c7 hF => ?_) (fun c7 hF => ?_)
      ·
        exact SX19_settle_b78 (N := N) (k39 := fX19_settle_b39 N n) (K39 := FX19_settle_b39 N n) @ih R6 rfl rl2 rfl rl4 rfl rl6 hF
      ·
        refine s_gO R6 (t_94 R6.S) (Nat.le_of_ble_eq_true rfl) rfl (o_94_0 R6.S) ?_
        refine s_kok R6 (t_17 R6.S) (Nat.le_of_ble_eq_true rfl) ?_
        refine s_call R6 (Nat.zero_le _) (fun _ hq => SX7_kind (b := 0) (R6.rf) rfl rl6 hq) hF (fun f10 rv10 h10 q12 R10 e10 E10 hF => ?_)
        refine s_if (i_eq e10.1 (c_lit 3 3 rfl) e10.2 ⟨by decide, by decide⟩) hF (fun c11 hF => ?_) (fun c11 hF => ?_)
        ·
          exact SX19_settle_b78 (N := N) (k39 := fX19_settle_b39 N n) (K39 := FX19_settle_b39 N n) @ih R10 rfl rl2 rfl rl4 rfl rl6 hF
        ·
          exact SX19_settle_b79 (N := N) (k39 := fX19_settle_b39 N n) (K39 := FX19_settle_b39 N n) @ih R10 rfl rl2 rfl rl4 rfl rl6 (c_lit 1 1 rfl) ⟨by decide, by decide⟩ hF
def FX19_settle_b29 (N : Nat) (l1 : Nat) (s0 : Int) (s : fS) : Option (Unit × fS) :=
  (uK 41 s l1).bind fun _ =>
  FX19_settle_b39 N N l1 s0 0 (s.i l1 0) s
theorem SX19_settle_b29 {m b : Nat} {φ0 : Nat → Nat} {σo : fS} {N : Nat} {q : Unit × fS} {φ : Nat → Nat} {h : eH} {s : fS} {l1 : Nat} {s0' : Int64} {s0 : Int} (R : fC m b φ0 σo φ h s) (es0 : s0' = iJ s0) (rs0 : r64 s0) (hF : FX19_settle_b29 N l1 s0 s = some q) : gG m b φ0 σo lU q (fX19_settle_b29 N 94 l1 s0' h) := by
  subst es0
  unfold FX19_settle_b29 at hF
  unfold fX19_settle_b29
  refine s_K hF (fun t2 hF => ?_)
  refine s_gI R t2 (Nat.le_of_ble_eq_true rfl) rfl ?_
  exact SX19_settle_b39 (N := N) R rfl rs0 (d_lit 0 0 rfl) ⟨by decide, by decide⟩ rfl (R.ri t2 (Nat.le_of_ble_eq_true rfl) rfl) hF
def FX19_settle (N : Nat) (p0 : Nat) (s : fS) : Option (Unit × fS) :=
  (uK 41 s p0).bind fun _ =>
  (FX19_clear N (s.i p0 2) s).bind fun q4 =>
  (uK 41 q4.2 p0).bind fun _ =>
  if (q4.2.i p0 10) ≤ 0 then
    (uK 41 q4.2 p0).bind fun _ =>
    FX19_settle_b29 N p0 (q4.2.i p0 6) q4.2
  else
    (uK 41 q4.2 p0).bind fun _ =>
    FX19_settle_b29 N p0 (ineg (q4.2.i p0 8)) q4.2
theorem SX19_settle {m b : Nat} {φ0 : Nat → Nat} {σo : fS} {N : Nat} {q : Unit × fS} {φ : Nat → Nat} {h : eH} {s : fS} {p0 : Nat} (R : fC m b φ0 σo φ h s) (hF : FX19_settle N p0 s = some q) : gG m b φ0 σo lU q (fX19_settle N 94 p0 h) := by
  unfold FX19_settle at hF
  unfold fX19_settle
  refine s_K hF (fun t2 hF => ?_)
  refine s_gI R t2 (Nat.le_of_ble_eq_true rfl) rfl ?_
  refine s_kok R (t_94 R.S) (Nat.le_of_ble_eq_true rfl) ?_
  refine s_call R (Nat.zero_le _) (fun _ hq => SX19_clear (b := 0) (N := N) (R.rf) rfl (R.ri t2 (Nat.le_of_ble_eq_true rfl) rfl) hq) hF (fun f4 rv4 h4 q4 R4 e4 E4 hF => ?_)
  refine s_K hF (fun t6 hF => ?_)
  refine s_gI R4 t6 (Nat.le_of_ble_eq_true rfl) rfl ?_
  refine s_if (i_le rfl (c_lit 0 0 rfl) (R4.ri t6 (Nat.le_of_ble_eq_true rfl) rfl) ⟨by decide, by decide⟩) hF (fun c7 hF => ?_) (fun c7 hF => ?_)
  ·
    refine s_K hF (fun t9 hF => ?_)
    refine s_gI R4 t9 (Nat.le_of_ble_eq_true rfl) rfl ?_
    exact SX19_settle_b29 (N := N) R4 (c_2l rfl (R4.ri t9 (Nat.le_of_ble_eq_true rfl) rfl)) (r32.w (R4.ri t9 (Nat.le_of_ble_eq_true rfl) rfl)) hF
  ·
    refine s_K hF (fun t11 hF => ?_)
    refine s_gI R4 t11 (Nat.le_of_ble_eq_true rfl) rfl ?_
    exact SX19_settle_b29 (N := N) R4 (c_2l (c_neg rfl) (rr_I _)) (r32.w (rr_I _)) hF
def FX3_pack_b79 (N : Nat) (K18 : Nat → Int → Int → Int → Int → Int → Int → Int → Int → fS → Option ((Int ⊕ Nat) × fS)) (l1 : Nat) (l2 : Int) (l3 : Int) (l4 : Int) (l5 : Int) (l6 : Int) (l7 : Int) (l8 : Int) (l9 : Int) (s : fS) : Option ((Int ⊕ Nat) × fS) :=
  K18 l1 l2 l3 l4 l5 l6 l7 l8 (iadd l9 1) s
theorem SX3_pack_b79 {m b : Nat} {φ0 : Nat → Nat} {σo : fS} (hb : 1 ≤ b) {N : Nat} {k18 : Nat → Nat → Int32 → Int32 → Int32 → Int32 → Int32 → Int32 → Int32 → Int32 → eH → Option ((Int32 ⊕ Nat) × eH)} {K18 : Nat → Int → Int → Int → Int → Int → Int → Int → Int → fS → Option ((Int ⊕ Nat) × fS)} {q : (Int ⊕ Nat) × fS} (hk18 : ∀ {φ : Nat → Nat} {h : eH} {s : fS} {l1 : Nat} {l2' : Int32} {l2 : Int} {l3' : Int32} {l3 : Int} {l4' : Int32} {l4 : Int} {l5' : Int32} {l5 : Int} {l6' : Int32} {l6 : Int} {l7' : Int32} {l7 : Int} {l8' : Int32} {l8 : Int} {l9' : Int32} {l9 : Int}, fC m b φ0 σo φ h s → l2' = iI l2 → r32 l2 → l3' = iI l3 → r32 l3 → l4' = iI l4 → r32 l4 → l5' = iI l5 → r32 l5 → l6' = iI l6 → r32 l6 → l7' = iI l7 → r32 l7 → l8' = iI l8 → r32 l8 → l9' = iI l9 → r32 l9 → K18 l1 l2 l3 l4 l5 l6 l7 l8 l9 s = some q → gG m b φ0 σo (lT lI) q (k18 4 l1 l2' l3' l4' l5' l6' l7' l8' l9' h)) {φ : Nat → Nat} {h : eH} {s : fS} {l1 : Nat} {l2' : Int32} {l2 : Int} {l3' : Int32} {l3 : Int} {l4' : Int32} {l4 : Int} {l5' : Int32} {l5 : Int} {l6' : Int32} {l6 : Int} {l7' : Int32} {l7 : Int} {l8' : Int32} {l8 : Int} {l9' : Int32} {l9 : Int} (R : fC m b φ0 σo φ h s) (el2 : l2' = iI l2) (rl2 : r32 l2) (el3 : l3' = iI l3) (rl3 : r32 l3) (el4 : l4' = iI l4) (rl4 : r32 l4) (el5 : l5' = iI l5) (rl5 : r32 l5) (el6 : l6' = iI l6) (rl6 : r32 l6) (el7 : l7' = iI l7) (rl7 : r32 l7) (el8 : l8' = iI l8) (rl8 : r32 l8) (el9 : l9' = iI l9) (rl9 : r32 l9) (hF : FX3_pack_b79 N K18 l1 l2 l3 l4 l5 l6 l7 l8 l9 s = some q) : gG m b φ0 σo (lT lI) q (fX3_pack_b79 N k18 4 l1 l2' l3' l4' l5' l6' l7' l8' l9' h) := by
  subst el2; subst el3; subst el4; subst el5; subst el6; subst el7; subst el8; subst el9
  unfold FX3_pack_b79 at hF
  unfold fX3_pack_b79
  exact hk18 R rfl rl2 rfl rl3 rfl rl4 rfl rl5 rfl rl6 rfl rl7 rfl rl8 (c_add rfl (c_lit 1 1 rfl)) (rr_I _) hF
def FX3_pack_b44 (N : Nat) (K18 : Nat → Int → Int → Int → Int → Int → Int → Int → Int → fS → Option ((Int ⊕ Nat) × fS)) (l1 : Nat) (l2 : Int) (l3 : Int) (l4 : Int) (l5 : Int) (l6 : Int) (l7 : Int) (l9 : Int) (s0 : Int) (s1 : Int) (s : fS) : Option ((Int ⊕ Nat) × fS) :=
  (uK 33 s l1).bind fun _ =>
  (FX34_kind l1 l9 s).bind fun q2 =>
  if ¬ (q2.1 = 4) then
    FX3_pack_b79 N K18 l1 l2 l3 l4 l5 l6 l7 (iadd s0 s1) l9 q2.2
  else
    (uK 33 q2.2 l1).bind fun _ =>
    (FX34_of l1 l9 0 q2.2).bind fun q7 =>
    (uRO q7.2 21 q7.1).bind fun a8 =>
    (uK 41 q7.2 a8).bind fun _ =>
    FX3_pack_b79 N K18 l1 l2 l3 l4 l5 l6 (imax l7 (q7.2.i a8 11)) (iadd s0 s1) l9 q7.2
theorem SX3_pack_b44 {m b : Nat} {φ0 : Nat → Nat} {σo : fS} (hb : 1 ≤ b) {N : Nat} {k18 : Nat → Nat → Int32 → Int32 → Int32 → Int32 → Int32 → Int32 → Int32 → Int32 → eH → Option ((Int32 ⊕ Nat) × eH)} {K18 : Nat → Int → Int → Int → Int → Int → Int → Int → Int → fS → Option ((Int ⊕ Nat) × fS)} {q : (Int ⊕ Nat) × fS} (hk18 : ∀ {φ : Nat → Nat} {h : eH} {s : fS} {l1 : Nat} {l2' : Int32} {l2 : Int} {l3' : Int32} {l3 : Int} {l4' : Int32} {l4 : Int} {l5' : Int32} {l5 : Int} {l6' : Int32} {l6 : Int} {l7' : Int32} {l7 : Int} {l8' : Int32} {l8 : Int} {l9' : Int32} {l9 : Int}, fC m b φ0 σo φ h s → l2' = iI l2 → r32 l2 → l3' = iI l3 → r32 l3 → l4' = iI l4 → r32 l4 → l5' = iI l5 → r32 l5 → l6' = iI l6 → r32 l6 → l7' = iI l7 → r32 l7 → l8' = iI l8 → r32 l8 → l9' = iI l9 → r32 l9 → K18 l1 l2 l3 l4 l5 l6 l7 l8 l9 s = some q → gG m b φ0 σo (lT lI) q (k18 4 l1 l2' l3' l4' l5' l6' l7' l8' l9' h)) {φ : Nat → Nat} {h : eH} {s : fS} {l1 : Nat} {l2' : Int32} {l2 : Int} {l3' : Int32} {l3 : Int} {l4' : Int32} {l4 : Int} {l5' : Int32} {l5 : Int} {l6' : Int32} {l6 : Int} {l7' : Int32} {l7 : Int} {l9' : Int32} {l9 : Int} {s0' : Int32} {s0 : Int} {s1' : Int32} {s1 : Int} (R : fC m b φ0 σo φ h s) (el2 : l2' = iI l2) (rl2 : r32 l2) (el3 : l3' = iI l3) (rl3 : r32 l3) (el4 : l4' = iI l4) (rl4 : r32 l4) (el5 : l5' = iI l5) (rl5 : r32 l5) (el6 : l6' = iI l6) (rl6 : r32 l6) (el7 : l7' = iI l7) (rl7 : r32 l7) (el9 : l9' = iI l9) (rl9 : r32 l9) (es0 : s0' = iI s0) (rs0 : r32 s0) (es1 : s1' = iI s1) (rs1 : r32 s1) (hF : FX3_pack_b44 N K18 l1 l2 l3 l4 l5 l6 l7 l9 s0 s1 s = some q) : gG m b φ0 σo (lT lI) q (fX3_pack_b44 N k18 4 l1 l2' l3' l4' l5' l6' l7' l9' s0' s1' h) := by
  subst el2; subst el3; subst el4; subst el5; subst el6; subst el7; subst el9; subst es0; subst es1
  unfold FX3_pack_b44 at hF
  unfold fX3_pack_b44
  refine s_K hF (fun t2 hF => ?_)
  refine s_kok R t2 (Nat.le_of_ble_eq_true rfl) ?_
  refine s_call R (Nat.zero_le _) (fun _ hq => SX34_kind (b := 0) (R.rf) rfl rl9 hq) hF (fun f3 rv3 h3 q2 R3 e3 E3 hF => ?_)
  refine s_if (not_congr (i_eq e3.1 (c_lit 4 4 rfl) e3.2 ⟨by decide, by decide⟩)) hF (fun c4 hF => ?_) (fun c4 hF => ?_)
  ·
    exact SX3_pack_b79 (N := N) (k18 := k18) (K18 := K18) hb @hk18 R3 rfl rl2 rfl rl3 rfl rl4 rfl rl5 rfl rl6 rfl rl7 (c_add rfl rfl) (rr_I _) rfl rl9 hF
  ·
    refine s_gAs R3 (t_4 R3.S) (Nat.le_of_ble_eq_true rfl) rfl (o_4_3 R3.S) (a_21 R3) ?_
    refine s_K hF (fun t7 hF => ?_)
    refine s_kok R3 t7 (Nat.le_of_ble_eq_true rfl) ?_
    refine s_call R3 (Nat.zero_le _) (fun _ hq => SX34_of (b := 0) (R3.rf) rfl rl9 (c_lit 0 0 rfl) ⟨by decide, by decide⟩ hq) hF (fun f8 rv8 h8 q7 R8 e8 E8 hF => ?_)
    refine s_rO R8 (u_21 R8.S).1 (u_21 R8.S).2 rfl (fun _ => rfl) (Nat.le_of_ble_eq_true rfl) (a_21 R8) e8.1 e8.2 hF (fun a8 y9 hF => ?_)
    refine s_K hF (fun t11 hF => ?_)
    refine s_gI R8 t11 (Nat.le_of_ble_eq_true rfl) rfl ?_
    exact SX3_pack_b79 (N := N) (k18 := k18) (K18 := K18) hb @hk18 R8 rfl rl2 rfl rl3 rfl rl4 rfl rl5 rfl rl6 (c_max rfl rfl rl7 (R8.ri t11 (Nat.le_of_ble_eq_true rfl) rfl)) (r_max rl7 (R8.ri t11 (Nat.le_of_ble_eq_true rfl) rfl)) (c_add rfl rfl) (rr_I _) rfl rl9 hF
def FX3_pack_b201 (N : Nat) (K134 : Nat → Int → Int → Int → Int → Int → Int → fS → Option ((Int ⊕ Nat) × fS)) (l1 : Nat) (l3 : Int) (l4 : Int) (l5 : Int) (l6 : Int) (l8 : Int) (l9 : Int) (s : fS) : Option ((Int ⊕ Nat) × fS) :=
  K134 l1 l3 l4 l5 l6 l8 (iadd l9 1) s
theorem SX3_pack_b201 {m b : Nat} {φ0 : Nat → Nat} {σo : fS} (hb : 1 ≤ b) {N : Nat} {k134 : Nat → Nat → Int32 → Int32 → Int32 → Int32 → Int32 → Int32 → eH → Option ((Int32 ⊕ Nat) × eH)} {K134 : Nat → Int → Int → Int → Int → Int → Int → fS → Option ((Int ⊕ Nat) × fS)} {q : (Int ⊕ Nat) × fS} (hk134 : ∀ {φ : Nat → Nat} {h : eH} {s : fS} {l1 : Nat} {l3' : Int32} {l3 : Int} {l4' : Int32} {l4 : Int} {l5' : Int32} {l5 : Int} {l6' : Int32} {l6 : Int} {l8' : Int32} {l8 : Int} {l9' : Int32} {l9 : Int}, fC m b φ0 σo φ h s → l3' = iI l3 → r32 l3 → l4' = iI l4 → r32 l4 → l5' = iI l5 → r32 l5 → l6' = iI l6 → r32 l6 → l8' = iI l8 → r32 l8 → l9' = iI l9 → r32 l9 → K134 l1 l3 l4 l5 l6 l8 l9 s = some q → gG m b φ0 σo (lT lI) q (k134 4 l1 l3' l4' l5' l6' l8' l9' h)) {φ : Nat → Nat} {h : eH} {s : fS} {l1 : Nat} {l3' : Int32} {l3 : Int} {l4' : Int32} {l4 : Int} {l5' : Int32} {l5 : Int} {l6' : Int32} {l6 : Int} {l8' : Int32} {l8 : Int} {l9' : Int32} {l9 : Int} (R : fC m b φ0 σo φ h s) (el3 : l3' = iI l3) (rl3 : r32 l3) (el4 : l4' = iI l4) (rl4 : r32 l4) (el5 : l5' = iI l5) (rl5 : r32 l5) (el6 : l6' = iI l6) (rl6 : r32 l6) (el8 : l8' = iI l8) (rl8 : r32 l8) (el9 : l9' = iI l9) (rl9 : r32 l9) (hF : FX3_pack_b201 N K134 l1 l3 l4 l5 l6 l8 l9 s = some q) : gG m b φ0 σo (lT lI) q (fX3_pack_b201 N k134 4 l1 l3' l4' l5' l6' l8' l9' h) := by
  subst el3; subst el4; subst el5; subst el6; subst el8; subst el9
  unfold FX3_pack_b201 at hF
  unfold fX3_pack_b201
  exact hk134 R rfl rl3 rfl rl4 rfl rl5 rfl rl6 rfl rl8 (c_add rfl (c_lit 1 1 rfl)) (rr_I _) hF
def FX3_pack_b346 (N : Nat) (s1 : Int) (s2 : Int) (s3 : Int) (s : fS) : Option ((Int ⊕ Nat) × fS) :=
  (uQI s 191 s1 (iadd s2 s3)).bind fun σ1 =>
  (uPI σ1 4 4 (iadd (σ1.i 4 4) 1)).bind fun σ5 =>
  some (.inl (σ1.i 4 4), σ5)
theorem SX3_pack_b346 {m b : Nat} {φ0 : Nat → Nat} {σo : fS} {N : Nat} {q : (Int ⊕ Nat) × fS} {φ : Nat → Nat} {h : eH} {s : fS} {s1' : Int32} {s1 : Int} {s2' : Int32} {s2 : Int} {s3' : Int32} {s3 : Int} (R : fC m b φ0 σo φ h s) (es1 : s1' = iI s1) (rs1 : r32 s1) (es2 : s2' = iI s2) (rs2 : r32 s2) (es3 : s3' = iI s3) (rs3 : r32 s3) (hF : FX3_pack_b346 N s1 s2 s3 s = some q) : gG m b φ0 σo (lT lI) q (fX3_pack_b346 N 4 191 s1' s2' s3' h) := by
  subst es1; subst es2; subst es3
  unfold FX3_pack_b346 at hF
  unfold fX3_pack_b346
  refine s_qI R (u_191 R.S).1 (u_191 R.S).2 (by decide) (a_191 R) rfl rs1 (c_add rfl rfl) (rr_I _) hF (fun h1 σ1 R1 T1 hF => ?_)
  refine s_gI R1 (t_4 R1.S) (Nat.le_of_ble_eq_true rfl) rfl ?_
  refine s_pI R1 (t_4 R1.S) (Nat.le_of_ble_eq_true rfl) rfl (c_add rfl (c_lit 1 1 rfl)) (rr_I _) hF (fun h3 σ5 R3 T3 hF => ?_)
  exact g_ret R3 hF ⟨rfl, (R1.ri (t_4 R1.S) (Nat.le_of_ble_eq_true rfl) rfl)⟩
def FX3_pack_b235 (N : Nat) (l3 : Int) (l4 : Int) (l5 : Int) (l6 : Int) (l8 : Int) (s : fS) : Option ((Int ⊕ Nat) × fS) :=
  (uRO s 21 (s.i 4 4)).bind fun a5 =>
  (uK 41 s a5).bind fun _ =>
  (uPI s a5 0 l6).bind fun σ7 =>
  (uK 41 σ7 a5).bind fun _ =>
  (uPI σ7 a5 1 (σ7.i 17 3)).bind fun σ13 =>
  (uK 41 σ13 a5).bind fun _ =>
  (uPZ σ13 a5 2 l3).bind fun σ15 =>
  (FX19_pack N a5 l4 l5 1073741823 σ15).bind fun q22 =>
  tB (FX4_want q22.1 16 q22.2) fun x24 σ25 =>
  (FX19_settle N a5 σ25).bind fun q29 =>
  (uRI q29.2 191 2).bind fun x32 =>
  (uQI q29.2 191 2 (iadd x32 1)).bind fun σ34 =>
  (uRI σ34 191 3).bind fun x38 =>
  (uQI σ34 191 3 (iadd x38 l8)).bind fun σ40 =>
  (uRI σ40 191 5).bind fun x44 =>
  (uK 41 σ40 a5).bind fun _ =>
  if (σ40.i a5 10) ≤ 0 then
    FX3_pack_b346 N 5 x44 0 σ40
  else
    FX3_pack_b346 N 5 x44 1 σ40
theorem SX3_pack_b235 {m b : Nat} {φ0 : Nat → Nat} {σo : fS} {N : Nat} {q : (Int ⊕ Nat) × fS} {φ : Nat → Nat} {h : eH} {s : fS} {l3' : Int32} {l3 : Int} {l4' : Int32} {l4 : Int} {l5' : Int32} {l5 : Int} {l6' : Int32} {l6 : Int} {l8' : Int32} {l8 : Int} (R : fC m b φ0 σo φ h s) (el3 : l3' = iI l3) (rl3 : r32 l3) (el4 : l4' = iI l4) (rl4 : r32 l4) (el5 : l5' = iI l5) (rl5 : r32 l5) (el6 : l6' = iI l6) (rl6 : r32 l6) (el8 : l8' = iI l8) (rl8 : r32 l8) (hF : FX3_pack_b235 N l3 l4 l5 l6 l8 s = some q) : gG m b φ0 σo (lT lI) q (fX3_pack_b235 N 4 l3' l4' l5' l6' l8' h) := by
  subst el3; subst el4; subst el5; subst el6; subst el8
  unfold FX3_pack_b235 at hF
  unfold fX3_pack_b235
  refine s_gAs R (t_4 R.S) (Nat.le_of_ble_eq_true rfl) rfl (o_4_3 R.S) (a_21 R) ?_
  refine s_gI R (t_4 R.S) (Nat.le_of_ble_eq_true rfl) rfl ?_
  refine s_rO R (u_21 R.S).1 (u_21 R.S).2 rfl (fun _ => rfl) (Nat.le_of_ble_eq_true rfl) (a_21 R) rfl (R.ri (t_4 R.S) (Nat.le_of_ble_eq_true rfl) rfl) hF (fun a5 y3 hF => ?_)
  refine s_K hF (fun t5 hF => ?_)
  refine s_pI R t5 (Nat.le_of_ble_eq_true rfl) rfl rfl rl6 hF (fun h4 σ7 R4 T4 hF => ?_)
  refine s_gO R4 (t_4 R4.S) (Nat.le_of_ble_eq_true rfl) rfl (o_4_2 R4.S) ?_
  refine s_gI R4 (t_17 R4.S) (Nat.le_of_ble_eq_true rfl) rfl ?_
  refine s_K hF (fun t9 hF => ?_)
  refine s_pI R4 t9 (Nat.le_of_ble_eq_true rfl) rfl rfl (R4.ri (t_17 R4.S) (Nat.le_of_ble_eq_true rfl) rfl) hF (fun h8 σ13 R8 T8 hF => ?_)
  refine s_K hF (fun t11 hF => ?_)
  refine s_pZ R8 t11 (Nat.le_of_ble_eq_true rfl) rfl rfl rl3 hF (fun h10 σ15 R10 T10 hF => ?_)
  refine s_gO R10 (t_4 R10.S) (Nat.le_of_ble_eq_true rfl) rfl (o_4_0 R10.S) ?_
  refine s_gO R10 (t_4 R10.S) (Nat.le_of_ble_eq_true rfl) rfl (o_4_9 R10.S) ?_
  refine s_kok R10 (t_94 R10.S) (Nat.le_of_ble_eq_true rfl) ?_
  refine s_call R10 (Nat.zero_le _) (fun _ hq => SX19_pack (b := 0) (N := N) (R10.rf) rfl rl4 rfl rl5 (c_lit 1073741823 1073741823 rfl) ⟨by decide, by decide⟩ hq) hF (fun f15 rv15 h15 q22 R15 e15 E15 hF => ?_)
  refine s_kok R15 (t_5 R15.S) (Nat.le_of_ble_eq_true rfl) ?_
  refine s_tB R15 (Nat.zero_le _) (fun _ hq => SX4_want (b := 0) (R15.rf) e15.1 e15.2 (c_lit 16 16 rfl) ⟨by decide, by decide⟩ hq) hF (fun f17 rv17 h17 x24 σ25 R17 e17 E17 hF => ?_)
  refine s_gO R17 (t_4 R17.S) (Nat.le_of_ble_eq_true rfl) rfl (o_4_9 R17.S) ?_
  refine s_kok R17 (t_94 R17.S) (Nat.le_of_ble_eq_true rfl) ?_
  refine s_call R17 (Nat.zero_le _) (fun _ hq => SX19_settle (b := 0) (N := N) (R17.rf) hq) hF (fun f20 rv20 h20 q29 R20 e20 E20 hF => ?_)
  refine s_gAs R20 (t_4 R20.S) (Nat.le_of_ble_eq_true rfl) rfl (o_4_36 R20.S) (a_191 R20) ?_
  refine s_rI R20 (u_191 R20.S).1 (u_191 R20.S).2 (by decide) (a_191 R20) (c_lit 2 2 rfl) ⟨by decide, by decide⟩ hF (fun x32 ra22 hF => ?_)
  refine s_qI R20 (u_191 R20.S).1 (u_191 R20.S).2 (by decide) (a_191 R20) (c_lit 2 2 rfl) ⟨by decide, by decide⟩ (c_add rfl (c_lit 1 1 rfl)) (rr_I _) hF (fun h23 σ34 R23 T23 hF => ?_)
  refine s_gAs R23 (t_4 R23.S) (Nat.le_of_ble_eq_true rfl) rfl (o_4_36 R23.S) (a_191 R23) ?_
  refine s_rI R23 (u_191 R23.S).1 (u_191 R23.S).2 (by decide) (a_191 R23) (c_lit 3 3 rfl) ⟨by decide, by decide⟩ hF (fun x38 ra25 hF => ?_)
  refine s_qI R23 (u_191 R23.S).1 (u_191 R23.S).2 (by decide) (a_191 R23) (c_lit 3 3 rfl) ⟨by decide, by decide⟩ (c_add rfl rfl) (rr_I _) hF (fun h26 σ40 R26 T26 hF => ?_)
  refine s_gAs R26 (t_4 R26.S) (Nat.le_of_ble_eq_true rfl) rfl (o_4_36 R26.S) (a_191 R26) ?_
  refine s_rI R26 (u_191 R26.S).1 (u_191 R26.S).2 (by decide) (a_191 R26) (c_lit 5 5 rfl) ⟨by decide, by decide⟩ hF (fun x44 ra28 hF => ?_)
  refine s_K hF (fun t30 hF => ?_)
  refine s_gI R26 t30 (Nat.le_of_ble_eq_true rfl) rfl ?_
  refine s_if (i_le rfl (c_lit 0 0 rfl) (R26.ri t30 (Nat.le_of_ble_eq_true rfl) rfl) ⟨by decide, by decide⟩) hF (fun c31 hF => ?_) (fun c31 hF => ?_)
  ·
    exact SX3_pack_b346 (N := N) R26 (c_lit 5 5 rfl) ⟨by decide, by decide⟩ rfl ra28 (c_lit 0 0 rfl) ⟨by decide, by decide⟩ hF
  ·
    exact SX3_pack_b346 (N := N) R26 (c_lit 5 5 rfl) ⟨by decide, by decide⟩ rfl ra28 (c_lit 1 1 rfl) ⟨by decide, by decide⟩ hF
def FX3_pack_b134 (N : Nat) : Nat → Nat → Int → Int → Int → Int → Int → Int → fS → Option ((Int ⊕ Nat) × fS)
  | 0, _, _, _, _, _, _, _, _ => none
  | n + 1, l1, l3, l4, l5, l6, l8, l9, s =>
    (uK 33 s l1).bind fun _ =>
    if (s.i l1 1) ≤ l9 then
      (uRQ s 21 (s.i 4 4)).bind fun a8 =>
      match a8 with
      | none =>
        (uNO 41 0 13 s).bind fun q15 =>
        (FX39_init q15.1 q15.2).bind fun q17 =>
        (uK 41 q17.2 q15.1).bind fun _ =>
        (uQO q17.2 21 (s.i 4 4) q15.1).bind fun σ18 =>
        FX3_pack_b235 N l3 l4 l5 l6 l8 σ18
      | some a10 =>
        FX3_pack_b235 N l3 l4 l5 l6 l8 s
    else
      (uK 33 s l1).bind fun _ =>
      (FX34_kind l1 l9 s).bind fun q21 =>
      if 5 ≤ q21.1 then
        FX3_pack_b201 N (FX3_pack_b134 N n) l1 l3 l4 l5 l6 l8 l9 q21.2
      else
        (uK 33 q21.2 l1).bind fun _ =>
        (FX34_kind l1 l9 q21.2).bind fun q26 =>
        (uK 33 q26.2 l1).bind fun _ =>
        (FX34_of l1 l9 0 q26.2).bind fun q28 =>
        (uK 33 q28.2 l1).bind fun _ =>
        (FX34_of l1 l9 1 q28.2).bind fun q30 =>
        (uK 33 q30.2 l1).bind fun _ =>
        (FX34_of l1 l9 2 q30.2).bind fun q32 =>
        (uK 33 q32.2 l1).bind fun _ =>
        (FX34_of l1 l9 3 q32.2).bind fun q34 =>
        (uK 33 q34.2 l1).bind fun _ =>
        (FX34_of l1 l9 4 q34.2).bind fun q36 =>
        (FX7_add q26.1 q28.1 q30.1 q32.1 q34.1 q36.1 q36.2).bind fun q38 =>
        FX3_pack_b201 N (FX3_pack_b134 N n) l1 l3 l4 l5 l6 l8 l9 q38.2
theorem SX3_pack_b134 {m b : Nat} {φ0 : Nat → Nat} {σo : fS} (hb : 1 ≤ b) {N : Nat} {q : (Int ⊕ Nat) × fS} : ∀ {n : Nat} {φ : Nat → Nat} {h : eH} {s : fS} {l1 : Nat} {l3' : Int32} {l3 : Int} {l4' : Int32} {l4 : Int} {l5' : Int32} {l5 : Int} {l6' : Int32} {l6 : Int} {l8' : Int32} {l8 : Int} {l9' : Int32} {l9 : Int}, fC m b φ0 σo φ h s → l3' = iI l3 → r32 l3 → l4' = iI l4 → r32 l4 → l5' = iI l5 → r32 l5 → l6' = iI l6 → r32 l6 → l8' = iI l8 → r32 l8 → l9' = iI l9 → r32 l9 → FX3_pack_b134 N n l1 l3 l4 l5 l6 l8 l9 s = some q → gG m b φ0 σo (lT lI) q (fX3_pack_b134 N n 4 l1 l3' l4' l5' l6' l8' l9' h) := by
  intro n
  induction n with
 | zero => intro φ h s l1 l3' l3 l4' l4 l5' l5 l6' l6 l8' l8 l9' l9 R el3 rl3 el4 rl4 el5 rl5 el6 rl6 el8 rl8 el9 rl9 hF; simp [FX3_pack_b134] at hF
  | succ n ih =>
    intro φ h s l1 l3' l3 l4' l4 l5' l5 l6' l6 l8' l8 l9' l9 R el3 rl3 el4 rl4 el5 rl5 el6 rl6 el8 rl8 el9 rl9 hF
    subst el3; subst el4; subst el5; subst el6; subst el8; subst el9
    rw [FX3_pack_b134] at hF
    rw [fX3_pack_b134]
    refine s_K hF (fun t2 hF => ?_)
    refine s_gI R t2 (Nat.le_of_ble_eq_true rfl) rfl ?_
    refine s_if (i_le rfl rfl (R.ri t2 (Nat.le_of_ble_eq_true rfl) rfl) rl9) hF (fun c3 hF => ?_) (fun c3 hF => ?_)
    ·
      refine s_gAs R (t_4 R.S) (Nat.le_of_ble_eq_true rfl) rfl (o_4_3 R.S) (a_21 R) ?_
      refine s_gI R (t_4 R.S) (Nat.le_of_ble_eq_true rfl) rfl ?_
      refine s_rQ R (u_21 R.S).1 (u_21 R.S).2 rfl (fun _ => rfl) (Nat.le_of_ble_eq_true rfl) (a_21 R) rfl (R.ri (t_4 R.S) (Nat.le_of_ble_eq_true rfl) rfl) hF (fun a8 y6 hF => ?_)
      cases a8 with
      | none =>
        dsimp only at hF ⊢
        refine s_gAs R (t_4 R.S) (Nat.le_of_ble_eq_true rfl) rfl (o_4_3 R.S) (a_21 R) ?_
        refine s_gI R (t_4 R.S) (Nat.le_of_ble_eq_true rfl) rfl ?_
        refine s_nO R (Nat.le_of_ble_eq_true rfl) (by decide) (fun _ => rfl) hF (fun h10 s10_ R10 E10 z10 l10_ hF => ?_)
        refine s_call R10 (Nat.zero_le _) (fun _ hq => SX39_init (b := 0) (R10.rf) hq) hF (fun f11 rv11 h11 q17 R11 e11 E11 hF => ?_)
        refine s_K hF (fun t13 hF => ?_)
        refine s_qO R11 (by rw [(t_21 R11.S)]; decide) (t_21 R11.S) rfl (fun _ => rfl) (Nat.le_of_ble_eq_true rfl) (a_21 R11) rfl (R.ri (t_4 R.S) (Nat.le_of_ble_eq_true rfl) rfl) t13 (Nat.le_of_ble_eq_true rfl) hF (fun h12 σ18 R12 T12 hF => ?_)
        exact SX3_pack_b235 (N := N) R12 rfl rl3 rfl rl4 rfl rl5 rfl rl6 rfl rl8 hF
      | some a10 =>
        dsimp only at hF ⊢
        exact SX3_pack_b235 (N := N) R rfl rl3 rfl rl4 rfl rl5 rfl rl6 rfl rl8 hF
    ·
      refine s_K hF (fun t15 hF => ?_)
      refine s_kok R t15 (Nat.le_of_ble_eq_true rfl) ?_
      refine s_call R (Nat.zero_le _) (fun _ hq => SX34_kind (b := 0) (R.rf) rfl rl9 hq) hF (fun f16 rv16 h16 q21 R16 e16 E16 hF => ?_)
      refine s_if (i_le (c_lit 5 5 rfl) e16.1 ⟨by decide, by decide⟩ e16.2) hF (fun c17 hF => ?_) (fun c17 hF => ?_)
      ·
        exact SX3_pack_b201 (N := N) (k134 := fX3_pack_b134 N n) (K134 := FX3_pack_b134 N n) hb @ih R16 rfl rl3 rfl rl4 rfl rl5 rfl rl6 rfl rl8 rfl rl9 hF
      ·
        refine s_gO R16 (t_4 R16.S) (Nat.le_of_ble_eq_true rfl) rfl (o_4_2 R16.S) ?_
        refine s_K hF (fun t20 hF => ?_)
        refine s_kok R16 t20 (Nat.le_of_ble_eq_true rfl) ?_
        refine s_call R16 (Nat.zero_le _) (fun _ hq => SX34_kind (b := 0) (R16.rf) rfl rl9 hq) hF (fun f21 rv21 h21 q26 R21 e21 E21 hF => ?_)
        refine s_K hF (fun t23 hF => ?_)
        refine s_kok R21 t23 (Nat.le_of_ble_eq_true rfl) ?_
        refine s_call R21 (Nat.zero_le _) (fun _ hq => SX34_of (b := 0) (R21.rf) rfl rl9 (c_lit 0 0 rfl) ⟨by decide, by decide⟩ hq) hF (fun f24 rv24 h24 q28 R24 e24 E24 hF => ?_)
        refine s_K hF (fun t26 hF => ?_)
        refine s_kok R24 t26 (Nat.le_of_ble_eq_true rfl) ?_
        refine s_call R24 (Nat.zero_le _) (fun _ hq => SX34_of (b := 0) (R24.rf) rfl rl9 (c_lit 1 1 rfl) ⟨by decide, by decide⟩ hq) hF (fun f27 rv27 h27 q30 R27 e27 E27 hF => ?_)
        refine s_K hF (fun t29 hF => ?_)
        refine s_kok R27 t29 (Nat.le_of_ble_eq_true rfl) ?_
        refine s_call R27 (Nat.zero_le _) (fun _ hq => SX34_of (b := 0) (R27.rf) rfl rl9 (c_lit 2 2 rfl) ⟨by decide, by decide⟩ hq) hF (fun f30 rv30 h30 q32 R30 e30 E30 hF => ?_)
        refine s_K hF (fun t32 hF => ?_)
        refine s_kok R30 t32 (Nat.le_of_ble_eq_true rfl) ?_
        refine s_call R30 (Nat.zero_le _) (fun _ hq => SX34_of (b := 0) (R30.rf) rfl rl9 (c_lit 3 3 rfl) ⟨by decide, by decide⟩ hq) hF (fun f33 rv33 h33 q34 R33 e33 E33 hF => ?_)
        refine s_K hF (fun t35 hF => ?_)
        refine s_kok R33 t35 (Nat.le_of_ble_eq_true rfl) ?_
        refine s_call R33 (Nat.zero_le _) (fun _ hq => SX34_of (b := 0) (R33.rf) rfl rl9 (c_lit 4 4 rfl) ⟨by decide, by decide⟩ hq) hF (fun f36 rv36 h36 q36 R36 e36 E36 hF => ?_)
        refine s_kok R36 (t_17 R36.S) (Nat.le_of_ble_eq_true rfl) ?_
        refine s_call R36 hb (fun _ hq => SX7_add (b := 1) (Nat.le_of_ble_eq_true rfl) (R36.rf) e21.1 e21.2 e24.1 e24.2 e27.1 e27.2 e30.1 e30.2 e33.1 e33.2 e36.1 e36.2 hq) hF (fun f38 rv38 h38 q38 R38 e38 E38 hF => ?_)
        exact SX3_pack_b201 (N := N) (k134 := fX3_pack_b134 N n) (K134 := FX3_pack_b134 N n) hb @ih R38 rfl rl3 rfl rl4 rfl rl5 rfl rl6 rfl rl8 rfl rl9 hF
def FX3_pack_b127 (N : Nat) (l1 : Nat) (l2 : Int) (l3 : Int) (l4 : Int) (l5 : Int) (l6 : Int) (l8 : Int) (s1 : Int) (s : fS) : Option ((Int ⊕ Nat) × fS) :=
  tB (FX4_want s1 2 s) fun x2 σ3 =>
  FX3_pack_b134 N N l1 l3 l4 l5 l6 l8 l2 σ3
theorem SX3_pack_b127 {m b : Nat} {φ0 : Nat → Nat} {σo : fS} (hb : 1 ≤ b) {N : Nat} {q : (Int ⊕ Nat) × fS} {φ : Nat → Nat} {h : eH} {s : fS} {l1 : Nat} {l2' : Int32} {l2 : Int} {l3' : Int32} {l3 : Int} {l4' : Int32} {l4 : Int} {l5' : Int32} {l5 : Int} {l6' : Int32} {l6 : Int} {l8' : Int32} {l8 : Int} {s1' : Int32} {s1 : Int} (R : fC m b φ0 σo φ h s) (el2 : l2' = iI l2) (rl2 : r32 l2) (el3 : l3' = iI l3) (rl3 : r32 l3) (el4 : l4' = iI l4) (rl4 : r32 l4) (el5 : l5' = iI l5) (rl5 : r32 l5) (el6 : l6' = iI l6) (rl6 : r32 l6) (el8 : l8' = iI l8) (rl8 : r32 l8) (es1 : s1' = iI s1) (rs1 : r32 s1) (hF : FX3_pack_b127 N l1 l2 l3 l4 l5 l6 l8 s1 s = some q) : gG m b φ0 σo (lT lI) q (fX3_pack_b127 N 4 l1 l2' l3' l4' l5' l6' l8' 5 s1' h) := by
  subst el2; subst el3; subst el4; subst el5; subst el6; subst el8; subst es1
  unfold FX3_pack_b127 at hF
  unfold fX3_pack_b127
  refine s_kok R (t_5 R.S) (Nat.le_of_ble_eq_true rfl) ?_
  refine s_tB R (Nat.zero_le _) (fun _ hq => SX4_want (b := 0) (R.rf) rfl rs1 (c_lit 2 2 rfl) ⟨by decide, by decide⟩ hq) hF (fun f2 rv2 h2 x2 σ3 R2 e2 E2 hF => ?_)
  exact SX3_pack_b134 (N := N) hb R2 rfl rl3 rfl rl4 rfl rl5 rfl rl6 rfl rl8 rfl rl2 hF
def FX3_pack_b126 (N : Nat) (l1 : Nat) (l2 : Int) (l3 : Int) (l4 : Int) (l5 : Int) (l6 : Int) (l8 : Int) (s : fS) : Option ((Int ⊕ Nat) × fS) :=
  FX3_pack_b127 N l1 l2 l3 l4 l5 l6 l8 0 s
theorem SX3_pack_b126 {m b : Nat} {φ0 : Nat → Nat} {σo : fS} (hb : 1 ≤ b) {N : Nat} {q : (Int ⊕ Nat) × fS} {φ : Nat → Nat} {h : eH} {s : fS} {l1 : Nat} {l2' : Int32} {l2 : Int} {l3' : Int32} {l3 : Int} {l4' : Int32} {l4 : Int} {l5' : Int32} {l5 : Int} {l6' : Int32} {l6 : Int} {l8' : Int32} {l8 : Int} (R : fC m b φ0 σo φ h s) (el2 : l2' = iI l2) (rl2 : r32 l2) (el3 : l3' = iI l3) (rl3 : r32 l3) (el4 : l4' = iI l4) (rl4 : r32 l4) (el5 : l5' = iI l5) (rl5 : r32 l5) (el6 : l6' = iI l6) (rl6 : r32 l6) (el8 : l8' = iI l8) (rl8 : r32 l8) (hF : FX3_pack_b126 N l1 l2 l3 l4 l5 l6 l8 s = some q) : gG m b φ0 σo (lT lI) q (fX3_pack_b126 N 4 l1 l2' l3' l4' l5' l6' l8' 5 h) := by
  subst el2; subst el3; subst el4; subst el5; subst el6; subst el8
  unfold FX3_pack_b126 at hF
  unfold fX3_pack_b126
  exact SX3_pack_b127 (N := N) hb R rfl rl2 rfl rl3 rfl rl4 rfl rl5 rfl rl6 rfl rl8 (c_lit 0 0 rfl) ⟨by decide, by decide⟩ hF
def FX3_pack_b18 (N : Nat) : Nat → Nat → Int → Int → Int → Int → Int → Int → Int → Int → fS → Option ((Int ⊕ Nat) × fS)
  | 0, _, _, _, _, _, _, _, _, _, _ => none
  | n + 1, l1, l2, l3, l4, l5, l6, l7, l8, l9, s =>
    (uK 33 s l1).bind fun _ =>
    if (s.i l1 1) ≤ l9 then
      if 3000 ≤ (s.i 4 4) then
        FX3_pack_b126 N l1 l2 l3 l4 l5 l6 l8 s
      else
        if 20000 < (iadd (s.i 17 3) l8) then
          FX3_pack_b126 N l1 l2 l3 l4 l5 l6 l8 s
        else
          if 10 ≤ l7 then
            FX3_pack_b126 N l1 l2 l3 l4 l5 l6 l8 s
          else
            FX3_pack_b127 N l1 l2 l3 l4 l5 l6 l8 1 s
    else
      (uK 33 s l1).bind fun _ =>
      (FX34_kind l1 l9 s).bind fun q16 =>
      if 5 ≤ q16.1 then
        FX3_pack_b44 N (FX3_pack_b18 N n) l1 l2 l3 l4 l5 l6 l7 l9 l8 0 q16.2
      else
        FX3_pack_b44 N (FX3_pack_b18 N n) l1 l2 l3 l4 l5 l6 l7 l9 l8 1 q16.2
theorem SX3_pack_b18 {m b : Nat} {φ0 : Nat → Nat} {σo : fS} (hb : 1 ≤ b) {N : Nat} {q : (Int ⊕ Nat) × fS} : ∀ {n : Nat} {φ : Nat → Nat} {h : eH} {s : fS} {l1 : Nat} {l2' : Int32} {l2 : Int} {l3' : Int32} {l3 : Int} {l4' : Int32} {l4 : Int} {l5' : Int32} {l5 : Int} {l6' : Int32} {l6 : Int} {l7' : Int32} {l7 : Int} {l8' : Int32} {l8 : Int} {l9' : Int32} {l9 : Int}, fC m b φ0 σo φ h s → l2' = iI l2 → r32 l2 → l3' = iI l3 → r32 l3 → l4' = iI l4 → r32 l4 → l5' = iI l5 → r32 l5 → l6' = iI l6 → r32 l6 → l7' = iI l7 → r32 l7 → l8' = iI l8 → r32 l8 → l9' = iI l9 → r32 l9 → FX3_pack_b18 N n l1 l2 l3 l4 l5 l6 l7 l8 l9 s = some q → gG m b φ0 σo (lT lI) q (fX3_pack_b18 N n 4 l1 l2' l3' l4' l5' l6' l7' l8' l9' h) := by
  intro n
  induction n with
 | zero => intro φ h s l1 l2' l2 l3' l3 l4' l4 l5' l5 l6' l6 l7' l7 l8' l8 l9' l9 R el2 rl2 el3 rl3 el4 rl4 el5 rl5 el6 rl6 el7 rl7 el8 rl8 el9 rl9 hF; simp [FX3_pack_b18] at hF
  | succ n ih =>
    intro φ h s l1 l2' l2 l3' l3 l4' l4 l5' l5 l6' l6 l7' l7 l8' l8 l9' l9 R el2 rl2 el3 rl3 el4 rl4 el5 rl5 el6 rl6 el7 rl7 el8 rl8 el9 rl9 hF
    subst el2; subst el3; subst el4; subst el5; subst el6; subst el7; subst el8; subst el9
    rw [FX3_pack_b18] at hF
    rw [fX3_pack_b18]
    refine s_K hF (fun t2 hF => ?_)
    refine s_gI R t2 (Nat.le_of_ble_eq_true rfl) rfl ?_
    refine s_if (i_le rfl rfl (R.ri t2 (Nat.le_of_ble_eq_true rfl) rfl) rl9) hF (fun c3 hF => ?_) (fun c3 hF => ?_)
    ·
      refine s_gO R (t_4 R.S) (Nat.le_of_ble_eq_true rfl) rfl (o_4_0 R.S) ?_
      refine s_gI R (t_4 R.S) (Nat.le_of_ble_eq_true rfl) rfl ?_
      refine s_if (i_le (c_lit 3000 3000 rfl) rfl ⟨by decide, by decide⟩ (R.ri (t_4 R.S) (Nat.le_of_ble_eq_true rfl) rfl)) hF (fun c6 hF => ?_) (fun c6 hF => ?_)
      ·
        exact SX3_pack_b126 (N := N) hb R rfl rl2 rfl rl3 rfl rl4 rfl rl5 rfl rl6 rfl rl8 hF
      ·
        refine s_gO R (t_4 R.S) (Nat.le_of_ble_eq_true rfl) rfl (o_4_2 R.S) ?_
        refine s_gI R (t_17 R.S) (Nat.le_of_ble_eq_true rfl) rfl ?_
        refine s_if (i_lt (c_lit 20000 20000 rfl) (c_add rfl rfl) ⟨by decide, by decide⟩ (rr_I _)) hF (fun c9 hF => ?_) (fun c9 hF => ?_)
        ·
          exact SX3_pack_b126 (N := N) hb R rfl rl2 rfl rl3 rfl rl4 rfl rl5 rfl rl6 rfl rl8 hF
        ·
          refine s_if (i_le (c_lit 10 10 rfl) rfl ⟨by decide, by decide⟩ rl7) hF (fun c10 hF => ?_) (fun c10 hF => ?_)
          ·
            exact SX3_pack_b126 (N := N) hb R rfl rl2 rfl rl3 rfl rl4 rfl rl5 rfl rl6 rfl rl8 hF
          ·
            exact SX3_pack_b127 (N := N) hb R rfl rl2 rfl rl3 rfl rl4 rfl rl5 rfl rl6 rfl rl8 (c_lit 1 1 rfl) ⟨by decide, by decide⟩ hF
    ·
      refine s_K hF (fun t12 hF => ?_)
      refine s_kok R t12 (Nat.le_of_ble_eq_true rfl) ?_
      refine s_call R (Nat.zero_le _) (fun _ hq => SX34_kind (b := 0) (R.rf) rfl rl9 hq) hF (fun f13 rv13 h13 q16 R13 e13 E13 hF => ?_)
      refine s_if (i_le (c_lit 5 5 rfl) e13.1 ⟨by decide, by decide⟩ e13.2) hF (fun c14 hF => ?_) (fun c14 hF => ?_)
      ·
        exact SX3_pack_b44 (N := N) (k18 := fX3_pack_b18 N n) (K18 := FX3_pack_b18 N n) hb @ih R13 rfl rl2 rfl rl3 rfl rl4 rfl rl5 rfl rl6 rfl rl7 rfl rl9 rfl rl8 (c_lit 0 0 rfl) ⟨by decide, by decide⟩ hF
      ·
        exact SX3_pack_b44 (N := N) (k18 := fX3_pack_b18 N n) (K18 := FX3_pack_b18 N n) hb @ih R13 rfl rl2 rfl rl3 rfl rl4 rfl rl5 rfl rl6 rfl rl7 rfl rl9 rfl rl8 (c_lit 1 1 rfl) ⟨by decide, by decide⟩ hF
def FX3_pack (N : Nat) (p0 : Nat) (p1 : Int) (p2 : Int) (p3 : Int) (p4 : Int) (s : fS) : Option ((Int ⊕ Nat) × fS) :=
  FX3_pack_b18 N N p0 p1 p2 p3 p4 (s.i 17 3) 0 0 p1 s
theorem SX3_pack {m b : Nat} {φ0 : Nat → Nat} {σo : fS} (hb : 1 ≤ b) {N : Nat} {q : (Int ⊕ Nat) × fS} {φ : Nat → Nat} {h : eH} {s : fS} {p0 : Nat} {p1' : Int32} {p1 : Int} {p2' : Int32} {p2 : Int} {p3' : Int32} {p3 : Int} {p4' : Int32} {p4 : Int} (R : fC m b φ0 σo φ h s) (ep1 : p1' = iI p1) (rp1 : r32 p1) (ep2 : p2' = iI p2) (rp2 : r32 p2) (ep3 : p3' = iI p3) (rp3 : r32 p3) (ep4 : p4' = iI p4) (rp4 : r32 p4) (hF : FX3_pack N p0 p1 p2 p3 p4 s = some q) : gG m b φ0 σo (lT lI) q (fX3_pack N 4 p0 p1' p2' p3' p4' h) := by
  subst ep1; subst ep2; subst ep3; subst ep4
  unfold FX3_pack at hF
  unfold fX3_pack
  refine s_gO R (t_4 R.S) (Nat.le_of_ble_eq_true rfl) rfl (o_4_2 R.S) ?_
  refine s_gI R (t_17 R.S) (Nat.le_of_ble_eq_true rfl) rfl ?_
  exact SX3_pack_b18 (N := N) hb R rfl rp1 rfl rp2 rfl rp3 rfl rp4 rfl (R.ri (t_17 R.S) (Nat.le_of_ble_eq_true rfl) rfl) (c_lit 0 0 rfl) ⟨by decide, by decide⟩ (c_lit 0 0 rfl) ⟨by decide, by decide⟩ rfl rp1 hF
def FX3_indent (N : Nat) (s : fS) : Option ((Unit ⊕ Nat) × fS) :=
  (uPI s 174 1 0).bind fun σ3 =>
  (uRI σ3 27 527).bind fun x11 =>
  tB (FX3_pack N 174 0 0 1 x11 σ3) fun x14 σ15 =>
  tB (FX3_put 4 x14 0 0 0 0 σ15) fun x17 σ18 =>
  some (.inl (), σ18)
theorem SX3_indent {m b : Nat} {φ0 : Nat → Nat} {σo : fS} (hb : 1 ≤ b) {N : Nat} {q : (Unit ⊕ Nat) × fS} {φ : Nat → Nat} {h : eH} {s : fS} (R : fC m b φ0 σo φ h s) (hF : FX3_indent N s = some q) : gG m b φ0 σo (lT lU) q (fX3_indent N 4 h) := by
  unfold FX3_indent at hF
  unfold fX3_indent
  refine s_gO R (t_4 R.S) (Nat.le_of_ble_eq_true rfl) rfl (o_4_18 R.S) ?_
  refine s_pI R (t_174 R.S) (Nat.le_of_ble_eq_true rfl) rfl (c_lit 0 0 rfl) ⟨by decide, by decide⟩ hF (fun h2 σ3 R2 T2 hF => ?_)
  refine s_gO R2 (t_4 R2.S) (Nat.le_of_ble_eq_true rfl) rfl (o_4_18 R2.S) ?_
  refine s_gO R2 (t_4 R2.S) (Nat.le_of_ble_eq_true rfl) rfl (o_4_6 R2.S) ?_
  refine s_gAs R2 (t_23 R2.S) (Nat.le_of_ble_eq_true rfl) rfl (o_23_3 R2.S) (a_27 R2) ?_
  refine s_rI R2 (u_27 R2.S).1 (u_27 R2.S).2 (by decide) (a_27 R2) (c_lit 527 527 rfl) ⟨by decide, by decide⟩ hF (fun x11 ra6 hF => ?_)
  refine s_kok R2 (t_4 R2.S) (Nat.le_of_ble_eq_true rfl) ?_
  refine s_tB R2 hb (fun _ hq => SX3_pack (b := 1) (N := N) (Nat.le_of_ble_eq_true rfl) (R2.rf) (c_lit 0 0 rfl) ⟨by decide, by decide⟩ (c_lit 0 0 rfl) ⟨by decide, by decide⟩ (c_lit 1 1 rfl) ⟨by decide, by decide⟩ rfl ra6 hq) hF (fun f8 rv8 h8 x14 σ15 R8 e8 E8 hF => ?_)
  refine s_kok R8 (t_4 R8.S) (Nat.le_of_ble_eq_true rfl) ?_
  refine s_tB R8 hb (fun _ hq => SX3_put (b := 1) (Nat.le_of_ble_eq_true rfl) (R8.rf) (c_lit 4 4 rfl) ⟨by decide, by decide⟩ e8.1 e8.2 (c_lit 0 0 rfl) ⟨by decide, by decide⟩ (c_lit 0 0 rfl) ⟨by decide, by decide⟩ (c_lit 0 0 rfl) ⟨by decide, by decide⟩ (c_lit 0 0 rfl) ⟨by decide, by decide⟩ hq) hF (fun f10 rv10 h10 x17 σ18 R10 e10 E10 hF => ?_)
  exact g_ret R10 hF trivial
def FX3_wantHorizontal_b60 (N : Nat) (s : fS) : Option ((Int ⊕ Nat) × fS) :=
  some (.inl 1, s)
theorem SX3_wantHorizontal_b60 {m b : Nat} {φ0 : Nat → Nat} {σo : fS} {N : Nat} {q : (Int ⊕ Nat) × fS} {φ : Nat → Nat} {h : eH} {s : fS} (R : fC m b φ0 σo φ h s) (hF : FX3_wantHorizontal_b60 N s = some q) : gG m b φ0 σo (lT lI) q (fX3_wantHorizontal_b60 N h) := by
  unfold FX3_wantHorizontal_b60 at hF
  unfold fX3_wantHorizontal_b60
  exact g_ret R hF ⟨(c_lit 1 1 rfl), ⟨by decide, by decide⟩⟩
def FX3_wantHorizontal_b47 (N : Nat) (l1 : Int) (s : fS) : Option ((Int ⊕ Nat) × fS) :=
  (FX3_push 2 s).bind fun q2 =>
  if l1 = 0 then
    FX3_wantHorizontal_b60 N q2.2
  else
    tB (FX3_indent N q2.2) fun x5 σ6 =>
    FX3_wantHorizontal_b60 N σ6
theorem SX3_wantHorizontal_b47 {m b : Nat} {φ0 : Nat → Nat} {σo : fS} (hb : 1 ≤ b) {N : Nat} {q : (Int ⊕ Nat) × fS} {φ : Nat → Nat} {h : eH} {s : fS} {l1' : Int32} {l1 : Int} (R : fC m b φ0 σo φ h s) (el1 : l1' = iI l1) (rl1 : r32 l1) (hF : FX3_wantHorizontal_b47 N l1 s = some q) : gG m b φ0 σo (lT lI) q (fX3_wantHorizontal_b47 N 4 l1' h) := by
  subst el1
  unfold FX3_wantHorizontal_b47 at hF
  unfold fX3_wantHorizontal_b47
  refine s_kok R (t_4 R.S) (Nat.le_of_ble_eq_true rfl) ?_
  refine s_call R (Nat.zero_le _) (fun _ hq => SX3_push (b := 0) (R.rf) (c_lit 2 2 rfl) ⟨by decide, by decide⟩ hq) hF (fun f2 rv2 h2 q2 R2 e2 E2 hF => ?_)
  refine s_if (i_eq rfl (c_lit 0 0 rfl) rl1 ⟨by decide, by decide⟩) hF (fun c3 hF => ?_) (fun c3 hF => ?_)
  ·
    exact SX3_wantHorizontal_b60 (N := N) R2 hF
  ·
    refine s_kok R2 (t_4 R2.S) (Nat.le_of_ble_eq_true rfl) ?_
    refine s_tB R2 hb (fun _ hq => SX3_indent (b := 1) (N := N) (Nat.le_of_ble_eq_true rfl) (R2.rf) hq) hF (fun f5 rv5 h5 x5 σ6 R5 e5 E5 hF => ?_)
    exact SX3_wantHorizontal_b60 (N := N) R5 hF
def FX3_wantHorizontal_b40 (N : Nat) (l1 : Int) (s : fS) : Option ((Int ⊕ Nat) × fS) :=
  tB (FX3_addGlue N 1555 s) fun x2 σ3 =>
  FX3_wantHorizontal_b47 N l1 σ3
theorem SX3_wantHorizontal_b40 {m b : Nat} {φ0 : Nat → Nat} {σo : fS} (hb : 1 ≤ b) {N : Nat} {q : (Int ⊕ Nat) × fS} {φ : Nat → Nat} {h : eH} {s : fS} {l1' : Int32} {l1 : Int} (R : fC m b φ0 σo φ h s) (el1 : l1' = iI l1) (rl1 : r32 l1) (hF : FX3_wantHorizontal_b40 N l1 s = some q) : gG m b φ0 σo (lT lI) q (fX3_wantHorizontal_b40 N 4 l1' h) := by
  subst el1
  unfold FX3_wantHorizontal_b40 at hF
  unfold fX3_wantHorizontal_b40
  refine s_kok R (t_4 R.S) (Nat.le_of_ble_eq_true rfl) ?_
  refine s_tB R hb (fun _ hq => SX3_addGlue (b := 1) (N := N) (Nat.le_of_ble_eq_true rfl) (R.rf) (c_lit 1555 1555 rfl) ⟨by decide, by decide⟩ hq) hF (fun f2 rv2 h2 x2 σ3 R2 e2 E2 hF => ?_)
  exact SX3_wantHorizontal_b47 (N := N) hb R2 rfl rl1 hF
def FX3_wantHorizontal (N : Nat) (p0 : Int) (s : fS) : Option ((Int ⊕ Nat) × fS) :=
  (FX3_isVertical s).bind fun q2 =>
  if ¬ (q2.1 = 0) then
    (uRI q2.2 176 (q2.2.i 4 27)).bind fun x8 =>
    if x8 = 0 then
      FX3_wantHorizontal_b40 N p0 q2.2
    else
      (uRI q2.2 177 (q2.2.i 4 27)).bind fun x19 =>
      if (q2.2.i 170 1) ≤ x19 then
        FX3_wantHorizontal_b47 N p0 q2.2
      else
        FX3_wantHorizontal_b40 N p0 q2.2
  else
    some (.inl 0, q2.2)
theorem SX3_wantHorizontal {m b : Nat} {φ0 : Nat → Nat} {σo : fS} (hb : 1 ≤ b) {N : Nat} {q : (Int ⊕ Nat) × fS} {φ : Nat → Nat} {h : eH} {s : fS} {p0' : Int32} {p0 : Int} (R : fC m b φ0 σo φ h s) (ep0 : p0' = iI p0) (rp0 : r32 p0) (hF : FX3_wantHorizontal N p0 s = some q) : gG m b φ0 σo (lT lI) q (fX3_wantHorizontal N 4 p0' h) := by
  subst ep0
  unfold FX3_wantHorizontal at hF
  unfold fX3_wantHorizontal
  refine s_kok R (t_4 R.S) (Nat.le_of_ble_eq_true rfl) ?_
  refine s_call R (Nat.zero_le _) (fun _ hq => SX3_isVertical (b := 0) (R.rf) hq) hF (fun f2 rv2 h2 q2 R2 e2 E2 hF => ?_)
  refine s_if (not_congr (i_eq e2.1 (c_lit 0 0 rfl) e2.2 ⟨by decide, by decide⟩)) hF (fun c3 hF => ?_) (fun c3 hF => ?_)
  ·
    refine s_gAs R2 (t_4 R2.S) (Nat.le_of_ble_eq_true rfl) rfl (o_4_19 R2.S) (a_176 R2) ?_
    refine s_gI R2 (t_4 R2.S) (Nat.le_of_ble_eq_true rfl) rfl ?_
    refine s_rI R2 (u_176 R2.S).1 (u_176 R2.S).2 (by decide) (a_176 R2) rfl (R2.ri (t_4 R2.S) (Nat.le_of_ble_eq_true rfl) rfl) hF (fun x8 ra6 hF => ?_)
    refine s_if (i_eq rfl (c_lit 0 0 rfl) ra6 ⟨by decide, by decide⟩) hF (fun c7 hF => ?_) (fun c7 hF => ?_)
    ·
      exact SX3_wantHorizontal_b40 (N := N) hb R2 rfl rp0 hF
    ·
      refine s_gO R2 (t_4 R2.S) (Nat.le_of_ble_eq_true rfl) rfl (o_4_16 R2.S) ?_
      refine s_gI R2 (t_170 R2.S) (Nat.le_of_ble_eq_true rfl) rfl ?_
      refine s_gAs R2 (t_4 R2.S) (Nat.le_of_ble_eq_true rfl) rfl (o_4_20 R2.S) (a_177 R2) ?_
      refine s_gI R2 (t_4 R2.S) (Nat.le_of_ble_eq_true rfl) rfl ?_
      refine s_rI R2 (u_177 R2.S).1 (u_177 R2.S).2 (by decide) (a_177 R2) rfl (R2.ri (t_4 R2.S) (Nat.le_of_ble_eq_true rfl) rfl) hF (fun x19 ra12 hF => ?_)
      refine s_if (i_le rfl rfl (R2.ri (t_170 R2.S) (Nat.le_of_ble_eq_true rfl) rfl) ra12) hF (fun c13 hF => ?_) (fun c13 hF => ?_)
      ·
        exact SX3_wantHorizontal_b47 (N := N) hb R2 rfl rp0 hF
      ·
        exact SX3_wantHorizontal_b40 (N := N) hb R2 rfl rp0 hF
  ·
    exact g_ret R2 hF ⟨(c_lit 0 0 rfl), ⟨by decide, by decide⟩⟩
def FX3_character_b114 (N : Nat) (s : fS) : Option ((Unit ⊕ Nat) × fS) :=
  some (.inl (), s)
theorem SX3_character_b114 {m b : Nat} {φ0 : Nat → Nat} {σo : fS} {N : Nat} {q : (Unit ⊕ Nat) × fS} {φ : Nat → Nat} {h : eH} {s : fS} (R : fC m b φ0 σo φ h s) (hF : FX3_character_b114 N s = some q) : gG m b φ0 σo (lT lU) q (fX3_character_b114 N h) := by
  unfold FX3_character_b114 at hF
  unfold fX3_character_b114
  exact g_ret R hF trivial
def FX3_character_b110 (N : Nat) (s : fS) : Option ((Unit ⊕ Nat) × fS) :=
  tB (FX3_endWord N s) fun x2 σ3 =>
  FX3_character_b114 N σ3
theorem SX3_character_b110 {m b : Nat} {φ0 : Nat → Nat} {σo : fS} (hb : 1 ≤ b) {N : Nat} {q : (Unit ⊕ Nat) × fS} {φ : Nat → Nat} {h : eH} {s : fS} (R : fC m b φ0 σo φ h s) (hF : FX3_character_b110 N s = some q) : gG m b φ0 σo (lT lU) q (fX3_character_b110 N 4 h) := by
  unfold FX3_character_b110 at hF
  unfold fX3_character_b110
  refine s_kok R (t_4 R.S) (Nat.le_of_ble_eq_true rfl) ?_
  refine s_tB R hb (fun _ hq => SX3_endWord (b := 1) (N := N) (Nat.le_of_ble_eq_true rfl) (R.rf) hq) hF (fun f2 rv2 h2 x2 σ3 R2 e2 E2 hF => ?_)
  exact SX3_character_b114 (N := N) R2 hF
def FX3_character_b72 (N : Nat) (l1 : Int) (l3 : Int) (s : fS) : Option ((Unit ⊕ Nat) × fS) :=
  (uPI s 4 31 l3).bind fun σ1 =>
  (uPI σ1 4 30 (iadd (σ1.i 4 30) 1)).bind fun σ7 =>
  (uQI σ7 184 (σ1.i 4 30) (i2b (i2b l1))).bind fun σ9 =>
  if l1 = 45 then
    FX3_character_b110 N σ9
  else
    if ¬ ((σ9.i 4 30) = 64) then
      FX3_character_b114 N σ9
    else
      FX3_character_b110 N σ9
theorem SX3_character_b72 {m b : Nat} {φ0 : Nat → Nat} {σo : fS} (hb : 1 ≤ b) {N : Nat} {q : (Unit ⊕ Nat) × fS} {φ : Nat → Nat} {h : eH} {s : fS} {l1' : Int32} {l1 : Int} {l3' : Int32} {l3 : Int} (R : fC m b φ0 σo φ h s) (el1 : l1' = iI l1) (rl1 : r32 l1) (el3 : l3' = iI l3) (rl3 : r32 l3) (hF : FX3_character_b72 N l1 l3 s = some q) : gG m b φ0 σo (lT lU) q (fX3_character_b72 N 4 l1' l3' h) := by
  subst el1; subst el3
  unfold FX3_character_b72 at hF
  unfold fX3_character_b72
  refine s_pI R (t_4 R.S) (Nat.le_of_ble_eq_true rfl) rfl rfl rl3 hF (fun h1 σ1 R1 T1 hF => ?_)
  refine s_gAs R1 (t_4 R1.S) (Nat.le_of_ble_eq_true rfl) rfl (o_4_28 R1.S) (a_184 R1) ?_
  refine s_gI R1 (t_4 R1.S) (Nat.le_of_ble_eq_true rfl) rfl ?_
  refine s_pI R1 (t_4 R1.S) (Nat.le_of_ble_eq_true rfl) rfl (c_add rfl (c_lit 1 1 rfl)) (rr_I _) hF (fun h4 σ7 R4 T4 hF => ?_)
  refine s_qI R4 (u_184 R4.S).1 (u_184 R4.S).2 (by decide) (a_184 R4) rfl (R1.ri (t_4 R1.S) (Nat.le_of_ble_eq_true rfl) rfl) (c_2b (c_2b rfl)) (rr_I _) hF (fun h5 σ9 R5 T5 hF => ?_)
  refine s_if (i_eq rfl (c_lit 45 45 rfl) rl1 ⟨by decide, by decide⟩) hF (fun c6 hF => ?_) (fun c6 hF => ?_)
  ·
    exact SX3_character_b110 (N := N) hb R5 hF
  ·
    refine s_gI R5 (t_4 R5.S) (Nat.le_of_ble_eq_true rfl) rfl ?_
    refine s_if (not_congr (i_eq rfl (c_lit 64 64 rfl) (R5.ri (t_4 R5.S) (Nat.le_of_ble_eq_true rfl) rfl) ⟨by decide, by decide⟩)) hF (fun c8 hF => ?_) (fun c8 hF => ?_)
    ·
      exact SX3_character_b114 (N := N) R5 hF
    ·
      exact SX3_character_b110 (N := N) hb R5 hF
def FX3_character_b48 (N : Nat) (l1 : Int) (l3 : Int) (s1 : Int) (s : fS) : Option ((Unit ⊕ Nat) × fS) :=
  tB (FX4_want s1 14 s) fun x2 σ3 =>
  if (σ3.i 4 30) ≤ 0 then
    FX3_character_b72 N l1 l3 σ3
  else
    if (σ3.i 4 31) = l3 then
      FX3_character_b72 N l1 l3 σ3
    else
      tB (FX3_endWord N σ3) fun x11 σ12 =>
      FX3_character_b72 N l1 l3 σ12
theorem SX3_character_b48 {m b : Nat} {φ0 : Nat → Nat} {σo : fS} (hb : 1 ≤ b) {N : Nat} {q : (Unit ⊕ Nat) × fS} {φ : Nat → Nat} {h : eH} {s : fS} {l1' : Int32} {l1 : Int} {l3' : Int32} {l3 : Int} {s1' : Int32} {s1 : Int} (R : fC m b φ0 σo φ h s) (el1 : l1' = iI l1) (rl1 : r32 l1) (el3 : l3' = iI l3) (rl3 : r32 l3) (es1 : s1' = iI s1) (rs1 : r32 s1) (hF : FX3_character_b48 N l1 l3 s1 s = some q) : gG m b φ0 σo (lT lU) q (fX3_character_b48 N 4 l1' l3' 5 s1' h) := by
  subst el1; subst el3; subst es1
  unfold FX3_character_b48 at hF
  unfold fX3_character_b48
  refine s_kok R (t_5 R.S) (Nat.le_of_ble_eq_true rfl) ?_
  refine s_tB R (Nat.zero_le _) (fun _ hq => SX4_want (b := 0) (R.rf) rfl rs1 (c_lit 14 14 rfl) ⟨by decide, by decide⟩ hq) hF (fun f2 rv2 h2 x2 σ3 R2 e2 E2 hF => ?_)
  refine s_gI R2 (t_4 R2.S) (Nat.le_of_ble_eq_true rfl) rfl ?_
  refine s_if (i_le rfl (c_lit 0 0 rfl) (R2.ri (t_4 R2.S) (Nat.le_of_ble_eq_true rfl) rfl) ⟨by decide, by decide⟩) hF (fun c4 hF => ?_) (fun c4 hF => ?_)
  ·
    exact SX3_character_b72 (N := N) hb R2 rfl rl1 rfl rl3 hF
  ·
    refine s_gI R2 (t_4 R2.S) (Nat.le_of_ble_eq_true rfl) rfl ?_
    refine s_if (i_eq rfl rfl (R2.ri (t_4 R2.S) (Nat.le_of_ble_eq_true rfl) rfl) rl3) hF (fun c6 hF => ?_) (fun c6 hF => ?_)
    ·
      exact SX3_character_b72 (N := N) hb R2 rfl rl1 rfl rl3 hF
    ·
      refine s_kok R2 (t_4 R2.S) (Nat.le_of_ble_eq_true rfl) ?_
      refine s_tB R2 hb (fun _ hq => SX3_endWord (b := 1) (N := N) (Nat.le_of_ble_eq_true rfl) (R2.rf) hq) hF (fun f8 rv8 h8 x11 σ12 R8 e8 E8 hF => ?_)
      exact SX3_character_b72 (N := N) hb R8 rfl rl1 rfl rl3 hF
def FX3_character_b47 (N : Nat) (l1 : Int) (l3 : Int) (s : fS) : Option ((Unit ⊕ Nat) × fS) :=
  FX3_character_b48 N l1 l3 0 s
theorem SX3_character_b47 {m b : Nat} {φ0 : Nat → Nat} {σo : fS} (hb : 1 ≤ b) {N : Nat} {q : (Unit ⊕ Nat) × fS} {φ : Nat → Nat} {h : eH} {s : fS} {l1' : Int32} {l1 : Int} {l3' : Int32} {l3 : Int} (R : fC m b φ0 σo φ h s) (el1 : l1' = iI l1) (rl1 : r32 l1) (el3 : l3' = iI l3) (rl3 : r32 l3) (hF : FX3_character_b47 N l1 l3 s = some q) : gG m b φ0 σo (lT lU) q (fX3_character_b47 N 4 l1' l3' 5 h) := by
  subst el1; subst el3
  unfold FX3_character_b47 at hF
  unfold fX3_character_b47
  exact SX3_character_b48 (N := N) hb R rfl rl1 rfl rl3 (c_lit 0 0 rfl) ⟨by decide, by decide⟩ hF
def FX3_character (N : Nat) (p0 : Int) (s : fS) : Option ((Unit ⊕ Nat) × fS) :=
  tB (FX3_wantHorizontal N 1 s) fun x2 σ3 =>
  (uRI σ3 27 2095).bind fun x8 =>
  if x8 = (-1) then
    FX3_character_b47 N p0 x8 σ3
  else
    (uRO σ3 8 x8).bind fun a17 =>
    (uK 5 σ3 a17).bind fun _ =>
    (FX6_has a17 p0 σ3).bind fun q20 =>
    if q20.1 = 0 then
      FX3_character_b47 N p0 x8 q20.2
    else
      FX3_character_b48 N p0 x8 1 q20.2
theorem SX3_character {m b : Nat} {φ0 : Nat → Nat} {σo : fS} (hb : 1 ≤ b) {N : Nat} {q : (Unit ⊕ Nat) × fS} {φ : Nat → Nat} {h : eH} {s : fS} {p0' : Int32} {p0 : Int} (R : fC m b φ0 σo φ h s) (ep0 : p0' = iI p0) (rp0 : r32 p0) (hF : FX3_character N p0 s = some q) : gG m b φ0 σo (lT lU) q (fX3_character N 4 p0' h) := by
  subst ep0
  unfold FX3_character at hF
  unfold fX3_character
  refine s_kok R (t_4 R.S) (Nat.le_of_ble_eq_true rfl) ?_
  refine s_tB R hb (fun _ hq => SX3_wantHorizontal (b := 1) (N := N) (Nat.le_of_ble_eq_true rfl) (R.rf) (c_lit 1 1 rfl) ⟨by decide, by decide⟩ hq) hF (fun f2 rv2 h2 x2 σ3 R2 e2 E2 hF => ?_)
  refine s_gO R2 (t_4 R2.S) (Nat.le_of_ble_eq_true rfl) rfl (o_4_6 R2.S) ?_
  refine s_gAs R2 (t_23 R2.S) (Nat.le_of_ble_eq_true rfl) rfl (o_23_3 R2.S) (a_27 R2) ?_
  refine s_rI R2 (u_27 R2.S).1 (u_27 R2.S).2 (by decide) (a_27 R2) (c_lit 2095 2095 rfl) ⟨by decide, by decide⟩ hF (fun x8 ra5 hF => ?_)
  refine s_gO R2 (t_4 R2.S) (Nat.le_of_ble_eq_true rfl) rfl (o_4_0 R2.S) ?_
  refine s_if (i_eq rfl (c_lit (-1) (-1) rfl) ra5 ⟨by decide, by decide⟩) hF (fun c7 hF => ?_) (fun c7 hF => ?_)
  ·
    exact SX3_character_b47 (N := N) hb R2 rfl rp0 rfl ra5 hF
  ·
    refine s_gO R2 (t_4 R2.S) (Nat.le_of_ble_eq_true rfl) rfl (o_4_1 R2.S) ?_
    refine s_gAs R2 (t_6 R2.S) (Nat.le_of_ble_eq_true rfl) rfl (o_6_1 R2.S) (a_8 R2) ?_
    refine s_rO R2 (u_8 R2.S).1 (u_8 R2.S).2 rfl (fun _ => rfl) (Nat.le_of_ble_eq_true rfl) (a_8 R2) rfl ra5 hF (fun a17 y10 hF => ?_)
    refine s_K hF (fun t12 hF => ?_)
    refine s_kok R2 t12 (Nat.le_of_ble_eq_true rfl) ?_
    refine s_call R2 (Nat.zero_le _) (fun _ hq => SX6_has (b := 0) (R2.rf) rfl rp0 hq) hF (fun f13 rv13 h13 q20 R13 e13 E13 hF => ?_)
    refine s_if (i_eq e13.1 (c_lit 0 0 rfl) e13.2 ⟨by decide, by decide⟩) hF (fun c14 hF => ?_) (fun c14 hF => ?_)
    ·
      exact SX3_character_b47 (N := N) hb R13 rfl rp0 rfl ra5 hF
    ·
      exact SX3_character_b48 (N := N) hb R13 rfl rp0 rfl ra5 (c_lit 1 1 rfl) ⟨by decide, by decide⟩ hF
def FX9_open (p0 : Int) (s : fS) : Option (Unit × fS) :=
  (uQI s 32 (s.i 23 11) p0).bind fun σ5 =>
  (uQI σ5 33 (σ5.i 23 11) (σ5.i 23 6)).bind fun σ13 =>
  (uPI σ13 23 11 (iadd (σ13.i 23 11) 1)).bind fun σ17 =>
  some ((), σ17)
theorem SX9_open {m b : Nat} {φ0 : Nat → Nat} {σo : fS} {q : Unit × fS} {φ : Nat → Nat} {h : eH} {s : fS} {p0' : Int32} {p0 : Int} (R : fC m b φ0 σo φ h s) (ep0 : p0' = iI p0) (rp0 : r32 p0) (hF : FX9_open p0 s = some q) : gG m b φ0 σo lU q (fX9_open 23 p0' h) := by
  subst ep0
  unfold FX9_open at hF
  unfold fX9_open
  refine s_gAs R (t_23 R.S) (Nat.le_of_ble_eq_true rfl) rfl (o_23_9 R.S) (a_32 R) ?_
  refine s_gI R (t_23 R.S) (Nat.le_of_ble_eq_true rfl) rfl ?_
  refine s_qI R (u_32 R.S).1 (u_32 R.S).2 (by decide) (a_32 R) rfl (R.ri (t_23 R.S) (Nat.le_of_ble_eq_true rfl) rfl) rfl rp0 hF (fun h3 σ5 R3 T3 hF => ?_)
  refine s_gAs R3 (t_23 R3.S) (Nat.le_of_ble_eq_true rfl) rfl (o_23_10 R3.S) (a_33 R3) ?_
  refine s_gI R3 (t_23 R3.S) (Nat.le_of_ble_eq_true rfl) rfl ?_
  refine s_gI R3 (t_23 R3.S) (Nat.le_of_ble_eq_true rfl) rfl ?_
  refine s_qI R3 (u_33 R3.S).1 (u_33 R3.S).2 (by decide) (a_33 R3) rfl (R3.ri (t_23 R3.S) (Nat.le_of_ble_eq_true rfl) rfl) rfl (R3.ri (t_23 R3.S) (Nat.le_of_ble_eq_true rfl) rfl) hF (fun h7 σ13 R7 T7 hF => ?_)
  refine s_gI R7 (t_23 R7.S) (Nat.le_of_ble_eq_true rfl) rfl ?_
  refine s_pI R7 (t_23 R7.S) (Nat.le_of_ble_eq_true rfl) rfl (c_add rfl (c_lit 1 1 rfl)) (rr_I _) hF (fun h9 σ17 R9 T9 hF => ?_)
  exact g_ret R9 hF trivial
def FX3_open_b21 (l1 : Int) (s1 : Int) (s : fS) : Option ((Unit ⊕ Nat) × fS) :=
  tB (FX4_want s1 2 s) fun x2 σ3 =>
  (FX9_open l1 σ3).bind fun q7 =>
  some (.inl (), q7.2)
theorem SX3_open_b21 {m b : Nat} {φ0 : Nat → Nat} {σo : fS} {q : (Unit ⊕ Nat) × fS} {φ : Nat → Nat} {h : eH} {s : fS} {l1' : Int32} {l1 : Int} {s1' : Int32} {s1 : Int} (R : fC m b φ0 σo φ h s) (el1 : l1' = iI l1) (rl1 : r32 l1) (es1 : s1' = iI s1) (rs1 : r32 s1) (hF : FX3_open_b21 l1 s1 s = some q) : gG m b φ0 σo (lT lU) q (fX3_open_b21 4 l1' 5 s1' h) := by
  subst el1; subst es1
  unfold FX3_open_b21 at hF
  unfold fX3_open_b21
  refine s_kok R (t_5 R.S) (Nat.le_of_ble_eq_true rfl) ?_
  refine s_tB R (Nat.zero_le _) (fun _ hq => SX4_want (b := 0) (R.rf) rfl rs1 (c_lit 2 2 rfl) ⟨by decide, by decide⟩ hq) hF (fun f2 rv2 h2 x2 σ3 R2 e2 E2 hF => ?_)
  refine s_gO R2 (t_4 R2.S) (Nat.le_of_ble_eq_true rfl) rfl (o_4_6 R2.S) ?_
  refine s_kok R2 (t_23 R2.S) (Nat.le_of_ble_eq_true rfl) ?_
  refine s_call R2 (Nat.zero_le _) (fun _ hq => SX9_open (b := 0) (R2.rf) rfl rl1 hq) hF (fun f5 rv5 h5 q7 R5 e5 E5 hF => ?_)
  exact g_ret R5 hF trivial
def FX3_open (p0 : Int) (s : fS) : Option ((Unit ⊕ Nat) × fS) :=
  if 100 ≤ (s.i 23 11) then
    FX3_open_b21 p0 0 s
  else
    FX3_open_b21 p0 1 s
theorem SX3_open {m b : Nat} {φ0 : Nat → Nat} {σo : fS} {q : (Unit ⊕ Nat) × fS} {φ : Nat → Nat} {h : eH} {s : fS} {p0' : Int32} {p0 : Int} (R : fC m b φ0 σo φ h s) (ep0 : p0' = iI p0) (rp0 : r32 p0) (hF : FX3_open p0 s = some q) : gG m b φ0 σo (lT lU) q (fX3_open 4 p0' h) := by
  subst ep0
  unfold FX3_open at hF
  unfold fX3_open
  refine s_gO R (t_4 R.S) (Nat.le_of_ble_eq_true rfl) rfl (o_4_0 R.S) ?_
  refine s_gO R (t_4 R.S) (Nat.le_of_ble_eq_true rfl) rfl (o_4_6 R.S) ?_
  refine s_gI R (t_23 R.S) (Nat.le_of_ble_eq_true rfl) rfl ?_
  refine s_if (i_le (c_lit 100 100 rfl) rfl ⟨by decide, by decide⟩ (R.ri (t_23 R.S) (Nat.le_of_ble_eq_true rfl) rfl)) hF (fun c4 hF => ?_) (fun c4 hF => ?_)
  ·
    exact SX3_open_b21 R rfl rp0 (c_lit 0 0 rfl) ⟨by decide, by decide⟩ hF
  ·
    exact SX3_open_b21 R rfl rp0 (c_lit 1 1 rfl) ⟨by decide, by decide⟩ hF
def FX34_copy (this : Nat) (p0 : Nat) (p1 : Int) (s : fS) : Option (Unit × fS) :=
  (uK 33 s p0).bind fun _ =>
  (s.o p0 0).bind fun a1 =>
  (uKA 100 s a1).bind fun _ =>
  (uRI s a1 (imul 6 p1)).bind fun x3 =>
  (uK 33 s p0).bind fun _ =>
  (s.o p0 0).bind fun a5 =>
  (uKA 100 s a5).bind fun _ =>
  (uRI s a5 (iadd (imul 6 p1) 1)).bind fun x7 =>
  (uK 33 s p0).bind fun _ =>
  (s.o p0 0).bind fun a9 =>
  (uKA 100 s a9).bind fun _ =>
  (uRI s a9 (iadd (imul 6 p1) 2)).bind fun x11 =>
  (uK 33 s p0).bind fun _ =>
  (s.o p0 0).bind fun a13 =>
  (uKA 100 s a13).bind fun _ =>
  (uRI s a13 (iadd (imul 6 p1) 3)).bind fun x15 =>
  (uK 33 s p0).bind fun _ =>
  (s.o p0 0).bind fun a17 =>
  (uKA 100 s a17).bind fun _ =>
  (uRI s a17 (iadd (imul 6 p1) 4)).bind fun x19 =>
  (uK 33 s p0).bind fun _ =>
  (s.o p0 0).bind fun a21 =>
  (uKA 100 s a21).bind fun _ =>
  (uRI s a21 (iadd (imul 6 p1) 5)).bind fun x23 =>
  (uK 33 s this).bind fun _ =>
  (FX34_add this x3 x7 x11 x15 x19 x23 s).bind fun q26 =>
  some ((), q26.2)
theorem SX34_copy {m b : Nat} {φ0 : Nat → Nat} {σo : fS} (hb : 1 ≤ b) {q : Unit × fS} {φ : Nat → Nat} {h : eH} {s : fS} {this : Nat} {p0 : Nat} {p1' : Int32} {p1 : Int} (R : fC m b φ0 σo φ h s) (ep1 : p1' = iI p1) (rp1 : r32 p1) (hF : FX34_copy this p0 p1 s = some q) : gG m b φ0 σo lU q (fX34_copy this p0 p1' h) := by
  subst ep1
  unfold FX34_copy at hF
  unfold fX34_copy
  refine s_K hF (fun t2 hF => ?_)
  refine s_oo hF (fun a1 e1 hF => ?_)
  refine s_gA R t2 (Nat.le_of_ble_eq_true rfl) rfl e1 (fun x1_ y1_ => ?_)
  refine s_KA hF (fun y4 z4 hF => ?_)
  refine s_rI R y4 z4 (by decide) rfl (c_mul (c_lit 6 6 rfl) rfl) (rr_I _) hF (fun x3 ra3 hF => ?_)
  refine s_K hF (fun t6 hF => ?_)
  refine s_oo hF (fun a5 e5 hF => ?_)
  refine s_gA R t6 (Nat.le_of_ble_eq_true rfl) rfl e5 (fun x5_ y5_ => ?_)
  refine s_KA hF (fun y8 z8 hF => ?_)
  refine s_rI R y8 z8 (by decide) rfl (c_add (c_mul (c_lit 6 6 rfl) rfl) (c_lit 1 1 rfl)) (rr_I _) hF (fun x7 ra7 hF => ?_)
  refine s_K hF (fun t10 hF => ?_)
  refine s_oo hF (fun a9 e9 hF => ?_)
  refine s_gA R t10 (Nat.le_of_ble_eq_true rfl) rfl e9 (fun x9_ y9_ => ?_)
  refine s_KA hF (fun y12 z12 hF => ?_)
  refine s_rI R y12 z12 (by decide) rfl (c_add (c_mul (c_lit 6 6 rfl) rfl) (c_lit 2 2 rfl)) (rr_I _) hF (fun x11 ra11 hF => ?_)
  refine s_K hF (fun t14 hF => ?_)
  refine s_oo hF (fun a13 e13 hF => ?_)
  refine s_gA R t14 (Nat.le_of_ble_eq_true rfl) rfl e13 (fun x13_ y13_ => ?_)
  refine s_KA hF (fun y16 z16 hF => ?_)
  refine s_rI R y16 z16 (by decide) rfl (c_add (c_mul (c_lit 6 6 rfl) rfl) (c_lit 3 3 rfl)) (rr_I _) hF (fun x15 ra15 hF => ?_)
  refine s_K hF (fun t18 hF => ?_)
  refine s_oo hF (fun a17 e17 hF => ?_)
  refine s_gA R t18 (Nat.le_of_ble_eq_true rfl) rfl e17 (fun x17_ y17_ => ?_)
  refine s_KA hF (fun y20 z20 hF => ?_)
  refine s_rI R y20 z20 (by decide) rfl (c_add (c_mul (c_lit 6 6 rfl) rfl) (c_lit 4 4 rfl)) (rr_I _) hF (fun x19 ra19 hF => ?_)
  refine s_K hF (fun t22 hF => ?_)
  refine s_oo hF (fun a21 e21 hF => ?_)
  refine s_gA R t22 (Nat.le_of_ble_eq_true rfl) rfl e21 (fun x21_ y21_ => ?_)
  refine s_KA hF (fun y24 z24 hF => ?_)
  refine s_rI R y24 z24 (by decide) rfl (c_add (c_mul (c_lit 6 6 rfl) rfl) (c_lit 5 5 rfl)) (rr_I _) hF (fun x23 ra23 hF => ?_)
  refine s_K hF (fun t26 hF => ?_)
  refine s_kok R t26 (Nat.le_of_ble_eq_true rfl) ?_
  refine s_call R hb (fun _ hq => SX34_add (b := 1) (Nat.le_of_ble_eq_true rfl) (R.rf) rfl ra3 rfl ra7 rfl ra11 rfl ra15 rfl ra19 rfl ra23 hq) hF (fun f27 rv27 h27 q26 R27 e27 E27 hF => ?_)
  exact g_ret R27 hF trivial
def FX3_pop (s : fS) : Option (Unit × fS) :=
  (uRI s 177 (s.i 4 27)).bind fun x7 =>
  (uPI s 170 1 x7).bind fun σ9 =>
  (uPI σ9 4 27 (isub (σ9.i 4 27) 1)).bind fun σ13 =>
  (FX3_isVertical σ13).bind fun q18 =>
  (uPZ q18.2 22 11 q18.1).bind fun σ19 =>
  some ((), σ19)
theorem SX3_pop {m b : Nat} {φ0 : Nat → Nat} {σo : fS} {q : Unit × fS} {φ : Nat → Nat} {h : eH} {s : fS} (R : fC m b φ0 σo φ h s) (hF : FX3_pop s = some q) : gG m b φ0 σo lU q (fX3_pop 4 h) := by
  unfold FX3_pop at hF
  unfold fX3_pop
  refine s_gO R (t_4 R.S) (Nat.le_of_ble_eq_true rfl) rfl (o_4_16 R.S) ?_
  refine s_gAs R (t_4 R.S) (Nat.le_of_ble_eq_true rfl) rfl (o_4_20 R.S) (a_177 R) ?_
  refine s_gI R (t_4 R.S) (Nat.le_of_ble_eq_true rfl) rfl ?_
  refine s_rI R (u_177 R.S).1 (u_177 R.S).2 (by decide) (a_177 R) rfl (R.ri (t_4 R.S) (Nat.le_of_ble_eq_true rfl) rfl) hF (fun x7 ra4 hF => ?_)
  refine s_pI R (t_170 R.S) (Nat.le_of_ble_eq_true rfl) rfl rfl ra4 hF (fun h5 σ9 R5 T5 hF => ?_)
  refine s_gI R5 (t_4 R5.S) (Nat.le_of_ble_eq_true rfl) rfl ?_
  refine s_pI R5 (t_4 R5.S) (Nat.le_of_ble_eq_true rfl) rfl (c_sub rfl (c_lit 1 1 rfl)) (rr_I _) hF (fun h7 σ13 R7 T7 hF => ?_)
  refine s_gO R7 (t_4 R7.S) (Nat.le_of_ble_eq_true rfl) rfl (o_4_5 R7.S) ?_
  refine s_kok R7 (t_4 R7.S) (Nat.le_of_ble_eq_true rfl) ?_
  refine s_call R7 (Nat.zero_le _) (fun _ hq => SX3_isVertical (b := 0) (R7.rf) hq) hF (fun f10 rv10 h10 q18 R10 e10 E10 hF => ?_)
  refine s_pZ R10 (t_22 R10.S) (Nat.le_of_ble_eq_true rfl) rfl e10.1 e10.2 hF (fun h11 σ19 R11 T11 hF => ?_)
  exact g_ret R11 hF trivial
def FX21_want (p0 : Int) (p1 : Int) (s : fS) : Option (Unit × fS) :=
  ((o_int 1000000001 (iI p0)).map Int32.toInt).bind fun x3 =>
  ((o_int 1000000002 (iI p0)).map Int32.toInt).bind fun x5 =>
  (uQI s 117 p0 (imax x3 (imin x5 p1))).bind fun σ7 =>
  some ((), σ7)
theorem SX21_want {m b : Nat} {φ0 : Nat → Nat} {σo : fS} {q : Unit × fS} {φ : Nat → Nat} {h : eH} {s : fS} {p0' : Int32} {p0 : Int} {p1' : Int32} {p1 : Int} (R : fC m b φ0 σo φ h s) (ep0 : p0' = iI p0) (rp0 : r32 p0) (ep1 : p1' = iI p1) (rp1 : r32 p1) (hF : FX21_want p0 p1 s = some q) : gG m b φ0 σo lU q (fX21_want 103 p0' p1' h) := by
  subst ep0; subst ep1
  unfold FX21_want at hF
  unfold fX21_want
  refine s_gAs R (t_103 R.S) (Nat.le_of_ble_eq_true rfl) rfl (o_103_2 R.S) (a_117 R) ?_
  refine s_map hF (fun x3 ra2 hF => ?_)
  refine s_map hF (fun x5 ra3 hF => ?_)
  refine s_qI R (u_117 R.S).1 (u_117 R.S).2 (by decide) (a_117 R) rfl rp0 (c_max rfl (c_min rfl rfl ra3 rp1) ra2 (r_min ra3 rp1)) (r_max ra2 (r_min ra3 rp1)) hF (fun h4 σ7 R4 T4 hF => ?_)
  exact g_ret R4 hF trivial
def FX21_prepare_b126 (N : Nat) : Nat → Int → fS → Option (Unit × fS)
  | 0, _, _ => none
  | n + 1, l2, s =>
    if 4 ≤ l2 then
      some ((), s)
    else
      (uRI s 27 (iadd 1571 l2)).bind fun x4 =>
      (uQI s 119 l2 x4).bind fun σ6 =>
      (uRI σ6 27 (iadd 1575 l2)).bind fun x10 =>
      (uQI σ6 119 (iadd 4 l2) x10).bind fun σ12 =>
      (uRI σ12 27 (iadd 1579 l2)).bind fun x16 =>
      (uQI σ12 119 (iadd 8 l2) x16).bind fun σ18 =>
      FX21_prepare_b126 N n (iadd l2 1) σ18
theorem SX21_prepare_b126 {m b : Nat} {φ0 : Nat → Nat} {σo : fS} {N : Nat} {q : Unit × fS} : ∀ {n : Nat} {φ : Nat → Nat} {h : eH} {s : fS} {l2' : Int32} {l2 : Int}, fC m b φ0 σo φ h s → l2' = iI l2 → r32 l2 → FX21_prepare_b126 N n l2 s = some q → gG m b φ0 σo lU q (fX21_prepare_b126 N n 103 27 l2' h) := by
  intro n
  induction n with
 | zero => intro φ h s l2' l2 R el2 rl2 hF; simp [FX21_prepare_b126] at hF
  | succ n ih =>
    intro φ h s l2' l2 R el2 rl2 hF
    subst el2
    rw [FX21_prepare_b126] at hF
    rw [fX21_prepare_b126]
    refine s_if (i_le (c_lit 4 4 rfl) rfl ⟨by decide, by decide⟩ rl2) hF (fun c1 hF => ?_) (fun c1 hF => ?_)
    ·
      exact g_ret R hF trivial
    ·
      refine s_gAs R (t_103 R.S) (Nat.le_of_ble_eq_true rfl) rfl (o_103_4 R.S) (a_119 R) ?_
      refine s_rI R (u_27 R.S).1 (u_27 R.S).2 (by decide) (a_27 R) (c_add (c_lit 1571 1571 rfl) rfl) (rr_I _) hF (fun x4 ra3 hF => ?_)
      refine s_qI R (u_119 R.S).1 (u_119 R.S).2 (by decide) (a_119 R) rfl rl2 rfl ra3 hF (fun h4 σ6 R4 T4 hF => ?_)
      refine s_gAs R4 (t_103 R4.S) (Nat.le_of_ble_eq_true rfl) rfl (o_103_4 R4.S) (a_119 R4) ?_
      refine s_rI R4 (u_27 R4.S).1 (u_27 R4.S).2 (by decide) (a_27 R4) (c_add (c_lit 1575 1575 rfl) rfl) (rr_I _) hF (fun x10 ra6 hF => ?_)
      refine s_qI R4 (u_119 R4.S).1 (u_119 R4.S).2 (by decide) (a_119 R4) (c_add (c_lit 4 4 rfl) rfl) (rr_I _) rfl ra6 hF (fun h7 σ12 R7 T7 hF => ?_)
      refine s_gAs R7 (t_103 R7.S) (Nat.le_of_ble_eq_true rfl) rfl (o_103_4 R7.S) (a_119 R7) ?_
      refine s_rI R7 (u_27 R7.S).1 (u_27 R7.S).2 (by decide) (a_27 R7) (c_add (c_lit 1579 1579 rfl) rfl) (rr_I _) hF (fun x16 ra9 hF => ?_)
      refine s_qI R7 (u_119 R7.S).1 (u_119 R7.S).2 (by decide) (a_119 R7) (c_add (c_lit 8 8 rfl) rfl) (rr_I _) rfl ra9 hF (fun h10 σ18 R10 T10 hF => ?_)
      exact ih R10 (c_add rfl (c_lit 1 1 rfl)) (rr_I _) hF
def FX21_prepare (N : Nat) (s : fS) : Option (Unit × fS) :=
  (uPI s 104 5 0).bind fun σ3 =>
  (uRI σ3 27 256).bind fun x5 =>
  (FX21_want 0 x5 σ3).bind fun q8 =>
  (uRI q8.2 27 257).bind fun x9 =>
  (FX21_want 1 x9 q8.2).bind fun q12 =>
  (uRI q12.2 27 258).bind fun x13 =>
  (FX21_want 2 x13 q12.2).bind fun q16 =>
  (uRI q16.2 27 259).bind fun x17 =>
  (FX21_want 3 x17 q16.2).bind fun q20 =>
  (uRI q20.2 27 260).bind fun x21 =>
  (FX21_want 4 x21 q20.2).bind fun q24 =>
  (uRI q24.2 27 266).bind fun x25 =>
  (FX21_want 5 x25 q24.2).bind fun q28 =>
  (uRI q28.2 27 267).bind fun x29 =>
  (FX21_want 6 x29 q28.2).bind fun q32 =>
  (uRI q32.2 27 265).bind fun x33 =>
  (FX21_want 7 x33 q32.2).bind fun q36 =>
  (uRI q36.2 27 530).bind fun x37 =>
  (FX21_want 8 x37 q36.2).bind fun q40 =>
  (uRI q40.2 27 268).bind fun x41 =>
  (FX21_want 9 x41 q40.2).bind fun q44 =>
  (uRI q44.2 27 525).bind fun x47 =>
  (FJ0_fill N 118 x47 q44.2).bind fun q49 =>
  FX21_prepare_b126 N N 0 q49.2
theorem SX21_prepare {m b : Nat} {φ0 : Nat → Nat} {σo : fS} {N : Nat} {q : Unit × fS} {φ : Nat → Nat} {h : eH} {s : fS} (R : fC m b φ0 σo φ h s) (hF : FX21_prepare N s = some q) : gG m b φ0 σo lU q (fX21_prepare N 103 27 h) := by
  unfold FX21_prepare at hF
  unfold fX21_prepare
  refine s_gO R (t_103 R.S) (Nat.le_of_ble_eq_true rfl) rfl (o_103_0 R.S) ?_
  refine s_pI R (t_104 R.S) (Nat.le_of_ble_eq_true rfl) rfl (c_lit 0 0 rfl) ⟨by decide, by decide⟩ hF (fun h2 σ3 R2 T2 hF => ?_)
  refine s_rI R2 (u_27 R2.S).1 (u_27 R2.S).2 (by decide) (a_27 R2) (c_lit 256 256 rfl) ⟨by decide, by decide⟩ hF (fun x5 ra3 hF => ?_)
  refine s_kok R2 (t_103 R2.S) (Nat.le_of_ble_eq_true rfl) ?_
  refine s_call R2 (Nat.zero_le _) (fun _ hq => SX21_want (b := 0) (R2.rf) (c_lit 0 0 rfl) ⟨by decide, by decide⟩ rfl ra3 hq) hF (fun f5 rv5 h5 q8 R5 e5 E5 hF => ?_)
  refine s_rI R5 (u_27 R5.S).1 (u_27 R5.S).2 (by decide) (a_27 R5) (c_lit 257 257 rfl) ⟨by decide, by decide⟩ hF (fun x9 ra6 hF => ?_)
  refine s_kok R5 (t_103 R5.S) (Nat.le_of_ble_eq_true rfl) ?_
  refine s_call R5 (Nat.zero_le _) (fun _ hq => SX21_want (b := 0) (R5.rf) (c_lit 1 1 rfl) ⟨by decide, by decide⟩ rfl ra6 hq) hF (fun f8 rv8 h8 q12 R8 e8 E8 hF => ?_)
  refine s_rI R8 (u_27 R8.S).1 (u_27 R8.S).2 (by decide) (a_27 R8) (c_lit 258 258 rfl) ⟨by decide, by decide⟩ hF (fun x13 ra9 hF => ?_)
  refine s_kok R8 (t_103 R8.S) (Nat.le_of_ble_eq_true rfl) ?_
  refine s_call R8 (Nat.zero_le _) (fun _ hq => SX21_want (b := 0) (R8.rf) (c_lit 2 2 rfl) ⟨by decide, by decide⟩ rfl ra9 hq) hF (fun f11 rv11 h11 q16 R11 e11 E11 hF => ?_)
  refine s_rI R11 (u_27 R11.S).1 (u_27 R11.S).2 (by decide) (a_27 R11) (c_lit 259 259 rfl) ⟨by decide, by decide⟩ hF (fun x17 ra12 hF => ?_)
  refine s_kok R11 (t_103 R11.S) (Nat.le_of_ble_eq_true rfl) ?_
  refine s_call R11 (Nat.zero_le _) (fun _ hq => SX21_want (b := 0) (R11.rf) (c_lit 3 3 rfl) ⟨by decide, by decide⟩ rfl ra12 hq) hF (fun f14 rv14 h14 q20 R14 e14 E14 hF => ?_)
  refine s_rI R14 (u_27 R14.S).1 (u_27 R14.S).2 (by decide) (a_27 R14) (c_lit 260 260 rfl) ⟨by decide, by decide⟩ hF (fun x21 ra15 hF => ?_)
  refine s_kok R14 (t_103 R14.S) (Nat.le_of_ble_eq_true rfl) ?_
  refine s_call R14 (Nat.zero_le _) (fun _ hq => SX21_want (b := 0) (R14.rf) (c_lit 4 4 rfl) ⟨by decide, by decide⟩ rfl ra15 hq) hF (fun f17 rv17 h17 q24 R17 e17 E17 hF => ?_)
  refine s_rI R17 (u_27 R17.S).1 (u_27 R17.S).2 (by decide) (a_27 R17) (c_lit 266 266 rfl) ⟨by decide, by decide⟩ hF (fun x25 ra18 hF => ?_)
  refine s_kok R17 (t_103 R17.S) (Nat.le_of_ble_eq_true rfl) ?_
  refine s_call R17 (Nat.zero_le _) (fun _ hq => SX21_want (b := 0) (R17.rf) (c_lit 5 5 rfl) ⟨by decide, by decide⟩ rfl ra18 hq) hF (fun f20 rv20 h20 q28 R20 e20 E20 hF => ?_)
  refine s_rI R20 (u_27 R20.S).1 (u_27 R20.S).2 (by decide) (a_27 R20) (c_lit 267 267 rfl) ⟨by decide, by decide⟩ hF (fun x29 ra21 hF => ?_)
  refine s_kok R20 (t_103 R20.S) (Nat.le_of_ble_eq_true rfl) ?_
  refine s_call R20 (Nat.zero_le _) (fun _ hq => SX21_want (b := 0) (R20.rf) (c_lit 6 6 rfl) ⟨by decide, by decide⟩ rfl ra21 hq) hF (fun f23 rv23 h23 q32 R23 e23 E23 hF => ?_)
  refine s_rI R23 (u_27 R23.S).1 (u_27 R23.S).2 (by decide) (a_27 R23) (c_lit 265 265 rfl) ⟨by decide, by decide⟩ hF (fun x33 ra24 hF => ?_)
  refine s_kok R23 (t_103 R23.S) (Nat.le_of_ble_eq_true rfl) ?_
  refine s_call R23 (Nat.zero_le _) (fun _ hq => SX21_want (b := 0) (R23.rf) (c_lit 7 7 rfl) ⟨by decide, by decide⟩ rfl ra24 hq) hF (fun f26 rv26 h26 q36 R26 e26 E26 hF => ?_)
  refine s_rI R26 (u_27 R26.S).1 (u_27 R26.S).2 (by decide) (a_27 R26) (c_lit 530 530 rfl) ⟨by decide, by decide⟩ hF (fun x37 ra27 hF => ?_)
  refine s_kok R26 (t_103 R26.S) (Nat.le_of_ble_eq_true rfl) ?_
  refine s_call R26 (Nat.zero_le _) (fun _ hq => SX21_want (b := 0) (R26.rf) (c_lit 8 8 rfl) ⟨by decide, by decide⟩ rfl ra27 hq) hF (fun f29 rv29 h29 q40 R29 e29 E29 hF => ?_)
  refine s_rI R29 (u_27 R29.S).1 (u_27 R29.S).2 (by decide) (a_27 R29) (c_lit 268 268 rfl) ⟨by decide, by decide⟩ hF (fun x41 ra30 hF => ?_)
  refine s_kok R29 (t_103 R29.S) (Nat.le_of_ble_eq_true rfl) ?_
  refine s_call R29 (Nat.zero_le _) (fun _ hq => SX21_want (b := 0) (R29.rf) (c_lit 9 9 rfl) ⟨by decide, by decide⟩ rfl ra30 hq) hF (fun f32 rv32 h32 q44 R32 e32 E32 hF => ?_)
  refine s_gAs R32 (t_103 R32.S) (Nat.le_of_ble_eq_true rfl) rfl (o_103_3 R32.S) (a_118 R32) ?_
  refine s_rI R32 (u_27 R32.S).1 (u_27 R32.S).2 (by decide) (a_27 R32) (c_lit 525 525 rfl) ⟨by decide, by decide⟩ hF (fun x47 ra34 hF => ?_)
  refine s_call R32 (Nat.zero_le _) (fun _ hq => SJ0_fill (b := 0) (N := N) (R32.rf) (a_118 R32) (u_118 R32.S).1 rfl ra34 hq) hF (fun f35 rv35 h35 q49 R35 e35 E35 hF => ?_)
  exact SX21_prepare_b126 (N := N) R35 (c_lit 0 0 rfl) ⟨by decide, by decide⟩ hF
def FX22_add (p0 : Int) (p1 : Int) (p2 : Int) (p3 : Int) (p4 : Int) (s : fS) : Option (Int × fS) :=
  (uQI s 105 (s.i 104 5) (i2b (i2b p0))).bind fun σ5 =>
  (uQI σ5 106 (σ5.i 104 5) p1).bind fun σ11 =>
  (uQI σ11 107 (σ11.i 104 5) p2).bind fun σ17 =>
  (uQI σ17 108 (σ17.i 104 5) p3).bind fun σ23 =>
  (uQI σ23 109 (σ23.i 104 5) p4).bind fun σ29 =>
  (uPI σ29 104 5 (iadd (σ29.i 104 5) 1)).bind fun σ33 =>
  some ((σ29.i 104 5), σ33)
theorem SX22_add {m b : Nat} {φ0 : Nat → Nat} {σo : fS} {q : Int × fS} {φ : Nat → Nat} {h : eH} {s : fS} {p0' : Int32} {p0 : Int} {p1' : Int32} {p1 : Int} {p2' : Int32} {p2 : Int} {p3' : Int32} {p3 : Int} {p4' : Int32} {p4 : Int} (R : fC m b φ0 σo φ h s) (ep0 : p0' = iI p0) (rp0 : r32 p0) (ep1 : p1' = iI p1) (rp1 : r32 p1) (ep2 : p2' = iI p2) (rp2 : r32 p2) (ep3 : p3' = iI p3) (rp3 : r32 p3) (ep4 : p4' = iI p4) (rp4 : r32 p4) (hF : FX22_add p0 p1 p2 p3 p4 s = some q) : gG m b φ0 σo lI q (fX22_add 104 p0' p1' p2' p3' p4' h) := by
  subst ep0; subst ep1; subst ep2; subst ep3; subst ep4
  unfold FX22_add at hF
  unfold fX22_add
  refine s_gAs R (t_104 R.S) (Nat.le_of_ble_eq_true rfl) rfl (o_104_0 R.S) (a_105 R) ?_
  refine s_gI R (t_104 R.S) (Nat.le_of_ble_eq_true rfl) rfl ?_
  refine s_qI R (u_105 R.S).1 (u_105 R.S).2 (by decide) (a_105 R) rfl (R.ri (t_104 R.S) (Nat.le_of_ble_eq_true rfl) rfl) (c_2b (c_2b rfl)) (rr_I _) hF (fun h3 σ5 R3 T3 hF => ?_)
  refine s_gAs R3 (t_104 R3.S) (Nat.le_of_ble_eq_true rfl) rfl (o_104_1 R3.S) (a_106 R3) ?_
  refine s_gI R3 (t_104 R3.S) (Nat.le_of_ble_eq_true rfl) rfl ?_
  refine s_qI R3 (u_106 R3.S).1 (u_106 R3.S).2 (by decide) (a_106 R3) rfl (R3.ri (t_104 R3.S) (Nat.le_of_ble_eq_true rfl) rfl) rfl rp1 hF (fun h6 σ11 R6 T6 hF => ?_)
  refine s_gAs R6 (t_104 R6.S) (Nat.le_of_ble_eq_true rfl) rfl (o_104_2 R6.S) (a_107 R6) ?_
  refine s_gI R6 (t_104 R6.S) (Nat.le_of_ble_eq_true rfl) rfl ?_
  refine s_qI R6 (u_107 R6.S).1 (u_107 R6.S).2 (by decide) (a_107 R6) rfl (R6.ri (t_104 R6.S) (Nat.le_of_ble_eq_true rfl) rfl) rfl rp2 hF (fun h9 σ17 R9 T9 hF => ?_)
  refine s_gAs R9 (t_104 R9.S) (Nat.le_of_ble_eq_true rfl) rfl (o_104_3 R9.S) (a_108 R9) ?_
  refine s_gI R9 (t_104 R9.S) (Nat.le_of_ble_eq_true rfl) rfl ?_
  refine s_qI R9 (u_108 R9.S).1 (u_108 R9.S).2 (by decide) (a_108 R9) rfl (R9.ri (t_104 R9.S) (Nat.le_of_ble_eq_true rfl) rfl) rfl rp3 hF (fun h12 σ23 R12 T12 hF => ?_)
  refine s_gAs R12 (t_104 R12.S) (Nat.le_of_ble_eq_true rfl) rfl (o_104_4 R12.S) (a_109 R12) ?_
  refine s_gI R12 (t_104 R12.S) (Nat.le_of_ble_eq_true rfl) rfl ?_
  refine s_qI R12 (u_109 R12.S).1 (u_109 R12.S).2 (by decide) (a_109 R12) rfl (R12.ri (t_104 R12.S) (Nat.le_of_ble_eq_true rfl) rfl) rfl rp4 hF (fun h15 σ29 R15 T15 hF => ?_)
  refine s_gI R15 (t_104 R15.S) (Nat.le_of_ble_eq_true rfl) rfl ?_
  refine s_pI R15 (t_104 R15.S) (Nat.le_of_ble_eq_true rfl) rfl (c_add rfl (c_lit 1 1 rfl)) (rr_I _) hF (fun h17 σ33 R17 T17 hF => ?_)
  exact g_ret R17 hF ⟨rfl, (R15.ri (t_104 R15.S) (Nat.le_of_ble_eq_true rfl) rfl)⟩
