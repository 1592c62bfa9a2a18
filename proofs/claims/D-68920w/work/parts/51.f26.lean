set_option maxRecDepth 100000
set_option maxHeartbeats 4000000
def FX3_lay_b193 (N : Nat) (K31 : Nat → Int → Int → fS → Option ((Unit ⊕ Nat) × fS)) (l1 : Nat) (l2 : Int) (l3 : Int) (s : fS) : Option ((Unit ⊕ Nat) × fS) :=
  (uK 29 s l1).bind fun _ =>
  (FX29_add 151 l3 (s.i l1 3) s).bind fun q8 =>
  K31 l1 l2 (iadd l3 1) q8.2
theorem SX3_lay_b193 {m b : Nat} {φ0 : Nat → Nat} {σo : fS} {N : Nat} {k31 : Nat → Nat → Int32 → Int32 → eH → Option ((Unit ⊕ Nat) × eH)} {K31 : Nat → Int → Int → fS → Option ((Unit ⊕ Nat) × fS)} {q : (Unit ⊕ Nat) × fS} (hk31 : ∀ {φ : Nat → Nat} {h : eH} {s : fS} {l1 : Nat} {l2' : Int32} {l2 : Int} {l3' : Int32} {l3 : Int}, fC m b φ0 σo φ h s → l2' = iI l2 → r32 l2 → l3' = iI l3 → r32 l3 → K31 l1 l2 l3 s = some q → gG m b φ0 σo (lT lU) q (k31 4 l1 l2' l3' h)) {φ : Nat → Nat} {h : eH} {s : fS} {l1 : Nat} {l2' : Int32} {l2 : Int} {l3' : Int32} {l3 : Int} (R : fC m b φ0 σo φ h s) (el2 : l2' = iI l2) (rl2 : r32 l2) (el3 : l3' = iI l3) (rl3 : r32 l3) (hF : FX3_lay_b193 N K31 l1 l2 l3 s = some q) : gG m b φ0 σo (lT lU) q (fX3_lay_b193 N k31 4 l1 l2' l3' h) := by
  subst el2; subst el3
  unfold FX3_lay_b193 at hF
  unfold fX3_lay_b193
  refine s_gO R (t_4 R.S) (Nat.le_of_ble_eq_true rfl) rfl (o_4_14 R.S) ?_
  refine s_gO R (t_4 R.S) (Nat.le_of_ble_eq_true rfl) rfl (o_4_12 R.S) ?_
  refine s_K hF (fun t4 hF => ?_)
  refine s_gI R t4 (Nat.le_of_ble_eq_true rfl) rfl ?_
  refine s_kok R (t_151 R.S) (Nat.le_of_ble_eq_true rfl) ?_
  refine s_call R (Nat.zero_le _) (fun _ hq => SX29_add (b := 0) (R.rf) rfl rl3 rfl (R.ri t4 (Nat.le_of_ble_eq_true rfl) rfl) hq) hF (fun f6 rv6 h6 q8 R6 e6 E6 hF => ?_)
  exact hk31 R6 rfl rl2 (c_add rfl (c_lit 1 1 rfl)) (rr_I _) hF
def FX3_lay_b180 (N : Nat) (K31 : Nat → Int → Int → fS → Option ((Unit ⊕ Nat) × fS)) (l1 : Nat) (l2 : Int) (l3 : Int) (s0 : Int) (s : fS) : Option ((Unit ⊕ Nat) × fS) :=
  tB (FX4_want s0 17 s) fun x4 σ5 =>
  FX3_lay_b193 N K31 l1 l2 l3 σ5
theorem SX3_lay_b180 {m b : Nat} {φ0 : Nat → Nat} {σo : fS} {N : Nat} {k31 : Nat → Nat → Int32 → Int32 → eH → Option ((Unit ⊕ Nat) × eH)} {K31 : Nat → Int → Int → fS → Option ((Unit ⊕ Nat) × fS)} {q : (Unit ⊕ Nat) × fS} (hk31 : ∀ {φ : Nat → Nat} {h : eH} {s : fS} {l1 : Nat} {l2' : Int32} {l2 : Int} {l3' : Int32} {l3 : Int}, fC m b φ0 σo φ h s → l2' = iI l2 → r32 l2 → l3' = iI l3 → r32 l3 → K31 l1 l2 l3 s = some q → gG m b φ0 σo (lT lU) q (k31 4 l1 l2' l3' h)) {φ : Nat → Nat} {h : eH} {s : fS} {l1 : Nat} {l2' : Int32} {l2 : Int} {l3' : Int32} {l3 : Int} {s0' : Int32} {s0 : Int} (R : fC m b φ0 σo φ h s) (el2 : l2' = iI l2) (rl2 : r32 l2) (el3 : l3' = iI l3) (rl3 : r32 l3) (es0 : s0' = iI s0) (rs0 : r32 s0) (hF : FX3_lay_b180 N K31 l1 l2 l3 s0 s = some q) : gG m b φ0 σo (lT lU) q (fX3_lay_b180 N k31 4 l1 l2' l3' s0' h) := by
  subst el2; subst el3; subst es0
  unfold FX3_lay_b180 at hF
  unfold fX3_lay_b180
  refine s_gO R (t_4 R.S) (Nat.le_of_ble_eq_true rfl) rfl (o_4_0 R.S) ?_
  refine s_kok R (t_5 R.S) (Nat.le_of_ble_eq_true rfl) ?_
  refine s_tB R (Nat.zero_le _) (fun _ hq => SX4_want (b := 0) (R.rf) rfl rs0 (c_lit 17 17 rfl) ⟨by decide, by decide⟩ hq) hF (fun f3 rv3 h3 x4 σ5 R3 e3 E3 hF => ?_)
  exact SX3_lay_b193 (N := N) (k31 := k31) (K31 := K31) @hk31 R3 rfl rl2 rfl rl3 hF
def FX3_lay_b159 (N : Nat) (K31 : Nat → Int → Int → fS → Option ((Unit ⊕ Nat) × fS)) (l1 : Nat) (l2 : Int) (l3 : Int) (s1 : Int) (s2 : Int) (s3 : Int) (s : fS) : Option ((Unit ⊕ Nat) × fS) :=
  (uRI s 136 l3).bind fun x5 =>
  (uRI s 137 l3).bind fun x11 =>
  (FX20_line s1 s2 s3 x5 x11 s).bind fun q14 =>
  FX3_lay_b180 N K31 l1 l2 l3 q14.1 q14.2
theorem SX3_lay_b159 {m b : Nat} {φ0 : Nat → Nat} {σo : fS} {N : Nat} {k31 : Nat → Nat → Int32 → Int32 → eH → Option ((Unit ⊕ Nat) × eH)} {K31 : Nat → Int → Int → fS → Option ((Unit ⊕ Nat) × fS)} {q : (Unit ⊕ Nat) × fS} (hk31 : ∀ {φ : Nat → Nat} {h : eH} {s : fS} {l1 : Nat} {l2' : Int32} {l2 : Int} {l3' : Int32} {l3 : Int}, fC m b φ0 σo φ h s → l2' = iI l2 → r32 l2 → l3' = iI l3 → r32 l3 → K31 l1 l2 l3 s = some q → gG m b φ0 σo (lT lU) q (k31 4 l1 l2' l3' h)) {φ : Nat → Nat} {h : eH} {s : fS} {l1 : Nat} {l2' : Int32} {l2 : Int} {l3' : Int32} {l3 : Int} {s1' : Int64} {s1 : Int} {s2' : Int64} {s2 : Int} {s3' : Int32} {s3 : Int} (R : fC m b φ0 σo φ h s) (el2 : l2' = iI l2) (rl2 : r32 l2) (el3 : l3' = iI l3) (rl3 : r32 l3) (es1 : s1' = iJ s1) (rs1 : r64 s1) (es2 : s2' = iJ s2) (rs2 : r64 s2) (es3 : s3' = iI s3) (rs3 : r32 s3) (hF : FX3_lay_b159 N K31 l1 l2 l3 s1 s2 s3 s = some q) : gG m b φ0 σo (lT lU) q (fX3_lay_b159 N k31 4 l1 l2' l3' 97 s1' s2' s3' h) := by
  subst el2; subst el3; subst es1; subst es2; subst es3
  unfold FX3_lay_b159 at hF
  unfold fX3_lay_b159
  refine s_gO R (t_4 R.S) (Nat.le_of_ble_eq_true rfl) rfl (o_4_12 R.S) ?_
  refine s_gA R (t_133 R.S) (Nat.le_of_ble_eq_true rfl) rfl (o_133_2 R.S) (fun _ _ => ?_)
  refine s_rI R (u_136 R.S).1 (u_136 R.S).2 (by decide) rfl rfl rl3 hF (fun x5 ra3 hF => ?_)
  refine s_gO R (t_4 R.S) (Nat.le_of_ble_eq_true rfl) rfl (o_4_12 R.S) ?_
  refine s_gA R (t_133 R.S) (Nat.le_of_ble_eq_true rfl) rfl (o_133_3 R.S) (fun _ _ => ?_)
  refine s_rI R (u_137 R.S).1 (u_137 R.S).2 (by decide) rfl rfl rl3 hF (fun x11 ra6 hF => ?_)
  refine s_kok R (t_97 R.S) (Nat.le_of_ble_eq_true rfl) ?_
  refine s_call R (Nat.zero_le _) (fun _ hq => SX20_line (b := 0) (R.rf) rfl rs1 rfl rs2 rfl rs3 rfl ra3 rfl ra6 hq) hF (fun f8 rv8 h8 q14 R8 e8 E8 hF => ?_)
  exact SX3_lay_b180 (N := N) (k31 := k31) (K31 := K31) @hk31 R8 rfl rl2 rfl rl3 e8.1 e8.2 hF
def FX3_lay_b31 (N : Nat) : Nat → Nat → Int → Int → fS → Option ((Unit ⊕ Nat) × fS)
  | 0, _, _, _, _ => none
  | n + 1, l1, l2, l3, s =>
    (uK 29 s l1).bind fun _ =>
    if (s.i l1 5) ≤ l3 then
      some (.inl (), s)
    else
      (uRI s 134 l3).bind fun x8 =>
      if ¬ (x8 = 0) then
        FX3_lay_b193 N (FX3_lay_b31 N n) l1 l2 l3 s
      else
        (uRI s 136 l3).bind fun x23 =>
        (uK 29 s l1).bind fun _ =>
        (FX30_share N l1 s).bind fun q28 =>
        (uRI q28.2 135 l3).bind fun x33 =>
        (uRI q28.2 139 l3).bind fun x39 =>
        if x33 = (-1) then
          if ¬ (x39 = (-1073741824)) then
            FX3_lay_b159 N (FX3_lay_b31 N n) l1 l2 l3 0 (ladd (ladd (ladd (s.j 151 2) (s.j 151 3)) x23) q28.1) x39 q28.2
          else
            FX3_lay_b159 N (FX3_lay_b31 N n) l1 l2 l3 0 (ladd (ladd (ladd (s.j 151 2) (s.j 151 3)) x23) q28.1) l2 q28.2
        else
          (uRO q28.2 21 x33).bind fun a49 =>
          (FX20_lay N a49 x39 (ladd (ladd (ladd (s.j 151 2) (s.j 151 3)) x23) q28.1) q28.2).bind fun q52 =>
          FX3_lay_b180 N (FX3_lay_b31 N n) l1 l2 l3 q52.1 q52.2
theorem SX3_lay_b31 {m b : Nat} {φ0 : Nat → Nat} {σo : fS} {N : Nat} {q : (Unit ⊕ Nat) × fS} : ∀ {n : Nat} {φ : Nat → Nat} {h : eH} {s : fS} {l1 : Nat} {l2' : Int32} {l2 : Int} {l3' : Int32} {l3 : Int}, fC m b φ0 σo φ h s → l2' = iI l2 → r32 l2 → l3' = iI l3 → r32 l3 → FX3_lay_b31 N n l1 l2 l3 s = some q → gG m b φ0 σo (lT lU) q (fX3_lay_b31 N n 4 l1 l2' l3' h) := by
  intro n
  induction n with
 | zero => intro φ h s l1 l2' l2 l3' l3 R el2 rl2 el3 rl3 hF; simp [FX3_lay_b31] at hF
  | succ n ih =>
    intro φ h s l1 l2' l2 l3' l3 R el2 rl2 el3 rl3 hF
    subst el2; subst el3
    rw [FX3_lay_b31] at hF
    rw [fX3_lay_b31]
    refine s_K hF (fun t2 hF => ?_)
    refine s_gI R t2 (Nat.le_of_ble_eq_true rfl) rfl ?_
    refine s_if (i_le rfl rfl (R.ri t2 (Nat.le_of_ble_eq_true rfl) rfl) rl3) hF (fun c3 hF => ?_) (fun c3 hF => ?_)
    ·
      exact g_ret R hF trivial
    ·
      refine s_gO R (t_4 R.S) (Nat.le_of_ble_eq_true rfl) rfl (o_4_12 R.S) ?_
      refine s_gA R (t_133 R.S) (Nat.le_of_ble_eq_true rfl) rfl (o_133_0 R.S) (fun _ _ => ?_)
      refine s_rI R (u_134 R.S).1 (u_134 R.S).2 (by decide) rfl rfl rl3 hF (fun x8 ra6 hF => ?_)
      refine s_if (not_congr (i_eq rfl (c_lit 0 0 rfl) ra6 ⟨by decide, by decide⟩)) hF (fun c7 hF => ?_) (fun c7 hF => ?_)
      ·
        exact SX3_lay_b193 (N := N) (k31 := fX3_lay_b31 N n) (K31 := FX3_lay_b31 N n) @ih R rfl rl2 rfl rl3 hF
      ·
        refine s_gO R (t_4 R.S) (Nat.le_of_ble_eq_true rfl) rfl (o_4_14 R.S) ?_
        refine s_gJ R (t_151 R.S) (Nat.le_of_ble_eq_true rfl) rfl ?_
        refine s_gO R (t_4 R.S) (Nat.le_of_ble_eq_true rfl) rfl (o_4_14 R.S) ?_
        refine s_gJ R (t_151 R.S) (Nat.le_of_ble_eq_true rfl) rfl ?_
        refine s_gO R (t_4 R.S) (Nat.le_of_ble_eq_true rfl) rfl (o_4_12 R.S) ?_
        refine s_gA R (t_133 R.S) (Nat.le_of_ble_eq_true rfl) rfl (o_133_2 R.S) (fun _ _ => ?_)
        refine s_rI R (u_136 R.S).1 (u_136 R.S).2 (by decide) rfl rfl rl3 hF (fun x23 ra14 hF => ?_)
        refine s_gO R (t_4 R.S) (Nat.le_of_ble_eq_true rfl) rfl (o_4_14 R.S) ?_
        refine s_K hF (fun t17 hF => ?_)
        refine s_kok R t17 (Nat.le_of_ble_eq_true rfl) ?_
        refine s_call R (Nat.zero_le _) (fun _ hq => SX30_share (b := 0) (N := N) (R.rf) hq) hF (fun f18 rv18 h18 q28 R18 e18 E18 hF => ?_)
        refine s_gO R18 (t_4 R18.S) (Nat.le_of_ble_eq_true rfl) rfl (o_4_12 R18.S) ?_
        refine s_gA R18 (t_133 R18.S) (Nat.le_of_ble_eq_true rfl) rfl (o_133_1 R18.S) (fun _ _ => ?_)
        refine s_rI R18 (u_135 R18.S).1 (u_135 R18.S).2 (by decide) rfl rfl rl3 hF (fun x33 ra21 hF => ?_)
        refine s_gO R18 (t_4 R18.S) (Nat.le_of_ble_eq_true rfl) rfl (o_4_12 R18.S) ?_
        refine s_gA R18 (t_133 R18.S) (Nat.le_of_ble_eq_true rfl) rfl (o_133_5 R18.S) (fun _ _ => ?_)
        refine s_rI R18 (u_139 R18.S).1 (u_139 R18.S).2 (by decide) rfl rfl rl3 hF (fun x39 ra24 hF => ?_)
        refine s_if (i_eq rfl (c_lit (-1) (-1) rfl) ra21 ⟨by decide, by decide⟩) hF (fun c25 hF => ?_) (fun c25 hF => ?_)
        ·
          refine s_gO R18 (t_4 R18.S) (Nat.le_of_ble_eq_true rfl) rfl (o_4_10 R18.S) ?_
          refine s_if (not_congr (i_eq rfl (c_lit (-1073741824) (-1073741824) rfl) ra24 ⟨by decide, by decide⟩)) hF (fun c27 hF => ?_) (fun c27 hF => ?_)
          ·
            exact SX3_lay_b159 (N := N) (k31 := fX3_lay_b31 N n) (K31 := FX3_lay_b31 N n) @ih R18 rfl rl2 rfl rl3 (d_lit 0 0 rfl) ⟨by decide, by decide⟩ (d_add (d_add (d_add rfl rfl) (c_2l rfl ra14)) e18.1) (rr_J _) rfl ra24 hF
          ·
            exact SX3_lay_b159 (N := N) (k31 := fX3_lay_b31 N n) (K31 := FX3_lay_b31 N n) @ih R18 rfl rl2 rfl rl3 (d_lit 0 0 rfl) ⟨by decide, by decide⟩ (d_add (d_add (d_add rfl rfl) (c_2l rfl ra14)) e18.1) (rr_J _) rfl rl2 hF
        ·
          refine s_gO R18 (t_4 R18.S) (Nat.le_of_ble_eq_true rfl) rfl (o_4_10 R18.S) ?_
          refine s_gAs R18 (t_4 R18.S) (Nat.le_of_ble_eq_true rfl) rfl (o_4_3 R18.S) (a_21 R18) ?_
          refine s_rO R18 (u_21 R18.S).1 (u_21 R18.S).2 rfl (fun _ => rfl) (Nat.le_of_ble_eq_true rfl) (a_21 R18) rfl ra21 hF (fun a49 y30 hF => ?_)
          refine s_kok R18 (t_97 R18.S) (Nat.le_of_ble_eq_true rfl) ?_
          refine s_call R18 (Nat.zero_le _) (fun _ hq => SX20_lay (b := 0) (N := N) (R18.rf) (c_2l rfl ra24) (r32.w ra24) (d_add (d_add (d_add rfl rfl) (c_2l rfl ra14)) e18.1) (rr_J _) hq) hF (fun f32 rv32 h32 q52 R32 e32 E32 hF => ?_)
          exact SX3_lay_b180 (N := N) (k31 := fX3_lay_b31 N n) (K31 := FX3_lay_b31 N n) @ih R32 rfl rl2 rfl rl3 e32.1 e32.2 hF
def FX3_lay (N : Nat) (p0 : Nat) (s : fS) : Option ((Unit ⊕ Nat) × fS) :=
  (FX3_widthOf N p0 s).bind fun q2 =>
  (uPI q2.2 97 3 0).bind fun σ5 =>
  (uK 29 σ5 p0).bind fun _ =>
  (FX30_crown N p0 151 σ5).bind fun q12 =>
  (uK 29 q12.2 p0).bind fun _ =>
  FX3_lay_b31 N N p0 q2.1 (q12.2.i p0 4) q12.2
theorem SX3_lay {m b : Nat} {φ0 : Nat → Nat} {σo : fS} {N : Nat} {q : (Unit ⊕ Nat) × fS} {φ : Nat → Nat} {h : eH} {s : fS} {p0 : Nat} (R : fC m b φ0 σo φ h s) (hF : FX3_lay N p0 s = some q) : gG m b φ0 σo (lT lU) q (fX3_lay N 4 p0 h) := by
  unfold FX3_lay at hF
  unfold fX3_lay
  refine s_kok R (t_4 R.S) (Nat.le_of_ble_eq_true rfl) ?_
  refine s_call R (Nat.zero_le _) (fun _ hq => SX3_widthOf (b := 0) (N := N) (R.rf) hq) hF (fun f2 rv2 h2 q2 R2 e2 E2 hF => ?_)
  refine s_gO R2 (t_4 R2.S) (Nat.le_of_ble_eq_true rfl) rfl (o_4_10 R2.S) ?_
  refine s_pI R2 (t_97 R2.S) (Nat.le_of_ble_eq_true rfl) rfl (c_lit 0 0 rfl) ⟨by decide, by decide⟩ hF (fun h4 σ5 R4 T4 hF => ?_)
  refine s_gO R4 (t_4 R4.S) (Nat.le_of_ble_eq_true rfl) rfl (o_4_12 R4.S) ?_
  refine s_gO R4 (t_4 R4.S) (Nat.le_of_ble_eq_true rfl) rfl (o_4_14 R4.S) ?_
  refine s_K hF (fun t8 hF => ?_)
  refine s_kok R4 t8 (Nat.le_of_ble_eq_true rfl) ?_
  refine s_call R4 (Nat.zero_le _) (fun _ hq => SX30_crown (b := 0) (N := N) (R4.rf) hq) hF (fun f9 rv9 h9 q12 R9 e9 E9 hF => ?_)
  refine s_K hF (fun t11 hF => ?_)
  refine s_gI R9 t11 (Nat.le_of_ble_eq_true rfl) rfl ?_
  exact SX3_lay_b31 (N := N) R9 e2.1 e2.2 rfl (R9.ri t11 (Nat.le_of_ble_eq_true rfl) rfl) hF
def FX3_isNear_b21 (s0 : Int) (s : fS) : Option (Int × fS) :=
  uZ s0 (s0, s)
theorem SX3_isNear_b21 {m b : Nat} {φ0 : Nat → Nat} {σo : fS} {q : Int × fS} {φ : Nat → Nat} {h : eH} {s : fS} {s0' : Int32} {s0 : Int} (R : fC m b φ0 σo φ h s) (es0 : s0' = iI s0) (rs0 : r32 s0) (hF : FX3_isNear_b21 s0 s = some q) : gG m b φ0 σo lI q (fX3_isNear_b21 s0' h) := by
  subst es0
  unfold FX3_isNear_b21 at hF
  unfold fX3_isNear_b21
  exact g_z R rfl hF ⟨rfl, rs0⟩
def FX3_isNear_b20 (s : fS) : Option (Int × fS) :=
  FX3_isNear_b21 0 s
theorem SX3_isNear_b20 {m b : Nat} {φ0 : Nat → Nat} {σo : fS} {q : Int × fS} {φ : Nat → Nat} {h : eH} {s : fS} (R : fC m b φ0 σo φ h s) (hF : FX3_isNear_b20 s = some q) : gG m b φ0 σo lI q (fX3_isNear_b20 h) := by
  unfold FX3_isNear_b20 at hF
  unfold fX3_isNear_b20
  exact SX3_isNear_b21 R (c_lit 0 0 rfl) ⟨by decide, by decide⟩ hF
def FX3_isNear (p0 : Int) (s : fS) : Option (Int × fS) :=
  if p0 < (-1000000000) then
    FX3_isNear_b20 s
  else
    if 1000000000 < p0 then
      FX3_isNear_b20 s
    else
      FX3_isNear_b21 1 s
theorem SX3_isNear {m b : Nat} {φ0 : Nat → Nat} {σo : fS} {q : Int × fS} {φ : Nat → Nat} {h : eH} {s : fS} {p0' : Int64} {p0 : Int} (R : fC m b φ0 σo φ h s) (ep0 : p0' = iJ p0) (rp0 : r64 p0) (hF : FX3_isNear p0 s = some q) : gG m b φ0 σo lI q (fX3_isNear p0' h) := by
  subst ep0
  unfold FX3_isNear at hF
  unfold fX3_isNear
  refine s_if (lg_lt.trans (j_lt rfl (d_lit (-1000000000) (-1000000000) rfl) rp0 ⟨by decide, by decide⟩)) hF (fun c1 hF => ?_) (fun c1 hF => ?_)
  ·
    exact SX3_isNear_b20 R hF
  ·
    refine s_if ((lg_cmp_gt _ _).trans (j_lt (d_lit 1000000000 1000000000 rfl) rfl ⟨by decide, by decide⟩ rp0)) hF (fun c2 hF => ?_) (fun c2 hF => ?_)
    ·
      exact SX3_isNear_b20 R hF
    ·
      exact SX3_isNear_b21 R (c_lit 1 1 rfl) ⟨by decide, by decide⟩ hF
def FX31_add (p0 : Int) (p1 : Int) (p2 : Int) (p3 : Int) (p4 : Int) (s : fS) : Option (Int × fS) :=
  (uQI s 157 (s.i 153 8) p0).bind fun σ5 =>
  (uQI σ5 158 (σ5.i 153 8) p1).bind fun σ11 =>
  (uQI σ11 159 (σ11.i 153 8) p2).bind fun σ17 =>
  (uQI σ17 160 (σ17.i 153 8) p3).bind fun σ23 =>
  (uQI σ23 161 (σ23.i 153 8) p4).bind fun σ29 =>
  (uPI σ29 153 8 (iadd (σ29.i 153 8) 1)).bind fun σ33 =>
  some ((iadd (σ29.i 153 8) 1), σ33)
theorem SX31_add {m b : Nat} {φ0 : Nat → Nat} {σo : fS} {q : Int × fS} {φ : Nat → Nat} {h : eH} {s : fS} {p0' : Int32} {p0 : Int} {p1' : Int32} {p1 : Int} {p2' : Int32} {p2 : Int} {p3' : Int32} {p3 : Int} {p4' : Int32} {p4 : Int} (R : fC m b φ0 σo φ h s) (ep0 : p0' = iI p0) (rp0 : r32 p0) (ep1 : p1' = iI p1) (rp1 : r32 p1) (ep2 : p2' = iI p2) (rp2 : r32 p2) (ep3 : p3' = iI p3) (rp3 : r32 p3) (ep4 : p4' = iI p4) (rp4 : r32 p4) (hF : FX31_add p0 p1 p2 p3 p4 s = some q) : gG m b φ0 σo lI q (fX31_add 153 p0' p1' p2' p3' p4' h) := by
  subst ep0; subst ep1; subst ep2; subst ep3; subst ep4
  unfold FX31_add at hF
  unfold fX31_add
  refine s_gAs R (t_153 R.S) (Nat.le_of_ble_eq_true rfl) rfl (o_153_3 R.S) (a_157 R) ?_
  refine s_gI R (t_153 R.S) (Nat.le_of_ble_eq_true rfl) rfl ?_
  refine s_qI R (u_157 R.S).1 (u_157 R.S).2 (by decide) (a_157 R) rfl (R.ri (t_153 R.S) (Nat.le_of_ble_eq_true rfl) rfl) rfl rp0 hF (fun h3 σ5 R3 T3 hF => ?_)
  refine s_gAs R3 (t_153 R3.S) (Nat.le_of_ble_eq_true rfl) rfl (o_153_4 R3.S) (a_158 R3) ?_
  refine s_gI R3 (t_153 R3.S) (Nat.le_of_ble_eq_true rfl) rfl ?_
  refine s_qI R3 (u_158 R3.S).1 (u_158 R3.S).2 (by decide) (a_158 R3) rfl (R3.ri (t_153 R3.S) (Nat.le_of_ble_eq_true rfl) rfl) rfl rp1 hF (fun h6 σ11 R6 T6 hF => ?_)
  refine s_gAs R6 (t_153 R6.S) (Nat.le_of_ble_eq_true rfl) rfl (o_153_5 R6.S) (a_159 R6) ?_
  refine s_gI R6 (t_153 R6.S) (Nat.le_of_ble_eq_true rfl) rfl ?_
  refine s_qI R6 (u_159 R6.S).1 (u_159 R6.S).2 (by decide) (a_159 R6) rfl (R6.ri (t_153 R6.S) (Nat.le_of_ble_eq_true rfl) rfl) rfl rp2 hF (fun h9 σ17 R9 T9 hF => ?_)
  refine s_gAs R9 (t_153 R9.S) (Nat.le_of_ble_eq_true rfl) rfl (o_153_6 R9.S) (a_160 R9) ?_
  refine s_gI R9 (t_153 R9.S) (Nat.le_of_ble_eq_true rfl) rfl ?_
  refine s_qI R9 (u_160 R9.S).1 (u_160 R9.S).2 (by decide) (a_160 R9) rfl (R9.ri (t_153 R9.S) (Nat.le_of_ble_eq_true rfl) rfl) rfl rp3 hF (fun h12 σ23 R12 T12 hF => ?_)
  refine s_gAs R12 (t_153 R12.S) (Nat.le_of_ble_eq_true rfl) rfl (o_153_7 R12.S) (a_161 R12) ?_
  refine s_gI R12 (t_153 R12.S) (Nat.le_of_ble_eq_true rfl) rfl ?_
  refine s_qI R12 (u_161 R12.S).1 (u_161 R12.S).2 (by decide) (a_161 R12) rfl (R12.ri (t_153 R12.S) (Nat.le_of_ble_eq_true rfl) rfl) rfl rp4 hF (fun h15 σ29 R15 T15 hF => ?_)
  refine s_gI R15 (t_153 R15.S) (Nat.le_of_ble_eq_true rfl) rfl ?_
  refine s_pI R15 (t_153 R15.S) (Nat.le_of_ble_eq_true rfl) rfl (c_add rfl (c_lit 1 1 rfl)) (rr_I _) hF (fun h17 σ33 R17 T17 hF => ?_)
  exact g_ret R17 hF ⟨(c_add rfl (c_lit 1 1 rfl)), (rr_I _)⟩
def FX3_hand_b225 (N : Nat) (K2 : Int → fS → Option ((Unit ⊕ Nat) × fS)) (l1 : Int) (s : fS) : Option ((Unit ⊕ Nat) × fS) :=
  K2 (iadd l1 1) s
theorem SX3_hand_b225 {m b : Nat} {φ0 : Nat → Nat} {σo : fS} {N : Nat} {k2 : Nat → Int32 → eH → Option ((Unit ⊕ Nat) × eH)} {K2 : Int → fS → Option ((Unit ⊕ Nat) × fS)} {q : (Unit ⊕ Nat) × fS} (hk2 : ∀ {φ : Nat → Nat} {h : eH} {s : fS} {l1' : Int32} {l1 : Int}, fC m b φ0 σo φ h s → l1' = iI l1 → r32 l1 → K2 l1 s = some q → gG m b φ0 σo (lT lU) q (k2 4 l1' h)) {φ : Nat → Nat} {h : eH} {s : fS} {l1' : Int32} {l1 : Int} (R : fC m b φ0 σo φ h s) (el1 : l1' = iI l1) (rl1 : r32 l1) (hF : FX3_hand_b225 N K2 l1 s = some q) : gG m b φ0 σo (lT lU) q (fX3_hand_b225 N k2 4 l1' h) := by
  subst el1
  unfold FX3_hand_b225 at hF
  unfold fX3_hand_b225
  exact hk2 R (c_add rfl (c_lit 1 1 rfl)) (rr_I _) hF
def FX3_hand_b121 (N : Nat) (K2 : Int → fS → Option ((Unit ⊕ Nat) × fS)) (l1 : Int) (l3 : Int) (l5 : Int) (l9 : Int) (l11 : Int) (s1 : Int) (s : fS) : Option ((Unit ⊕ Nat) × fS) :=
  tB (FX4_want s1 16 s) fun x2 σ3 =>
  (uRJ σ3 98 (iadd l3 3)).bind fun x6 =>
  (FX31_add (-1) (l2i x6) (l2i l5) (l2i l9) (l2i l11) σ3).bind fun q9 =>
  FX3_hand_b225 N K2 l1 q9.2
theorem SX3_hand_b121 {m b : Nat} {φ0 : Nat → Nat} {σo : fS} {N : Nat} {k2 : Nat → Int32 → eH → Option ((Unit ⊕ Nat) × eH)} {K2 : Int → fS → Option ((Unit ⊕ Nat) × fS)} {q : (Unit ⊕ Nat) × fS} (hk2 : ∀ {φ : Nat → Nat} {h : eH} {s : fS} {l1' : Int32} {l1 : Int}, fC m b φ0 σo φ h s → l1' = iI l1 → r32 l1 → K2 l1 s = some q → gG m b φ0 σo (lT lU) q (k2 4 l1' h)) {φ : Nat → Nat} {h : eH} {s : fS} {l1' : Int32} {l1 : Int} {l3' : Int32} {l3 : Int} {l5' : Int64} {l5 : Int} {l9' : Int64} {l9 : Int} {l11' : Int64} {l11 : Int} {s1' : Int32} {s1 : Int} (R : fC m b φ0 σo φ h s) (el1 : l1' = iI l1) (rl1 : r32 l1) (el3 : l3' = iI l3) (rl3 : r32 l3) (el5 : l5' = iJ l5) (rl5 : r64 l5) (el9 : l9' = iJ l9) (rl9 : r64 l9) (el11 : l11' = iJ l11) (rl11 : r64 l11) (es1 : s1' = iI s1) (rs1 : r32 s1) (hF : FX3_hand_b121 N K2 l1 l3 l5 l9 l11 s1 s = some q) : gG m b φ0 σo (lT lU) q (fX3_hand_b121 N k2 4 l1' 98 l3' l5' l9' l11' 5 s1' h) := by
  subst el1; subst el3; subst el5; subst el9; subst el11; subst es1
  unfold FX3_hand_b121 at hF
  unfold fX3_hand_b121
  refine s_kok R (t_5 R.S) (Nat.le_of_ble_eq_true rfl) ?_
  refine s_tB R (Nat.zero_le _) (fun _ hq => SX4_want (b := 0) (R.rf) rfl rs1 (c_lit 16 16 rfl) ⟨by decide, by decide⟩ hq) hF (fun f2 rv2 h2 x2 σ3 R2 e2 E2 hF => ?_)
  refine s_gO R2 (t_4 R2.S) (Nat.le_of_ble_eq_true rfl) rfl (o_4_15 R2.S) ?_
  refine s_rJ R2 (u_98 R2.S).1 (u_98 R2.S).2 (a_98 R2) (c_add rfl (c_lit 3 3 rfl)) (rr_I _) hF (fun x6 ra4 hF => ?_)
  refine s_kok R2 (t_153 R2.S) (Nat.le_of_ble_eq_true rfl) ?_
  refine s_call R2 (Nat.zero_le _) (fun _ hq => SX31_add (b := 0) (R2.rf) (c_lit (-1) (-1) rfl) ⟨by decide, by decide⟩ (d_2i rfl) (rr_I _) (d_2i rfl) (rr_I _) (d_2i rfl) (rr_I _) (d_2i rfl) (rr_I _) hq) hF (fun f6 rv6 h6 q9 R6 e6 E6 hF => ?_)
  exact SX3_hand_b225 (N := N) (k2 := k2) (K2 := K2) @hk2 R6 rfl rl1 hF
def FX3_hand_b120 (N : Nat) (K2 : Int → fS → Option ((Unit ⊕ Nat) × fS)) (l1 : Int) (l3 : Int) (l5 : Int) (l9 : Int) (l11 : Int) (s : fS) : Option ((Unit ⊕ Nat) × fS) :=
  FX3_hand_b121 N K2 l1 l3 l5 l9 l11 0 s
theorem SX3_hand_b120 {m b : Nat} {φ0 : Nat → Nat} {σo : fS} {N : Nat} {k2 : Nat → Int32 → eH → Option ((Unit ⊕ Nat) × eH)} {K2 : Int → fS → Option ((Unit ⊕ Nat) × fS)} {q : (Unit ⊕ Nat) × fS} (hk2 : ∀ {φ : Nat → Nat} {h : eH} {s : fS} {l1' : Int32} {l1 : Int}, fC m b φ0 σo φ h s → l1' = iI l1 → r32 l1 → K2 l1 s = some q → gG m b φ0 σo (lT lU) q (k2 4 l1' h)) {φ : Nat → Nat} {h : eH} {s : fS} {l1' : Int32} {l1 : Int} {l3' : Int32} {l3 : Int} {l5' : Int64} {l5 : Int} {l9' : Int64} {l9 : Int} {l11' : Int64} {l11 : Int} (R : fC m b φ0 σo φ h s) (el1 : l1' = iI l1) (rl1 : r32 l1) (el3 : l3' = iI l3) (rl3 : r32 l3) (el5 : l5' = iJ l5) (rl5 : r64 l5) (el9 : l9' = iJ l9) (rl9 : r64 l9) (el11 : l11' = iJ l11) (rl11 : r64 l11) (hF : FX3_hand_b120 N K2 l1 l3 l5 l9 l11 s = some q) : gG m b φ0 σo (lT lU) q (fX3_hand_b120 N k2 4 l1' 98 l3' l5' l9' l11' 5 h) := by
  subst el1; subst el3; subst el5; subst el9; subst el11
  unfold FX3_hand_b120 at hF
  unfold fX3_hand_b120
  exact SX3_hand_b121 (N := N) (k2 := k2) (K2 := K2) @hk2 R rfl rl1 rfl rl3 rfl rl5 rfl rl9 rfl rl11 (c_lit 0 0 rfl) ⟨by decide, by decide⟩ hF
def FX3_hand_b193 (N : Nat) (K2 : Int → fS → Option ((Unit ⊕ Nat) × fS)) (l1 : Int) (l4 : Int) (l5 : Int) (l7 : Int) (s1 : Int) (s : fS) : Option ((Unit ⊕ Nat) × fS) :=
  tB (FX4_want s1 16 s) fun x2 σ3 =>
  (FX31_add (ishr l4 8) (iand l4 255) (l2i l5) (l2i l7) 0 σ3).bind fun q7 =>
  FX3_hand_b225 N K2 l1 q7.2
theorem SX3_hand_b193 {m b : Nat} {φ0 : Nat → Nat} {σo : fS} {N : Nat} {k2 : Nat → Int32 → eH → Option ((Unit ⊕ Nat) × eH)} {K2 : Int → fS → Option ((Unit ⊕ Nat) × fS)} {q : (Unit ⊕ Nat) × fS} (hk2 : ∀ {φ : Nat → Nat} {h : eH} {s : fS} {l1' : Int32} {l1 : Int}, fC m b φ0 σo φ h s → l1' = iI l1 → r32 l1 → K2 l1 s = some q → gG m b φ0 σo (lT lU) q (k2 4 l1' h)) {φ : Nat → Nat} {h : eH} {s : fS} {l1' : Int32} {l1 : Int} {l4' : Int32} {l4 : Int} {l5' : Int64} {l5 : Int} {l7' : Int64} {l7 : Int} {s1' : Int32} {s1 : Int} (R : fC m b φ0 σo φ h s) (el1 : l1' = iI l1) (rl1 : r32 l1) (el4 : l4' = iI l4) (rl4 : r32 l4) (el5 : l5' = iJ l5) (rl5 : r64 l5) (el7 : l7' = iJ l7) (rl7 : r64 l7) (es1 : s1' = iI s1) (rs1 : r32 s1) (hF : FX3_hand_b193 N K2 l1 l4 l5 l7 s1 s = some q) : gG m b φ0 σo (lT lU) q (fX3_hand_b193 N k2 4 l1' l4' l5' l7' 5 s1' h) := by
  subst el1; subst el4; subst el5; subst el7; subst es1
  unfold FX3_hand_b193 at hF
  unfold fX3_hand_b193
  refine s_kok R (t_5 R.S) (Nat.le_of_ble_eq_true rfl) ?_
  refine s_tB R (Nat.zero_le _) (fun _ hq => SX4_want (b := 0) (R.rf) rfl rs1 (c_lit 16 16 rfl) ⟨by decide, by decide⟩ hq) hF (fun f2 rv2 h2 x2 σ3 R2 e2 E2 hF => ?_)
  refine s_gO R2 (t_4 R2.S) (Nat.le_of_ble_eq_true rfl) rfl (o_4_15 R2.S) ?_
  refine s_kok R2 (t_153 R2.S) (Nat.le_of_ble_eq_true rfl) ?_
  refine s_call R2 (Nat.zero_le _) (fun _ hq => SX31_add (b := 0) (R2.rf) (c_shr rfl (c_lit 8 8 rfl)) (rr_I _) (c_and rfl (c_lit 255 255 rfl)) (rr_I _) (d_2i rfl) (rr_I _) (d_2i rfl) (rr_I _) (c_lit 0 0 rfl) ⟨by decide, by decide⟩ hq) hF (fun f5 rv5 h5 q7 R5 e5 E5 hF => ?_)
  exact SX3_hand_b225 (N := N) (k2 := k2) (K2 := K2) @hk2 R5 rfl rl1 hF
def FX3_hand_b192 (N : Nat) (K2 : Int → fS → Option ((Unit ⊕ Nat) × fS)) (l1 : Int) (l4 : Int) (l5 : Int) (l7 : Int) (s : fS) : Option ((Unit ⊕ Nat) × fS) :=
  FX3_hand_b193 N K2 l1 l4 l5 l7 0 s
theorem SX3_hand_b192 {m b : Nat} {φ0 : Nat → Nat} {σo : fS} {N : Nat} {k2 : Nat → Int32 → eH → Option ((Unit ⊕ Nat) × eH)} {K2 : Int → fS → Option ((Unit ⊕ Nat) × fS)} {q : (Unit ⊕ Nat) × fS} (hk2 : ∀ {φ : Nat → Nat} {h : eH} {s : fS} {l1' : Int32} {l1 : Int}, fC m b φ0 σo φ h s → l1' = iI l1 → r32 l1 → K2 l1 s = some q → gG m b φ0 σo (lT lU) q (k2 4 l1' h)) {φ : Nat → Nat} {h : eH} {s : fS} {l1' : Int32} {l1 : Int} {l4' : Int32} {l4 : Int} {l5' : Int64} {l5 : Int} {l7' : Int64} {l7 : Int} (R : fC m b φ0 σo φ h s) (el1 : l1' = iI l1) (rl1 : r32 l1) (el4 : l4' = iI l4) (rl4 : r32 l4) (el5 : l5' = iJ l5) (rl5 : r64 l5) (el7 : l7' = iJ l7) (rl7 : r64 l7) (hF : FX3_hand_b192 N K2 l1 l4 l5 l7 s = some q) : gG m b φ0 σo (lT lU) q (fX3_hand_b192 N k2 4 l1' l4' l5' l7' 5 h) := by
  subst el1; subst el4; subst el5; subst el7
  unfold FX3_hand_b192 at hF
  unfold fX3_hand_b192
  exact SX3_hand_b193 (N := N) (k2 := k2) (K2 := K2) @hk2 R rfl rl1 rfl rl4 rfl rl5 rfl rl7 (c_lit 0 0 rfl) ⟨by decide, by decide⟩ hF
def FX3_hand_b2 (N : Nat) : Nat → Int → fS → Option ((Unit ⊕ Nat) × fS)
  | 0, _, _ => none
  | n + 1, l1, s =>
    if (s.i 97 3) ≤ l1 then
      some (.inl (), s)
    else
      (uRJ s 98 (imul 6 l1)).bind fun x10 =>
      (uRJ s 98 (iadd (imul 6 l1) 1)).bind fun x12 =>
      (uRJ s 98 (iadd (imul 6 l1) 2)).bind fun x14 =>
      if ¬ ((l2i x10) = (-1)) then
        (FX3_isNear x12 s).bind fun q19 =>
        if q19.1 = 0 then
          FX3_hand_b192 N (FX3_hand_b2 N n) l1 (l2i x10) x12 x14 q19.2
        else
          (FX3_isNear x14 q19.2).bind fun q21 =>
          if q21.1 = 0 then
            FX3_hand_b192 N (FX3_hand_b2 N n) l1 (l2i x10) x12 x14 q21.2
          else
            (uRJ q21.2 98 (iadd (imul 6 l1) 3)).bind fun x23 =>
            (FX3_isNear (ladd x12 x23) q21.2).bind fun q25 =>
            if q25.1 = 0 then
              FX3_hand_b192 N (FX3_hand_b2 N n) l1 (l2i x10) x12 x14 q25.2
            else
              FX3_hand_b193 N (FX3_hand_b2 N n) l1 (l2i x10) x12 x14 1 q25.2
      else
        (uRJ s 98 (iadd (imul 6 l1) 5)).bind fun x27 =>
        (uRJ s 98 (iadd (imul 6 l1) 4)).bind fun x29 =>
        (uRJ s 98 (iadd (imul 6 l1) 5)).bind fun x31 =>
        (FX3_isNear x12 s).bind fun q35 =>
        if q35.1 = 0 then
          FX3_hand_b120 N (FX3_hand_b2 N n) l1 (imul 6 l1) x12 (ladd x14 x27) (ladd x29 x31) q35.2
        else
          (FX3_isNear (ladd x14 x27) q35.2).bind fun q37 =>
          if q37.1 = 0 then
            FX3_hand_b120 N (FX3_hand_b2 N n) l1 (imul 6 l1) x12 (ladd x14 x27) (ladd x29 x31) q37.2
          else
            (uRJ q37.2 98 (iadd (imul 6 l1) 3)).bind fun x39 =>
            if 1000000000 < x39 then
              FX3_hand_b120 N (FX3_hand_b2 N n) l1 (imul 6 l1) x12 (ladd x14 x27) (ladd x29 x31) q37.2
            else
              if 1000000000 < (ladd x29 x31) then
                FX3_hand_b120 N (FX3_hand_b2 N n) l1 (imul 6 l1) x12 (ladd x14 x27) (ladd x29 x31) q37.2
              else
                FX3_hand_b121 N (FX3_hand_b2 N n) l1 (imul 6 l1) x12 (ladd x14 x27) (ladd x29 x31) 1 q37.2
theorem SX3_hand_b2 {m b : Nat} {φ0 : Nat → Nat} {σo : fS} {N : Nat} {q : (Unit ⊕ Nat) × fS} : ∀ {n : Nat} {φ : Nat → Nat} {h : eH} {s : fS} {l1' : Int32} {l1 : Int}, fC m b φ0 σo φ h s → l1' = iI l1 → r32 l1 → FX3_hand_b2 N n l1 s = some q → gG m b φ0 σo (lT lU) q (fX3_hand_b2 N n 4 l1' h) := by
  intro n
  induction n with
 | zero => intro φ h s l1' l1 R el1 rl1 hF; simp [FX3_hand_b2] at hF
  | succ n ih =>
    intro φ h s l1' l1 R el1 rl1 hF
    subst el1
    rw [FX3_hand_b2] at hF
    rw [fX3_hand_b2]
    refine s_gO R (t_4 R.S) (Nat.le_of_ble_eq_true rfl) rfl (o_4_10 R.S) ?_
    refine s_gI R (t_97 R.S) (Nat.le_of_ble_eq_true rfl) rfl ?_
    refine s_if (i_le rfl rfl (R.ri (t_97 R.S) (Nat.le_of_ble_eq_true rfl) rfl) rl1) hF (fun c3 hF => ?_) (fun c3 hF => ?_)
    ·
      exact g_ret R hF trivial
    ·
      refine s_gO R (t_4 R.S) (Nat.le_of_ble_eq_true rfl) rfl (o_4_10 R.S) ?_
      refine s_gAs R (t_97 R.S) (Nat.le_of_ble_eq_true rfl) rfl (o_97_2 R.S) (a_98 R) ?_
      refine s_rJ R (u_98 R.S).1 (u_98 R.S).2 (a_98 R) (c_mul (c_lit 6 6 rfl) rfl) (rr_I _) hF (fun x10 ra6 hF => ?_)
      refine s_rJ R (u_98 R.S).1 (u_98 R.S).2 (a_98 R) (c_add (c_mul (c_lit 6 6 rfl) rfl) (c_lit 1 1 rfl)) (rr_I _) hF (fun x12 ra7 hF => ?_)
      refine s_rJ R (u_98 R.S).1 (u_98 R.S).2 (a_98 R) (c_add (c_mul (c_lit 6 6 rfl) rfl) (c_lit 2 2 rfl)) (rr_I _) hF (fun x14 ra8 hF => ?_)
      refine s_if (not_congr (i_eq (d_2i rfl) (c_lit (-1) (-1) rfl) (rr_I _) ⟨by decide, by decide⟩)) hF (fun c9 hF => ?_) (fun c9 hF => ?_)
      ·
        refine s_gO R (t_4 R.S) (Nat.le_of_ble_eq_true rfl) rfl (o_4_0 R.S) ?_
        refine s_call R (Nat.zero_le _) (fun _ hq => SX3_isNear (b := 0) (R.rf) rfl ra7 hq) hF (fun f11 rv11 h11 q19 R11 e11 E11 hF => ?_)
        refine s_if (i_eq e11.1 (c_lit 0 0 rfl) e11.2 ⟨by decide, by decide⟩) hF (fun c12 hF => ?_) (fun c12 hF => ?_)
        ·
          exact SX3_hand_b192 (N := N) (k2 := fX3_hand_b2 N n) (K2 := FX3_hand_b2 N n) @ih R11 rfl rl1 (d_2i rfl) (rr_I _) rfl ra7 rfl ra8 hF
        ·
          refine s_call R11 (Nat.zero_le _) (fun _ hq => SX3_isNear (b := 0) (R11.rf) rfl ra8 hq) hF (fun f13 rv13 h13 q21 R13 e13 E13 hF => ?_)
          refine s_if (i_eq e13.1 (c_lit 0 0 rfl) e13.2 ⟨by decide, by decide⟩) hF (fun c14 hF => ?_) (fun c14 hF => ?_)
          ·
            exact SX3_hand_b192 (N := N) (k2 := fX3_hand_b2 N n) (K2 := FX3_hand_b2 N n) @ih R13 rfl rl1 (d_2i rfl) (rr_I _) rfl ra7 rfl ra8 hF
          ·
            refine s_rJ R13 (u_98 R13.S).1 (u_98 R13.S).2 (a_98 R13) (c_add (c_mul (c_lit 6 6 rfl) rfl) (c_lit 3 3 rfl)) (rr_I _) hF (fun x23 ra15 hF => ?_)
            refine s_call R13 (Nat.zero_le _) (fun _ hq => SX3_isNear (b := 0) (R13.rf) (d_add rfl rfl) (rr_J _) hq) hF (fun f16 rv16 h16 q25 R16 e16 E16 hF => ?_)
            refine s_if (i_eq e16.1 (c_lit 0 0 rfl) e16.2 ⟨by decide, by decide⟩) hF (fun c17 hF => ?_) (fun c17 hF => ?_)
            ·
              exact SX3_hand_b192 (N := N) (k2 := fX3_hand_b2 N n) (K2 := FX3_hand_b2 N n) @ih R16 rfl rl1 (d_2i rfl) (rr_I _) rfl ra7 rfl ra8 hF
            ·
              exact SX3_hand_b193 (N := N) (k2 := fX3_hand_b2 N n) (K2 := FX3_hand_b2 N n) @ih R16 rfl rl1 (d_2i rfl) (rr_I _) rfl ra7 rfl ra8 (c_lit 1 1 rfl) ⟨by decide, by decide⟩ hF
      ·
        refine s_rJ R (u_98 R.S).1 (u_98 R.S).2 (a_98 R) (c_add (c_mul (c_lit 6 6 rfl) rfl) (c_lit 5 5 rfl)) (rr_I _) hF (fun x27 ra18 hF => ?_)
        refine s_rJ R (u_98 R.S).1 (u_98 R.S).2 (a_98 R) (c_add (c_mul (c_lit 6 6 rfl) rfl) (c_lit 4 4 rfl)) (rr_I _) hF (fun x29 ra19 hF => ?_)
        refine s_rJ R (u_98 R.S).1 (u_98 R.S).2 (a_98 R) (c_add (c_mul (c_lit 6 6 rfl) rfl) (c_lit 5 5 rfl)) (rr_I _) hF (fun x31 ra20 hF => ?_)
        refine s_gO R (t_4 R.S) (Nat.le_of_ble_eq_true rfl) rfl (o_4_0 R.S) ?_
        refine s_call R (Nat.zero_le _) (fun _ hq => SX3_isNear (b := 0) (R.rf) rfl ra7 hq) hF (fun f22 rv22 h22 q35 R22 e22 E22 hF => ?_)
        refine s_if (i_eq e22.1 (c_lit 0 0 rfl) e22.2 ⟨by decide, by decide⟩) hF (fun c23 hF => ?_) (fun c23 hF => ?_)
        ·
          exact SX3_hand_b120 (N := N) (k2 := fX3_hand_b2 N n) (K2 := FX3_hand_b2 N n) @ih R22 rfl rl1 (c_mul (c_lit 6 6 rfl) rfl) (rr_I _) rfl ra7 (d_add rfl rfl) (rr_J _) (d_add rfl rfl) (rr_J _) hF
        ·
          refine s_call R22 (Nat.zero_le _) (fun _ hq => SX3_isNear (b := 0) (R22.rf) (d_add rfl rfl) (rr_J _) hq) hF (fun f24 rv24 h24 q37 R24 e24 E24 hF => ?_)
          refine s_if (i_eq e24.1 (c_lit 0 0 rfl) e24.2 ⟨by decide, by decide⟩) hF (fun c25 hF => ?_) (fun c25 hF => ?_)
          ·
            exact SX3_hand_b120 (N := N) (k2 := fX3_hand_b2 N n) (K2 := FX3_hand_b2 N n) @ih R24 rfl rl1 (c_mul (c_lit 6 6 rfl) rfl) (rr_I _) rfl ra7 (d_add rfl rfl) (rr_J _) (d_add rfl rfl) (rr_J _) hF
          ·
            refine s_rJ R24 (u_98 R24.S).1 (u_98 R24.S).2 (a_98 R24) (c_add (c_mul (c_lit 6 6 rfl) rfl) (c_lit 3 3 rfl)) (rr_I _) hF (fun x39 ra26 hF => ?_)
            refine s_if ((lg_cmp_gt _ _).trans (j_lt (d_lit 1000000000 1000000000 rfl) rfl ⟨by decide, by decide⟩ ra26)) hF (fun c27 hF => ?_) (fun c27 hF => ?_)
            ·
              exact SX3_hand_b120 (N := N) (k2 := fX3_hand_b2 N n) (K2 := FX3_hand_b2 N n) @ih R24 rfl rl1 (c_mul (c_lit 6 6 rfl) rfl) (rr_I _) rfl ra7 (d_add rfl rfl) (rr_J _) (d_add rfl rfl) (rr_J _) hF
            ·
              refine s_if ((lg_cmp_gt _ _).trans (j_lt (d_lit 1000000000 1000000000 rfl) (d_add rfl rfl) ⟨by decide, by decide⟩ (rr_J _))) hF (fun c28 hF => ?_) (fun c28 hF => ?_)
              ·
                exact SX3_hand_b120 (N := N) (k2 := fX3_hand_b2 N n) (K2 := FX3_hand_b2 N n) @ih R24 rfl rl1 (c_mul (c_lit 6 6 rfl) rfl) (rr_I _) rfl ra7 (d_add rfl rfl) (rr_J _) (d_add rfl rfl) (rr_J _) hF
              ·
                exact SX3_hand_b121 (N := N) (k2 := fX3_hand_b2 N n) (K2 := FX3_hand_b2 N n) @ih R24 rfl rl1 (c_mul (c_lit 6 6 rfl) rfl) (rr_I _) rfl ra7 (d_add rfl rfl) (rr_J _) (d_add rfl rfl) (rr_J _) (c_lit 1 1 rfl) ⟨by decide, by decide⟩ hF
def FX3_hand (N : Nat) (s : fS) : Option ((Unit ⊕ Nat) × fS) :=
  FX3_hand_b2 N N 0 s
theorem SX3_hand {m b : Nat} {φ0 : Nat → Nat} {σo : fS} {N : Nat} {q : (Unit ⊕ Nat) × fS} {φ : Nat → Nat} {h : eH} {s : fS} (R : fC m b φ0 σo φ h s) (hF : FX3_hand N s = some q) : gG m b φ0 σo (lT lU) q (fX3_hand N 4 h) := by
  unfold FX3_hand at hF
  unfold fX3_hand
  exact SX3_hand_b2 (N := N) R (c_lit 0 0 rfl) ⟨by decide, by decide⟩ hF
def FX33_clear (this : Nat) (s : fS) : Option (Unit × fS) :=
  (uK 32 s this).bind fun _ =>
  (uPI s this 4 0).bind fun σ1 =>
  (uK 32 σ1 this).bind fun _ =>
  (uPI σ1 this 5 0).bind fun σ3 =>
  (uK 32 σ3 this).bind fun _ =>
  (uPI σ3 this 6 (-1)).bind fun σ5 =>
  (uK 32 σ5 this).bind fun _ =>
  (uPI σ5 this 7 (-1)).bind fun σ7 =>
  some ((), σ7)
theorem SX33_clear {m b : Nat} {φ0 : Nat → Nat} {σo : fS} {q : Unit × fS} {φ : Nat → Nat} {h : eH} {s : fS} {this : Nat} (R : fC m b φ0 σo φ h s) (hF : FX33_clear this s = some q) : gG m b φ0 σo lU q (fX33_clear this h) := by
  unfold FX33_clear at hF
  unfold fX33_clear
  refine s_K hF (fun t2 hF => ?_)
  refine s_pI R t2 (Nat.le_of_ble_eq_true rfl) rfl (c_lit 0 0 rfl) ⟨by decide, by decide⟩ hF (fun h1 σ1 R1 T1 hF => ?_)
  refine s_K hF (fun t4 hF => ?_)
  refine s_pI R1 t4 (Nat.le_of_ble_eq_true rfl) rfl (c_lit 0 0 rfl) ⟨by decide, by decide⟩ hF (fun h3 σ3 R3 T3 hF => ?_)
  refine s_K hF (fun t6 hF => ?_)
  refine s_pI R3 t6 (Nat.le_of_ble_eq_true rfl) rfl (c_lit (-1) (-1) rfl) ⟨by decide, by decide⟩ hF (fun h5 σ5 R5 T5 hF => ?_)
  refine s_K hF (fun t8 hF => ?_)
  refine s_pI R5 t8 (Nat.le_of_ble_eq_true rfl) rfl (c_lit (-1) (-1) rfl) ⟨by decide, by decide⟩ hF (fun h7 σ7 R7 T7 hF => ?_)
  exact g_ret R7 hF trivial
def FX33_add_b21 (s : fS) : Option (Unit × fS) :=
  some ((), s)
theorem SX33_add_b21 {m b : Nat} {φ0 : Nat → Nat} {σo : fS} {q : Unit × fS} {φ : Nat → Nat} {h : eH} {s : fS} (R : fC m b φ0 σo φ h s) (hF : FX33_add_b21 s = some q) : gG m b φ0 σo lU q (fX33_add_b21 h) := by
  unfold FX33_add_b21 at hF
  unfold fX33_add_b21
  exact g_ret R hF trivial
def FX33_add (this : Nat) (p0 : Int) (s : fS) : Option (Unit × fS) :=
  if p0 = 0 then
    FX33_add_b21 s
  else
    (uK 32 s this).bind fun _ =>
    (s.o this 2).bind fun a2 =>
    (uK 32 s this).bind fun _ =>
    (uK 32 s this).bind fun _ =>
    (uPI s this 4 (iadd (s.i this 4) 1)).bind fun σ6 =>
    (uKA 100 σ6 a2).bind fun _ =>
    (uQI σ6 a2 (s.i this 4) p0).bind fun σ8 =>
    FX33_add_b21 σ8
theorem SX33_add {m b : Nat} {φ0 : Nat → Nat} {σo : fS} {q : Unit × fS} {φ : Nat → Nat} {h : eH} {s : fS} {this : Nat} {p0' : Int32} {p0 : Int} (R : fC m b φ0 σo φ h s) (ep0 : p0' = iI p0) (rp0 : r32 p0) (hF : FX33_add this p0 s = some q) : gG m b φ0 σo lU q (fX33_add this p0' h) := by
  subst ep0
  unfold FX33_add at hF
  unfold fX33_add
  refine s_if (i_eq rfl (c_lit 0 0 rfl) rp0 ⟨by decide, by decide⟩) hF (fun c1 hF => ?_) (fun c1 hF => ?_)
  ·
    exact SX33_add_b21 R hF
  ·
    refine s_K hF (fun t3 hF => ?_)
    refine s_oo hF (fun a2 e2 hF => ?_)
    refine s_gA R t3 (Nat.le_of_ble_eq_true rfl) rfl e2 (fun x2_ y2_ => ?_)
    refine s_K hF (fun t5 hF => ?_)
    refine s_gI R t5 (Nat.le_of_ble_eq_true rfl) rfl ?_
    refine s_K hF (fun t7 hF => ?_)
    refine s_pI R t7 (Nat.le_of_ble_eq_true rfl) rfl (c_add rfl (c_lit 1 1 rfl)) (rr_I _) hF (fun h6 σ6 R6 T6 hF => ?_)
    refine s_KA hF (fun y9 z9 hF => ?_)
    refine s_qI R6 y9 z9 (by decide) rfl rfl (R.ri t5 (Nat.le_of_ble_eq_true rfl) rfl) rfl rp0 hF (fun h8 σ8 R8 T8 hF => ?_)
    exact SX33_add_b21 R8 hF
def FX31_behind_b45 (s0 : Int) (s : fS) : Option (Int × fS) :=
  some (s0, s)
theorem SX31_behind_b45 {m b : Nat} {φ0 : Nat → Nat} {σo : fS} {q : Int × fS} {φ : Nat → Nat} {h : eH} {s : fS} {s0' : Int32} {s0 : Int} (R : fC m b φ0 σo φ h s) (es0 : s0' = iI s0) (rs0 : r32 s0) (hF : FX31_behind_b45 s0 s = some q) : gG m b φ0 σo lI q (fX31_behind_b45 s0' h) := by
  subst es0
  unfold FX31_behind_b45 at hF
  unfold fX31_behind_b45
  exact g_ret R hF ⟨rfl, rs0⟩
def FX31_behind (p0 : Int) (s : fS) : Option (Int × fS) :=
  (uRI s 157 p0).bind fun x3 =>
  if ¬ (x3 = (-1)) then
    (uRI s 159 p0).bind fun x8 =>
    (uRI s 157 p0).bind fun x14 =>
    (uRI s 158 p0).bind fun x18 =>
    (FX5_width x14 x18 s).bind fun q21 =>
    FX31_behind_b45 (iadd x8 q21.1) q21.2
  else
    (uRI s 159 p0).bind fun x24 =>
    FX31_behind_b45 x24 s
theorem SX31_behind {m b : Nat} {φ0 : Nat → Nat} {σo : fS} {q : Int × fS} {φ : Nat → Nat} {h : eH} {s : fS} {p0' : Int32} {p0 : Int} (R : fC m b φ0 σo φ h s) (ep0 : p0' = iI p0) (rp0 : r32 p0) (hF : FX31_behind p0 s = some q) : gG m b φ0 σo lI q (fX31_behind 153 p0' h) := by
  subst ep0
  unfold FX31_behind at hF
  unfold fX31_behind
  refine s_gAs R (t_153 R.S) (Nat.le_of_ble_eq_true rfl) rfl (o_153_3 R.S) (a_157 R) ?_
  refine s_rI R (u_157 R.S).1 (u_157 R.S).2 (by decide) (a_157 R) rfl rp0 hF (fun x3 ra2 hF => ?_)
  refine s_if (not_congr (i_eq rfl (c_lit (-1) (-1) rfl) ra2 ⟨by decide, by decide⟩)) hF (fun c3 hF => ?_) (fun c3 hF => ?_)
  ·
    refine s_gAs R (t_153 R.S) (Nat.le_of_ble_eq_true rfl) rfl (o_153_5 R.S) (a_159 R) ?_
    refine s_rI R (u_159 R.S).1 (u_159 R.S).2 (by decide) (a_159 R) rfl rp0 hF (fun x8 ra5 hF => ?_)
    refine s_gO R (t_153 R.S) (Nat.le_of_ble_eq_true rfl) rfl (o_153_0 R.S) ?_
    refine s_gAs R (t_153 R.S) (Nat.le_of_ble_eq_true rfl) rfl (o_153_3 R.S) (a_157 R) ?_
    refine s_rI R (u_157 R.S).1 (u_157 R.S).2 (by decide) (a_157 R) rfl rp0 hF (fun x14 ra8 hF => ?_)
    refine s_gAs R (t_153 R.S) (Nat.le_of_ble_eq_true rfl) rfl (o_153_4 R.S) (a_158 R) ?_
    refine s_rI R (u_158 R.S).1 (u_158 R.S).2 (by decide) (a_158 R) rfl rp0 hF (fun x18 ra10 hF => ?_)
    refine s_kok R (t_6 R.S) (Nat.le_of_ble_eq_true rfl) ?_
    refine s_call R (Nat.zero_le _) (fun _ hq => SX5_width (b := 0) (R.rf) rfl ra8 rfl ra10 hq) hF (fun f12 rv12 h12 q21 R12 e12 E12 hF => ?_)
    exact SX31_behind_b45 R12 (c_add rfl e12.1) (rr_I _) hF
  ·
    refine s_gAs R (t_153 R.S) (Nat.le_of_ble_eq_true rfl) rfl (o_153_5 R.S) (a_159 R) ?_
    refine s_rI R (u_159 R.S).1 (u_159 R.S).2 (by decide) (a_159 R) rfl rp0 hF (fun x24 ra14 hF => ?_)
    exact SX31_behind_b45 R rfl ra14 hF
def FX33_seek_b49 (N : Nat) (l2 : Int) (s : fS) : Option (Int × fS) :=
  some (l2, s)
theorem SX33_seek_b49 {m b : Nat} {φ0 : Nat → Nat} {σo : fS} {N : Nat} {q : Int × fS} {φ : Nat → Nat} {h : eH} {s : fS} {l2' : Int32} {l2 : Int} (R : fC m b φ0 σo φ h s) (el2 : l2' = iI l2) (rl2 : r32 l2) (hF : FX33_seek_b49 N l2 s = some q) : gG m b φ0 σo lI q (fX33_seek_b49 N l2' h) := by
  subst el2
  unfold FX33_seek_b49 at hF
  unfold fX33_seek_b49
  exact g_ret R hF ⟨rfl, rl2⟩
def FX33_seek_b12 (N : Nat) : Nat → Nat → Int → Int → fS → Option (Int × fS)
  | 0, _, _, _, _ => none
  | n + 1, l0, l1, l2, s =>
    (uK 32 s l0).bind fun _ =>
    (s.o l0 8).bind fun a1 =>
    (uKA 100 s a1).bind fun _ =>
    (uRI s a1 l2).bind fun x3 =>
    if x3 = 0 then
      FX33_seek_b49 N l2 s
    else
      (uK 32 s l0).bind fun _ =>
      (s.o l0 2).bind fun a6 =>
      (uK 32 s l0).bind fun _ =>
      (s.o l0 8).bind fun a8 =>
      (uKA 100 s a8).bind fun _ =>
      (uRI s a8 l2).bind fun x10 =>
      (uKA 100 s a6).bind fun _ =>
      (uRI s a6 (isub x10 1)).bind fun x12 =>
      if x12 = l1 then
        FX33_seek_b49 N l2 s
      else
        FX33_seek_b12 N n l0 l1 (iand (iadd l2 1) 8191) s
theorem SX33_seek_b12 {m b : Nat} {φ0 : Nat → Nat} {σo : fS} {N : Nat} {q : Int × fS} : ∀ {n : Nat} {φ : Nat → Nat} {h : eH} {s : fS} {l0 : Nat} {l1' : Int32} {l1 : Int} {l2' : Int32} {l2 : Int}, fC m b φ0 σo φ h s → l1' = iI l1 → r32 l1 → l2' = iI l2 → r32 l2 → FX33_seek_b12 N n l0 l1 l2 s = some q → gG m b φ0 σo lI q (fX33_seek_b12 N n l0 l1' l2' h) := by
  intro n
  induction n with
 | zero => intro φ h s l0 l1' l1 l2' l2 R el1 rl1 el2 rl2 hF; simp [FX33_seek_b12] at hF
  | succ n ih =>
    intro φ h s l0 l1' l1 l2' l2 R el1 rl1 el2 rl2 hF
    subst el1; subst el2
    rw [FX33_seek_b12] at hF
    rw [fX33_seek_b12]
    refine s_K hF (fun t2 hF => ?_)
    refine s_oo hF (fun a1 e1 hF => ?_)
    refine s_gA R t2 (Nat.le_of_ble_eq_true rfl) rfl e1 (fun x1_ y1_ => ?_)
    refine s_KA hF (fun y4 z4 hF => ?_)
    refine s_rI R y4 z4 (by decide) rfl rfl rl2 hF (fun x3 ra3 hF => ?_)
    refine s_if (i_eq rfl (c_lit 0 0 rfl) ra3 ⟨by decide, by decide⟩) hF (fun c5 hF => ?_) (fun c5 hF => ?_)
    ·
      exact SX33_seek_b49 (N := N) R rfl rl2 hF
    ·
      refine s_K hF (fun t7 hF => ?_)
      refine s_oo hF (fun a6 e6 hF => ?_)
      refine s_gA R t7 (Nat.le_of_ble_eq_true rfl) rfl e6 (fun x6_ y6_ => ?_)
      refine s_K hF (fun t9 hF => ?_)
      refine s_oo hF (fun a8 e8 hF => ?_)
      refine s_gA R t9 (Nat.le_of_ble_eq_true rfl) rfl e8 (fun x8_ y8_ => ?_)
      refine s_KA hF (fun y11 z11 hF => ?_)
      refine s_rI R y11 z11 (by decide) rfl rfl rl2 hF (fun x10 ra10 hF => ?_)
      refine s_KA hF (fun y13 z13 hF => ?_)
      refine s_rI R y13 z13 (by decide) rfl (c_sub rfl (c_lit 1 1 rfl)) (rr_I _) hF (fun x12 ra12 hF => ?_)
      refine s_if (i_eq rfl rfl ra12 rl1) hF (fun c14 hF => ?_) (fun c14 hF => ?_)
      ·
        exact SX33_seek_b49 (N := N) R rfl rl2 hF
      ·
        exact ih R rfl rl1 (c_and (c_add rfl (c_lit 1 1 rfl)) (c_lit 8191 8191 rfl)) (rr_I _) hF
def FX33_seek (N : Nat) (this : Nat) (p0 : Int) (s : fS) : Option (Int × fS) :=
  FX33_seek_b12 N N this p0 (iand (iush (imul p0 (-1640531535)) 19) 8191) s
theorem SX33_seek {m b : Nat} {φ0 : Nat → Nat} {σo : fS} {N : Nat} {q : Int × fS} {φ : Nat → Nat} {h : eH} {s : fS} {this : Nat} {p0' : Int32} {p0 : Int} (R : fC m b φ0 σo φ h s) (ep0 : p0' = iI p0) (rp0 : r32 p0) (hF : FX33_seek N this p0 s = some q) : gG m b φ0 σo lI q (fX33_seek N this p0' h) := by
  subst ep0
  unfold FX33_seek at hF
  unfold fX33_seek
  exact SX33_seek_b12 (N := N) R rfl rp0 (c_and (c_ush (c_mul rfl (c_lit (-1640531535) (-1640531535) rfl)) (c_lit 19 19 rfl)) (c_lit 8191 8191 rfl)) (rr_I _) hF
def FX33_settle_b62 (N : Nat) (K29 : Nat → Int → fS → Option (Unit × fS)) (l0 : Nat) (l1 : Int) (l2 : Int) (s : fS) : Option (Unit × fS) :=
  (uK 32 s l0).bind fun _ =>
  (s.o l0 3).bind fun a1 =>
  (uK 32 s l0).bind fun _ =>
  (s.o l0 8).bind fun a3 =>
  (uKA 100 s a3).bind fun _ =>
  (uRI s a3 l2).bind fun x5 =>
  (uKA 100 s a1).bind fun _ =>
  (uQI s a1 l1 (isub x5 1)).bind fun σ7 =>
  K29 l0 (iadd l1 (-1)) σ7
theorem SX33_settle_b62 {m b : Nat} {φ0 : Nat → Nat} {σo : fS} {N : Nat} {k29 : Nat → Int32 → eH → Option (Unit × eH)} {K29 : Nat → Int → fS → Option (Unit × fS)} {q : Unit × fS} (hk29 : ∀ {φ : Nat → Nat} {h : eH} {s : fS} {l0 : Nat} {l1' : Int32} {l1 : Int}, fC m b φ0 σo φ h s → l1' = iI l1 → r32 l1 → K29 l0 l1 s = some q → gG m b φ0 σo lU q (k29 l0 l1' h)) {φ : Nat → Nat} {h : eH} {s : fS} {l0 : Nat} {l1' : Int32} {l1 : Int} {l2' : Int32} {l2 : Int} (R : fC m b φ0 σo φ h s) (el1 : l1' = iI l1) (rl1 : r32 l1) (el2 : l2' = iI l2) (rl2 : r32 l2) (hF : FX33_settle_b62 N K29 l0 l1 l2 s = some q) : gG m b φ0 σo lU q (fX33_settle_b62 N k29 l0 l1' l2' h) := by
  subst el1; subst el2
  unfold FX33_settle_b62 at hF
  unfold fX33_settle_b62
  refine s_K hF (fun t2 hF => ?_)
  refine s_oo hF (fun a1 e1 hF => ?_)
  refine s_gA R t2 (Nat.le_of_ble_eq_true rfl) rfl e1 (fun x1_ y1_ => ?_)
  refine s_K hF (fun t4 hF => ?_)
  refine s_oo hF (fun a3 e3 hF => ?_)
  refine s_gA R t4 (Nat.le_of_ble_eq_true rfl) rfl e3 (fun x3_ y3_ => ?_)
  refine s_KA hF (fun y6 z6 hF => ?_)
  refine s_rI R y6 z6 (by decide) rfl rfl rl2 hF (fun x5 ra5 hF => ?_)
  refine s_KA hF (fun y8 z8 hF => ?_)
  refine s_qI R y8 z8 (by decide) rfl rfl rl1 (c_sub rfl (c_lit 1 1 rfl)) (rr_I _) hF (fun h7 σ7 R7 T7 hF => ?_)
  exact hk29 R7 (c_add rfl (c_lit (-1) (-1) rfl)) (rr_I _) hF
def FX33_settle_b29 (N : Nat) : Nat → Nat → Int → fS → Option (Unit × fS)
  | 0, _, _, _ => none
  | n + 1, l0, l1, s =>
    if l1 < 0 then
      some ((), s)
    else
      (uK 32 s l0).bind fun _ =>
      (s.o l0 2).bind fun a2 =>
      (uKA 100 s a2).bind fun _ =>
      (uRI s a2 l1).bind fun x4 =>
      (uK 32 s l0).bind fun _ =>
      (FX33_seek N l0 x4 s).bind fun q7 =>
      (uK 32 q7.2 l0).bind fun _ =>
      (q7.2.o l0 8).bind fun a8 =>
      (uKA 100 q7.2 a8).bind fun _ =>
      (uRI q7.2 a8 q7.1).bind fun x10 =>
      if ¬ (x10 = 0) then
        FX33_settle_b62 N (FX33_settle_b29 N n) l0 l1 q7.1 q7.2
      else
        (uK 32 q7.2 l0).bind fun _ =>
        (q7.2.o l0 8).bind fun a13 =>
        (uKA 100 q7.2 a13).bind fun _ =>
        (uQI q7.2 a13 q7.1 (iadd l1 1)).bind fun σ15 =>
        FX33_settle_b62 N (FX33_settle_b29 N n) l0 l1 q7.1 σ15
theorem SX33_settle_b29 {m b : Nat} {φ0 : Nat → Nat} {σo : fS} {N : Nat} {q : Unit × fS} : ∀ {n : Nat} {φ : Nat → Nat} {h : eH} {s : fS} {l0 : Nat} {l1' : Int32} {l1 : Int}, fC m b φ0 σo φ h s → l1' = iI l1 → r32 l1 → FX33_settle_b29 N n l0 l1 s = some q → gG m b φ0 σo lU q (fX33_settle_b29 N n l0 l1' h) := by
  intro n
  induction n with
 | zero => intro φ h s l0 l1' l1 R el1 rl1 hF; simp [FX33_settle_b29] at hF
  | succ n ih =>
    intro φ h s l0 l1' l1 R el1 rl1 hF
    subst el1
    rw [FX33_settle_b29] at hF
    rw [fX33_settle_b29]
    refine s_if (i_lt rfl (c_lit 0 0 rfl) rl1 ⟨by decide, by decide⟩) hF (fun c1 hF => ?_) (fun c1 hF => ?_)
    ·
      exact g_ret R hF trivial
    ·
      refine s_K hF (fun t3 hF => ?_)
      refine s_oo hF (fun a2 e2 hF => ?_)
      refine s_gA R t3 (Nat.le_of_ble_eq_true rfl) rfl e2 (fun x2_ y2_ => ?_)
      refine s_KA hF (fun y5 z5 hF => ?_)
      refine s_rI R y5 z5 (by decide) rfl rfl rl1 hF (fun x4 ra4 hF => ?_)
      refine s_K hF (fun t7 hF => ?_)
      refine s_kok R t7 (Nat.le_of_ble_eq_true rfl) ?_
      refine s_call R (Nat.zero_le _) (fun _ hq => SX33_seek (b := 0) (N := N) (R.rf) rfl ra4 hq) hF (fun f8 rv8 h8 q7 R8 e8 E8 hF => ?_)
      refine s_K hF (fun t10 hF => ?_)
      refine s_oo hF (fun a8 e9 hF => ?_)
      refine s_gA R8 t10 (Nat.le_of_ble_eq_true rfl) rfl e9 (fun x9_ y9_ => ?_)
      refine s_KA hF (fun y12 z12 hF => ?_)
      refine s_rI R8 y12 z12 (by decide) rfl e8.1 e8.2 hF (fun x10 ra11 hF => ?_)
      refine s_if (not_congr (i_eq rfl (c_lit 0 0 rfl) ra11 ⟨by decide, by decide⟩)) hF (fun c13 hF => ?_) (fun c13 hF => ?_)
      ·
        exact SX33_settle_b62 (N := N) (k29 := fX33_settle_b29 N n) (K29 := FX33_settle_b29 N n) @ih R8 rfl rl1 e8.1 e8.2 hF
      ·
        refine s_K hF (fun t15 hF => ?_)
        refine s_oo hF (fun a13 e14 hF => ?_)
        refine s_gA R8 t15 (Nat.le_of_ble_eq_true rfl) rfl e14 (fun x14_ y14_ => ?_)
        refine s_KA hF (fun y17 z17 hF => ?_)
        refine s_qI R8 y17 z17 (by decide) rfl e8.1 e8.2 (c_add rfl (c_lit 1 1 rfl)) (rr_I _) hF (fun h16 σ15 R16 T16 hF => ?_)
        exact SX33_settle_b62 (N := N) (k29 := fX33_settle_b29 N n) (K29 := FX33_settle_b29 N n) @ih R16 rfl rl1 e8.1 e8.2 hF
def FX33_settle_b2 (N : Nat) : Nat → Nat → Int → fS → Option (Unit × fS)
  | 0, _, _, _ => none
  | n + 1, l0, l1, s =>
    if 8192 ≤ l1 then
      (uK 32 s l0).bind fun _ =>
      FX33_settle_b29 N N l0 (isub (s.i l0 4) 1) s
    else
      (uK 32 s l0).bind fun _ =>
      (s.o l0 8).bind fun a4 =>
      (uKA 100 s a4).bind fun _ =>
      (uQI s a4 l1 0).bind fun σ6 =>
      FX33_settle_b2 N n l0 (iadd l1 1) σ6
theorem SX33_settle_b2 {m b : Nat} {φ0 : Nat → Nat} {σo : fS} {N : Nat} {q : Unit × fS} : ∀ {n : Nat} {φ : Nat → Nat} {h : eH} {s : fS} {l0 : Nat} {l1' : Int32} {l1 : Int}, fC m b φ0 σo φ h s → l1' = iI l1 → r32 l1 → FX33_settle_b2 N n l0 l1 s = some q → gG m b φ0 σo lU q (fX33_settle_b2 N n l0 l1' h) := by
  intro n
  induction n with
 | zero => intro φ h s l0 l1' l1 R el1 rl1 hF; simp [FX33_settle_b2] at hF
  | succ n ih =>
    intro φ h s l0 l1' l1 R el1 rl1 hF
    subst el1
    rw [FX33_settle_b2] at hF
    rw [fX33_settle_b2]
    refine s_if (i_le (c_lit 8192 8192 rfl) rfl ⟨by decide, by decide⟩ rl1) hF (fun c1 hF => ?_) (fun c1 hF => ?_)
    ·
      refine s_K hF (fun t3 hF => ?_)
      refine s_gI R t3 (Nat.le_of_ble_eq_true rfl) rfl ?_
      exact SX33_settle_b29 (N := N) R (c_sub rfl (c_lit 1 1 rfl)) (rr_I _) hF
    ·
      refine s_K hF (fun t5 hF => ?_)
      refine s_oo hF (fun a4 e4 hF => ?_)
      refine s_gA R t5 (Nat.le_of_ble_eq_true rfl) rfl e4 (fun x4_ y4_ => ?_)
      refine s_KA hF (fun y7 z7 hF => ?_)
      refine s_qI R y7 z7 (by decide) rfl rfl rl1 (c_lit 0 0 rfl) ⟨by decide, by decide⟩ hF (fun h6 σ6 R6 T6 hF => ?_)
      exact ih R6 (c_add rfl (c_lit 1 1 rfl)) (rr_I _) hF
def FX33_settle (N : Nat) (this : Nat) (s : fS) : Option (Unit × fS) :=
  FX33_settle_b2 N N this 0 s
theorem SX33_settle {m b : Nat} {φ0 : Nat → Nat} {σo : fS} {N : Nat} {q : Unit × fS} {φ : Nat → Nat} {h : eH} {s : fS} {this : Nat} (R : fC m b φ0 σo φ h s) (hF : FX33_settle N this s = some q) : gG m b φ0 σo lU q (fX33_settle N this h) := by
  unfold FX33_settle at hF
  unfold fX33_settle
  exact SX33_settle_b2 (N := N) R (c_lit 0 0 rfl) ⟨by decide, by decide⟩ hF
def FX31_gather_b20 (N : Nat) : Nat → Int → Int → Int → fS → Option (Unit × fS)
  | 0, _, _, _, _ => none
  | n + 1, l1, l2, l3, s =>
    if (s.i 153 8) ≤ l3 then
      (FX33_settle N 162 s).bind fun q7 =>
      (FX33_settle N 166 q7.2).bind fun q11 =>
      some ((), q11.2)
    else
      (uRI s 160 l3).bind fun x16 =>
      (FX33_add 166 (isub x16 l2) s).bind fun q19 =>
      (uRI q19.2 159 l3).bind fun x24 =>
      (FX33_add 162 (isub x24 l1) q19.2).bind fun q27 =>
      (uRI q27.2 160 l3).bind fun x30 =>
      (FX31_behind l3 q27.2).bind fun q33 =>
      FX31_gather_b20 N n q33.1 x30 (iadd l3 1) q33.2
theorem SX31_gather_b20 {m b : Nat} {φ0 : Nat → Nat} {σo : fS} {N : Nat} {q : Unit × fS} : ∀ {n : Nat} {φ : Nat → Nat} {h : eH} {s : fS} {l1' : Int32} {l1 : Int} {l2' : Int32} {l2 : Int} {l3' : Int32} {l3 : Int}, fC m b φ0 σo φ h s → l1' = iI l1 → r32 l1 → l2' = iI l2 → r32 l2 → l3' = iI l3 → r32 l3 → FX31_gather_b20 N n l1 l2 l3 s = some q → gG m b φ0 σo lU q (fX31_gather_b20 N n 153 l1' l2' l3' h) := by
  intro n
  induction n with
 | zero => intro φ h s l1' l1 l2' l2 l3' l3 R el1 rl1 el2 rl2 el3 rl3 hF; simp [FX31_gather_b20] at hF
  | succ n ih =>
    intro φ h s l1' l1 l2' l2 l3' l3 R el1 rl1 el2 rl2 el3 rl3 hF
    subst el1; subst el2; subst el3
    rw [FX31_gather_b20] at hF
    rw [fX31_gather_b20]
    refine s_gI R (t_153 R.S) (Nat.le_of_ble_eq_true rfl) rfl ?_
    refine s_if (i_le rfl rfl (R.ri (t_153 R.S) (Nat.le_of_ble_eq_true rfl) rfl) rl3) hF (fun c2 hF => ?_) (fun c2 hF => ?_)
    ·
      refine s_gO R (t_153 R.S) (Nat.le_of_ble_eq_true rfl) rfl (o_153_9 R.S) ?_
      refine s_kok R (t_162 R.S) (Nat.le_of_ble_eq_true rfl) ?_
      refine s_call R (Nat.zero_le _) (fun _ hq => SX33_settle (b := 0) (N := N) (R.rf) hq) hF (fun f5 rv5 h5 q7 R5 e5 E5 hF => ?_)
      refine s_gO R5 (t_153 R5.S) (Nat.le_of_ble_eq_true rfl) rfl (o_153_10 R5.S) ?_
      refine s_kok R5 (t_166 R5.S) (Nat.le_of_ble_eq_true rfl) ?_
      refine s_call R5 (Nat.zero_le _) (fun _ hq => SX33_settle (b := 0) (N := N) (R5.rf) hq) hF (fun f8 rv8 h8 q11 R8 e8 E8 hF => ?_)
      exact g_ret R8 hF trivial
    ·
      refine s_gO R (t_153 R.S) (Nat.le_of_ble_eq_true rfl) rfl (o_153_10 R.S) ?_
      refine s_gAs R (t_153 R.S) (Nat.le_of_ble_eq_true rfl) rfl (o_153_6 R.S) (a_160 R) ?_
      refine s_rI R (u_160 R.S).1 (u_160 R.S).2 (by decide) (a_160 R) rfl rl3 hF (fun x16 ra11 hF => ?_)
      refine s_kok R (t_166 R.S) (Nat.le_of_ble_eq_true rfl) ?_
      refine s_call R (Nat.zero_le _) (fun _ hq => SX33_add (b := 0) (R.rf) (c_sub rfl rfl) (rr_I _) hq) hF (fun f13 rv13 h13 q19 R13 e13 E13 hF => ?_)
      refine s_gO R13 (t_153 R13.S) (Nat.le_of_ble_eq_true rfl) rfl (o_153_9 R13.S) ?_
      refine s_gAs R13 (t_153 R13.S) (Nat.le_of_ble_eq_true rfl) rfl (o_153_5 R13.S) (a_159 R13) ?_
      refine s_rI R13 (u_159 R13.S).1 (u_159 R13.S).2 (by decide) (a_159 R13) rfl rl3 hF (fun x24 ra16 hF => ?_)
      refine s_kok R13 (t_162 R13.S) (Nat.le_of_ble_eq_true rfl) ?_
      refine s_call R13 (Nat.zero_le _) (fun _ hq => SX33_add (b := 0) (R13.rf) (c_sub rfl rfl) (rr_I _) hq) hF (fun f18 rv18 h18 q27 R18 e18 E18 hF => ?_)
      refine s_gAs R18 (t_153 R18.S) (Nat.le_of_ble_eq_true rfl) rfl (o_153_6 R18.S) (a_160 R18) ?_
      refine s_rI R18 (u_160 R18.S).1 (u_160 R18.S).2 (by decide) (a_160 R18) rfl rl3 hF (fun x30 ra20 hF => ?_)
      refine s_kok R18 (t_153 R18.S) (Nat.le_of_ble_eq_true rfl) ?_
      refine s_call R18 (Nat.zero_le _) (fun _ hq => SX31_behind (b := 0) (R18.rf) rfl rl3 hq) hF (fun f22 rv22 h22 q33 R22 e22 E22 hF => ?_)
      exact ih R22 e22.1 e22.2 rfl ra20 (c_add rfl (c_lit 1 1 rfl)) (rr_I _) hF
def FX31_gather (N : Nat) (s : fS) : Option (Unit × fS) :=
  (FX33_clear 162 s).bind fun q4 =>
  (FX33_clear 166 q4.2).bind fun q8 =>
  FX31_gather_b20 N N 0 0 0 q8.2
theorem SX31_gather {m b : Nat} {φ0 : Nat → Nat} {σo : fS} {N : Nat} {q : Unit × fS} {φ : Nat → Nat} {h : eH} {s : fS} (R : fC m b φ0 σo φ h s) (hF : FX31_gather N s = some q) : gG m b φ0 σo lU q (fX31_gather N 153 h) := by
  unfold FX31_gather at hF
  unfold fX31_gather
  refine s_gO R (t_153 R.S) (Nat.le_of_ble_eq_true rfl) rfl (o_153_9 R.S) ?_
  refine s_kok R (t_162 R.S) (Nat.le_of_ble_eq_true rfl) ?_
  refine s_call R (Nat.zero_le _) (fun _ hq => SX33_clear (b := 0) (R.rf) hq) hF (fun f3 rv3 h3 q4 R3 e3 E3 hF => ?_)
  refine s_gO R3 (t_153 R3.S) (Nat.le_of_ble_eq_true rfl) rfl (o_153_10 R3.S) ?_
  refine s_kok R3 (t_166 R3.S) (Nat.le_of_ble_eq_true rfl) ?_
  refine s_call R3 (Nat.zero_le _) (fun _ hq => SX33_clear (b := 0) (R3.rf) hq) hF (fun f6 rv6 h6 q8 R6 e6 E6 hF => ?_)
  exact SX31_gather_b20 (N := N) R6 (c_lit 0 0 rfl) ⟨by decide, by decide⟩ (c_lit 0 0 rfl) ⟨by decide, by decide⟩ (c_lit 0 0 rfl) ⟨by decide, by decide⟩ hF
def FX32_add (p0 : Int) (s : fS) : Option (Unit × fS) :=
  (uPI s 154 1 (iadd (s.i 154 1) 1)).bind fun σ5 =>
  (uQI σ5 155 (s.i 154 1) (i2b (i2b p0))).bind fun σ7 =>
  some ((), σ7)
theorem SX32_add {m b : Nat} {φ0 : Nat → Nat} {σo : fS} {q : Unit × fS} {φ : Nat → Nat} {h : eH} {s : fS} {p0' : Int32} {p0 : Int} (R : fC m b φ0 σo φ h s) (ep0 : p0' = iI p0) (rp0 : r32 p0) (hF : FX32_add p0 s = some q) : gG m b φ0 σo lU q (fX32_add 154 p0' h) := by
  subst ep0
  unfold FX32_add at hF
  unfold fX32_add
  refine s_gAs R (t_154 R.S) (Nat.le_of_ble_eq_true rfl) rfl (o_154_0 R.S) (a_155 R) ?_
  refine s_gI R (t_154 R.S) (Nat.le_of_ble_eq_true rfl) rfl ?_
  refine s_pI R (t_154 R.S) (Nat.le_of_ble_eq_true rfl) rfl (c_add rfl (c_lit 1 1 rfl)) (rr_I _) hF (fun h3 σ5 R3 T3 hF => ?_)
  refine s_qI R3 (u_155 R3.S).1 (u_155 R3.S).2 (by decide) (a_155 R3) rfl (R.ri (t_154 R.S) (Nat.le_of_ble_eq_true rfl) rfl) (c_2b (c_2b rfl)) (rr_I _) hF (fun h4 σ7 R4 T4 hF => ?_)
  exact g_ret R4 hF trivial
def FX32_number_b7 (N : Nat) : Nat → Int → Int → fS → Option (Unit × fS)
  | 0, _, _, _ => none
  | n + 1, l1, l3, s =>
    if l3 < 0 then
      some ((), s)
    else
      (FX32_add (ishr l1 l3) s).bind fun q3 =>
      FX32_number_b7 N n l1 (iadd l3 (-8)) q3.2
theorem SX32_number_b7 {m b : Nat} {φ0 : Nat → Nat} {σo : fS} {N : Nat} {q : Unit × fS} : ∀ {n : Nat} {φ : Nat → Nat} {h : eH} {s : fS} {l1' : Int32} {l1 : Int} {l3' : Int32} {l3 : Int}, fC m b φ0 σo φ h s → l1' = iI l1 → r32 l1 → l3' = iI l3 → r32 l3 → FX32_number_b7 N n l1 l3 s = some q → gG m b φ0 σo lU q (fX32_number_b7 N n 154 l1' l3' h) := by
  intro n
  induction n with
 | zero => intro φ h s l1' l1 l3' l3 R el1 rl1 el3 rl3 hF; simp [FX32_number_b7] at hF
  | succ n ih =>
    intro φ h s l1' l1 l3' l3 R el1 rl1 el3 rl3 hF
    subst el1; subst el3
    rw [FX32_number_b7] at hF
    rw [fX32_number_b7]
    refine s_if (i_lt rfl (c_lit 0 0 rfl) rl3 ⟨by decide, by decide⟩) hF (fun c1 hF => ?_) (fun c1 hF => ?_)
    ·
      exact g_ret R hF trivial
    ·
      refine s_kok R (t_154 R.S) (Nat.le_of_ble_eq_true rfl) ?_
      refine s_call R (Nat.zero_le _) (fun _ hq => SX32_add (b := 0) (R.rf) (c_shr rfl rfl) (rr_I _) hq) hF (fun f3 rv3 h3 q3 R3 e3 E3 hF => ?_)
      exact ih R3 rfl rl1 (c_add rfl (c_lit (-8) (-8) rfl)) (rr_I _) hF
def FX32_number (N : Nat) (p0 : Int) (p1 : Int) (s : fS) : Option (Unit × fS) :=
  FX32_number_b7 N N p0 (imul 8 (isub p1 1)) s
theorem SX32_number {m b : Nat} {φ0 : Nat → Nat} {σo : fS} {N : Nat} {q : Unit × fS} {φ : Nat → Nat} {h : eH} {s : fS} {p0' : Int32} {p0 : Int} {p1' : Int32} {p1 : Int} (R : fC m b φ0 σo φ h s) (ep0 : p0' = iI p0) (rp0 : r32 p0) (ep1 : p1' = iI p1) (rp1 : r32 p1) (hF : FX32_number N p0 p1 s = some q) : gG m b φ0 σo lU q (fX32_number N 154 p0' p1' h) := by
  subst ep0; subst ep1
  unfold FX32_number at hF
  unfold fX32_number
  exact SX32_number_b7 (N := N) R rfl rp0 (c_mul (c_lit 8 8 rfl) (c_sub rfl (c_lit 1 1 rfl))) (rr_I _) hF
def FX31_open_b73 (N : Nat) : Nat → Int → fS → Option (Unit × fS)
  | 0, _, _ => none
  | n + 1, l1, s =>
    if (s.i 153 12) ≤ l1 then
      some ((), s)
    else
      (FX32_add (s.i 153 11) s).bind fun q9 =>
      FX31_open_b73 N n (iadd l1 1) q9.2
theorem SX31_open_b73 {m b : Nat} {φ0 : Nat → Nat} {σo : fS} {N : Nat} {q : Unit × fS} : ∀ {n : Nat} {φ : Nat → Nat} {h : eH} {s : fS} {l1' : Int32} {l1 : Int}, fC m b φ0 σo φ h s → l1' = iI l1 → r32 l1 → FX31_open_b73 N n l1 s = some q → gG m b φ0 σo lU q (fX31_open_b73 N n 153 l1' h) := by
  intro n
  induction n with
 | zero => intro φ h s l1' l1 R el1 rl1 hF; simp [FX31_open_b73] at hF
  | succ n ih =>
    intro φ h s l1' l1 R el1 rl1 hF
    subst el1
    rw [FX31_open_b73] at hF
    rw [fX31_open_b73]
    refine s_gI R (t_153 R.S) (Nat.le_of_ble_eq_true rfl) rfl ?_
    refine s_if (i_le rfl rfl (R.ri (t_153 R.S) (Nat.le_of_ble_eq_true rfl) rfl) rl1) hF (fun c2 hF => ?_) (fun c2 hF => ?_)
    ·
      exact g_ret R hF trivial
    ·
      refine s_gO R (t_153 R.S) (Nat.le_of_ble_eq_true rfl) rfl (o_153_1 R.S) ?_
      refine s_gI R (t_153 R.S) (Nat.le_of_ble_eq_true rfl) rfl ?_
      refine s_kok R (t_154 R.S) (Nat.le_of_ble_eq_true rfl) ?_
      refine s_call R (Nat.zero_le _) (fun _ hq => SX32_add (b := 0) (R.rf) rfl (R.ri (t_153 R.S) (Nat.le_of_ble_eq_true rfl) rfl) hq) hF (fun f6 rv6 h6 q9 R6 e6 E6 hF => ?_)
      exact ih R6 (c_add rfl (c_lit 1 1 rfl)) (rr_I _) hF
def FX31_open (N : Nat) (s : fS) : Option (Unit × fS) :=
  if (s.i 154 1) ≤ 0 then
    (FX32_add 247 s).bind fun q9 =>
    (FX32_add 2 q9.2).bind fun q13 =>
    (FX32_number N 25400000 4 q13.2).bind fun q17 =>
    (FX32_number N 473628672 4 q17.2).bind fun q21 =>
    (FX32_number N 1000 4 q21.2).bind fun q25 =>
    (FX32_add (q25.2.i 153 12) q25.2).bind fun q31 =>
    FX31_open_b73 N N 0 q31.2
  else
    some ((), s)
theorem SX31_open {m b : Nat} {φ0 : Nat → Nat} {σo : fS} {N : Nat} {q : Unit × fS} {φ : Nat → Nat} {h : eH} {s : fS} (R : fC m b φ0 σo φ h s) (hF : FX31_open N s = some q) : gG m b φ0 σo lU q (fX31_open N 153 h) := by
  unfold FX31_open at hF
  unfold fX31_open
  refine s_gO R (t_153 R.S) (Nat.le_of_ble_eq_true rfl) rfl (o_153_1 R.S) ?_
  refine s_gI R (t_154 R.S) (Nat.le_of_ble_eq_true rfl) rfl ?_
  refine s_if (i_le rfl (c_lit 0 0 rfl) (R.ri (t_154 R.S) (Nat.le_of_ble_eq_true rfl) rfl) ⟨by decide, by decide⟩) hF (fun c3 hF => ?_) (fun c3 hF => ?_)
  ·
    refine s_gO R (t_153 R.S) (Nat.le_of_ble_eq_true rfl) rfl (o_153_1 R.S) ?_
    refine s_kok R (t_154 R.S) (Nat.le_of_ble_eq_true rfl) ?_
    refine s_call R (Nat.zero_le _) (fun _ hq => SX32_add (b := 0) (R.rf) (c_lit 247 247 rfl) ⟨by decide, by decide⟩ hq) hF (fun f6 rv6 h6 q9 R6 e6 E6 hF => ?_)
    refine s_gO R6 (t_153 R6.S) (Nat.le_of_ble_eq_true rfl) rfl (o_153_1 R6.S) ?_
    refine s_kok R6 (t_154 R6.S) (Nat.le_of_ble_eq_true rfl) ?_
    refine s_call R6 (Nat.zero_le _) (fun _ hq => SX32_add (b := 0) (R6.rf) (c_lit 2 2 rfl) ⟨by decide, by decide⟩ hq) hF (fun f9 rv9 h9 q13 R9 e9 E9 hF => ?_)
    refine s_gO R9 (t_153 R9.S) (Nat.le_of_ble_eq_true rfl) rfl (o_153_1 R9.S) ?_
    refine s_kok R9 (t_154 R9.S) (Nat.le_of_ble_eq_true rfl) ?_
    refine s_call R9 (Nat.zero_le _) (fun _ hq => SX32_number (b := 0) (N := N) (R9.rf) (c_lit 25400000 25400000 rfl) ⟨by decide, by decide⟩ (c_lit 4 4 rfl) ⟨by decide, by decide⟩ hq) hF (fun f12 rv12 h12 q17 R12 e12 E12 hF => ?_)
    refine s_gO R12 (t_153 R12.S) (Nat.le_of_ble_eq_true rfl) rfl (o_153_1 R12.S) ?_
    refine s_kok R12 (t_154 R12.S) (Nat.le_of_ble_eq_true rfl) ?_
    refine s_call R12 (Nat.zero_le _) (fun _ hq => SX32_number (b := 0) (N := N) (R12.rf) (c_lit 473628672 473628672 rfl) ⟨by decide, by decide⟩ (c_lit 4 4 rfl) ⟨by decide, by decide⟩ hq) hF (fun f15 rv15 h15 q21 R15 e15 E15 hF => ?_)
    refine s_gO R15 (t_153 R15.S) (Nat.le_of_ble_eq_true rfl) rfl (o_153_1 R15.S) ?_
    refine s_kok R15 (t_154 R15.S) (Nat.le_of_ble_eq_true rfl) ?_
    refine s_call R15 (Nat.zero_le _) (fun _ hq => SX32_number (b := 0) (N := N) (R15.rf) (c_lit 1000 1000 rfl) ⟨by decide, by decide⟩ (c_lit 4 4 rfl) ⟨by decide, by decide⟩ hq) hF (fun f18 rv18 h18 q25 R18 e18 E18 hF => ?_)
    refine s_gO R18 (t_153 R18.S) (Nat.le_of_ble_eq_true rfl) rfl (o_153_1 R18.S) ?_
    refine s_gI R18 (t_153 R18.S) (Nat.le_of_ble_eq_true rfl) rfl ?_
    refine s_kok R18 (t_154 R18.S) (Nat.le_of_ble_eq_true rfl) ?_
    refine s_call R18 (Nat.zero_le _) (fun _ hq => SX32_add (b := 0) (R18.rf) rfl (R18.ri (t_153 R18.S) (Nat.le_of_ble_eq_true rfl) rfl) hq) hF (fun f22 rv22 h22 q31 R22 e22 E22 hF => ?_)
    exact SX31_open_b73 (N := N) R22 (c_lit 0 0 rfl) ⟨by decide, by decide⟩ hF
  ·
    exact g_ret R hF trivial
def FX33_is_b20 (s0 : Int) (s : fS) : Option (Int × fS) :=
  uZ s0 (s0, s)
theorem SX33_is_b20 {m b : Nat} {φ0 : Nat → Nat} {σo : fS} {q : Int × fS} {φ : Nat → Nat} {h : eH} {s : fS} {s0' : Int32} {s0 : Int} (R : fC m b φ0 σo φ h s) (es0 : s0' = iI s0) (rs0 : r32 s0) (hF : FX33_is_b20 s0 s = some q) : gG m b φ0 σo lI q (fX33_is_b20 s0' h) := by
  subst es0
  unfold FX33_is_b20 at hF
  unfold fX33_is_b20
  exact g_z R rfl hF ⟨rfl, rs0⟩
def FX33_is_b19 (s : fS) : Option (Int × fS) :=
  FX33_is_b20 0 s
theorem SX33_is_b19 {m b : Nat} {φ0 : Nat → Nat} {σo : fS} {q : Int × fS} {φ : Nat → Nat} {h : eH} {s : fS} (R : fC m b φ0 σo φ h s) (hF : FX33_is_b19 s = some q) : gG m b φ0 σo lI q (fX33_is_b19 h) := by
  unfold FX33_is_b19 at hF
  unfold fX33_is_b19
  exact SX33_is_b20 R (c_lit 0 0 rfl) ⟨by decide, by decide⟩ hF
def FX33_is (this : Nat) (p0 : Int) (p1 : Int) (s : fS) : Option (Int × fS) :=
  if p0 = (-1) then
    FX33_is_b19 s
  else
    (uK 32 s this).bind fun _ =>
    (s.o this 2).bind fun a2 =>
    (uKA 100 s a2).bind fun _ =>
    (uRI s a2 p0).bind fun x4 =>
    if ¬ (x4 = p1) then
      FX33_is_b19 s
    else
      FX33_is_b20 1 s
theorem SX33_is {m b : Nat} {φ0 : Nat → Nat} {σo : fS} {q : Int × fS} {φ : Nat → Nat} {h : eH} {s : fS} {this : Nat} {p0' : Int32} {p0 : Int} {p1' : Int32} {p1 : Int} (R : fC m b φ0 σo φ h s) (ep0 : p0' = iI p0) (rp0 : r32 p0) (ep1 : p1' = iI p1) (rp1 : r32 p1) (hF : FX33_is this p0 p1 s = some q) : gG m b φ0 σo lI q (fX33_is this p0' p1' h) := by
  subst ep0; subst ep1
  unfold FX33_is at hF
  unfold fX33_is
  refine s_if (i_eq rfl (c_lit (-1) (-1) rfl) rp0 ⟨by decide, by decide⟩) hF (fun c1 hF => ?_) (fun c1 hF => ?_)
  ·
    exact SX33_is_b19 R hF
  ·
    refine s_K hF (fun t3 hF => ?_)
    refine s_oo hF (fun a2 e2 hF => ?_)
    refine s_gA R t3 (Nat.le_of_ble_eq_true rfl) rfl e2 (fun x2_ y2_ => ?_)
    refine s_KA hF (fun y5 z5 hF => ?_)
    refine s_rI R y5 z5 (by decide) rfl rfl rp0 hF (fun x4 ra4 hF => ?_)
    refine s_if (not_congr (i_eq rfl rfl ra4 rp1)) hF (fun c6 hF => ?_) (fun c6 hF => ?_)
    ·
      exact SX33_is_b19 R hF
    ·
      exact SX33_is_b20 R (c_lit 1 1 rfl) ⟨by decide, by decide⟩ hF
def FX33_isAwaited_b23 (s0 : Int) (s : fS) : Option (Int × fS) :=
  uZ s0 (s0, s)
theorem SX33_isAwaited_b23 {m b : Nat} {φ0 : Nat → Nat} {σo : fS} {q : Int × fS} {φ : Nat → Nat} {h : eH} {s : fS} {s0' : Int32} {s0 : Int} (R : fC m b φ0 σo φ h s) (es0 : s0' = iI s0) (rs0 : r32 s0) (hF : FX33_isAwaited_b23 s0 s = some q) : gG m b φ0 σo lI q (fX33_isAwaited_b23 s0' h) := by
  subst es0
  unfold FX33_isAwaited_b23 at hF
  unfold fX33_isAwaited_b23
  exact g_z R rfl hF ⟨rfl, rs0⟩
def FX33_isAwaited_b22 (s : fS) : Option (Int × fS) :=
  FX33_isAwaited_b23 0 s
theorem SX33_isAwaited_b22 {m b : Nat} {φ0 : Nat → Nat} {σo : fS} {q : Int × fS} {φ : Nat → Nat} {h : eH} {s : fS} (R : fC m b φ0 σo φ h s) (hF : FX33_isAwaited_b22 s = some q) : gG m b φ0 σo lI q (fX33_isAwaited_b22 h) := by
  unfold FX33_isAwaited_b22 at hF
  unfold fX33_isAwaited_b22
  exact SX33_isAwaited_b23 R (c_lit 0 0 rfl) ⟨by decide, by decide⟩ hF
def FX33_isAwaited (this : Nat) (p0 : Int) (s : fS) : Option (Int × fS) :=
  if p0 = (-1) then
    FX33_isAwaited_b22 s
  else
    (uK 32 s this).bind fun _ =>
    (s.o this 3).bind fun a2 =>
    (uKA 100 s a2).bind fun _ =>
    (uRI s a2 p0).bind fun x4 =>
    (uK 32 s this).bind fun _ =>
    if x4 ≤ (s.i this 5) then
      FX33_isAwaited_b22 s
    else
      FX33_isAwaited_b23 1 s
theorem SX33_isAwaited {m b : Nat} {φ0 : Nat → Nat} {σo : fS} {q : Int × fS} {φ : Nat → Nat} {h : eH} {s : fS} {this : Nat} {p0' : Int32} {p0 : Int} (R : fC m b φ0 σo φ h s) (ep0 : p0' = iI p0) (rp0 : r32 p0) (hF : FX33_isAwaited this p0 s = some q) : gG m b φ0 σo lI q (fX33_isAwaited this p0' h) := by
  subst ep0
  unfold FX33_isAwaited at hF
  unfold fX33_isAwaited
  refine s_if (i_eq rfl (c_lit (-1) (-1) rfl) rp0 ⟨by decide, by decide⟩) hF (fun c1 hF => ?_) (fun c1 hF => ?_)
  ·
    exact SX33_isAwaited_b22 R hF
  ·
    refine s_K hF (fun t3 hF => ?_)
    refine s_oo hF (fun a2 e2 hF => ?_)
    refine s_gA R t3 (Nat.le_of_ble_eq_true rfl) rfl e2 (fun x2_ y2_ => ?_)
    refine s_KA hF (fun y5 z5 hF => ?_)
    refine s_rI R y5 z5 (by decide) rfl rfl rp0 hF (fun x4 ra4 hF => ?_)
    refine s_K hF (fun t7 hF => ?_)
    refine s_gI R t7 (Nat.le_of_ble_eq_true rfl) rfl ?_
    refine s_if (i_le rfl rfl ra4 (R.ri t7 (Nat.le_of_ble_eq_true rfl) rfl)) hF (fun c8 hF => ?_) (fun c8 hF => ?_)
    ·
      exact SX33_isAwaited_b22 R hF
    ·
      exact SX33_isAwaited_b23 R (c_lit 1 1 rfl) ⟨by decide, by decide⟩ hF
def FX32_bytesFor_b32 (N : Nat) (K2 : Int → Int → fS → Option (Int × fS)) (l0 : Int) (l1 : Int) (s : fS) : Option (Int × fS) :=
  K2 l0 (iadd l1 1) s
theorem SX32_bytesFor_b32 {m b : Nat} {φ0 : Nat → Nat} {σo : fS} {N : Nat} {k2 : Int32 → Int32 → eH → Option (Int32 × eH)} {K2 : Int → Int → fS → Option (Int × fS)} {q : Int × fS} (hk2 : ∀ {φ : Nat → Nat} {h : eH} {s : fS} {l0' : Int32} {l0 : Int} {l1' : Int32} {l1 : Int}, fC m b φ0 σo φ h s → l0' = iI l0 → r32 l0 → l1' = iI l1 → r32 l1 → K2 l0 l1 s = some q → gG m b φ0 σo lI q (k2 l0' l1' h)) {φ : Nat → Nat} {h : eH} {s : fS} {l0' : Int32} {l0 : Int} {l1' : Int32} {l1 : Int} (R : fC m b φ0 σo φ h s) (el0 : l0' = iI l0) (rl0 : r32 l0) (el1 : l1' = iI l1) (rl1 : r32 l1) (hF : FX32_bytesFor_b32 N K2 l0 l1 s = some q) : gG m b φ0 σo lI q (fX32_bytesFor_b32 N k2 l0' l1' h) := by
  subst el0; subst el1
  unfold FX32_bytesFor_b32 at hF
  unfold fX32_bytesFor_b32
  exact hk2 R rfl rl0 (c_add rfl (c_lit 1 1 rfl)) (rr_I _) hF
def FX32_bytesFor_b38 (N : Nat) (l1 : Int) (s : fS) : Option (Int × fS) :=
  some (l1, s)
theorem SX32_bytesFor_b38 {m b : Nat} {φ0 : Nat → Nat} {σo : fS} {N : Nat} {q : Int × fS} {φ : Nat → Nat} {h : eH} {s : fS} {l1' : Int32} {l1 : Int} (R : fC m b φ0 σo φ h s) (el1 : l1' = iI l1) (rl1 : r32 l1) (hF : FX32_bytesFor_b38 N l1 s = some q) : gG m b φ0 σo lI q (fX32_bytesFor_b38 N l1' h) := by
  subst el1
  unfold FX32_bytesFor_b38 at hF
  unfold fX32_bytesFor_b38
  exact g_ret R hF ⟨rfl, rl1⟩
def FX32_bytesFor_b2 (N : Nat) : Nat → Int → Int → fS → Option (Int × fS)
  | 0, _, _, _ => none
  | n + 1, l0, l1, s =>
    if 4 ≤ l1 then
      FX32_bytesFor_b38 N l1 s
    else
      if l0 < (ineg (ishl 1 (isub (imul 8 l1) 1))) then
        FX32_bytesFor_b32 N (FX32_bytesFor_b2 N n) l0 l1 s
      else
        if l0 < (ishl 1 (isub (imul 8 l1) 1)) then
          FX32_bytesFor_b38 N l1 s
        else
          FX32_bytesFor_b32 N (FX32_bytesFor_b2 N n) l0 l1 s
theorem SX32_bytesFor_b2 {m b : Nat} {φ0 : Nat → Nat} {σo : fS} {N : Nat} {q : Int × fS} : ∀ {n : Nat} {φ : Nat → Nat} {h : eH} {s : fS} {l0' : Int32} {l0 : Int} {l1' : Int32} {l1 : Int}, fC m b φ0 σo φ h s → l0' = iI l0 → r32 l0 → l1' = iI l1 → r32 l1 → FX32_bytesFor_b2 N n l0 l1 s = some q → gG m b φ0 σo lI q (fX32_bytesFor_b2 N n l0' l1' h) := by
  intro n
  induction n with
 | zero => intro φ h s l0' l0 l1' l1 R el0 rl0 el1 rl1 hF; simp [FX32_bytesFor_b2] at hF
  | succ n ih =>
    intro φ h s l0' l0 l1' l1 R el0 rl0 el1 rl1 hF
    subst el0; subst el1
    rw [FX32_bytesFor_b2] at hF
    rw [fX32_bytesFor_b2]
    refine s_if (i_le (c_lit 4 4 rfl) rfl ⟨by decide, by decide⟩ rl1) hF (fun c1 hF => ?_) (fun c1 hF => ?_)
    ·
      exact SX32_bytesFor_b38 (N := N) R rfl rl1 hF
    ·
      refine s_if (i_lt rfl (c_neg (c_shl (c_lit 1 1 rfl) (c_sub (c_mul (c_lit 8 8 rfl) rfl) (c_lit 1 1 rfl)))) rl0 (rr_I _)) hF (fun c2 hF => ?_) (fun c2 hF => ?_)
      ·
        exact SX32_bytesFor_b32 (N := N) (k2 := fX32_bytesFor_b2 N n) (K2 := FX32_bytesFor_b2 N n) @ih R rfl rl0 rfl rl1 hF
      ·
        refine s_if (i_lt rfl (c_shl (c_lit 1 1 rfl) (c_sub (c_mul (c_lit 8 8 rfl) rfl) (c_lit 1 1 rfl))) rl0 (rr_I _)) hF (fun c3 hF => ?_) (fun c3 hF => ?_)
        ·
          exact SX32_bytesFor_b38 (N := N) R rfl rl1 hF
        ·
          exact SX32_bytesFor_b32 (N := N) (k2 := fX32_bytesFor_b2 N n) (K2 := FX32_bytesFor_b2 N n) @ih R rfl rl0 rfl rl1 hF
def FX32_bytesFor (N : Nat) (p0 : Int) (s : fS) : Option (Int × fS) :=
  FX32_bytesFor_b2 N N p0 1 s
theorem SX32_bytesFor {m b : Nat} {φ0 : Nat → Nat} {σo : fS} {N : Nat} {q : Int × fS} {φ : Nat → Nat} {h : eH} {s : fS} {p0' : Int32} {p0 : Int} (R : fC m b φ0 σo φ h s) (ep0 : p0' = iI p0) (rp0 : r32 p0) (hF : FX32_bytesFor N p0 s = some q) : gG m b φ0 σo lI q (fX32_bytesFor N p0' h) := by
  subst ep0
  unfold FX32_bytesFor at hF
  unfold fX32_bytesFor
  exact SX32_bytesFor_b2 (N := N) R rfl rp0 (c_lit 1 1 rfl) ⟨by decide, by decide⟩ hF
def FX32_shortest (N : Nat) (p0 : Int) (p1 : Int) (s : fS) : Option (Unit × fS) :=
  (FX32_bytesFor N p1 s).bind fun q1 =>
  (FX32_add (isub (iadd p0 q1.1) 1) q1.2).bind fun q3 =>
  (FX32_number N p1 q1.1 q3.2).bind fun q5 =>
  some ((), q5.2)
theorem SX32_shortest {m b : Nat} {φ0 : Nat → Nat} {σo : fS} {N : Nat} {q : Unit × fS} {φ : Nat → Nat} {h : eH} {s : fS} {p0' : Int32} {p0 : Int} {p1' : Int32} {p1 : Int} (R : fC m b φ0 σo φ h s) (ep0 : p0' = iI p0) (rp0 : r32 p0) (ep1 : p1' = iI p1) (rp1 : r32 p1) (hF : FX32_shortest N p0 p1 s = some q) : gG m b φ0 σo lU q (fX32_shortest N 154 p0' p1' h) := by
  subst ep0; subst ep1
  unfold FX32_shortest at hF
  unfold fX32_shortest
  refine s_call R (Nat.zero_le _) (fun _ hq => SX32_bytesFor (b := 0) (N := N) (R.rf) rfl rp1 hq) hF (fun f1 rv1 h1 q1 R1 e1 E1 hF => ?_)
  refine s_kok R1 (t_154 R1.S) (Nat.le_of_ble_eq_true rfl) ?_
  refine s_call R1 (Nat.zero_le _) (fun _ hq => SX32_add (b := 0) (R1.rf) (c_sub (c_add rfl e1.1) (c_lit 1 1 rfl)) (rr_I _) hq) hF (fun f3 rv3 h3 q3 R3 e3 E3 hF => ?_)
  refine s_kok R3 (t_154 R3.S) (Nat.le_of_ble_eq_true rfl) ?_
  refine s_call R3 (Nat.zero_le _) (fun _ hq => SX32_number (b := 0) (N := N) (R3.rf) rfl rp1 e1.1 e1.2 hq) hF (fun f5 rv5 h5 q5 R5 e5 E5 hF => ?_)
  exact g_ret R5 hF trivial
def FX33_write_b161 (N : Nat) (l0 : Nat) (s : fS) : Option (Unit × fS) :=
  (uK 32 s l0).bind fun _ =>
  (uK 32 s l0).bind fun _ =>
  (uPI s l0 5 (iadd (s.i l0 5) 1)).bind fun σ3 =>
  some ((), σ3)
theorem SX33_write_b161 {m b : Nat} {φ0 : Nat → Nat} {σo : fS} {N : Nat} {q : Unit × fS} {φ : Nat → Nat} {h : eH} {s : fS} {l0 : Nat} (R : fC m b φ0 σo φ h s) (hF : FX33_write_b161 N l0 s = some q) : gG m b φ0 σo lU q (fX33_write_b161 N l0 h) := by
  unfold FX33_write_b161 at hF
  unfold fX33_write_b161
  refine s_K hF (fun t2 hF => ?_)
  refine s_gI R t2 (Nat.le_of_ble_eq_true rfl) rfl ?_
  refine s_K hF (fun t4 hF => ?_)
  refine s_pI R t4 (Nat.le_of_ble_eq_true rfl) rfl (c_add rfl (c_lit 1 1 rfl)) (rr_I _) hF (fun h3 σ3 R3 T3 hF => ?_)
  exact g_ret R3 hF trivial
def FX33_write_b152 (N : Nat) (l0 : Nat) (l1 : Int) (s : fS) : Option (Unit × fS) :=
  (uK 32 s l0).bind fun _ =>
  (FX32_shortest N (s.i l0 1) l1 s).bind fun q4 =>
  FX33_write_b161 N l0 q4.2
theorem SX33_write_b152 {m b : Nat} {φ0 : Nat → Nat} {σo : fS} {N : Nat} {q : Unit × fS} {φ : Nat → Nat} {h : eH} {s : fS} {l0 : Nat} {l1' : Int32} {l1 : Int} (R : fC m b φ0 σo φ h s) (el1 : l1' = iI l1) (rl1 : r32 l1) (hF : FX33_write_b152 N l0 l1 s = some q) : gG m b φ0 σo lU q (fX33_write_b152 N l0 l1' 154 h) := by
  subst el1
  unfold FX33_write_b152 at hF
  unfold fX33_write_b152
  refine s_K hF (fun t2 hF => ?_)
  refine s_gI R t2 (Nat.le_of_ble_eq_true rfl) rfl ?_
  refine s_kok R (t_154 R.S) (Nat.le_of_ble_eq_true rfl) ?_
  refine s_call R (Nat.zero_le _) (fun _ hq => SX32_shortest (b := 0) (N := N) (R.rf) rfl (R.ri t2 (Nat.le_of_ble_eq_true rfl) rfl) rfl rl1 hq) hF (fun f4 rv4 h4 q4 R4 e4 E4 hF => ?_)
  exact SX33_write_b161 (N := N) R4 hF
def FX33_write_b102 (N : Nat) (l0 : Nat) (l1 : Int) (s : fS) : Option (Unit × fS) :=
  (uK 32 s l0).bind fun _ =>
  (s.o l0 3).bind fun a1 =>
  (uK 32 s l0).bind fun _ =>
  (uKA 100 s a1).bind fun _ =>
  (uRI s a1 (s.i l0 5)).bind fun x5 =>
  (uK 32 s l0).bind fun _ =>
  if x5 ≤ (s.i l0 5) then
    FX33_write_b152 N l0 l1 s
  else
    (uK 32 s l0).bind fun _ =>
    (uK 32 s l0).bind fun _ =>
    (FX33_isAwaited l0 (s.i l0 7) s).bind fun q13 =>
    if ¬ (q13.1 = 0) then
      FX33_write_b152 N l0 l1 q13.2
    else
      (uK 32 q13.2 l0).bind fun _ =>
      (uK 32 q13.2 l0).bind fun _ =>
      (uPI q13.2 l0 7 (q13.2.i l0 5)).bind fun σ17 =>
      (uK 32 σ17 l0).bind fun _ =>
      (FX32_shortest N (iadd (σ17.i l0 0) 6) l1 σ17).bind fun q22 =>
      FX33_write_b161 N l0 q22.2
theorem SX33_write_b102 {m b : Nat} {φ0 : Nat → Nat} {σo : fS} {N : Nat} {q : Unit × fS} {φ : Nat → Nat} {h : eH} {s : fS} {l0 : Nat} {l1' : Int32} {l1 : Int} (R : fC m b φ0 σo φ h s) (el1 : l1' = iI l1) (rl1 : r32 l1) (hF : FX33_write_b102 N l0 l1 s = some q) : gG m b φ0 σo lU q (fX33_write_b102 N l0 l1' 154 h) := by
  subst el1
  unfold FX33_write_b102 at hF
  unfold fX33_write_b102
  refine s_K hF (fun t2 hF => ?_)
  refine s_oo hF (fun a1 e1 hF => ?_)
  refine s_gA R t2 (Nat.le_of_ble_eq_true rfl) rfl e1 (fun x1_ y1_ => ?_)
  refine s_K hF (fun t4 hF => ?_)
  refine s_gI R t4 (Nat.le_of_ble_eq_true rfl) rfl ?_
  refine s_KA hF (fun y6 z6 hF => ?_)
  refine s_rI R y6 z6 (by decide) rfl rfl (R.ri t4 (Nat.le_of_ble_eq_true rfl) rfl) hF (fun x5 ra5 hF => ?_)
  refine s_K hF (fun t8 hF => ?_)
  refine s_gI R t8 (Nat.le_of_ble_eq_true rfl) rfl ?_
  refine s_if (i_le rfl rfl ra5 (R.ri t8 (Nat.le_of_ble_eq_true rfl) rfl)) hF (fun c9 hF => ?_) (fun c9 hF => ?_)
  ·
    exact SX33_write_b152 (N := N) R rfl rl1 hF
  ·
    refine s_K hF (fun t11 hF => ?_)
    refine s_gI R t11 (Nat.le_of_ble_eq_true rfl) rfl ?_
    refine s_K hF (fun t13 hF => ?_)
    refine s_kok R t13 (Nat.le_of_ble_eq_true rfl) ?_
    refine s_call R (Nat.zero_le _) (fun _ hq => SX33_isAwaited (b := 0) (R.rf) rfl (R.ri t11 (Nat.le_of_ble_eq_true rfl) rfl) hq) hF (fun f14 rv14 h14 q13 R14 e14 E14 hF => ?_)
    refine s_if (not_congr (i_eq e14.1 (c_lit 0 0 rfl) e14.2 ⟨by decide, by decide⟩)) hF (fun c15 hF => ?_) (fun c15 hF => ?_)
    ·
      exact SX33_write_b152 (N := N) R14 rfl rl1 hF
    ·
      refine s_K hF (fun t17 hF => ?_)
      refine s_gI R14 t17 (Nat.le_of_ble_eq_true rfl) rfl ?_
      refine s_K hF (fun t19 hF => ?_)
      refine s_pI R14 t19 (Nat.le_of_ble_eq_true rfl) rfl rfl (R14.ri t17 (Nat.le_of_ble_eq_true rfl) rfl) hF (fun h18 σ17 R18 T18 hF => ?_)
      refine s_K hF (fun t21 hF => ?_)
      refine s_gI R18 t21 (Nat.le_of_ble_eq_true rfl) rfl ?_
      refine s_kok R18 (t_154 R18.S) (Nat.le_of_ble_eq_true rfl) ?_
      refine s_call R18 (Nat.zero_le _) (fun _ hq => SX32_shortest (b := 0) (N := N) (R18.rf) (c_add rfl (c_lit 6 6 rfl)) (rr_I _) rfl rl1 hq) hF (fun f23 rv23 h23 q22 R23 e23 E23 hF => ?_)
      exact SX33_write_b161 (N := N) R23 hF
def FX33_write (N : Nat) (this : Nat) (p0 : Int) (s : fS) : Option (Unit × fS) :=
  if ¬ (p0 = 0) then
    (uK 32 s this).bind fun _ =>
    (uK 32 s this).bind fun _ =>
    (FX33_is this (s.i this 6) p0 s).bind fun q5 =>
    if q5.1 = 0 then
      (uK 32 q5.2 this).bind fun _ =>
      (uK 32 q5.2 this).bind fun _ =>
      (FX33_is this (q5.2.i this 7) p0 q5.2).bind fun q10 =>
      if q10.1 = 0 then
        (uK 32 q10.2 this).bind fun _ =>
        (q10.2.o this 3).bind fun a12 =>
        (uK 32 q10.2 this).bind fun _ =>
        (uKA 100 q10.2 a12).bind fun _ =>
        (uRI q10.2 a12 (q10.2.i this 5)).bind fun x16 =>
        (uK 32 q10.2 this).bind fun _ =>
        if x16 ≤ (q10.2.i this 5) then
          FX33_write_b102 N this p0 q10.2
        else
          (uK 32 q10.2 this).bind fun _ =>
          (uK 32 q10.2 this).bind fun _ =>
          (FX33_isAwaited this (q10.2.i this 6) q10.2).bind fun q24 =>
          if ¬ (q24.1 = 0) then
            FX33_write_b102 N this p0 q24.2
          else
            (uK 32 q24.2 this).bind fun _ =>
            (uK 32 q24.2 this).bind fun _ =>
            (uPI q24.2 this 6 (q24.2.i this 5)).bind fun σ28 =>
            (uK 32 σ28 this).bind fun _ =>
            (FX32_shortest N (iadd (σ28.i this 0) 1) p0 σ28).bind fun q33 =>
            FX33_write_b161 N this q33.2
      else
        (uK 32 q10.2 this).bind fun _ =>
        (FX32_add (iadd (q10.2.i this 0) 5) q10.2).bind fun q37 =>
        FX33_write_b161 N this q37.2
    else
      (uK 32 q5.2 this).bind fun _ =>
      (FX32_add (q5.2.i this 0) q5.2).bind fun q41 =>
      FX33_write_b161 N this q41.2
  else
    some ((), s)
theorem SX33_write {m b : Nat} {φ0 : Nat → Nat} {σo : fS} {N : Nat} {q : Unit × fS} {φ : Nat → Nat} {h : eH} {s : fS} {this : Nat} {p0' : Int32} {p0 : Int} (R : fC m b φ0 σo φ h s) (ep0 : p0' = iI p0) (rp0 : r32 p0) (hF : FX33_write N this p0 s = some q) : gG m b φ0 σo lU q (fX33_write N this p0' 154 h) := by
  subst ep0
  unfold FX33_write at hF
  unfold fX33_write
  refine s_if (not_congr (i_eq rfl (c_lit 0 0 rfl) rp0 ⟨by decide, by decide⟩)) hF (fun c1 hF => ?_) (fun c1 hF => ?_)
  ·
    refine s_K hF (fun t3 hF => ?_)
    refine s_gI R t3 (Nat.le_of_ble_eq_true rfl) rfl ?_
    refine s_K hF (fun t5 hF => ?_)
    refine s_kok R t5 (Nat.le_of_ble_eq_true rfl) ?_
    refine s_call R (Nat.zero_le _) (fun _ hq => SX33_is (b := 0) (R.rf) rfl (R.ri t3 (Nat.le_of_ble_eq_true rfl) rfl) rfl rp0 hq) hF (fun f6 rv6 h6 q5 R6 e6 E6 hF => ?_)
    refine s_if (i_eq e6.1 (c_lit 0 0 rfl) e6.2 ⟨by decide, by decide⟩) hF (fun c7 hF => ?_) (fun c7 hF => ?_)
    ·
      refine s_K hF (fun t9 hF => ?_)
      refine s_gI R6 t9 (Nat.le_of_ble_eq_true rfl) rfl ?_
      refine s_K hF (fun t11 hF => ?_)
      refine s_kok R6 t11 (Nat.le_of_ble_eq_true rfl) ?_
      refine s_call R6 (Nat.zero_le _) (fun _ hq => SX33_is (b := 0) (R6.rf) rfl (R6.ri t9 (Nat.le_of_ble_eq_true rfl) rfl) rfl rp0 hq) hF (fun f12 rv12 h12 q10 R12 e12 E12 hF => ?_)
      refine s_if (i_eq e12.1 (c_lit 0 0 rfl) e12.2 ⟨by decide, by decide⟩) hF (fun c13 hF => ?_) (fun c13 hF => ?_)
      ·
        refine s_K hF (fun t15 hF => ?_)
        refine s_oo hF (fun a12 e14 hF => ?_)
        refine s_gA R12 t15 (Nat.le_of_ble_eq_true rfl) rfl e14 (fun x14_ y14_ => ?_)
        refine s_K hF (fun t17 hF => ?_)
        refine s_gI R12 t17 (Nat.le_of_ble_eq_true rfl) rfl ?_
        refine s_KA hF (fun y19 z19 hF => ?_)
        refine s_rI R12 y19 z19 (by decide) rfl rfl (R12.ri t17 (Nat.le_of_ble_eq_true rfl) rfl) hF (fun x16 ra18 hF => ?_)
        refine s_K hF (fun t21 hF => ?_)
        refine s_gI R12 t21 (Nat.le_of_ble_eq_true rfl) rfl ?_
        refine s_if (i_le rfl rfl ra18 (R12.ri t21 (Nat.le_of_ble_eq_true rfl) rfl)) hF (fun c22 hF => ?_) (fun c22 hF => ?_)
        ·
          exact SX33_write_b102 (N := N) R12 rfl rp0 hF
        ·
          refine s_K hF (fun t24 hF => ?_)
          refine s_gI R12 t24 (Nat.le_of_ble_eq_true rfl) rfl ?_
          refine s_K hF (fun t26 hF => ?_)
          refine s_kok R12 t26 (Nat.le_of_ble_eq_true rfl) ?_
          refine s_call R12 (Nat.zero_le _) (fun _ hq => SX33_isAwaited (b := 0) (R12.rf) rfl (R12.ri t24 (Nat.le_of_ble_eq_true rfl) rfl) hq) hF (fun f27 rv27 h27 q24 R27 e27 E27 hF => ?_)
          refine s_if (not_congr (i_eq e27.1 (c_lit 0 0 rfl) e27.2 ⟨by decide, by decide⟩)) hF (fun c28 hF => ?_) (fun c28 hF => ?_)
          ·
            exact SX33_write_b102 (N := N) R27 rfl rp0 hF
          ·
            refine s_K hF (fun t30 hF => ?_)
            refine s_gI R27 t30 (Nat.le_of_ble_eq_true rfl) rfl ?_
            refine s_K hF (fun t32 hF => ?_)
            refine s_pI R27 t32 (Nat.le_of_ble_eq_true rfl) rfl rfl (R27.ri t30 (Nat.le_of_ble_eq_true rfl) rfl) hF (fun h31 σ28 R31 T31 hF => ?_)
            refine s_K hF (fun t34 hF => ?_)
            refine s_gI R31 t34 (Nat.le_of_ble_eq_true rfl) rfl ?_
            refine s_kok R31 (t_154 R31.S) (Nat.le_of_ble_eq_true rfl) ?_
            refine s_call R31 (Nat.zero_le _) (fun _ hq => SX32_shortest (b := 0) (N := N) (R31.rf) (c_add rfl (c_lit 1 1 rfl)) (rr_I _) rfl rp0 hq) hF (fun f36 rv36 h36 q33 R36 e36 E36 hF => ?_)
            exact SX33_write_b161 (N := N) R36 hF
      ·
        refine s_K hF (fun t38 hF => ?_)
        refine s_gI R12 t38 (Nat.le_of_ble_eq_true rfl) rfl ?_
        refine s_kok R12 (t_154 R12.S) (Nat.le_of_ble_eq_true rfl) ?_
        refine s_call R12 (Nat.zero_le _) (fun _ hq => SX32_add (b := 0) (R12.rf) (c_add rfl (c_lit 5 5 rfl)) (rr_I _) hq) hF (fun f40 rv40 h40 q37 R40 e40 E40 hF => ?_)
        exact SX33_write_b161 (N := N) R40 hF
    ·
      refine s_K hF (fun t42 hF => ?_)
      refine s_gI R6 t42 (Nat.le_of_ble_eq_true rfl) rfl ?_
      refine s_kok R6 (t_154 R6.S) (Nat.le_of_ble_eq_true rfl) ?_
      refine s_call R6 (Nat.zero_le _) (fun _ hq => SX32_add (b := 0) (R6.rf) rfl (R6.ri t42 (Nat.le_of_ble_eq_true rfl) rfl) hq) hF (fun f44 rv44 h44 q41 R44 e44 E44 hF => ?_)
      exact SX33_write_b161 (N := N) R44 hF
  ·
    exact g_ret R hF trivial
def FX5_define_b115 (N : Nat) (l1 : Int) (s : fS) : Option (Unit × fS) :=
  (uRI s 9 l1).bind fun x3 =>
  (FX32_add (iadd 48 (irem x3 10)) s).bind fun q6 =>
  some ((), q6.2)
theorem SX5_define_b115 {m b : Nat} {φ0 : Nat → Nat} {σo : fS} {N : Nat} {q : Unit × fS} {φ : Nat → Nat} {h : eH} {s : fS} {l1' : Int32} {l1 : Int} (R : fC m b φ0 σo φ h s) (el1 : l1' = iI l1) (rl1 : r32 l1) (hF : FX5_define_b115 N l1 s = some q) : gG m b φ0 σo lU q (fX5_define_b115 N 6 l1' 154 h) := by
  subst el1
  unfold FX5_define_b115 at hF
  unfold fX5_define_b115
  refine s_gAs R (t_6 R.S) (Nat.le_of_ble_eq_true rfl) rfl (o_6_2 R.S) (a_9 R) ?_
  refine s_rI R (u_9 R.S).1 (u_9 R.S).2 (by decide) (a_9 R) rfl rl1 hF (fun x3 ra2 hF => ?_)
  refine s_kok R (t_154 R.S) (Nat.le_of_ble_eq_true rfl) ?_
  refine s_call R (Nat.zero_le _) (fun _ hq => SX32_add (b := 0) (R.rf) (c_add (c_lit 48 48 rfl) (c_rem rfl (c_lit 10 10 rfl))) (rr_I _) hq) hF (fun f4 rv4 h4 q6 R4 e4 E4 hF => ?_)
  exact g_ret R4 hF trivial
def FX5_define_b71 (N : Nat) (l1 : Int) (s1 : Int) (s : fS) : Option (Unit × fS) :=
  (FX32_add s1 s).bind fun q2 =>
  (FX32_add 102 q2.2).bind fun q4 =>
  (FX32_add 111 q4.2).bind fun q6 =>
  (FX32_add 110 q6.2).bind fun q8 =>
  (FX32_add 116 q8.2).bind fun q10 =>
  (uRI q10.2 9 l1).bind fun x13 =>
  if x13 ≤ 9 then
    FX5_define_b115 N l1 q10.2
  else
    (FX32_add 49 q10.2).bind fun q17 =>
    FX5_define_b115 N l1 q17.2
theorem SX5_define_b71 {m b : Nat} {φ0 : Nat → Nat} {σo : fS} {N : Nat} {q : Unit × fS} {φ : Nat → Nat} {h : eH} {s : fS} {l1' : Int32} {l1 : Int} {s1' : Int32} {s1 : Int} (R : fC m b φ0 σo φ h s) (el1 : l1' = iI l1) (rl1 : r32 l1) (es1 : s1' = iI s1) (rs1 : r32 s1) (hF : FX5_define_b71 N l1 s1 s = some q) : gG m b φ0 σo lU q (fX5_define_b71 N 6 l1' 154 154 s1' h) := by
  subst el1; subst es1
  unfold FX5_define_b71 at hF
  unfold fX5_define_b71
  refine s_kok R (t_154 R.S) (Nat.le_of_ble_eq_true rfl) ?_
  refine s_call R (Nat.zero_le _) (fun _ hq => SX32_add (b := 0) (R.rf) rfl rs1 hq) hF (fun f2 rv2 h2 q2 R2 e2 E2 hF => ?_)
  refine s_kok R2 (t_154 R2.S) (Nat.le_of_ble_eq_true rfl) ?_
  refine s_call R2 (Nat.zero_le _) (fun _ hq => SX32_add (b := 0) (R2.rf) (c_lit 102 102 rfl) ⟨by decide, by decide⟩ hq) hF (fun f4 rv4 h4 q4 R4 e4 E4 hF => ?_)
  refine s_kok R4 (t_154 R4.S) (Nat.le_of_ble_eq_true rfl) ?_
  refine s_call R4 (Nat.zero_le _) (fun _ hq => SX32_add (b := 0) (R4.rf) (c_lit 111 111 rfl) ⟨by decide, by decide⟩ hq) hF (fun f6 rv6 h6 q6 R6 e6 E6 hF => ?_)
  refine s_kok R6 (t_154 R6.S) (Nat.le_of_ble_eq_true rfl) ?_
  refine s_call R6 (Nat.zero_le _) (fun _ hq => SX32_add (b := 0) (R6.rf) (c_lit 110 110 rfl) ⟨by decide, by decide⟩ hq) hF (fun f8 rv8 h8 q8 R8 e8 E8 hF => ?_)
  refine s_kok R8 (t_154 R8.S) (Nat.le_of_ble_eq_true rfl) ?_
  refine s_call R8 (Nat.zero_le _) (fun _ hq => SX32_add (b := 0) (R8.rf) (c_lit 116 116 rfl) ⟨by decide, by decide⟩ hq) hF (fun f10 rv10 h10 q10 R10 e10 E10 hF => ?_)
  refine s_gAs R10 (t_6 R10.S) (Nat.le_of_ble_eq_true rfl) rfl (o_6_2 R10.S) (a_9 R10) ?_
  refine s_rI R10 (u_9 R10.S).1 (u_9 R10.S).2 (by decide) (a_9 R10) rfl rl1 hF (fun x13 ra12 hF => ?_)
  refine s_if (i_le rfl (c_lit 9 9 rfl) ra12 ⟨by decide, by decide⟩) hF (fun c13 hF => ?_) (fun c13 hF => ?_)
  ·
    exact SX5_define_b115 (N := N) R10 rfl rl1 hF
  ·
    refine s_kok R10 (t_154 R10.S) (Nat.le_of_ble_eq_true rfl) ?_
    refine s_call R10 (Nat.zero_le _) (fun _ hq => SX32_add (b := 0) (R10.rf) (c_lit 49 49 rfl) ⟨by decide, by decide⟩ hq) hF (fun f15 rv15 h15 q17 R15 e15 E15 hF => ?_)
    exact SX5_define_b115 (N := N) R15 rfl rl1 hF
def FX5_define (N : Nat) (p0 : Int) (s : fS) : Option (Unit × fS) :=
  (uRO s 8 p0).bind fun a3 =>
  (FX32_add 243 s).bind fun q6 =>
  (FX32_add p0 q6.2).bind fun q8 =>
  (uK 5 q8.2 a3).bind fun _ =>
  (FX6_word a3 0 0 q8.2).bind fun q10 =>
  (FX32_number N q10.1 4 q10.2).bind fun q12 =>
  (uK 5 q12.2 a3).bind fun _ =>
  (FX32_number N (q12.2.i a3 6) 4 q12.2).bind fun q16 =>
  (uK 5 q16.2 a3).bind fun _ =>
  (FX32_number N (q16.2.i a3 7) 4 q16.2).bind fun q20 =>
  (FX32_add 0 q20.2).bind fun q22 =>
  (uRI q22.2 9 p0).bind fun x25 =>
  if x25 ≤ 9 then
    FX5_define_b71 N p0 5 q22.2
  else
    FX5_define_b71 N p0 6 q22.2
theorem SX5_define {m b : Nat} {φ0 : Nat → Nat} {σo : fS} {N : Nat} {q : Unit × fS} {φ : Nat → Nat} {h : eH} {s : fS} {p0' : Int32} {p0 : Int} (R : fC m b φ0 σo φ h s) (ep0 : p0' = iI p0) (rp0 : r32 p0) (hF : FX5_define N p0 s = some q) : gG m b φ0 σo lU q (fX5_define N 6 p0' 154 h) := by
  subst ep0
  unfold FX5_define at hF
  unfold fX5_define
  refine s_gAs R (t_6 R.S) (Nat.le_of_ble_eq_true rfl) rfl (o_6_1 R.S) (a_8 R) ?_
  refine s_rO R (u_8 R.S).1 (u_8 R.S).2 rfl (fun _ => rfl) (Nat.le_of_ble_eq_true rfl) (a_8 R) rfl rp0 hF (fun a3 y2 hF => ?_)
  refine s_kok R (t_154 R.S) (Nat.le_of_ble_eq_true rfl) ?_
  refine s_call R (Nat.zero_le _) (fun _ hq => SX32_add (b := 0) (R.rf) (c_lit 243 243 rfl) ⟨by decide, by decide⟩ hq) hF (fun f4 rv4 h4 q6 R4 e4 E4 hF => ?_)
  refine s_kok R4 (t_154 R4.S) (Nat.le_of_ble_eq_true rfl) ?_
  refine s_call R4 (Nat.zero_le _) (fun _ hq => SX32_add (b := 0) (R4.rf) rfl rp0 hq) hF (fun f6 rv6 h6 q8 R6 e6 E6 hF => ?_)
  refine s_K hF (fun t8 hF => ?_)
  refine s_kok R6 t8 (Nat.le_of_ble_eq_true rfl) ?_
  refine s_call R6 (Nat.zero_le _) (fun _ hq => SX6_word (b := 0) (R6.rf) (c_lit 0 0 rfl) ⟨by decide, by decide⟩ (c_lit 0 0 rfl) ⟨by decide, by decide⟩ hq) hF (fun f9 rv9 h9 q10 R9 e9 E9 hF => ?_)
  refine s_kok R9 (t_154 R9.S) (Nat.le_of_ble_eq_true rfl) ?_
  refine s_call R9 (Nat.zero_le _) (fun _ hq => SX32_number (b := 0) (N := N) (R9.rf) e9.1 e9.2 (c_lit 4 4 rfl) ⟨by decide, by decide⟩ hq) hF (fun f11 rv11 h11 q12 R11 e11 E11 hF => ?_)
  refine s_K hF (fun t13 hF => ?_)
  refine s_gI R11 t13 (Nat.le_of_ble_eq_true rfl) rfl ?_
  refine s_kok R11 (t_154 R11.S) (Nat.le_of_ble_eq_true rfl) ?_
  refine s_call R11 (Nat.zero_le _) (fun _ hq => SX32_number (b := 0) (N := N) (R11.rf) rfl (R11.ri t13 (Nat.le_of_ble_eq_true rfl) rfl) (c_lit 4 4 rfl) ⟨by decide, by decide⟩ hq) hF (fun f15 rv15 h15 q16 R15 e15 E15 hF => ?_)
  refine s_K hF (fun t17 hF => ?_)
  refine s_gI R15 t17 (Nat.le_of_ble_eq_true rfl) rfl ?_
  refine s_kok R15 (t_154 R15.S) (Nat.le_of_ble_eq_true rfl) ?_
  refine s_call R15 (Nat.zero_le _) (fun _ hq => SX32_number (b := 0) (N := N) (R15.rf) rfl (R15.ri t17 (Nat.le_of_ble_eq_true rfl) rfl) (c_lit 4 4 rfl) ⟨by decide, by decide⟩ hq) hF (fun f19 rv19 h19 q20 R19 e19 E19 hF => ?_)
  refine s_kok R19 (t_154 R19.S) (Nat.le_of_ble_eq_true rfl) ?_
  refine s_call R19 (Nat.zero_le _) (fun _ hq => SX32_add (b := 0) (R19.rf) (c_lit 0 0 rfl) ⟨by decide, by decide⟩ hq) hF (fun f21 rv21 h21 q22 R21 e21 E21 hF => ?_)
  refine s_gAs R21 (t_6 R21.S) (Nat.le_of_ble_eq_true rfl) rfl (o_6_2 R21.S) (a_9 R21) ?_
  refine s_rI R21 (u_9 R21.S).1 (u_9 R21.S).2 (by decide) (a_9 R21) rfl rp0 hF (fun x25 ra23 hF => ?_)
  refine s_if (i_le rfl (c_lit 9 9 rfl) ra23 ⟨by decide, by decide⟩) hF (fun c24 hF => ?_) (fun c24 hF => ?_)
  ·
    exact SX5_define_b71 (N := N) R21 rfl rp0 (c_lit 5 5 rfl) ⟨by decide, by decide⟩ hF
  ·
    exact SX5_define_b71 (N := N) R21 rfl rp0 (c_lit 6 6 rfl) ⟨by decide, by decide⟩ hF
def FX5_use (p0 : Int) (s : fS) : Option (Unit × fS) :=
  (uQI s 10 p0 (iand 1 1)).bind fun σ3 =>
  (uPI σ3 6 6 (iadd (σ3.i 6 6) 1)).bind fun σ9 =>
  (uQI σ9 11 (σ3.i 6 6) p0).bind fun σ11 =>
  some ((), σ11)
theorem SX5_use {m b : Nat} {φ0 : Nat → Nat} {σo : fS} {q : Unit × fS} {φ : Nat → Nat} {h : eH} {s : fS} {p0' : Int32} {p0 : Int} (R : fC m b φ0 σo φ h s) (ep0 : p0' = iI p0) (rp0 : r32 p0) (hF : FX5_use p0 s = some q) : gG m b φ0 σo lU q (fX5_use 6 p0' h) := by
  subst ep0
  unfold FX5_use at hF
  unfold fX5_use
  refine s_gAs R (t_6 R.S) (Nat.le_of_ble_eq_true rfl) rfl (o_6_4 R.S) (a_10 R) ?_
  refine s_qI R (u_10 R.S).1 (u_10 R.S).2 (by decide) (a_10 R) rfl rp0 (c_and (c_lit 1 1 rfl) (c_lit 1 1 rfl)) (rr_I _) hF (fun h2 σ3 R2 T2 hF => ?_)
  refine s_gAs R2 (t_6 R2.S) (Nat.le_of_ble_eq_true rfl) rfl (o_6_5 R2.S) (a_11 R2) ?_
  refine s_gI R2 (t_6 R2.S) (Nat.le_of_ble_eq_true rfl) rfl ?_
  refine s_pI R2 (t_6 R2.S) (Nat.le_of_ble_eq_true rfl) rfl (c_add rfl (c_lit 1 1 rfl)) (rr_I _) hF (fun h5 σ9 R5 T5 hF => ?_)
  refine s_qI R5 (u_11 R5.S).1 (u_11 R5.S).2 (by decide) (a_11 R5) rfl (R2.ri (t_6 R2.S) (Nat.le_of_ble_eq_true rfl) rfl) rfl rp0 hF (fun h6 σ11 R6 T6 hF => ?_)
  exact g_ret R6 hF trivial
def FX31_select_b71 (N : Nat) (s : fS) : Option (Unit × fS) :=
  some ((), s)
theorem SX31_select_b71 {m b : Nat} {φ0 : Nat → Nat} {σo : fS} {N : Nat} {q : Unit × fS} {φ : Nat → Nat} {h : eH} {s : fS} (R : fC m b φ0 σo φ h s) (hF : FX31_select_b71 N s = some q) : gG m b φ0 σo lU q (fX31_select_b71 N h) := by
  unfold FX31_select_b71 at hF
  unfold fX31_select_b71
  exact g_ret R hF trivial
def FX31_select_b32 (N : Nat) (l1 : Int) (s : fS) : Option (Unit × fS) :=
  if 64 ≤ l1 then
    (FX32_add 235 s).bind fun q5 =>
    (FX32_add l1 q5.2).bind fun q9 =>
    FX31_select_b71 N q9.2
  else
    (FX32_add (iadd 171 l1) s).bind fun q13 =>
    FX31_select_b71 N q13.2
theorem SX31_select_b32 {m b : Nat} {φ0 : Nat → Nat} {σo : fS} {N : Nat} {q : Unit × fS} {φ : Nat → Nat} {h : eH} {s : fS} {l1' : Int32} {l1 : Int} (R : fC m b φ0 σo φ h s) (el1 : l1' = iI l1) (rl1 : r32 l1) (hF : FX31_select_b32 N l1 s = some q) : gG m b φ0 σo lU q (fX31_select_b32 N 153 l1' h) := by
  subst el1
  unfold FX31_select_b32 at hF
  unfold fX31_select_b32
  refine s_if (i_le (c_lit 64 64 rfl) rfl ⟨by decide, by decide⟩ rl1) hF (fun c1 hF => ?_) (fun c1 hF => ?_)
  ·
    refine s_gO R (t_153 R.S) (Nat.le_of_ble_eq_true rfl) rfl (o_153_1 R.S) ?_
    refine s_kok R (t_154 R.S) (Nat.le_of_ble_eq_true rfl) ?_
    refine s_call R (Nat.zero_le _) (fun _ hq => SX32_add (b := 0) (R.rf) (c_lit 235 235 rfl) ⟨by decide, by decide⟩ hq) hF (fun f4 rv4 h4 q5 R4 e4 E4 hF => ?_)
    refine s_gO R4 (t_153 R4.S) (Nat.le_of_ble_eq_true rfl) rfl (o_153_1 R4.S) ?_
    refine s_kok R4 (t_154 R4.S) (Nat.le_of_ble_eq_true rfl) ?_
    refine s_call R4 (Nat.zero_le _) (fun _ hq => SX32_add (b := 0) (R4.rf) rfl rl1 hq) hF (fun f7 rv7 h7 q9 R7 e7 E7 hF => ?_)
    exact SX31_select_b71 (N := N) R7 hF
  ·
    refine s_gO R (t_153 R.S) (Nat.le_of_ble_eq_true rfl) rfl (o_153_1 R.S) ?_
    refine s_kok R (t_154 R.S) (Nat.le_of_ble_eq_true rfl) ?_
    refine s_call R (Nat.zero_le _) (fun _ hq => SX32_add (b := 0) (R.rf) (c_add (c_lit 171 171 rfl) rfl) (rr_I _) hq) hF (fun f10 rv10 h10 q13 R10 e10 E10 hF => ?_)
    exact SX31_select_b71 (N := N) R10 hF
def FX31_select (N : Nat) (p0 : Int) (s : fS) : Option (Unit × fS) :=
  (uRI s 10 p0).bind fun x5 =>
  if ¬ (x5 = 0) then
    FX31_select_b32 N p0 s
  else
    (FX5_define N p0 s).bind fun q13 =>
    (FX5_use p0 q13.2).bind fun q17 =>
    FX31_select_b32 N p0 q17.2
theorem SX31_select {m b : Nat} {φ0 : Nat → Nat} {σo : fS} {N : Nat} {q : Unit × fS} {φ : Nat → Nat} {h : eH} {s : fS} {p0' : Int32} {p0 : Int} (R : fC m b φ0 σo φ h s) (ep0 : p0' = iI p0) (rp0 : r32 p0) (hF : FX31_select N p0 s = some q) : gG m b φ0 σo lU q (fX31_select N 153 p0' h) := by
  subst ep0
  unfold FX31_select at hF
  unfold fX31_select
  refine s_gO R (t_153 R.S) (Nat.le_of_ble_eq_true rfl) rfl (o_153_0 R.S) ?_
  refine s_gAs R (t_6 R.S) (Nat.le_of_ble_eq_true rfl) rfl (o_6_4 R.S) (a_10 R) ?_
  refine s_rI R (u_10 R.S).1 (u_10 R.S).2 (by decide) (a_10 R) rfl rp0 hF (fun x5 ra3 hF => ?_)
  refine s_if (not_congr (i_eq rfl (c_lit 0 0 rfl) ra3 ⟨by decide, by decide⟩)) hF (fun c4 hF => ?_) (fun c4 hF => ?_)
  ·
    exact SX31_select_b32 (N := N) R rfl rp0 hF
  ·
    refine s_gO R (t_153 R.S) (Nat.le_of_ble_eq_true rfl) rfl (o_153_0 R.S) ?_
    refine s_gO R (t_153 R.S) (Nat.le_of_ble_eq_true rfl) rfl (o_153_1 R.S) ?_
    refine s_kok R (t_6 R.S) (Nat.le_of_ble_eq_true rfl) ?_
    refine s_call R (Nat.zero_le _) (fun _ hq => SX5_define (b := 0) (N := N) (R.rf) rfl rp0 hq) hF (fun f8 rv8 h8 q13 R8 e8 E8 hF => ?_)
    refine s_gO R8 (t_153 R8.S) (Nat.le_of_ble_eq_true rfl) rfl (o_153_0 R8.S) ?_
    refine s_kok R8 (t_6 R8.S) (Nat.le_of_ble_eq_true rfl) ?_
    refine s_call R8 (Nat.zero_le _) (fun _ hq => SX5_use (b := 0) (R8.rf) rfl rp0 hq) hF (fun f11 rv11 h11 q17 R11 e11 E11 hF => ?_)
    exact SX31_select_b32 (N := N) R11 rfl rp0 hF
def FX31_writeMarks_b194 (N : Nat) (K9 : Int → Int → Int → Int → fS → Option (Unit × fS)) (l1 : Int) (l2 : Int) (l3 : Int) (l4 : Int) (s : fS) : Option (Unit × fS) :=
  K9 l1 l2 l3 (iadd l4 1) s
theorem SX31_writeMarks_b194 {m b : Nat} {φ0 : Nat → Nat} {σo : fS} {N : Nat} {k9 : Nat → Int32 → Int32 → Int32 → Int32 → eH → Option (Unit × eH)} {K9 : Int → Int → Int → Int → fS → Option (Unit × fS)} {q : Unit × fS} (hk9 : ∀ {φ : Nat → Nat} {h : eH} {s : fS} {l1' : Int32} {l1 : Int} {l2' : Int32} {l2 : Int} {l3' : Int32} {l3 : Int} {l4' : Int32} {l4 : Int}, fC m b φ0 σo φ h s → l1' = iI l1 → r32 l1 → l2' = iI l2 → r32 l2 → l3' = iI l3 → r32 l3 → l4' = iI l4 → r32 l4 → K9 l1 l2 l3 l4 s = some q → gG m b φ0 σo lU q (k9 153 l1' l2' l3' l4' h)) {φ : Nat → Nat} {h : eH} {s : fS} {l1' : Int32} {l1 : Int} {l2' : Int32} {l2 : Int} {l3' : Int32} {l3 : Int} {l4' : Int32} {l4 : Int} (R : fC m b φ0 σo φ h s) (el1 : l1' = iI l1) (rl1 : r32 l1) (el2 : l2' = iI l2) (rl2 : r32 l2) (el3 : l3' = iI l3) (rl3 : r32 l3) (el4 : l4' = iI l4) (rl4 : r32 l4) (hF : FX31_writeMarks_b194 N K9 l1 l2 l3 l4 s = some q) : gG m b φ0 σo lU q (fX31_writeMarks_b194 N k9 153 l1' l2' l3' l4' h) := by
  subst el1; subst el2; subst el3; subst el4
  unfold FX31_writeMarks_b194 at hF
  unfold fX31_writeMarks_b194
  exact hk9 R rfl rl1 rfl rl2 rfl rl3 (c_add rfl (c_lit 1 1 rfl)) (rr_I _) hF
def FX31_writeMarks_b180 (N : Nat) (K9 : Int → Int → Int → Int → fS → Option (Unit × fS)) (l1 : Int) (l2 : Int) (l3 : Int) (l4 : Int) (s : fS) : Option (Unit × fS) :=
  (uRI s 158 l4).bind fun x5 =>
  (FX32_add x5 s).bind fun q8 =>
  FX31_writeMarks_b194 N K9 l1 l2 l3 l4 q8.2
theorem SX31_writeMarks_b180 {m b : Nat} {φ0 : Nat → Nat} {σo : fS} {N : Nat} {k9 : Nat → Int32 → Int32 → Int32 → Int32 → eH → Option (Unit × eH)} {K9 : Int → Int → Int → Int → fS → Option (Unit × fS)} {q : Unit × fS} (hk9 : ∀ {φ : Nat → Nat} {h : eH} {s : fS} {l1' : Int32} {l1 : Int} {l2' : Int32} {l2 : Int} {l3' : Int32} {l3 : Int} {l4' : Int32} {l4 : Int}, fC m b φ0 σo φ h s → l1' = iI l1 → r32 l1 → l2' = iI l2 → r32 l2 → l3' = iI l3 → r32 l3 → l4' = iI l4 → r32 l4 → K9 l1 l2 l3 l4 s = some q → gG m b φ0 σo lU q (k9 153 l1' l2' l3' l4' h)) {φ : Nat → Nat} {h : eH} {s : fS} {l1' : Int32} {l1 : Int} {l2' : Int32} {l2 : Int} {l3' : Int32} {l3 : Int} {l4' : Int32} {l4 : Int} (R : fC m b φ0 σo φ h s) (el1 : l1' = iI l1) (rl1 : r32 l1) (el2 : l2' = iI l2) (rl2 : r32 l2) (el3 : l3' = iI l3) (rl3 : r32 l3) (el4 : l4' = iI l4) (rl4 : r32 l4) (hF : FX31_writeMarks_b180 N K9 l1 l2 l3 l4 s = some q) : gG m b φ0 σo lU q (fX31_writeMarks_b180 N k9 153 l1' l2' l3' l4' h) := by
  subst el1; subst el2; subst el3; subst el4
  unfold FX31_writeMarks_b180 at hF
  unfold fX31_writeMarks_b180
  refine s_gO R (t_153 R.S) (Nat.le_of_ble_eq_true rfl) rfl (o_153_1 R.S) ?_
  refine s_gAs R (t_153 R.S) (Nat.le_of_ble_eq_true rfl) rfl (o_153_4 R.S) (a_158 R) ?_
  refine s_rI R (u_158 R.S).1 (u_158 R.S).2 (by decide) (a_158 R) rfl rl4 hF (fun x5 ra3 hF => ?_)
  refine s_kok R (t_154 R.S) (Nat.le_of_ble_eq_true rfl) ?_
  refine s_call R (Nat.zero_le _) (fun _ hq => SX32_add (b := 0) (R.rf) rfl ra3 hq) hF (fun f5 rv5 h5 q8 R5 e5 E5 hF => ?_)
  exact SX31_writeMarks_b194 (N := N) (k9 := k9) (K9 := K9) @hk9 R5 rfl rl1 rfl rl2 rfl rl3 rfl rl4 hF
def FX31_writeMarks_b149 (N : Nat) (K9 : Int → Int → Int → Int → fS → Option (Unit × fS)) (l1 : Int) (l2 : Int) (l4 : Int) (s : fS) : Option (Unit × fS) :=
  (uRI s 157 l4).bind fun x3 =>
  (uRI s 158 l4).bind fun x7 =>
  if x7 < 128 then
    FX31_writeMarks_b180 N K9 l1 l2 x3 l4 s
  else
    (FX32_add 128 s).bind fun q13 =>
    FX31_writeMarks_b180 N K9 l1 l2 x3 l4 q13.2
theorem SX31_writeMarks_b149 {m b : Nat} {φ0 : Nat → Nat} {σo : fS} {N : Nat} {k9 : Nat → Int32 → Int32 → Int32 → Int32 → eH → Option (Unit × eH)} {K9 : Int → Int → Int → Int → fS → Option (Unit × fS)} {q : Unit × fS} (hk9 : ∀ {φ : Nat → Nat} {h : eH} {s : fS} {l1' : Int32} {l1 : Int} {l2' : Int32} {l2 : Int} {l3' : Int32} {l3 : Int} {l4' : Int32} {l4 : Int}, fC m b φ0 σo φ h s → l1' = iI l1 → r32 l1 → l2' = iI l2 → r32 l2 → l3' = iI l3 → r32 l3 → l4' = iI l4 → r32 l4 → K9 l1 l2 l3 l4 s = some q → gG m b φ0 σo lU q (k9 153 l1' l2' l3' l4' h)) {φ : Nat → Nat} {h : eH} {s : fS} {l1' : Int32} {l1 : Int} {l2' : Int32} {l2 : Int} {l4' : Int32} {l4 : Int} (R : fC m b φ0 σo φ h s) (el1 : l1' = iI l1) (rl1 : r32 l1) (el2 : l2' = iI l2) (rl2 : r32 l2) (el4 : l4' = iI l4) (rl4 : r32 l4) (hF : FX31_writeMarks_b149 N K9 l1 l2 l4 s = some q) : gG m b φ0 σo lU q (fX31_writeMarks_b149 N k9 153 l1' l2' l4' h) := by
  subst el1; subst el2; subst el4
  unfold FX31_writeMarks_b149 at hF
  unfold fX31_writeMarks_b149
  refine s_gAs R (t_153 R.S) (Nat.le_of_ble_eq_true rfl) rfl (o_153_3 R.S) (a_157 R) ?_
  refine s_rI R (u_157 R.S).1 (u_157 R.S).2 (by decide) (a_157 R) rfl rl4 hF (fun x3 ra2 hF => ?_)
  refine s_gAs R (t_153 R.S) (Nat.le_of_ble_eq_true rfl) rfl (o_153_4 R.S) (a_158 R) ?_
  refine s_rI R (u_158 R.S).1 (u_158 R.S).2 (by decide) (a_158 R) rfl rl4 hF (fun x7 ra4 hF => ?_)
  refine s_if (i_lt rfl (c_lit 128 128 rfl) ra4 ⟨by decide, by decide⟩) hF (fun c5 hF => ?_) (fun c5 hF => ?_)
  ·
    exact SX31_writeMarks_b180 (N := N) (k9 := k9) (K9 := K9) @hk9 R rfl rl1 rfl rl2 rfl ra2 rfl rl4 hF
  ·
    refine s_gO R (t_153 R.S) (Nat.le_of_ble_eq_true rfl) rfl (o_153_1 R.S) ?_
    refine s_kok R (t_154 R.S) (Nat.le_of_ble_eq_true rfl) ?_
    refine s_call R (Nat.zero_le _) (fun _ hq => SX32_add (b := 0) (R.rf) (c_lit 128 128 rfl) ⟨by decide, by decide⟩ hq) hF (fun f8 rv8 h8 q13 R8 e8 E8 hF => ?_)
    exact SX31_writeMarks_b180 (N := N) (k9 := k9) (K9 := K9) @hk9 R8 rfl rl1 rfl rl2 rfl ra2 rfl rl4 hF
def FX31_writeMarks_b9 (N : Nat) : Nat → Int → Int → Int → Int → fS → Option (Unit × fS)
  | 0, _, _, _, _, _ => none
  | n + 1, l1, l2, l3, l4, s =>
    if (s.i 153 8) ≤ l4 then
      some ((), s)
    else
      (uRI s 160 l4).bind fun x8 =>
      (FX33_write N 166 (isub x8 l2) s).bind fun q13 =>
      (uRI q13.2 159 l4).bind fun x18 =>
      (FX33_write N 162 (isub x18 l1) q13.2).bind fun q23 =>
      (uRI q23.2 160 l4).bind fun x26 =>
      (FX31_behind l4 q23.2).bind fun q29 =>
      (uRI q29.2 157 l4).bind fun x32 =>
      if ¬ (x32 = (-1)) then
        (uRI q29.2 157 l4).bind fun x37 =>
        if x37 = l3 then
          FX31_writeMarks_b149 N (FX31_writeMarks_b9 N n) q29.1 x26 l4 q29.2
        else
          (uRI q29.2 157 l4).bind fun x42 =>
          (FX31_select N x42 q29.2).bind fun q45 =>
          FX31_writeMarks_b149 N (FX31_writeMarks_b9 N n) q29.1 x26 l4 q45.2
      else
        (FX32_add 137 q29.2).bind fun q49 =>
        (uRI q49.2 161 l4).bind fun x54 =>
        (FX32_number N x54 4 q49.2).bind fun q57 =>
        (uRI q57.2 158 l4).bind fun x62 =>
        (FX32_number N x62 4 q57.2).bind fun q65 =>
        FX31_writeMarks_b194 N (FX31_writeMarks_b9 N n) q29.1 x26 l3 l4 q65.2
theorem SX31_writeMarks_b9 {m b : Nat} {φ0 : Nat → Nat} {σo : fS} {N : Nat} {q : Unit × fS} : ∀ {n : Nat} {φ : Nat → Nat} {h : eH} {s : fS} {l1' : Int32} {l1 : Int} {l2' : Int32} {l2 : Int} {l3' : Int32} {l3 : Int} {l4' : Int32} {l4 : Int}, fC m b φ0 σo φ h s → l1' = iI l1 → r32 l1 → l2' = iI l2 → r32 l2 → l3' = iI l3 → r32 l3 → l4' = iI l4 → r32 l4 → FX31_writeMarks_b9 N n l1 l2 l3 l4 s = some q → gG m b φ0 σo lU q (fX31_writeMarks_b9 N n 153 l1' l2' l3' l4' h) := by
  intro n
  induction n with
 | zero => intro φ h s l1' l1 l2' l2 l3' l3 l4' l4 R el1 rl1 el2 rl2 el3 rl3 el4 rl4 hF; simp [FX31_writeMarks_b9] at hF
  | succ n ih =>
    intro φ h s l1' l1 l2' l2 l3' l3 l4' l4 R el1 rl1 el2 rl2 el3 rl3 el4 rl4 hF
    subst el1; subst el2; subst el3; subst el4
    rw [FX31_writeMarks_b9] at hF
    rw [fX31_writeMarks_b9]
    refine s_gI R (t_153 R.S) (Nat.le_of_ble_eq_true rfl) rfl ?_
    refine s_if (i_le rfl rfl (R.ri (t_153 R.S) (Nat.le_of_ble_eq_true rfl) rfl) rl4) hF (fun c2 hF => ?_) (fun c2 hF => ?_)
    ·
      exact g_ret R hF trivial
    ·
      refine s_gO R (t_153 R.S) (Nat.le_of_ble_eq_true rfl) rfl (o_153_10 R.S) ?_
      refine s_gAs R (t_153 R.S) (Nat.le_of_ble_eq_true rfl) rfl (o_153_6 R.S) (a_160 R) ?_
      refine s_rI R (u_160 R.S).1 (u_160 R.S).2 (by decide) (a_160 R) rfl rl4 hF (fun x8 ra5 hF => ?_)
      refine s_gO R (t_153 R.S) (Nat.le_of_ble_eq_true rfl) rfl (o_153_1 R.S) ?_
      refine s_kok R (t_166 R.S) (Nat.le_of_ble_eq_true rfl) ?_
      refine s_call R (Nat.zero_le _) (fun _ hq => SX33_write (b := 0) (N := N) (R.rf) (c_sub rfl rfl) (rr_I _) hq) hF (fun f8 rv8 h8 q13 R8 e8 E8 hF => ?_)
      refine s_gO R8 (t_153 R8.S) (Nat.le_of_ble_eq_true rfl) rfl (o_153_9 R8.S) ?_
      refine s_gAs R8 (t_153 R8.S) (Nat.le_of_ble_eq_true rfl) rfl (o_153_5 R8.S) (a_159 R8) ?_
      refine s_rI R8 (u_159 R8.S).1 (u_159 R8.S).2 (by decide) (a_159 R8) rfl rl4 hF (fun x18 ra11 hF => ?_)
      refine s_gO R8 (t_153 R8.S) (Nat.le_of_ble_eq_true rfl) rfl (o_153_1 R8.S) ?_
      refine s_kok R8 (t_162 R8.S) (Nat.le_of_ble_eq_true rfl) ?_
      refine s_call R8 (Nat.zero_le _) (fun _ hq => SX33_write (b := 0) (N := N) (R8.rf) (c_sub rfl rfl) (rr_I _) hq) hF (fun f14 rv14 h14 q23 R14 e14 E14 hF => ?_)
      refine s_gAs R14 (t_153 R14.S) (Nat.le_of_ble_eq_true rfl) rfl (o_153_6 R14.S) (a_160 R14) ?_
      refine s_rI R14 (u_160 R14.S).1 (u_160 R14.S).2 (by decide) (a_160 R14) rfl rl4 hF (fun x26 ra16 hF => ?_)
      refine s_kok R14 (t_153 R14.S) (Nat.le_of_ble_eq_true rfl) ?_
      refine s_call R14 (Nat.zero_le _) (fun _ hq => SX31_behind (b := 0) (R14.rf) rfl rl4 hq) hF (fun f18 rv18 h18 q29 R18 e18 E18 hF => ?_)
      refine s_gAs R18 (t_153 R18.S) (Nat.le_of_ble_eq_true rfl) rfl (o_153_3 R18.S) (a_157 R18) ?_
      refine s_rI R18 (u_157 R18.S).1 (u_157 R18.S).2 (by decide) (a_157 R18) rfl rl4 hF (fun x32 ra20 hF => ?_)
      refine s_if (not_congr (i_eq rfl (c_lit (-1) (-1) rfl) ra20 ⟨by decide, by decide⟩)) hF (fun c21 hF => ?_) (fun c21 hF => ?_)
      ·
        refine s_gAs R18 (t_153 R18.S) (Nat.le_of_ble_eq_true rfl) rfl (o_153_3 R18.S) (a_157 R18) ?_
        refine s_rI R18 (u_157 R18.S).1 (u_157 R18.S).2 (by decide) (a_157 R18) rfl rl4 hF (fun x37 ra23 hF => ?_)
        refine s_if (i_eq rfl rfl ra23 rl3) hF (fun c24 hF => ?_) (fun c24 hF => ?_)
        ·
          exact SX31_writeMarks_b149 (N := N) (k9 := fX31_writeMarks_b9 N n) (K9 := FX31_writeMarks_b9 N n) @ih R18 e18.1 e18.2 rfl ra16 rfl rl4 hF
        ·
          refine s_gAs R18 (t_153 R18.S) (Nat.le_of_ble_eq_true rfl) rfl (o_153_3 R18.S) (a_157 R18) ?_
          refine s_rI R18 (u_157 R18.S).1 (u_157 R18.S).2 (by decide) (a_157 R18) rfl rl4 hF (fun x42 ra26 hF => ?_)
          refine s_kok R18 (t_153 R18.S) (Nat.le_of_ble_eq_true rfl) ?_
          refine s_call R18 (Nat.zero_le _) (fun _ hq => SX31_select (b := 0) (N := N) (R18.rf) rfl ra26 hq) hF (fun f28 rv28 h28 q45 R28 e28 E28 hF => ?_)
          exact SX31_writeMarks_b149 (N := N) (k9 := fX31_writeMarks_b9 N n) (K9 := FX31_writeMarks_b9 N n) @ih R28 e18.1 e18.2 rfl ra16 rfl rl4 hF
      ·
        refine s_gO R18 (t_153 R18.S) (Nat.le_of_ble_eq_true rfl) rfl (o_153_1 R18.S) ?_
        refine s_kok R18 (t_154 R18.S) (Nat.le_of_ble_eq_true rfl) ?_
        refine s_call R18 (Nat.zero_le _) (fun _ hq => SX32_add (b := 0) (R18.rf) (c_lit 137 137 rfl) ⟨by decide, by decide⟩ hq) hF (fun f31 rv31 h31 q49 R31 e31 E31 hF => ?_)
        refine s_gO R31 (t_153 R31.S) (Nat.le_of_ble_eq_true rfl) rfl (o_153_1 R31.S) ?_
        refine s_gAs R31 (t_153 R31.S) (Nat.le_of_ble_eq_true rfl) rfl (o_153_7 R31.S) (a_161 R31) ?_
        refine s_rI R31 (u_161 R31.S).1 (u_161 R31.S).2 (by decide) (a_161 R31) rfl rl4 hF (fun x54 ra34 hF => ?_)
        refine s_kok R31 (t_154 R31.S) (Nat.le_of_ble_eq_true rfl) ?_
        refine s_call R31 (Nat.zero_le _) (fun _ hq => SX32_number (b := 0) (N := N) (R31.rf) rfl ra34 (c_lit 4 4 rfl) ⟨by decide, by decide⟩ hq) hF (fun f36 rv36 h36 q57 R36 e36 E36 hF => ?_)
        refine s_gO R36 (t_153 R36.S) (Nat.le_of_ble_eq_true rfl) rfl (o_153_1 R36.S) ?_
        refine s_gAs R36 (t_153 R36.S) (Nat.le_of_ble_eq_true rfl) rfl (o_153_4 R36.S) (a_158 R36) ?_
        refine s_rI R36 (u_158 R36.S).1 (u_158 R36.S).2 (by decide) (a_158 R36) rfl rl4 hF (fun x62 ra39 hF => ?_)
        refine s_kok R36 (t_154 R36.S) (Nat.le_of_ble_eq_true rfl) ?_
        refine s_call R36 (Nat.zero_le _) (fun _ hq => SX32_number (b := 0) (N := N) (R36.rf) rfl ra39 (c_lit 4 4 rfl) ⟨by decide, by decide⟩ hq) hF (fun f41 rv41 h41 q65 R41 e41 E41 hF => ?_)
        exact SX31_writeMarks_b194 (N := N) (k9 := fX31_writeMarks_b9 N n) (K9 := FX31_writeMarks_b9 N n) @ih R41 e18.1 e18.2 rfl ra16 rfl rl3 rfl rl4 hF
def FX31_writeMarks (N : Nat) (s : fS) : Option (Unit × fS) :=
  FX31_writeMarks_b9 N N 0 0 (-1) 0 s
theorem SX31_writeMarks {m b : Nat} {φ0 : Nat → Nat} {σo : fS} {N : Nat} {q : Unit × fS} {φ : Nat → Nat} {h : eH} {s : fS} (R : fC m b φ0 σo φ h s) (hF : FX31_writeMarks N s = some q) : gG m b φ0 σo lU q (fX31_writeMarks N 153 h) := by
  unfold FX31_writeMarks at hF
  unfold fX31_writeMarks
  exact SX31_writeMarks_b9 (N := N) R (c_lit 0 0 rfl) ⟨by decide, by decide⟩ (c_lit 0 0 rfl) ⟨by decide, by decide⟩ (c_lit (-1) (-1) rfl) ⟨by decide, by decide⟩ (c_lit 0 0 rfl) ⟨by decide, by decide⟩ hF
def FX5_forget_b0 (N : Nat) : Nat → Int → fS → Option (Unit × fS)
  | 0, _, _ => none
  | n + 1, l1, s =>
    if (s.i 6 6) ≤ l1 then
      some ((), s)
    else
      (uPI s 6 6 (isub (s.i 6 6) 1)).bind fun σ10 =>
      (uRI σ10 11 (isub (s.i 6 6) 1)).bind fun x12 =>
      (uQI σ10 10 x12 (iand 0 1)).bind fun σ14 =>
      FX5_forget_b0 N n l1 σ14
theorem SX5_forget_b0 {m b : Nat} {φ0 : Nat → Nat} {σo : fS} {N : Nat} {q : Unit × fS} : ∀ {n : Nat} {φ : Nat → Nat} {h : eH} {s : fS} {l1' : Int32} {l1 : Int}, fC m b φ0 σo φ h s → l1' = iI l1 → r32 l1 → FX5_forget_b0 N n l1 s = some q → gG m b φ0 σo lU q (fX5_forget_b0 N n 6 l1' h) := by
  intro n
  induction n with
 | zero => intro φ h s l1' l1 R el1 rl1 hF; simp [FX5_forget_b0] at hF
  | succ n ih =>
    intro φ h s l1' l1 R el1 rl1 hF
    subst el1
    rw [FX5_forget_b0] at hF
    rw [fX5_forget_b0]
    refine s_gI R (t_6 R.S) (Nat.le_of_ble_eq_true rfl) rfl ?_
    refine s_if (i_le rfl rfl (R.ri (t_6 R.S) (Nat.le_of_ble_eq_true rfl) rfl) rl1) hF (fun c2 hF => ?_) (fun c2 hF => ?_)
    ·
      exact g_ret R hF trivial
    ·
      refine s_gAs R (t_6 R.S) (Nat.le_of_ble_eq_true rfl) rfl (o_6_4 R.S) (a_10 R) ?_
      refine s_gAs R (t_6 R.S) (Nat.le_of_ble_eq_true rfl) rfl (o_6_5 R.S) (a_11 R) ?_
      refine s_gI R (t_6 R.S) (Nat.le_of_ble_eq_true rfl) rfl ?_
      refine s_pI R (t_6 R.S) (Nat.le_of_ble_eq_true rfl) rfl (c_sub rfl (c_lit 1 1 rfl)) (rr_I _) hF (fun h6 σ10 R6 T6 hF => ?_)
      refine s_rI R6 (u_11 R6.S).1 (u_11 R6.S).2 (by decide) (a_11 R6) (c_sub rfl (c_lit 1 1 rfl)) (rr_I _) hF (fun x12 ra7 hF => ?_)
      refine s_qI R6 (u_10 R6.S).1 (u_10 R6.S).2 (by decide) (a_10 R6) rfl ra7 (c_and (c_lit 0 0 rfl) (c_lit 1 1 rfl)) (rr_I _) hF (fun h8 σ14 R8 T8 hF => ?_)
      exact ih R8 rfl rl1 hF
def FX5_forget (N : Nat) (p0 : Int) (s : fS) : Option (Unit × fS) :=
  FX5_forget_b0 N N p0 s
theorem SX5_forget {m b : Nat} {φ0 : Nat → Nat} {σo : fS} {N : Nat} {q : Unit × fS} {φ : Nat → Nat} {h : eH} {s : fS} {p0' : Int32} {p0 : Int} (R : fC m b φ0 σo φ h s) (ep0 : p0' = iI p0) (rp0 : r32 p0) (hF : FX5_forget N p0 s = some q) : gG m b φ0 σo lU q (fX5_forget N 6 p0' h) := by
  subst ep0
  unfold FX5_forget at hF
  unfold fX5_forget
  exact SX5_forget_b0 (N := N) R rfl rp0 hF
def FX31_ship_b148 (N : Nat) (l2 : Int) (l3 : Int) (l5 : Int) (s : fS) : Option (Int × fS) :=
  (uPI s 154 1 l2).bind fun σ3 =>
  (FX5_forget N l3 σ3).bind fun q8 =>
  uZ l5 (l5, q8.2)
theorem SX31_ship_b148 {m b : Nat} {φ0 : Nat → Nat} {σo : fS} {N : Nat} {q : Int × fS} {φ : Nat → Nat} {h : eH} {s : fS} {l2' : Int32} {l2 : Int} {l3' : Int32} {l3 : Int} {l5' : Int32} {l5 : Int} (R : fC m b φ0 σo φ h s) (el2 : l2' = iI l2) (rl2 : r32 l2) (el3 : l3' = iI l3) (rl3 : r32 l3) (el5 : l5' = iI l5) (rl5 : r32 l5) (hF : FX31_ship_b148 N l2 l3 l5 s = some q) : gG m b φ0 σo lI q (fX31_ship_b148 N 153 l2' l3' l5' h) := by
  subst el2; subst el3; subst el5
  unfold FX31_ship_b148 at hF
  unfold fX31_ship_b148
  refine s_gO R (t_153 R.S) (Nat.le_of_ble_eq_true rfl) rfl (o_153_1 R.S) ?_
  refine s_pI R (t_154 R.S) (Nat.le_of_ble_eq_true rfl) rfl rfl rl2 hF (fun h2 σ3 R2 T2 hF => ?_)
  refine s_gO R2 (t_153 R2.S) (Nat.le_of_ble_eq_true rfl) rfl (o_153_0 R2.S) ?_
  refine s_kok R2 (t_6 R2.S) (Nat.le_of_ble_eq_true rfl) ?_
  refine s_call R2 (Nat.zero_le _) (fun _ hq => SX5_forget (b := 0) (N := N) (R2.rf) rfl rl3 hq) hF (fun f5 rv5 h5 q8 R5 e5 E5 hF => ?_)
  exact g_z R5 rfl hF ⟨rfl, rl5⟩
def FX31_ship_b170 (N : Nat) : Nat → Int → Int → fS → Option (Int × fS)
  | 0, _, _, _ => none
  | n + 1, l4, l6, s =>
    if (s.i 153 8) ≤ l6 then
      (uPI s 153 14 l4).bind fun σ4 =>
      (uPI σ4 153 13 (iadd (σ4.i 153 13) 1)).bind fun σ8 =>
      (uPI σ8 153 8 0).bind fun σ10 =>
      some (1, σ10)
    else
      (uRI s 160 l6).bind fun x16 =>
      (uPI s 153 15 (imax (s.i 153 15) x16)).bind fun σ18 =>
      (FX31_behind l6 σ18).bind fun q23 =>
      (uPI q23.2 153 16 (imax (σ18.i 153 16) q23.1)).bind fun σ24 =>
      FX31_ship_b170 N n l4 (iadd l6 1) σ24
theorem SX31_ship_b170 {m b : Nat} {φ0 : Nat → Nat} {σo : fS} {N : Nat} {q : Int × fS} : ∀ {n : Nat} {φ : Nat → Nat} {h : eH} {s : fS} {l4' : Int32} {l4 : Int} {l6' : Int32} {l6 : Int}, fC m b φ0 σo φ h s → l4' = iI l4 → r32 l4 → l6' = iI l6 → r32 l6 → FX31_ship_b170 N n l4 l6 s = some q → gG m b φ0 σo lI q (fX31_ship_b170 N n 153 l4' l6' h) := by
  intro n
  induction n with
 | zero => intro φ h s l4' l4 l6' l6 R el4 rl4 el6 rl6 hF; simp [FX31_ship_b170] at hF
  | succ n ih =>
    intro φ h s l4' l4 l6' l6 R el4 rl4 el6 rl6 hF
    subst el4; subst el6
    rw [FX31_ship_b170] at hF
    rw [fX31_ship_b170]
    refine s_gI R (t_153 R.S) (Nat.le_of_ble_eq_true rfl) rfl ?_
    refine s_if (i_le rfl rfl (R.ri (t_153 R.S) (Nat.le_of_ble_eq_true rfl) rfl) rl6) hF (fun c2 hF => ?_) (fun c2 hF => ?_)
    ·
      refine s_pI R (t_153 R.S) (Nat.le_of_ble_eq_true rfl) rfl rfl rl4 hF (fun h3 σ4 R3 T3 hF => ?_)
      refine s_gI R3 (t_153 R3.S) (Nat.le_of_ble_eq_true rfl) rfl ?_
      refine s_pI R3 (t_153 R3.S) (Nat.le_of_ble_eq_true rfl) rfl (c_add rfl (c_lit 1 1 rfl)) (rr_I _) hF (fun h5 σ8 R5 T5 hF => ?_)
      refine s_pI R5 (t_153 R5.S) (Nat.le_of_ble_eq_true rfl) rfl (c_lit 0 0 rfl) ⟨by decide, by decide⟩ hF (fun h6 σ10 R6 T6 hF => ?_)
      exact g_ret R6 hF ⟨(c_lit 1 1 rfl), ⟨by decide, by decide⟩⟩
    ·
      refine s_gI R (t_153 R.S) (Nat.le_of_ble_eq_true rfl) rfl ?_
      refine s_gAs R (t_153 R.S) (Nat.le_of_ble_eq_true rfl) rfl (o_153_6 R.S) (a_160 R) ?_
      refine s_rI R (u_160 R.S).1 (u_160 R.S).2 (by decide) (a_160 R) rfl rl6 hF (fun x16 ra9 hF => ?_)
      refine s_pI R (t_153 R.S) (Nat.le_of_ble_eq_true rfl) rfl (c_max rfl rfl (R.ri (t_153 R.S) (Nat.le_of_ble_eq_true rfl) rfl) ra9) (r_max (R.ri (t_153 R.S) (Nat.le_of_ble_eq_true rfl) rfl) ra9) hF (fun h10 σ18 R10 T10 hF => ?_)
      refine s_gI R10 (t_153 R10.S) (Nat.le_of_ble_eq_true rfl) rfl ?_
      refine s_kok R10 (t_153 R10.S) (Nat.le_of_ble_eq_true rfl) ?_
      refine s_call R10 (Nat.zero_le _) (fun _ hq => SX31_behind (b := 0) (R10.rf) rfl rl6 hq) hF (fun f13 rv13 h13 q23 R13 e13 E13 hF => ?_)
      refine s_pI R13 (t_153 R13.S) (Nat.le_of_ble_eq_true rfl) rfl (c_max rfl e13.1 (R10.ri (t_153 R10.S) (Nat.le_of_ble_eq_true rfl) rfl) e13.2) (r_max (R10.ri (t_153 R10.S) (Nat.le_of_ble_eq_true rfl) rfl) e13.2) hF (fun h14 σ24 R14 T14 hF => ?_)
      exact ih R14 rfl rl4 (c_add rfl (c_lit 1 1 rfl)) (rr_I _) hF
def FX31_ship_b137 (N : Nat) (l1 : Int) (l2 : Int) (l3 : Int) (l4 : Int) (s0 : Int) (s : fS) : Option (Int × fS) :=
  if s0 = 0 then
    FX31_ship_b148 N l2 l3 s0 s
  else
    if ¬ (l1 = 0) then
      FX31_ship_b170 N N l4 0 s
    else
      FX31_ship_b148 N l2 l3 s0 s
theorem SX31_ship_b137 {m b : Nat} {φ0 : Nat → Nat} {σo : fS} {N : Nat} {q : Int × fS} {φ : Nat → Nat} {h : eH} {s : fS} {l1' : Int32} {l1 : Int} {l2' : Int32} {l2 : Int} {l3' : Int32} {l3 : Int} {l4' : Int32} {l4 : Int} {s0' : Int32} {s0 : Int} (R : fC m b φ0 σo φ h s) (el1 : l1' = iI l1) (rl1 : r32 l1) (el2 : l2' = iI l2) (rl2 : r32 l2) (el3 : l3' = iI l3) (rl3 : r32 l3) (el4 : l4' = iI l4) (rl4 : r32 l4) (es0 : s0' = iI s0) (rs0 : r32 s0) (hF : FX31_ship_b137 N l1 l2 l3 l4 s0 s = some q) : gG m b φ0 σo lI q (fX31_ship_b137 N 153 l1' l2' l3' l4' s0' h) := by
  subst el1; subst el2; subst el3; subst el4; subst es0
  unfold FX31_ship_b137 at hF
  unfold fX31_ship_b137
  refine s_if (i_eq rfl (c_lit 0 0 rfl) rs0 ⟨by decide, by decide⟩) hF (fun c1 hF => ?_) (fun c1 hF => ?_)
  ·
    exact SX31_ship_b148 (N := N) R rfl rl2 rfl rl3 rfl rs0 hF
  ·
    refine s_if (not_congr (i_eq rfl (c_lit 0 0 rfl) rl1 ⟨by decide, by decide⟩)) hF (fun c2 hF => ?_) (fun c2 hF => ?_)
    ·
      exact SX31_ship_b170 (N := N) R rfl rl4 (c_lit 0 0 rfl) ⟨by decide, by decide⟩ hF
    ·
      exact SX31_ship_b148 (N := N) R rfl rl2 rfl rl3 rfl rs0 hF
def FX31_ship_b46 (N : Nat) : Nat → Int → Int → Int → Int → Int → fS → Option (Int × fS)
  | 0, _, _, _, _, _, _ => none
  | n + 1, l1, l2, l3, l4, l5, s =>
    if 10 ≤ l5 then
      (FX32_number N (s.i 153 14) 4 s).bind fun q7 =>
      (FX32_add 141 q7.2).bind fun q11 =>
      (FX31_writeMarks N q11.2).bind fun q13 =>
      (FX32_add 142 q13.2).bind fun q17 =>
      (FX32_add 140 q17.2).bind fun q21 =>
      if 200000 < (q21.2.i 154 1) then
        FX31_ship_b137 N l1 l2 l3 l4 0 q21.2
      else
        FX31_ship_b137 N l1 l2 l3 l4 1 q21.2
    else
      (uRI s 156 l5).bind fun x31 =>
      (FX32_number N x31 4 s).bind fun q34 =>
      FX31_ship_b46 N n l1 l2 l3 l4 (iadd l5 1) q34.2
theorem SX31_ship_b46 {m b : Nat} {φ0 : Nat → Nat} {σo : fS} {N : Nat} {q : Int × fS} : ∀ {n : Nat} {φ : Nat → Nat} {h : eH} {s : fS} {l1' : Int32} {l1 : Int} {l2' : Int32} {l2 : Int} {l3' : Int32} {l3 : Int} {l4' : Int32} {l4 : Int} {l5' : Int32} {l5 : Int}, fC m b φ0 σo φ h s → l1' = iI l1 → r32 l1 → l2' = iI l2 → r32 l2 → l3' = iI l3 → r32 l3 → l4' = iI l4 → r32 l4 → l5' = iI l5 → r32 l5 → FX31_ship_b46 N n l1 l2 l3 l4 l5 s = some q → gG m b φ0 σo lI q (fX31_ship_b46 N n 153 l1' l2' l3' l4' l5' h) := by
  intro n
  induction n with
 | zero => intro φ h s l1' l1 l2' l2 l3' l3 l4' l4 l5' l5 R el1 rl1 el2 rl2 el3 rl3 el4 rl4 el5 rl5 hF; simp [FX31_ship_b46] at hF
  | succ n ih =>
    intro φ h s l1' l1 l2' l2 l3' l3 l4' l4 l5' l5 R el1 rl1 el2 rl2 el3 rl3 el4 rl4 el5 rl5 hF
    subst el1; subst el2; subst el3; subst el4; subst el5
    rw [FX31_ship_b46] at hF
    rw [fX31_ship_b46]
    refine s_if (i_le (c_lit 10 10 rfl) rfl ⟨by decide, by decide⟩ rl5) hF (fun c1 hF => ?_) (fun c1 hF => ?_)
    ·
      refine s_gO R (t_153 R.S) (Nat.le_of_ble_eq_true rfl) rfl (o_153_1 R.S) ?_
      refine s_gI R (t_153 R.S) (Nat.le_of_ble_eq_true rfl) rfl ?_
      refine s_kok R (t_154 R.S) (Nat.le_of_ble_eq_true rfl) ?_
      refine s_call R (Nat.zero_le _) (fun _ hq => SX32_number (b := 0) (N := N) (R.rf) rfl (R.ri (t_153 R.S) (Nat.le_of_ble_eq_true rfl) rfl) (c_lit 4 4 rfl) ⟨by decide, by decide⟩ hq) hF (fun f5 rv5 h5 q7 R5 e5 E5 hF => ?_)
      refine s_gO R5 (t_153 R5.S) (Nat.le_of_ble_eq_true rfl) rfl (o_153_1 R5.S) ?_
      refine s_kok R5 (t_154 R5.S) (Nat.le_of_ble_eq_true rfl) ?_
      refine s_call R5 (Nat.zero_le _) (fun _ hq => SX32_add (b := 0) (R5.rf) (c_lit 141 141 rfl) ⟨by decide, by decide⟩ hq) hF (fun f8 rv8 h8 q11 R8 e8 E8 hF => ?_)
      refine s_kok R8 (t_153 R8.S) (Nat.le_of_ble_eq_true rfl) ?_
      refine s_call R8 (Nat.zero_le _) (fun _ hq => SX31_writeMarks (b := 0) (N := N) (R8.rf) hq) hF (fun f10 rv10 h10 q13 R10 e10 E10 hF => ?_)
      refine s_gO R10 (t_153 R10.S) (Nat.le_of_ble_eq_true rfl) rfl (o_153_1 R10.S) ?_
      refine s_kok R10 (t_154 R10.S) (Nat.le_of_ble_eq_true rfl) ?_
      refine s_call R10 (Nat.zero_le _) (fun _ hq => SX32_add (b := 0) (R10.rf) (c_lit 142 142 rfl) ⟨by decide, by decide⟩ hq) hF (fun f13 rv13 h13 q17 R13 e13 E13 hF => ?_)
      refine s_gO R13 (t_153 R13.S) (Nat.le_of_ble_eq_true rfl) rfl (o_153_1 R13.S) ?_
      refine s_kok R13 (t_154 R13.S) (Nat.le_of_ble_eq_true rfl) ?_
      refine s_call R13 (Nat.zero_le _) (fun _ hq => SX32_add (b := 0) (R13.rf) (c_lit 140 140 rfl) ⟨by decide, by decide⟩ hq) hF (fun f16 rv16 h16 q21 R16 e16 E16 hF => ?_)
      refine s_gO R16 (t_153 R16.S) (Nat.le_of_ble_eq_true rfl) rfl (o_153_1 R16.S) ?_
      refine s_gI R16 (t_154 R16.S) (Nat.le_of_ble_eq_true rfl) rfl ?_
      refine s_if (i_lt (c_lit 200000 200000 rfl) rfl ⟨by decide, by decide⟩ (R16.ri (t_154 R16.S) (Nat.le_of_ble_eq_true rfl) rfl)) hF (fun c19 hF => ?_) (fun c19 hF => ?_)
      ·
        exact SX31_ship_b137 (N := N) R16 rfl rl1 rfl rl2 rfl rl3 rfl rl4 (c_lit 0 0 rfl) ⟨by decide, by decide⟩ hF
      ·
        exact SX31_ship_b137 (N := N) R16 rfl rl1 rfl rl2 rfl rl3 rfl rl4 (c_lit 1 1 rfl) ⟨by decide, by decide⟩ hF
    ·
      refine s_gO R (t_153 R.S) (Nat.le_of_ble_eq_true rfl) rfl (o_153_1 R.S) ?_
      refine s_gAs R (t_153 R.S) (Nat.le_of_ble_eq_true rfl) rfl (o_153_2 R.S) (a_156 R) ?_
      refine s_rI R (u_156 R.S).1 (u_156 R.S).2 (by decide) (a_156 R) rfl rl5 hF (fun x31 ra22 hF => ?_)
      refine s_kok R (t_154 R.S) (Nat.le_of_ble_eq_true rfl) ?_
      refine s_call R (Nat.zero_le _) (fun _ hq => SX32_number (b := 0) (N := N) (R.rf) rfl ra22 (c_lit 4 4 rfl) ⟨by decide, by decide⟩ hq) hF (fun f24 rv24 h24 q34 R24 e24 E24 hF => ?_)
      exact ih R24 rfl rl1 rfl rl2 rfl rl3 rfl rl4 (c_add rfl (c_lit 1 1 rfl)) (rr_I _) hF
def FX31_ship (N : Nat) (p0 : Int) (s : fS) : Option (Int × fS) :=
  (FX31_gather N s).bind fun q2 =>
  (FX31_open N q2.2).bind fun q12 =>
  (FX32_add 139 q12.2).bind fun q20 =>
  FX31_ship_b46 N N p0 (q2.2.i 154 1) (q2.2.i 6 6) (q12.2.i 154 1) 0 q20.2
theorem SX31_ship {m b : Nat} {φ0 : Nat → Nat} {σo : fS} {N : Nat} {q : Int × fS} {φ : Nat → Nat} {h : eH} {s : fS} {p0' : Int32} {p0 : Int} (R : fC m b φ0 σo φ h s) (ep0 : p0' = iI p0) (rp0 : r32 p0) (hF : FX31_ship N p0 s = some q) : gG m b φ0 σo lI q (fX31_ship N 153 p0' h) := by
  subst ep0
  unfold FX31_ship at hF
  unfold fX31_ship
  refine s_kok R (t_153 R.S) (Nat.le_of_ble_eq_true rfl) ?_
  refine s_call R (Nat.zero_le _) (fun _ hq => SX31_gather (b := 0) (N := N) (R.rf) hq) hF (fun f2 rv2 h2 q2 R2 e2 E2 hF => ?_)
  refine s_gO R2 (t_153 R2.S) (Nat.le_of_ble_eq_true rfl) rfl (o_153_1 R2.S) ?_
  refine s_gI R2 (t_154 R2.S) (Nat.le_of_ble_eq_true rfl) rfl ?_
  refine s_gO R2 (t_153 R2.S) (Nat.le_of_ble_eq_true rfl) rfl (o_153_0 R2.S) ?_
  refine s_gI R2 (t_6 R2.S) (Nat.le_of_ble_eq_true rfl) rfl ?_
  refine s_kok R2 (t_153 R2.S) (Nat.le_of_ble_eq_true rfl) ?_
  refine s_call R2 (Nat.zero_le _) (fun _ hq => SX31_open (b := 0) (N := N) (R2.rf) hq) hF (fun f8 rv8 h8 q12 R8 e8 E8 hF => ?_)
  refine s_gO R8 (t_153 R8.S) (Nat.le_of_ble_eq_true rfl) rfl (o_153_1 R8.S) ?_
  refine s_gI R8 (t_154 R8.S) (Nat.le_of_ble_eq_true rfl) rfl ?_
  refine s_gO R8 (t_153 R8.S) (Nat.le_of_ble_eq_true rfl) rfl (o_153_1 R8.S) ?_
  refine s_kok R8 (t_154 R8.S) (Nat.le_of_ble_eq_true rfl) ?_
  refine s_call R8 (Nat.zero_le _) (fun _ hq => SX32_add (b := 0) (R8.rf) (c_lit 139 139 rfl) ⟨by decide, by decide⟩ hq) hF (fun f13 rv13 h13 q20 R13 e13 E13 hF => ?_)
  exact SX31_ship_b46 (N := N) R13 rfl rp0 rfl (R2.ri (t_154 R2.S) (Nat.le_of_ble_eq_true rfl) rfl) rfl (R2.ri (t_6 R2.S) (Nat.le_of_ble_eq_true rfl) rfl) rfl (R8.ri (t_154 R8.S) (Nat.le_of_ble_eq_true rfl) rfl) (c_lit 0 0 rfl) ⟨by decide, by decide⟩ hF
def FX9_set_b73 (N : Nat) (s1 : Int) (s2 : Int) (s : fS) : Option (Unit × fS) :=
  (uQI s 28 s1 s2).bind fun σ1 =>
  some ((), σ1)
theorem SX9_set_b73 {m b : Nat} {φ0 : Nat → Nat} {σo : fS} {N : Nat} {q : Unit × fS} {φ : Nat → Nat} {h : eH} {s : fS} {s1' : Int32} {s1 : Int} {s2' : Int32} {s2 : Int} (R : fC m b φ0 σo φ h s) (es1 : s1' = iI s1) (rs1 : r32 s1) (es2 : s2' = iI s2) (rs2 : r32 s2) (hF : FX9_set_b73 N s1 s2 s = some q) : gG m b φ0 σo lU q (fX9_set_b73 N 28 s1' s2' h) := by
  subst es1; subst es2
  unfold FX9_set_b73 at hF
  unfold fX9_set_b73
  refine s_qI R (u_28 R.S).1 (u_28 R.S).2 (by decide) (a_28 R) rfl rs1 rfl rs2 hF (fun h1 σ1 R1 T1 hF => ?_)
  exact g_ret R1 hF trivial
def FX9_set_b49 (N : Nat) (l1 : Int) (l2 : Int) (l3 : Int) (s : fS) : Option (Unit × fS) :=
  (uQI s 27 l1 l2).bind fun σ3 =>
  if l3 = 0 then
    FX9_set_b73 N l1 (σ3.i 23 11) σ3
  else
    FX9_set_b73 N l1 0 σ3
theorem SX9_set_b49 {m b : Nat} {φ0 : Nat → Nat} {σo : fS} {N : Nat} {q : Unit × fS} {φ : Nat → Nat} {h : eH} {s : fS} {l1' : Int32} {l1 : Int} {l2' : Int32} {l2 : Int} {l3' : Int32} {l3 : Int} (R : fC m b φ0 σo φ h s) (el1 : l1' = iI l1) (rl1 : r32 l1) (el2 : l2' = iI l2) (rl2 : r32 l2) (el3 : l3' = iI l3) (rl3 : r32 l3) (hF : FX9_set_b49 N l1 l2 l3 s = some q) : gG m b φ0 σo lU q (fX9_set_b49 N 23 l1' l2' l3' h) := by
  subst el1; subst el2; subst el3
  unfold FX9_set_b49 at hF
  unfold fX9_set_b49
  refine s_gAs R (t_23 R.S) (Nat.le_of_ble_eq_true rfl) rfl (o_23_3 R.S) (a_27 R) ?_
  refine s_qI R (u_27 R.S).1 (u_27 R.S).2 (by decide) (a_27 R) rfl rl1 rfl rl2 hF (fun h2 σ3 R2 T2 hF => ?_)
  refine s_gAs R2 (t_23 R2.S) (Nat.le_of_ble_eq_true rfl) rfl (o_23_4 R2.S) (a_28 R2) ?_
  refine s_if (i_eq rfl (c_lit 0 0 rfl) rl3 ⟨by decide, by decide⟩) hF (fun c4 hF => ?_) (fun c4 hF => ?_)
  ·
    refine s_gI R2 (t_23 R2.S) (Nat.le_of_ble_eq_true rfl) rfl ?_
    exact SX9_set_b73 (N := N) R2 rfl rl1 rfl (R2.ri (t_23 R2.S) (Nat.le_of_ble_eq_true rfl) rfl) hF
  ·
    exact SX9_set_b73 (N := N) R2 rfl rl1 (c_lit 0 0 rfl) ⟨by decide, by decide⟩ hF
def FX9_set (N : Nat) (p0 : Int) (p1 : Int) (p2 : Int) (s : fS) : Option (Unit × fS) :=
  if ¬ (p2 = 0) then
    FX9_set_b49 N p0 p1 p2 s
  else
    (uRI s 28 p0).bind fun x4 =>
    if (s.i 23 11) ≤ x4 then
      FX9_set_b49 N p0 p1 p2 s
    else
      (uRI s 30 p0).bind fun x13 =>
      (uRI s 27 p0).bind fun x17 =>
      (uRI s 28 p0).bind fun x21 =>
      (FX9_save N (isub (-1) p0) x13 0 x17 x21 s).bind fun q24 =>
      (uQI q24.2 30 p0 q24.1).bind fun σ25 =>
      FX9_set_b49 N p0 p1 p2 σ25
theorem SX9_set {m b : Nat} {φ0 : Nat → Nat} {σo : fS} (hb : 1 ≤ b) {N : Nat} {q : Unit × fS} {φ : Nat → Nat} {h : eH} {s : fS} {p0' : Int32} {p0 : Int} {p1' : Int32} {p1 : Int} {p2' : Int32} {p2 : Int} (R : fC m b φ0 σo φ h s) (ep0 : p0' = iI p0) (rp0 : r32 p0) (ep1 : p1' = iI p1) (rp1 : r32 p1) (ep2 : p2' = iI p2) (rp2 : r32 p2) (hF : FX9_set N p0 p1 p2 s = some q) : gG m b φ0 σo lU q (fX9_set N 23 p0' p1' p2' h) := by
  subst ep0; subst ep1; subst ep2
  unfold FX9_set at hF
  unfold fX9_set
  refine s_if (not_congr (i_eq rfl (c_lit 0 0 rfl) rp2 ⟨by decide, by decide⟩)) hF (fun c1 hF => ?_) (fun c1 hF => ?_)
  ·
    exact SX9_set_b49 (N := N) R rfl rp0 rfl rp1 rfl rp2 hF
  ·
    refine s_gAs R (t_23 R.S) (Nat.le_of_ble_eq_true rfl) rfl (o_23_4 R.S) (a_28 R) ?_
    refine s_rI R (u_28 R.S).1 (u_28 R.S).2 (by decide) (a_28 R) rfl rp0 hF (fun x4 ra3 hF => ?_)
    refine s_gI R (t_23 R.S) (Nat.le_of_ble_eq_true rfl) rfl ?_
    refine s_if (i_le rfl rfl (R.ri (t_23 R.S) (Nat.le_of_ble_eq_true rfl) rfl) ra3) hF (fun c5 hF => ?_) (fun c5 hF => ?_)
    ·
      exact SX9_set_b49 (N := N) R rfl rp0 rfl rp1 rfl rp2 hF
    ·
      refine s_gAs R (t_23 R.S) (Nat.le_of_ble_eq_true rfl) rfl (o_23_7 R.S) (a_30 R) ?_
      refine s_gAs R (t_23 R.S) (Nat.le_of_ble_eq_true rfl) rfl (o_23_7 R.S) (a_30 R) ?_
      refine s_rI R (u_30 R.S).1 (u_30 R.S).2 (by decide) (a_30 R) rfl rp0 hF (fun x13 ra8 hF => ?_)
      refine s_gAs R (t_23 R.S) (Nat.le_of_ble_eq_true rfl) rfl (o_23_3 R.S) (a_27 R) ?_
      refine s_rI R (u_27 R.S).1 (u_27 R.S).2 (by decide) (a_27 R) rfl rp0 hF (fun x17 ra10 hF => ?_)
      refine s_gAs R (t_23 R.S) (Nat.le_of_ble_eq_true rfl) rfl (o_23_4 R.S) (a_28 R) ?_
      refine s_rI R (u_28 R.S).1 (u_28 R.S).2 (by decide) (a_28 R) rfl rp0 hF (fun x21 ra12 hF => ?_)
      refine s_kok R (t_23 R.S) (Nat.le_of_ble_eq_true rfl) ?_
      refine s_call R hb (fun _ hq => SX9_save (b := 1) (N := N) (Nat.le_of_ble_eq_true rfl) (R.rf) (c_sub (c_lit (-1) (-1) rfl) rfl) (rr_I _) rfl ra8 (c_lit 0 0 rfl) ⟨by decide, by decide⟩ rfl ra10 rfl ra12 hq) hF (fun f14 rv14 h14 q24 R14 e14 E14 hF => ?_)
      refine s_qI R14 (u_30 R14.S).1 (u_30 R14.S).2 (by decide) (a_30 R14) rfl rp0 e14.1 e14.2 hF (fun h15 σ25 R15 T15 hF => ?_)
      exact SX9_set_b49 (N := N) R15 rfl rp0 rfl rp1 rfl rp2 hF
def FX3_ship_b74 (N : Nat) (s0 : Int) (s : fS) : Option ((Unit ⊕ Nat) × fS) :=
  (FX31_ship N s0 s).bind fun q6 =>
  tB (FX4_want q6.1 17 q6.2) fun x8 σ9 =>
  tB (FX4_want s0 7 σ9) fun x13 σ14 =>
  (uRI σ14 27 0).bind fun x21 =>
  (FX9_set N 0 (iadd x21 1) 1 σ14).bind fun q24 =>
  some (.inl (), q24.2)
theorem SX3_ship_b74 {m b : Nat} {φ0 : Nat → Nat} {σo : fS} (hb : 1 ≤ b) {N : Nat} {q : (Unit ⊕ Nat) × fS} {φ : Nat → Nat} {h : eH} {s : fS} {s0' : Int32} {s0 : Int} (R : fC m b φ0 σo φ h s) (es0 : s0' = iI s0) (rs0 : r32 s0) (hF : FX3_ship_b74 N s0 s = some q) : gG m b φ0 σo (lT lU) q (fX3_ship_b74 N 4 s0' h) := by
  subst es0
  unfold FX3_ship_b74 at hF
  unfold fX3_ship_b74
  refine s_gO R (t_4 R.S) (Nat.le_of_ble_eq_true rfl) rfl (o_4_0 R.S) ?_
  refine s_gO R (t_4 R.S) (Nat.le_of_ble_eq_true rfl) rfl (o_4_15 R.S) ?_
  refine s_kok R (t_153 R.S) (Nat.le_of_ble_eq_true rfl) ?_
  refine s_call R (Nat.zero_le _) (fun _ hq => SX31_ship (b := 0) (N := N) (R.rf) rfl rs0 hq) hF (fun f4 rv4 h4 q6 R4 e4 E4 hF => ?_)
  refine s_kok R4 (t_5 R4.S) (Nat.le_of_ble_eq_true rfl) ?_
  refine s_tB R4 (Nat.zero_le _) (fun _ hq => SX4_want (b := 0) (R4.rf) e4.1 e4.2 (c_lit 17 17 rfl) ⟨by decide, by decide⟩ hq) hF (fun f6 rv6 h6 x8 σ9 R6 e6 E6 hF => ?_)
  refine s_gO R6 (t_4 R6.S) (Nat.le_of_ble_eq_true rfl) rfl (o_4_0 R6.S) ?_
  refine s_kok R6 (t_5 R6.S) (Nat.le_of_ble_eq_true rfl) ?_
  refine s_tB R6 (Nat.zero_le _) (fun _ hq => SX4_want (b := 0) (R6.rf) rfl rs0 (c_lit 7 7 rfl) ⟨by decide, by decide⟩ hq) hF (fun f9 rv9 h9 x13 σ14 R9 e9 E9 hF => ?_)
  refine s_gO R9 (t_4 R9.S) (Nat.le_of_ble_eq_true rfl) rfl (o_4_6 R9.S) ?_
  refine s_gO R9 (t_4 R9.S) (Nat.le_of_ble_eq_true rfl) rfl (o_4_6 R9.S) ?_
  refine s_gAs R9 (t_23 R9.S) (Nat.le_of_ble_eq_true rfl) rfl (o_23_3 R9.S) (a_27 R9) ?_
  refine s_rI R9 (u_27 R9.S).1 (u_27 R9.S).2 (by decide) (a_27 R9) (c_lit 0 0 rfl) ⟨by decide, by decide⟩ hF (fun x21 ra13 hF => ?_)
  refine s_kok R9 (t_23 R9.S) (Nat.le_of_ble_eq_true rfl) ?_
  refine s_call R9 hb (fun _ hq => SX9_set (b := 1) (N := N) (Nat.le_of_ble_eq_true rfl) (R9.rf) (c_lit 0 0 rfl) ⟨by decide, by decide⟩ (c_add rfl (c_lit 1 1 rfl)) (rr_I _) (c_lit 1 1 rfl) ⟨by decide, by decide⟩ hq) hF (fun f15 rv15 h15 q24 R15 e15 E15 hF => ?_)
  exact g_ret R15 hF trivial
def FX3_ship_b24 (N : Nat) : Nat → Int → fS → Option ((Unit ⊕ Nat) × fS)
  | 0, _, _ => none
  | n + 1, l2, s =>
    if 10 ≤ l2 then
      (uRI s 27 0).bind fun x6 =>
      if 2147483647 ≤ x6 then
        FX3_ship_b74 N 0 s
      else
        FX3_ship_b74 N 1 s
    else
      (uRI s 27 l2).bind fun x17 =>
      (uQI s 156 l2 x17).bind fun σ19 =>
      FX3_ship_b24 N n (iadd l2 1) σ19
theorem SX3_ship_b24 {m b : Nat} {φ0 : Nat → Nat} {σo : fS} (hb : 1 ≤ b) {N : Nat} {q : (Unit ⊕ Nat) × fS} : ∀ {n : Nat} {φ : Nat → Nat} {h : eH} {s : fS} {l2' : Int32} {l2 : Int}, fC m b φ0 σo φ h s → l2' = iI l2 → r32 l2 → FX3_ship_b24 N n l2 s = some q → gG m b φ0 σo (lT lU) q (fX3_ship_b24 N n 4 l2' h) := by
  intro n
  induction n with
 | zero => intro φ h s l2' l2 R el2 rl2 hF; simp [FX3_ship_b24] at hF
  | succ n ih =>
    intro φ h s l2' l2 R el2 rl2 hF
    subst el2
    rw [FX3_ship_b24] at hF
    rw [fX3_ship_b24]
    refine s_if (i_le (c_lit 10 10 rfl) rfl ⟨by decide, by decide⟩ rl2) hF (fun c1 hF => ?_) (fun c1 hF => ?_)
    ·
      refine s_gO R (t_4 R.S) (Nat.le_of_ble_eq_true rfl) rfl (o_4_6 R.S) ?_
      refine s_gAs R (t_23 R.S) (Nat.le_of_ble_eq_true rfl) rfl (o_23_3 R.S) (a_27 R) ?_
      refine s_rI R (u_27 R.S).1 (u_27 R.S).2 (by decide) (a_27 R) (c_lit 0 0 rfl) ⟨by decide, by decide⟩ hF (fun x6 ra4 hF => ?_)
      refine s_if (i_le (c_lit 2147483647 2147483647 rfl) rfl ⟨by decide, by decide⟩ ra4) hF (fun c5 hF => ?_) (fun c5 hF => ?_)
      ·
        exact SX3_ship_b74 (N := N) hb R (c_lit 0 0 rfl) ⟨by decide, by decide⟩ hF
      ·
        exact SX3_ship_b74 (N := N) hb R (c_lit 1 1 rfl) ⟨by decide, by decide⟩ hF
    ·
      refine s_gO R (t_4 R.S) (Nat.le_of_ble_eq_true rfl) rfl (o_4_15 R.S) ?_
      refine s_gAs R (t_153 R.S) (Nat.le_of_ble_eq_true rfl) rfl (o_153_2 R.S) (a_156 R) ?_
      refine s_gO R (t_4 R.S) (Nat.le_of_ble_eq_true rfl) rfl (o_4_6 R.S) ?_
      refine s_gAs R (t_23 R.S) (Nat.le_of_ble_eq_true rfl) rfl (o_23_3 R.S) (a_27 R) ?_
      refine s_rI R (u_27 R.S).1 (u_27 R.S).2 (by decide) (a_27 R) rfl rl2 hF (fun x17 ra10 hF => ?_)
      refine s_qI R (u_156 R.S).1 (u_156 R.S).2 (by decide) (a_156 R) rfl rl2 rfl ra10 hF (fun h11 σ19 R11 T11 hF => ?_)
      exact ih R11 (c_add rfl (c_lit 1 1 rfl)) (rr_I _) hF
def FX3_ship (N : Nat) (p0 : Nat) (s : fS) : Option ((Unit ⊕ Nat) × fS) :=
  tB (FX3_wantFew N p0 s) fun x2 σ3 =>
  tB (FX3_lay N p0 σ3) fun x5 σ6 =>
  (uPI σ6 153 8 0).bind fun σ9 =>
  tB (FX3_hand N σ9) fun x12 σ13 =>
  FX3_ship_b24 N N 0 σ13
theorem SX3_ship {m b : Nat} {φ0 : Nat → Nat} {σo : fS} (hb : 1 ≤ b) {N : Nat} {q : (Unit ⊕ Nat) × fS} {φ : Nat → Nat} {h : eH} {s : fS} {p0 : Nat} (R : fC m b φ0 σo φ h s) (hF : FX3_ship N p0 s = some q) : gG m b φ0 σo (lT lU) q (fX3_ship N 4 p0 h) := by
  unfold FX3_ship at hF
  unfold fX3_ship
  refine s_kok R (t_4 R.S) (Nat.le_of_ble_eq_true rfl) ?_
  refine s_tB R (Nat.zero_le _) (fun _ hq => SX3_wantFew (b := 0) (N := N) (R.rf) hq) hF (fun f2 rv2 h2 x2 σ3 R2 e2 E2 hF => ?_)
  refine s_kok R2 (t_4 R2.S) (Nat.le_of_ble_eq_true rfl) ?_
  refine s_tB R2 (Nat.zero_le _) (fun _ hq => SX3_lay (b := 0) (N := N) (R2.rf) hq) hF (fun f4 rv4 h4 x5 σ6 R4 e4 E4 hF => ?_)
  refine s_gO R4 (t_4 R4.S) (Nat.le_of_ble_eq_true rfl) rfl (o_4_15 R4.S) ?_
  refine s_pI R4 (t_153 R4.S) (Nat.le_of_ble_eq_true rfl) rfl (c_lit 0 0 rfl) ⟨by decide, by decide⟩ hF (fun h6 σ9 R6 T6 hF => ?_)
  refine s_kok R6 (t_4 R6.S) (Nat.le_of_ble_eq_true rfl) ?_
  refine s_tB R6 (Nat.zero_le _) (fun _ hq => SX3_hand (b := 0) (N := N) (R6.rf) hq) hF (fun f8 rv8 h8 x12 σ13 R8 e8 E8 hF => ?_)
  exact SX3_ship_b24 (N := N) hb R8 (c_lit 0 0 rfl) ⟨by decide, by decide⟩ hF
def FX3_goOn_b62 (N : Nat) : Nat → fS → Option ((Unit ⊕ Nat) × fS)
  | 0, _ => none
  | n + 1, s =>
    (FX28_canStep s).bind fun q4 =>
    if q4.1 = 0 then
      some (.inl (), q4.2)
    else
      (FX28_step N q4.2).bind fun q9 =>
      if q9.1 = 0 then
        FX3_goOn_b62 N n q9.2
      else
        (q9.2.o 140 7).bind fun a13 =>
        tB (FX3_ship N a13 q9.2) fun x16 σ17 =>
        FX3_goOn_b62 N n σ17
theorem SX3_goOn_b62 {m b : Nat} {φ0 : Nat → Nat} {σo : fS} (hb : 1 ≤ b) {N : Nat} {q : (Unit ⊕ Nat) × fS} : ∀ {n : Nat} {φ : Nat → Nat} {h : eH} {s : fS} , fC m b φ0 σo φ h s → FX3_goOn_b62 N n s = some q → gG m b φ0 σo (lT lU) q (fX3_goOn_b62 N n 4 h) := by
  intro n
  induction n with
 | zero => intro φ h s R hF; simp [FX3_goOn_b62] at hF
  | succ n ih =>
    intro φ h s  R  hF
    rw [FX3_goOn_b62] at hF
    rw [fX3_goOn_b62]
    refine s_gO R (t_4 R.S) (Nat.le_of_ble_eq_true rfl) rfl (o_4_13 R.S) ?_
    refine s_kok R (t_140 R.S) (Nat.le_of_ble_eq_true rfl) ?_
    refine s_call R (Nat.zero_le _) (fun _ hq => SX28_canStep (b := 0) (R.rf) hq) hF (fun f3 rv3 h3 q4 R3 e3 E3 hF => ?_)
    refine s_if (i_eq e3.1 (c_lit 0 0 rfl) e3.2 ⟨by decide, by decide⟩) hF (fun c4 hF => ?_) (fun c4 hF => ?_)
    ·
      exact g_ret R3 hF trivial
    ·
      refine s_gO R3 (t_4 R3.S) (Nat.le_of_ble_eq_true rfl) rfl (o_4_13 R3.S) ?_
      refine s_kok R3 (t_140 R3.S) (Nat.le_of_ble_eq_true rfl) ?_
      refine s_call R3 (Nat.zero_le _) (fun _ hq => SX28_step (b := 0) (N := N) (R3.rf) hq) hF (fun f7 rv7 h7 q9 R7 e7 E7 hF => ?_)
      refine s_if (i_eq e7.1 (c_lit 0 0 rfl) e7.2 ⟨by decide, by decide⟩) hF (fun c8 hF => ?_) (fun c8 hF => ?_)
      ·
        exact ih R7 hF
      ·
        refine s_gO R7 (t_4 R7.S) (Nat.le_of_ble_eq_true rfl) rfl (o_4_13 R7.S) ?_
        refine s_oo hF (fun a13 e10 hF => ?_)
        refine s_gO R7 (t_140 R7.S) (Nat.le_of_ble_eq_true rfl) rfl e10 ?_
        refine s_kok R7 (t_4 R7.S) (Nat.le_of_ble_eq_true rfl) ?_
        refine s_tB R7 hb (fun _ hq => SX3_ship (b := 1) (N := N) (Nat.le_of_ble_eq_true rfl) (R7.rf) hq) hF (fun f12 rv12 h12 x16 σ17 R12 e12 E12 hF => ?_)
        exact ih R12 hF
def FX3_goOn (N : Nat) (s : fS) : Option ((Unit ⊕ Nat) × fS) :=
  (uRI s 27 526).bind fun x7 =>
  (uPI s 140 3 (imax 0 x7)).bind fun σ9 =>
  (uRI σ9 27 1567).bind fun x17 =>
  (uPI σ9 140 4 x17).bind fun σ19 =>
  (uRI σ19 27 529).bind fun x27 =>
  (uPI σ19 140 5 (imax 0 x27)).bind fun σ29 =>
  FX3_goOn_b62 N N σ29
theorem SX3_goOn {m b : Nat} {φ0 : Nat → Nat} {σo : fS} (hb : 1 ≤ b) {N : Nat} {q : (Unit ⊕ Nat) × fS} {φ : Nat → Nat} {h : eH} {s : fS} (R : fC m b φ0 σo φ h s) (hF : FX3_goOn N s = some q) : gG m b φ0 σo (lT lU) q (fX3_goOn N 4 h) := by
  unfold FX3_goOn at hF
  unfold fX3_goOn
  refine s_gO R (t_4 R.S) (Nat.le_of_ble_eq_true rfl) rfl (o_4_13 R.S) ?_
  refine s_gO R (t_4 R.S) (Nat.le_of_ble_eq_true rfl) rfl (o_4_6 R.S) ?_
  refine s_gAs R (t_23 R.S) (Nat.le_of_ble_eq_true rfl) rfl (o_23_3 R.S) (a_27 R) ?_
  refine s_rI R (u_27 R.S).1 (u_27 R.S).2 (by decide) (a_27 R) (c_lit 526 526 rfl) ⟨by decide, by decide⟩ hF (fun x7 ra4 hF => ?_)
  refine s_pI R (t_140 R.S) (Nat.le_of_ble_eq_true rfl) rfl (c_max (c_lit 0 0 rfl) rfl ⟨by decide, by decide⟩ ra4) (r_max ⟨by decide, by decide⟩ ra4) hF (fun h5 σ9 R5 T5 hF => ?_)
  refine s_gO R5 (t_4 R5.S) (Nat.le_of_ble_eq_true rfl) rfl (o_4_13 R5.S) ?_
  refine s_gO R5 (t_4 R5.S) (Nat.le_of_ble_eq_true rfl) rfl (o_4_6 R5.S) ?_
  refine s_gAs R5 (t_23 R5.S) (Nat.le_of_ble_eq_true rfl) rfl (o_23_3 R5.S) (a_27 R5) ?_
  refine s_rI R5 (u_27 R5.S).1 (u_27 R5.S).2 (by decide) (a_27 R5) (c_lit 1567 1567 rfl) ⟨by decide, by decide⟩ hF (fun x17 ra9 hF => ?_)
  refine s_pI R5 (t_140 R5.S) (Nat.le_of_ble_eq_true rfl) rfl rfl ra9 hF (fun h10 σ19 R10 T10 hF => ?_)
  refine s_gO R10 (t_4 R10.S) (Nat.le_of_ble_eq_true rfl) rfl (o_4_13 R10.S) ?_
  refine s_gO R10 (t_4 R10.S) (Nat.le_of_ble_eq_true rfl) rfl (o_4_6 R10.S) ?_
  refine s_gAs R10 (t_23 R10.S) (Nat.le_of_ble_eq_true rfl) rfl (o_23_3 R10.S) (a_27 R10) ?_
  refine s_rI R10 (u_27 R10.S).1 (u_27 R10.S).2 (by decide) (a_27 R10) (c_lit 529 529 rfl) ⟨by decide, by decide⟩ hF (fun x27 ra14 hF => ?_)
  refine s_pI R10 (t_140 R10.S) (Nat.le_of_ble_eq_true rfl) rfl (c_max (c_lit 0 0 rfl) rfl ⟨by decide, by decide⟩ ra14) (r_max ⟨by decide, by decide⟩ ra14) hF (fun h15 σ29 R15 T15 hF => ?_)
  exact SX3_goOn_b62 (N := N) hb R15 hF
def FX3_addVertical_b207 (N : Nat) (s : fS) : Option ((Unit ⊕ Nat) × fS) :=
  tB (FX3_goOn N s) fun x2 σ3 =>
  some (.inl (), σ3)
theorem SX3_addVertical_b207 {m b : Nat} {φ0 : Nat → Nat} {σo : fS} (hb : 1 ≤ b) {N : Nat} {q : (Unit ⊕ Nat) × fS} {φ : Nat → Nat} {h : eH} {s : fS} (R : fC m b φ0 σo φ h s) (hF : FX3_addVertical_b207 N s = some q) : gG m b φ0 σo (lT lU) q (fX3_addVertical_b207 N 4 h) := by
  unfold FX3_addVertical_b207 at hF
  unfold fX3_addVertical_b207
  refine s_kok R (t_4 R.S) (Nat.le_of_ble_eq_true rfl) ?_
  refine s_tB R hb (fun _ hq => SX3_goOn (b := 1) (N := N) (Nat.le_of_ble_eq_true rfl) (R.rf) hq) hF (fun f2 rv2 h2 x2 σ3 R2 e2 E2 hF => ?_)
  exact g_ret R2 hF trivial
def FX3_addVertical_b170 (N : Nat) (l2 : Int) (s1 : Int) (s2 : Int) (s3 : Int) (s4 : Int) (s : fS) : Option ((Unit ⊕ Nat) × fS) :=
  (FX27_add s1 s2 s3 s4 0 l2 s).bind fun q2 =>
  FX3_addVertical_b207 N q2.2
theorem SX3_addVertical_b170 {m b : Nat} {φ0 : Nat → Nat} {σo : fS} (hb : 1 ≤ b) {N : Nat} {q : (Unit ⊕ Nat) × fS} {φ : Nat → Nat} {h : eH} {s : fS} {l2' : Int32} {l2 : Int} {s1' : Int32} {s1 : Int} {s2' : Int32} {s2 : Int} {s3' : Int32} {s3 : Int} {s4' : Int32} {s4 : Int} (R : fC m b φ0 σo φ h s) (el2 : l2' = iI l2) (rl2 : r32 l2) (es1 : s1' = iI s1) (rs1 : r32 s1) (es2 : s2' = iI s2) (rs2 : r32 s2) (es3 : s3' = iI s3) (rs3 : r32 s3) (es4 : s4' = iI s4) (rs4 : r32 s4) (hF : FX3_addVertical_b170 N l2 s1 s2 s3 s4 s = some q) : gG m b φ0 σo (lT lU) q (fX3_addVertical_b170 N 4 l2' 133 s1' s2' s3' s4' h) := by
  subst el2; subst es1; subst es2; subst es3; subst es4
  unfold FX3_addVertical_b170 at hF
  unfold fX3_addVertical_b170
  refine s_kok R (t_133 R.S) (Nat.le_of_ble_eq_true rfl) ?_
  refine s_call R hb (fun _ hq => SX27_add (b := 1) (Nat.le_of_ble_eq_true rfl) (R.rf) rfl rs1 rfl rs2 rfl rs3 rfl rs4 (c_lit 0 0 rfl) ⟨by decide, by decide⟩ rfl rl2 hq) hF (fun f2 rv2 h2 q2 R2 e2 E2 hF => ?_)
  exact SX3_addVertical_b207 (N := N) hb R2 hF
def FX3_addVertical_b156 (N : Nat) (l2 : Int) (l4 : Int) (s1 : Int) (s2 : Int) (s3 : Int) (s : fS) : Option ((Unit ⊕ Nat) × fS) :=
  if ¬ (l4 = (-1073741824)) then
    FX3_addVertical_b170 N l2 s1 s2 s3 l4 s
  else
    FX3_addVertical_b170 N l2 s1 s2 s3 0 s
theorem SX3_addVertical_b156 {m b : Nat} {φ0 : Nat → Nat} {σo : fS} (hb : 1 ≤ b) {N : Nat} {q : (Unit ⊕ Nat) × fS} {φ : Nat → Nat} {h : eH} {s : fS} {l2' : Int32} {l2 : Int} {l4' : Int32} {l4 : Int} {s1' : Int32} {s1 : Int} {s2' : Int32} {s2 : Int} {s3' : Int32} {s3 : Int} (R : fC m b φ0 σo φ h s) (el2 : l2' = iI l2) (rl2 : r32 l2) (el4 : l4' = iI l4) (rl4 : r32 l4) (es1 : s1' = iI s1) (rs1 : r32 s1) (es2 : s2' = iI s2) (rs2 : r32 s2) (es3 : s3' = iI s3) (rs3 : r32 s3) (hF : FX3_addVertical_b156 N l2 l4 s1 s2 s3 s = some q) : gG m b φ0 σo (lT lU) q (fX3_addVertical_b156 N 4 l2' l4' 133 s1' s2' s3' h) := by
  subst el2; subst el4; subst es1; subst es2; subst es3
  unfold FX3_addVertical_b156 at hF
  unfold fX3_addVertical_b156
  refine s_if (not_congr (i_eq rfl (c_lit (-1073741824) (-1073741824) rfl) rl4 ⟨by decide, by decide⟩)) hF (fun c1 hF => ?_) (fun c1 hF => ?_)
  ·
    exact SX3_addVertical_b170 (N := N) hb R rfl rl2 rfl rs1 rfl rs2 rfl rs3 rfl rl4 hF
  ·
    exact SX3_addVertical_b170 (N := N) hb R rfl rl2 rfl rs1 rfl rs2 rfl rs3 (c_lit 0 0 rfl) ⟨by decide, by decide⟩ hF
def FX3_addVertical_b47 (N : Nat) (l1 : Int) (l2 : Int) (l3 : Int) (l4 : Int) (l5 : Int) (s1 : Int) (s : fS) : Option ((Unit ⊕ Nat) × fS) :=
  tB (FX4_want s1 2 s) fun x2 σ3 =>
  if l1 = 1 then
    if ¬ (l3 = (-1073741824)) then
      FX3_addVertical_b156 N l2 l4 0 (-1) l3 σ3
    else
      FX3_addVertical_b156 N l2 l4 0 (-1) 0 σ3
  else
    if l1 = 2 then
      (FX27_add 1 l2 l3 l5 l4 0 σ3).bind fun q12 =>
      FX3_addVertical_b207 N q12.2
    else
      if l1 = 3 then
        (FX27_add 2 l2 0 0 0 0 σ3).bind fun q17 =>
        FX3_addVertical_b207 N q17.2
      else
        if l1 = 4 then
          (uRO σ3 21 l2).bind fun a23 =>
          (uK 41 σ3 a23).bind fun _ =>
          (uRO σ3 21 l2).bind fun a29 =>
          (uK 41 σ3 a29).bind fun _ =>
          (FX27_add 0 l2 (σ3.i a23 4) (σ3.i a29 5) 0 l3 σ3).bind fun q34 =>
          FX3_addVertical_b207 N q34.2
        else
          if l1 = 5 then
            (FX27_add 3 l2 0 0 0 0 σ3).bind fun q39 =>
            FX3_addVertical_b207 N q39.2
          else
            (uRO σ3 21 l2).bind fun a44 =>
            (uK 41 σ3 a44).bind fun _ =>
            (uRO σ3 21 l2).bind fun a50 =>
            (uK 41 σ3 a50).bind fun _ =>
            (FX27_add 0 l2 (σ3.i a44 4) (σ3.i a50 5) 0 l3 σ3).bind fun q55 =>
            FX3_addVertical_b207 N q55.2
theorem SX3_addVertical_b47 {m b : Nat} {φ0 : Nat → Nat} {σo : fS} (hb : 1 ≤ b) {N : Nat} {q : (Unit ⊕ Nat) × fS} {φ : Nat → Nat} {h : eH} {s : fS} {l1' : Int32} {l1 : Int} {l2' : Int32} {l2 : Int} {l3' : Int32} {l3 : Int} {l4' : Int32} {l4 : Int} {l5' : Int32} {l5 : Int} {s1' : Int32} {s1 : Int} (R : fC m b φ0 σo φ h s) (el1 : l1' = iI l1) (rl1 : r32 l1) (el2 : l2' = iI l2) (rl2 : r32 l2) (el3 : l3' = iI l3) (rl3 : r32 l3) (el4 : l4' = iI l4) (rl4 : r32 l4) (el5 : l5' = iI l5) (rl5 : r32 l5) (es1 : s1' = iI s1) (rs1 : r32 s1) (hF : FX3_addVertical_b47 N l1 l2 l3 l4 l5 s1 s = some q) : gG m b φ0 σo (lT lU) q (fX3_addVertical_b47 N 4 l1' l2' l3' l4' l5' 5 s1' h) := by
  subst el1; subst el2; subst el3; subst el4; subst el5; subst es1
  unfold FX3_addVertical_b47 at hF
  unfold fX3_addVertical_b47
  refine s_kok R (t_5 R.S) (Nat.le_of_ble_eq_true rfl) ?_
  refine s_tB R (Nat.zero_le _) (fun _ hq => SX4_want (b := 0) (R.rf) rfl rs1 (c_lit 2 2 rfl) ⟨by decide, by decide⟩ hq) hF (fun f2 rv2 h2 x2 σ3 R2 e2 E2 hF => ?_)
  refine s_if (i_eq rfl (c_lit 1 1 rfl) rl1 ⟨by decide, by decide⟩) hF (fun c3 hF => ?_) (fun c3 hF => ?_)
  ·
    refine s_gO R2 (t_4 R2.S) (Nat.le_of_ble_eq_true rfl) rfl (o_4_12 R2.S) ?_
    refine s_if (not_congr (i_eq rfl (c_lit (-1073741824) (-1073741824) rfl) rl3 ⟨by decide, by decide⟩)) hF (fun c5 hF => ?_) (fun c5 hF => ?_)
    ·
      exact SX3_addVertical_b156 (N := N) hb R2 rfl rl2 rfl rl4 (c_lit 0 0 rfl) ⟨by decide, by decide⟩ (c_lit (-1) (-1) rfl) ⟨by decide, by decide⟩ rfl rl3 hF
    ·
      exact SX3_addVertical_b156 (N := N) hb R2 rfl rl2 rfl rl4 (c_lit 0 0 rfl) ⟨by decide, by decide⟩ (c_lit (-1) (-1) rfl) ⟨by decide, by decide⟩ (c_lit 0 0 rfl) ⟨by decide, by decide⟩ hF
  ·
    refine s_if (i_eq rfl (c_lit 2 2 rfl) rl1 ⟨by decide, by decide⟩) hF (fun c6 hF => ?_) (fun c6 hF => ?_)
    ·
      refine s_gO R2 (t_4 R2.S) (Nat.le_of_ble_eq_true rfl) rfl (o_4_12 R2.S) ?_
      refine s_kok R2 (t_133 R2.S) (Nat.le_of_ble_eq_true rfl) ?_
      refine s_call R2 hb (fun _ hq => SX27_add (b := 1) (Nat.le_of_ble_eq_true rfl) (R2.rf) (c_lit 1 1 rfl) ⟨by decide, by decide⟩ rfl rl2 rfl rl3 rfl rl5 rfl rl4 (c_lit 0 0 rfl) ⟨by decide, by decide⟩ hq) hF (fun f9 rv9 h9 q12 R9 e9 E9 hF => ?_)
      exact SX3_addVertical_b207 (N := N) hb R9 hF
    ·
      refine s_if (i_eq rfl (c_lit 3 3 rfl) rl1 ⟨by decide, by decide⟩) hF (fun c10 hF => ?_) (fun c10 hF => ?_)
      ·
        refine s_gO R2 (t_4 R2.S) (Nat.le_of_ble_eq_true rfl) rfl (o_4_12 R2.S) ?_
        refine s_kok R2 (t_133 R2.S) (Nat.le_of_ble_eq_true rfl) ?_
        refine s_call R2 hb (fun _ hq => SX27_add (b := 1) (Nat.le_of_ble_eq_true rfl) (R2.rf) (c_lit 2 2 rfl) ⟨by decide, by decide⟩ rfl rl2 (c_lit 0 0 rfl) ⟨by decide, by decide⟩ (c_lit 0 0 rfl) ⟨by decide, by decide⟩ (c_lit 0 0 rfl) ⟨by decide, by decide⟩ (c_lit 0 0 rfl) ⟨by decide, by decide⟩ hq) hF (fun f13 rv13 h13 q17 R13 e13 E13 hF => ?_)
        exact SX3_addVertical_b207 (N := N) hb R13 hF
      ·
        refine s_if (i_eq rfl (c_lit 4 4 rfl) rl1 ⟨by decide, by decide⟩) hF (fun c14 hF => ?_) (fun c14 hF => ?_)
        ·
          refine s_gO R2 (t_4 R2.S) (Nat.le_of_ble_eq_true rfl) rfl (o_4_12 R2.S) ?_
          refine s_gAs R2 (t_4 R2.S) (Nat.le_of_ble_eq_true rfl) rfl (o_4_3 R2.S) (a_21 R2) ?_
          refine s_rO R2 (u_21 R2.S).1 (u_21 R2.S).2 rfl (fun _ => rfl) (Nat.le_of_ble_eq_true rfl) (a_21 R2) rfl rl2 hF (fun a23 y17 hF => ?_)
          refine s_K hF (fun t19 hF => ?_)
          refine s_gI R2 t19 (Nat.le_of_ble_eq_true rfl) rfl ?_
          refine s_gAs R2 (t_4 R2.S) (Nat.le_of_ble_eq_true rfl) rfl (o_4_3 R2.S) (a_21 R2) ?_
          refine s_rO R2 (u_21 R2.S).1 (u_21 R2.S).2 rfl (fun _ => rfl) (Nat.le_of_ble_eq_true rfl) (a_21 R2) rfl rl2 hF (fun a29 y21 hF => ?_)
          refine s_K hF (fun t23 hF => ?_)
          refine s_gI R2 t23 (Nat.le_of_ble_eq_true rfl) rfl ?_
          refine s_kok R2 (t_133 R2.S) (Nat.le_of_ble_eq_true rfl) ?_
          refine s_call R2 hb (fun _ hq => SX27_add (b := 1) (Nat.le_of_ble_eq_true rfl) (R2.rf) (c_lit 0 0 rfl) ⟨by decide, by decide⟩ rfl rl2 rfl (R2.ri t19 (Nat.le_of_ble_eq_true rfl) rfl) rfl (R2.ri t23 (Nat.le_of_ble_eq_true rfl) rfl) (c_lit 0 0 rfl) ⟨by decide, by decide⟩ rfl rl3 hq) hF (fun f25 rv25 h25 q34 R25 e25 E25 hF => ?_)
          exact SX3_addVertical_b207 (N := N) hb R25 hF
        ·
          refine s_if (i_eq rfl (c_lit 5 5 rfl) rl1 ⟨by decide, by decide⟩) hF (fun c26 hF => ?_) (fun c26 hF => ?_)
          ·
            refine s_gO R2 (t_4 R2.S) (Nat.le_of_ble_eq_true rfl) rfl (o_4_12 R2.S) ?_
            refine s_kok R2 (t_133 R2.S) (Nat.le_of_ble_eq_true rfl) ?_
            refine s_call R2 hb (fun _ hq => SX27_add (b := 1) (Nat.le_of_ble_eq_true rfl) (R2.rf) (c_lit 3 3 rfl) ⟨by decide, by decide⟩ rfl rl2 (c_lit 0 0 rfl) ⟨by decide, by decide⟩ (c_lit 0 0 rfl) ⟨by decide, by decide⟩ (c_lit 0 0 rfl) ⟨by decide, by decide⟩ (c_lit 0 0 rfl) ⟨by decide, by decide⟩ hq) hF (fun f29 rv29 h29 q39 R29 e29 E29 hF => ?_)
            exact SX3_addVertical_b207 (N := N) hb R29 hF
          ·
            refine s_gO R2 (t_4 R2.S) (Nat.le_of_ble_eq_true rfl) rfl (o_4_12 R2.S) ?_
            refine s_gAs R2 (t_4 R2.S) (Nat.le_of_ble_eq_true rfl) rfl (o_4_3 R2.S) (a_21 R2) ?_
            refine s_rO R2 (u_21 R2.S).1 (u_21 R2.S).2 rfl (fun _ => rfl) (Nat.le_of_ble_eq_true rfl) (a_21 R2) rfl rl2 hF (fun a44 y32 hF => ?_)
            refine s_K hF (fun t34 hF => ?_)
            refine s_gI R2 t34 (Nat.le_of_ble_eq_true rfl) rfl ?_
            refine s_gAs R2 (t_4 R2.S) (Nat.le_of_ble_eq_true rfl) rfl (o_4_3 R2.S) (a_21 R2) ?_
            refine s_rO R2 (u_21 R2.S).1 (u_21 R2.S).2 rfl (fun _ => rfl) (Nat.le_of_ble_eq_true rfl) (a_21 R2) rfl rl2 hF (fun a50 y36 hF => ?_)
            refine s_K hF (fun t38 hF => ?_)
            refine s_gI R2 t38 (Nat.le_of_ble_eq_true rfl) rfl ?_
            refine s_kok R2 (t_133 R2.S) (Nat.le_of_ble_eq_true rfl) ?_
            refine s_call R2 hb (fun _ hq => SX27_add (b := 1) (Nat.le_of_ble_eq_true rfl) (R2.rf) (c_lit 0 0 rfl) ⟨by decide, by decide⟩ rfl rl2 rfl (R2.ri t34 (Nat.le_of_ble_eq_true rfl) rfl) rfl (R2.ri t38 (Nat.le_of_ble_eq_true rfl) rfl) (c_lit 0 0 rfl) ⟨by decide, by decide⟩ rfl rl3 hq) hF (fun f40 rv40 h40 q55 R40 e40 E40 hF => ?_)
            exact SX3_addVertical_b207 (N := N) hb R40 hF
def FX3_addVertical (N : Nat) (p0 : Int) (p1 : Int) (p2 : Int) (p3 : Int) (p4 : Int) (s : fS) : Option ((Unit ⊕ Nat) × fS) :=
  (uRI s 176 (s.i 4 27)).bind fun x5 =>
  if x5 = 0 then
    if 10000 ≤ (s.i 133 6) then
      FX3_addVertical_b47 N p0 p1 p2 p3 p4 0 s
    else
      FX3_addVertical_b47 N p0 p1 p2 p3 p4 1 s
  else
    tB (FX3_put p0 p1 p2 p3 p4 0 s) fun x16 σ17 =>
    some (.inl (), σ17)
theorem SX3_addVertical {m b : Nat} {φ0 : Nat → Nat} {σo : fS} (hb : 1 ≤ b) {N : Nat} {q : (Unit ⊕ Nat) × fS} {φ : Nat → Nat} {h : eH} {s : fS} {p0' : Int32} {p0 : Int} {p1' : Int32} {p1 : Int} {p2' : Int32} {p2 : Int} {p3' : Int32} {p3 : Int} {p4' : Int32} {p4 : Int} (R : fC m b φ0 σo φ h s) (ep0 : p0' = iI p0) (rp0 : r32 p0) (ep1 : p1' = iI p1) (rp1 : r32 p1) (ep2 : p2' = iI p2) (rp2 : r32 p2) (ep3 : p3' = iI p3) (rp3 : r32 p3) (ep4 : p4' = iI p4) (rp4 : r32 p4) (hF : FX3_addVertical N p0 p1 p2 p3 p4 s = some q) : gG m b φ0 σo (lT lU) q (fX3_addVertical N 4 p0' p1' p2' p3' p4' h) := by
  subst ep0; subst ep1; subst ep2; subst ep3; subst ep4
  unfold FX3_addVertical at hF
  unfold fX3_addVertical
  refine s_gAs R (t_4 R.S) (Nat.le_of_ble_eq_true rfl) rfl (o_4_19 R.S) (a_176 R) ?_
  refine s_gI R (t_4 R.S) (Nat.le_of_ble_eq_true rfl) rfl ?_
  refine s_rI R (u_176 R.S).1 (u_176 R.S).2 (by decide) (a_176 R) rfl (R.ri (t_4 R.S) (Nat.le_of_ble_eq_true rfl) rfl) hF (fun x5 ra3 hF => ?_)
  refine s_if (i_eq rfl (c_lit 0 0 rfl) ra3 ⟨by decide, by decide⟩) hF (fun c4 hF => ?_) (fun c4 hF => ?_)
  ·
    refine s_gO R (t_4 R.S) (Nat.le_of_ble_eq_true rfl) rfl (o_4_0 R.S) ?_
    refine s_gO R (t_4 R.S) (Nat.le_of_ble_eq_true rfl) rfl (o_4_12 R.S) ?_
    refine s_gI R (t_133 R.S) (Nat.le_of_ble_eq_true rfl) rfl ?_
    refine s_if (i_le (c_lit 10000 10000 rfl) rfl ⟨by decide, by decide⟩ (R.ri (t_133 R.S) (Nat.le_of_ble_eq_true rfl) rfl)) hF (fun c8 hF => ?_) (fun c8 hF => ?_)
    ·
      exact SX3_addVertical_b47 (N := N) hb R rfl rp0 rfl rp1 rfl rp2 rfl rp3 rfl rp4 (c_lit 0 0 rfl) ⟨by decide, by decide⟩ hF
    ·
      exact SX3_addVertical_b47 (N := N) hb R rfl rp0 rfl rp1 rfl rp2 rfl rp3 rfl rp4 (c_lit 1 1 rfl) ⟨by decide, by decide⟩ hF
  ·
    refine s_kok R (t_4 R.S) (Nat.le_of_ble_eq_true rfl) ?_
    refine s_tB R hb (fun _ hq => SX3_put (b := 1) (Nat.le_of_ble_eq_true rfl) (R.rf) rfl rp0 rfl rp1 rfl rp2 rfl rp3 rfl rp4 (c_lit 0 0 rfl) ⟨by decide, by decide⟩ hq) hF (fun f10 rv10 h10 x16 σ17 R10 e10 E10 hF => ?_)
    exact g_ret R10 hF trivial
def FX3_addGlue (N : Nat) (p0 : Int) (s : fS) : Option ((Unit ⊕ Nat) × fS) :=
  (uRI s 27 p0).bind fun x5 =>
  (uRI s 27 (iadd p0 1)).bind fun x7 =>
  (uRI s 27 (iadd p0 2)).bind fun x9 =>
  (uRI s 27 (iadd p0 3)).bind fun x11 =>
  tB (FX3_addVertical N 2 x5 x7 x9 x11 s) fun x14 σ15 =>
  some (.inl (), σ15)
theorem SX3_addGlue {m b : Nat} {φ0 : Nat → Nat} {σo : fS} (hb : 1 ≤ b) {N : Nat} {q : (Unit ⊕ Nat) × fS} {φ : Nat → Nat} {h : eH} {s : fS} {p0' : Int32} {p0 : Int} (R : fC m b φ0 σo φ h s) (ep0 : p0' = iI p0) (rp0 : r32 p0) (hF : FX3_addGlue N p0 s = some q) : gG m b φ0 σo (lT lU) q (fX3_addGlue N 4 p0' h) := by
  subst ep0
  unfold FX3_addGlue at hF
  unfold fX3_addGlue
  refine s_gO R (t_4 R.S) (Nat.le_of_ble_eq_true rfl) rfl (o_4_6 R.S) ?_
  refine s_gAs R (t_23 R.S) (Nat.le_of_ble_eq_true rfl) rfl (o_23_3 R.S) (a_27 R) ?_
  refine s_rI R (u_27 R.S).1 (u_27 R.S).2 (by decide) (a_27 R) rfl rp0 hF (fun x5 ra3 hF => ?_)
  refine s_rI R (u_27 R.S).1 (u_27 R.S).2 (by decide) (a_27 R) (c_add rfl (c_lit 1 1 rfl)) (rr_I _) hF (fun x7 ra4 hF => ?_)
  refine s_rI R (u_27 R.S).1 (u_27 R.S).2 (by decide) (a_27 R) (c_add rfl (c_lit 2 2 rfl)) (rr_I _) hF (fun x9 ra5 hF => ?_)
  refine s_rI R (u_27 R.S).1 (u_27 R.S).2 (by decide) (a_27 R) (c_add rfl (c_lit 3 3 rfl)) (rr_I _) hF (fun x11 ra6 hF => ?_)
  refine s_kok R (t_4 R.S) (Nat.le_of_ble_eq_true rfl) ?_
  refine s_tB R hb (fun _ hq => SX3_addVertical (b := 1) (N := N) (Nat.le_of_ble_eq_true rfl) (R.rf) (c_lit 2 2 rfl) ⟨by decide, by decide⟩ rfl ra3 rfl ra4 rfl ra5 rfl ra6 hq) hF (fun f8 rv8 h8 x14 σ15 R8 e8 E8 hF => ?_)
  exact g_ret R8 hF trivial
def FX3_push (p0 : Int) (s : fS) : Option (Unit × fS) :=
  (uPI s 4 27 (iadd (s.i 4 27) 1)).bind fun σ3 =>
  (uQI σ3 176 (σ3.i 4 27) p0).bind fun σ9 =>
  (uQI σ9 177 (σ9.i 4 27) (σ9.i 170 1)).bind fun σ19 =>
  (uQI σ19 178 (σ19.i 4 27) (-2147483648)).bind fun σ25 =>
  (FX3_isVertical σ25).bind fun q30 =>
  (uPZ q30.2 22 11 q30.1).bind fun σ31 =>
  some ((), σ31)
theorem SX3_push {m b : Nat} {φ0 : Nat → Nat} {σo : fS} {q : Unit × fS} {φ : Nat → Nat} {h : eH} {s : fS} {p0' : Int32} {p0 : Int} (R : fC m b φ0 σo φ h s) (ep0 : p0' = iI p0) (rp0 : r32 p0) (hF : FX3_push p0 s = some q) : gG m b φ0 σo lU q (fX3_push 4 p0' h) := by
  subst ep0
  unfold FX3_push at hF
  unfold fX3_push
  refine s_gI R (t_4 R.S) (Nat.le_of_ble_eq_true rfl) rfl ?_
  refine s_pI R (t_4 R.S) (Nat.le_of_ble_eq_true rfl) rfl (c_add rfl (c_lit 1 1 rfl)) (rr_I _) hF (fun h2 σ3 R2 T2 hF => ?_)
  refine s_gAs R2 (t_4 R2.S) (Nat.le_of_ble_eq_true rfl) rfl (o_4_19 R2.S) (a_176 R2) ?_
  refine s_gI R2 (t_4 R2.S) (Nat.le_of_ble_eq_true rfl) rfl ?_
  refine s_qI R2 (u_176 R2.S).1 (u_176 R2.S).2 (by decide) (a_176 R2) rfl (R2.ri (t_4 R2.S) (Nat.le_of_ble_eq_true rfl) rfl) rfl rp0 hF (fun h5 σ9 R5 T5 hF => ?_)
  refine s_gAs R5 (t_4 R5.S) (Nat.le_of_ble_eq_true rfl) rfl (o_4_20 R5.S) (a_177 R5) ?_
  refine s_gI R5 (t_4 R5.S) (Nat.le_of_ble_eq_true rfl) rfl ?_
  refine s_gO R5 (t_4 R5.S) (Nat.le_of_ble_eq_true rfl) rfl (o_4_16 R5.S) ?_
  refine s_gI R5 (t_170 R5.S) (Nat.le_of_ble_eq_true rfl) rfl ?_
  refine s_qI R5 (u_177 R5.S).1 (u_177 R5.S).2 (by decide) (a_177 R5) rfl (R5.ri (t_4 R5.S) (Nat.le_of_ble_eq_true rfl) rfl) rfl (R5.ri (t_170 R5.S) (Nat.le_of_ble_eq_true rfl) rfl) hF (fun h10 σ19 R10 T10 hF => ?_)
  refine s_gAs R10 (t_4 R10.S) (Nat.le_of_ble_eq_true rfl) rfl (o_4_21 R10.S) (a_178 R10) ?_
  refine s_gI R10 (t_4 R10.S) (Nat.le_of_ble_eq_true rfl) rfl ?_
  refine s_qI R10 (u_178 R10.S).1 (u_178 R10.S).2 (by decide) (a_178 R10) rfl (R10.ri (t_4 R10.S) (Nat.le_of_ble_eq_true rfl) rfl) (c_lit (-2147483648) (-2147483648) rfl) ⟨by decide, by decide⟩ hF (fun h13 σ25 R13 T13 hF => ?_)
  refine s_gO R13 (t_4 R13.S) (Nat.le_of_ble_eq_true rfl) rfl (o_4_5 R13.S) ?_
  refine s_kok R13 (t_4 R13.S) (Nat.le_of_ble_eq_true rfl) ?_
  refine s_call R13 (Nat.zero_le _) (fun _ hq => SX3_isVertical (b := 0) (R13.rf) hq) hF (fun f16 rv16 h16 q30 R16 e16 E16 hF => ?_)
  refine s_pZ R16 (t_22 R16.S) (Nat.le_of_ble_eq_true rfl) rfl e16.1 e16.2 hF (fun h17 σ31 R17 T17 hF => ?_)
  exact g_ret R17 hF trivial
def FX7_grow (s : fS) : Option (Unit × fS) :=
  (uNA 112 0 s (imul 2 (s.i 17 3))).bind fun q3 =>
  (uNA 110 0 q3.2 (imul 10 (q3.2.i 17 3))).bind fun q7 =>
  (uNA 110 0 q7.2 (imul 2 (q7.2.i 17 3))).bind fun q11 =>
  (uKA 102 q11.2 q3.1).bind fun _ =>
  (uCP q11.2 18 0 q3.1 0 (q11.2.i 17 3)).bind fun σ17 =>
  (uKA 100 σ17 q7.1).bind fun _ =>
  (uCP σ17 19 0 q7.1 0 (imul 5 (σ17.i 17 3))).bind fun σ23 =>
  (uKA 100 σ23 q11.1).bind fun _ =>
  (uCP σ23 20 0 q11.1 0 (σ23.i 17 3)).bind fun σ29 =>
  (uMV σ29 18 q3.1).bind fun σ31 =>
  (uNE q7.1 18).bind fun _ =>
  (uNE q7.1 q3.1).bind fun _ =>
  (uNE q11.1 18).bind fun _ =>
  (uNE q11.1 q3.1).bind fun _ =>
  (uMV σ31 19 q7.1).bind fun σ33 =>
  (uNE q11.1 19).bind fun _ =>
  (uNE q11.1 q7.1).bind fun _ =>
  (uMV σ33 20 q11.1).bind fun σ35 =>
  some ((), σ35)
theorem SX7_grow {m b : Nat} {φ0 : Nat → Nat} {σo : fS} (hb : 1 ≤ b) {q : Unit × fS} {φ : Nat → Nat} {h : eH} {s : fS} (R : fC m b φ0 σo φ h s) (hF : FX7_grow s = some q) : gG m b φ0 σo lU q (fX7_grow 17 h) := by
  unfold FX7_grow at hF
  unfold fX7_grow
  refine s_gI R (t_17 R.S) (Nat.le_of_ble_eq_true rfl) rfl ?_
  refine s_nA (tmp := 10) R (Or.inl ⟨by decide, rfl⟩) (by decide) (c_mul (c_lit 2 2 rfl) rfl) (rr_I _) hF (fun h2 s2_ R2 E2 y2 z2 w2 hF => ?_)
  refine s_gI R2 (t_17 R2.S) (Nat.le_of_ble_eq_true rfl) rfl ?_
  refine s_nA (tmp := 10) R2 (Or.inl ⟨by decide, rfl⟩) (by decide) (c_mul (c_lit 10 10 rfl) rfl) (rr_I _) hF (fun h4 s4_ R4 E4 y4 z4 w4 hF => ?_)
  refine s_gI R4 (t_17 R4.S) (Nat.le_of_ble_eq_true rfl) rfl ?_
  refine s_nA (tmp := 10) R4 (Or.inl ⟨by decide, rfl⟩) (by decide) (c_mul (c_lit 2 2 rfl) rfl) (rr_I _) hF (fun h6 s6_ R6 E6 y6 z6 w6 hF => ?_)
  refine s_gA R6 (t_17 R6.S) (Nat.le_of_ble_eq_true rfl) rfl (o_17_0 R6.S) (fun _ _ => ?_)
  refine s_gI R6 (t_17 R6.S) (Nat.le_of_ble_eq_true rfl) rfl ?_
  refine s_KA hF (fun y10 z10 hF => ?_)
  refine s_cp R6 (u_18 R6.S).1 y10 (by rw [z10]; decide) rfl ((y2.trans (E4.k0 rfl _ (by rw [z2]; decide)).1.symm).trans (E6.k0 rfl _ (by rw [(E4.k0 rfl _ (by rw [z2]; decide)).2]; exact (by rw [z2]; decide))).1.symm) (c_lit 0 0 rfl) ⟨by decide, by decide⟩ (c_lit 0 0 rfl) ⟨by decide, by decide⟩ rfl (R6.ri (t_17 R6.S) (Nat.le_of_ble_eq_true rfl) rfl) hF (fun h9 σ17 R9 T9 hF => ?_)
  refine s_gA R9 (t_17 R9.S) (Nat.le_of_ble_eq_true rfl) rfl (o_17_1 R9.S) (fun _ _ => ?_)
  refine s_gI R9 (t_17 R9.S) (Nat.le_of_ble_eq_true rfl) rfl ?_
  refine s_KA hF (fun y14 z14 hF => ?_)
  refine s_cp R9 (u_19 R9.S).1 y14 (by rw [z14]; decide) rfl (y4.trans (E6.k0 rfl _ (by rw [z4]; decide)).1.symm) (c_lit 0 0 rfl) ⟨by decide, by decide⟩ (c_lit 0 0 rfl) ⟨by decide, by decide⟩ (c_mul (c_lit 5 5 rfl) rfl) (rr_I _) hF (fun h13 σ23 R13 T13 hF => ?_)
  refine s_gA R13 (t_17 R13.S) (Nat.le_of_ble_eq_true rfl) rfl (o_17_2 R13.S) (fun _ _ => ?_)
  refine s_gI R13 (t_17 R13.S) (Nat.le_of_ble_eq_true rfl) rfl ?_
  refine s_KA hF (fun y18 z18 hF => ?_)
  refine s_cp R13 (u_20 R13.S).1 y18 (by rw [z18]; decide) rfl y6 (c_lit 0 0 rfl) ⟨by decide, by decide⟩ (c_lit 0 0 rfl) ⟨by decide, by decide⟩ rfl (R13.ri (t_17 R13.S) (Nat.le_of_ble_eq_true rfl) rfl) hF (fun h17 σ29 R17 T17 hF => ?_)
  refine s_mv R17 (t_17 R17.S) (Nat.le_of_ble_eq_true rfl) rfl (o_17_0 R17.S) (by decide) (f_mv_1 hb (by decide) (by decide)) ((y2.trans (E4.k0 rfl _ (by rw [z2]; decide)).1.symm).trans (E6.k0 rfl _ (by rw [(E4.k0 rfl _ (by rw [z2]; decide)).2]; exact (by rw [z2]; decide))).1.symm) hF (fun f19 h19 σ31 R19 E19 K19 hF => ?_)
  refine s_NE hF (fun v20 hF => ?_)
  refine s_NE hF (fun w20_ hF => ?_)
  refine s_NE hF (fun v21 hF => ?_)
  refine s_NE hF (fun w21_ hF => ?_)
  refine s_mv R19 (t_17 R19.S) (Nat.le_of_ble_eq_true rfl) rfl (o_17_1 R19.S) (by decide) (f_mv_1 hb (by decide) (by decide)) ((y4.trans (E6.k0 rfl _ (by rw [z4]; decide)).1.symm).trans (K19 _ v20 w20_).1.symm) hF (fun f22 h22 σ33 R22 E22 K22 hF => ?_)
  refine s_NE hF (fun v23 hF => ?_)
  refine s_NE hF (fun w23_ hF => ?_)
  refine s_mv R22 (t_17 R22.S) (Nat.le_of_ble_eq_true rfl) rfl (o_17_2 R22.S) (by decide) (f_mv_1 hb (by decide) (by decide)) ((y6.trans (K19 _ v21 w21_).1.symm).trans (K22 _ v23 w23_).1.symm) hF (fun f24 h24 σ35 R24 E24 K24 hF => ?_)
  exact g_ret R24 hF trivial
