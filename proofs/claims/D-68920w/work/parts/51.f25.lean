set_option maxRecDepth 100000
set_option maxHeartbeats 4000000
def FX3_endWord_b150 (N : Nat) (K46 : Int → fS → Option ((Unit ⊕ Nat) × fS)) (l1 : Int) (s : fS) : Option ((Unit ⊕ Nat) × fS) :=
  K46 (iadd l1 1) s
theorem SX3_endWord_b150 {m b : Nat} {φ0 : Nat → Nat} {σo : fS} (hb : 1 ≤ b) {N : Nat} {k46 : Nat → Int32 → eH → Option ((Unit ⊕ Nat) × eH)} {K46 : Int → fS → Option ((Unit ⊕ Nat) × fS)} {q : (Unit ⊕ Nat) × fS} (hk46 : ∀ {φ : Nat → Nat} {h : eH} {s : fS} {l1' : Int32} {l1 : Int}, fC m b φ0 σo φ h s → l1' = iI l1 → r32 l1 → K46 l1 s = some q → gG m b φ0 σo (lT lU) q (k46 4 l1' h)) {φ : Nat → Nat} {h : eH} {s : fS} {l1' : Int32} {l1 : Int} (R : fC m b φ0 σo φ h s) (el1 : l1' = iI l1) (rl1 : r32 l1) (hF : FX3_endWord_b150 N K46 l1 s = some q) : gG m b φ0 σo (lT lU) q (fX3_endWord_b150 N k46 4 l1' h) := by
  subst el1
  unfold FX3_endWord_b150 at hF
  unfold fX3_endWord_b150
  exact hk46 R (c_add rfl (c_lit 1 1 rfl)) (rr_I _) hF
def FX3_endWord_b82 (N : Nat) (K46 : Int → fS → Option ((Unit ⊕ Nat) × fS)) (l1 : Int) (s : fS) : Option ((Unit ⊕ Nat) × fS) :=
  if (s.i 186 1) ≤ l1 then
    FX3_endWord_b150 N K46 l1 s
  else
    (FX34_kind 186 l1 s).bind fun q9 =>
    (FX34_of 186 l1 0 q9.2).bind fun q13 =>
    (FX34_of 186 l1 1 q13.2).bind fun q17 =>
    (FX34_of 186 l1 2 q17.2).bind fun q21 =>
    (FX34_of 186 l1 3 q21.2).bind fun q25 =>
    (FX34_of 186 l1 4 q25.2).bind fun q29 =>
    tB (FX3_put q9.1 q13.1 q17.1 q21.1 q25.1 q29.1 q29.2) fun x31 σ32 =>
    FX3_endWord_b150 N K46 l1 σ32
theorem SX3_endWord_b82 {m b : Nat} {φ0 : Nat → Nat} {σo : fS} (hb : 1 ≤ b) {N : Nat} {k46 : Nat → Int32 → eH → Option ((Unit ⊕ Nat) × eH)} {K46 : Int → fS → Option ((Unit ⊕ Nat) × fS)} {q : (Unit ⊕ Nat) × fS} (hk46 : ∀ {φ : Nat → Nat} {h : eH} {s : fS} {l1' : Int32} {l1 : Int}, fC m b φ0 σo φ h s → l1' = iI l1 → r32 l1 → K46 l1 s = some q → gG m b φ0 σo (lT lU) q (k46 4 l1' h)) {φ : Nat → Nat} {h : eH} {s : fS} {l1' : Int32} {l1 : Int} (R : fC m b φ0 σo φ h s) (el1 : l1' = iI l1) (rl1 : r32 l1) (hF : FX3_endWord_b82 N K46 l1 s = some q) : gG m b φ0 σo (lT lU) q (fX3_endWord_b82 N k46 4 l1' h) := by
  subst el1
  unfold FX3_endWord_b82 at hF
  unfold fX3_endWord_b82
  refine s_gO R (t_4 R.S) (Nat.le_of_ble_eq_true rfl) rfl (o_4_32 R.S) ?_
  refine s_gI R (t_186 R.S) (Nat.le_of_ble_eq_true rfl) rfl ?_
  refine s_if (i_le rfl rfl (R.ri (t_186 R.S) (Nat.le_of_ble_eq_true rfl) rfl) rl1) hF (fun c3 hF => ?_) (fun c3 hF => ?_)
  ·
    exact SX3_endWord_b150 (N := N) (k46 := k46) (K46 := K46) hb @hk46 R rfl rl1 hF
  ·
    refine s_gO R (t_4 R.S) (Nat.le_of_ble_eq_true rfl) rfl (o_4_32 R.S) ?_
    refine s_kok R (t_186 R.S) (Nat.le_of_ble_eq_true rfl) ?_
    refine s_call R (Nat.zero_le _) (fun _ hq => SX34_kind (b := 0) (R.rf) rfl rl1 hq) hF (fun f6 rv6 h6 q9 R6 e6 E6 hF => ?_)
    refine s_gO R6 (t_4 R6.S) (Nat.le_of_ble_eq_true rfl) rfl (o_4_32 R6.S) ?_
    refine s_kok R6 (t_186 R6.S) (Nat.le_of_ble_eq_true rfl) ?_
    refine s_call R6 (Nat.zero_le _) (fun _ hq => SX34_of (b := 0) (R6.rf) rfl rl1 (c_lit 0 0 rfl) ⟨by decide, by decide⟩ hq) hF (fun f9 rv9 h9 q13 R9 e9 E9 hF => ?_)
    refine s_gO R9 (t_4 R9.S) (Nat.le_of_ble_eq_true rfl) rfl (o_4_32 R9.S) ?_
    refine s_kok R9 (t_186 R9.S) (Nat.le_of_ble_eq_true rfl) ?_
    refine s_call R9 (Nat.zero_le _) (fun _ hq => SX34_of (b := 0) (R9.rf) rfl rl1 (c_lit 1 1 rfl) ⟨by decide, by decide⟩ hq) hF (fun f12 rv12 h12 q17 R12 e12 E12 hF => ?_)
    refine s_gO R12 (t_4 R12.S) (Nat.le_of_ble_eq_true rfl) rfl (o_4_32 R12.S) ?_
    refine s_kok R12 (t_186 R12.S) (Nat.le_of_ble_eq_true rfl) ?_
    refine s_call R12 (Nat.zero_le _) (fun _ hq => SX34_of (b := 0) (R12.rf) rfl rl1 (c_lit 2 2 rfl) ⟨by decide, by decide⟩ hq) hF (fun f15 rv15 h15 q21 R15 e15 E15 hF => ?_)
    refine s_gO R15 (t_4 R15.S) (Nat.le_of_ble_eq_true rfl) rfl (o_4_32 R15.S) ?_
    refine s_kok R15 (t_186 R15.S) (Nat.le_of_ble_eq_true rfl) ?_
    refine s_call R15 (Nat.zero_le _) (fun _ hq => SX34_of (b := 0) (R15.rf) rfl rl1 (c_lit 3 3 rfl) ⟨by decide, by decide⟩ hq) hF (fun f18 rv18 h18 q25 R18 e18 E18 hF => ?_)
    refine s_gO R18 (t_4 R18.S) (Nat.le_of_ble_eq_true rfl) rfl (o_4_32 R18.S) ?_
    refine s_kok R18 (t_186 R18.S) (Nat.le_of_ble_eq_true rfl) ?_
    refine s_call R18 (Nat.zero_le _) (fun _ hq => SX34_of (b := 0) (R18.rf) rfl rl1 (c_lit 4 4 rfl) ⟨by decide, by decide⟩ hq) hF (fun f21 rv21 h21 q29 R21 e21 E21 hF => ?_)
    refine s_kok R21 (t_4 R21.S) (Nat.le_of_ble_eq_true rfl) ?_
    refine s_tB R21 hb (fun _ hq => SX3_put (b := 1) (Nat.le_of_ble_eq_true rfl) (R21.rf) e6.1 e6.2 e9.1 e9.2 e12.1 e12.2 e15.1 e15.2 e18.1 e18.2 e21.1 e21.2 hq) hF (fun f23 rv23 h23 x31 σ32 R23 e23 E23 hF => ?_)
    exact SX3_endWord_b150 (N := N) (k46 := k46) (K46 := K46) hb @hk46 R23 rfl rl1 hF
def FX3_endWord_b206 (N : Nat) (s : fS) : Option ((Unit ⊕ Nat) × fS) :=
  (uPI s 4 30 0).bind fun σ1 =>
  some (.inl (), σ1)
theorem SX3_endWord_b206 {m b : Nat} {φ0 : Nat → Nat} {σo : fS} {N : Nat} {q : (Unit ⊕ Nat) × fS} {φ : Nat → Nat} {h : eH} {s : fS} (R : fC m b φ0 σo φ h s) (hF : FX3_endWord_b206 N s = some q) : gG m b φ0 σo (lT lU) q (fX3_endWord_b206 N 4 h) := by
  unfold FX3_endWord_b206 at hF
  unfold fX3_endWord_b206
  refine s_pI R (t_4 R.S) (Nat.le_of_ble_eq_true rfl) rfl (c_lit 0 0 rfl) ⟨by decide, by decide⟩ hF (fun h1 σ1 R1 T1 hF => ?_)
  exact g_ret R1 hF trivial
def FX3_endWord_b190 (N : Nat) (s0 : Int) (s : fS) : Option ((Unit ⊕ Nat) × fS) :=
  if s0 = 0 then
    FX3_endWord_b206 N s
  else
    tB (FX3_put 6 0 0 0 0 0 s) fun x3 σ4 =>
    FX3_endWord_b206 N σ4
theorem SX3_endWord_b190 {m b : Nat} {φ0 : Nat → Nat} {σo : fS} (hb : 1 ≤ b) {N : Nat} {q : (Unit ⊕ Nat) × fS} {φ : Nat → Nat} {h : eH} {s : fS} {s0' : Int32} {s0 : Int} (R : fC m b φ0 σo φ h s) (es0 : s0' = iI s0) (rs0 : r32 s0) (hF : FX3_endWord_b190 N s0 s = some q) : gG m b φ0 σo (lT lU) q (fX3_endWord_b190 N 4 s0' h) := by
  subst es0
  unfold FX3_endWord_b190 at hF
  unfold fX3_endWord_b190
  refine s_if (i_eq rfl (c_lit 0 0 rfl) rs0 ⟨by decide, by decide⟩) hF (fun c1 hF => ?_) (fun c1 hF => ?_)
  ·
    exact SX3_endWord_b206 (N := N) R hF
  ·
    refine s_kok R (t_4 R.S) (Nat.le_of_ble_eq_true rfl) ?_
    refine s_tB R hb (fun _ hq => SX3_put (b := 1) (Nat.le_of_ble_eq_true rfl) (R.rf) (c_lit 6 6 rfl) ⟨by decide, by decide⟩ (c_lit 0 0 rfl) ⟨by decide, by decide⟩ (c_lit 0 0 rfl) ⟨by decide, by decide⟩ (c_lit 0 0 rfl) ⟨by decide, by decide⟩ (c_lit 0 0 rfl) ⟨by decide, by decide⟩ (c_lit 0 0 rfl) ⟨by decide, by decide⟩ hq) hF (fun f3 rv3 h3 x3 σ4 R3 e3 E3 hF => ?_)
    exact SX3_endWord_b206 (N := N) R3 hF
def FX3_endWord_b189 (N : Nat) (s : fS) : Option ((Unit ⊕ Nat) × fS) :=
  FX3_endWord_b190 N 0 s
theorem SX3_endWord_b189 {m b : Nat} {φ0 : Nat → Nat} {σo : fS} (hb : 1 ≤ b) {N : Nat} {q : (Unit ⊕ Nat) × fS} {φ : Nat → Nat} {h : eH} {s : fS} (R : fC m b φ0 σo φ h s) (hF : FX3_endWord_b189 N s = some q) : gG m b φ0 σo (lT lU) q (fX3_endWord_b189 N 4 h) := by
  unfold FX3_endWord_b189 at hF
  unfold fX3_endWord_b189
  exact SX3_endWord_b190 (N := N) hb R (c_lit 0 0 rfl) ⟨by decide, by decide⟩ hF
def FX3_endWord_b46 (N : Nat) : Nat → Int → fS → Option ((Unit ⊕ Nat) × fS)
  | 0, _, _ => none
  | n + 1, l1, s =>
    if (s.i 186 1) < l1 then
      (uRI s 176 (s.i 4 27)).bind fun x10 =>
      if ¬ (x10 = 2) then
        FX3_endWord_b189 N s
      else
        (uRI s 184 (isub (s.i 4 30) 1)).bind fun x17 =>
        if ¬ (x17 = 45) then
          FX3_endWord_b189 N s
        else
          FX3_endWord_b190 N 1 s
    else
      (uRI s 190 l1).bind fun x22 =>
      if x22 ≤ 0 then
        FX3_endWord_b82 N (FX3_endWord_b46 N n) l1 s
      else
        (uRI s 190 l1).bind fun x29 =>
        tB (FX3_addHyphen (s.i 4 31) (isub x29 1) s) fun x32 σ33 =>
        FX3_endWord_b82 N (FX3_endWord_b46 N n) l1 σ33
theorem SX3_endWord_b46 {m b : Nat} {φ0 : Nat → Nat} {σo : fS} (hb : 1 ≤ b) {N : Nat} {q : (Unit ⊕ Nat) × fS} : ∀ {n : Nat} {φ : Nat → Nat} {h : eH} {s : fS} {l1' : Int32} {l1 : Int}, fC m b φ0 σo φ h s → l1' = iI l1 → r32 l1 → FX3_endWord_b46 N n l1 s = some q → gG m b φ0 σo (lT lU) q (fX3_endWord_b46 N n 4 l1' h) := by
  intro n
  induction n with
 | zero => intro φ h s l1' l1 R el1 rl1 hF; simp [FX3_endWord_b46] at hF
  | succ n ih =>
    intro φ h s l1' l1 R el1 rl1 hF
    subst el1
    rw [FX3_endWord_b46] at hF
    rw [fX3_endWord_b46]
    refine s_gO R (t_4 R.S) (Nat.le_of_ble_eq_true rfl) rfl (o_4_32 R.S) ?_
    refine s_gI R (t_186 R.S) (Nat.le_of_ble_eq_true rfl) rfl ?_
    refine s_if (i_lt rfl rfl (R.ri (t_186 R.S) (Nat.le_of_ble_eq_true rfl) rfl) rl1) hF (fun c3 hF => ?_) (fun c3 hF => ?_)
    ·
      refine s_gAs R (t_4 R.S) (Nat.le_of_ble_eq_true rfl) rfl (o_4_19 R.S) (a_176 R) ?_
      refine s_gI R (t_4 R.S) (Nat.le_of_ble_eq_true rfl) rfl ?_
      refine s_rI R (u_176 R.S).1 (u_176 R.S).2 (by decide) (a_176 R) rfl (R.ri (t_4 R.S) (Nat.le_of_ble_eq_true rfl) rfl) hF (fun x10 ra6 hF => ?_)
      refine s_if (not_congr (i_eq rfl (c_lit 2 2 rfl) ra6 ⟨by decide, by decide⟩)) hF (fun c7 hF => ?_) (fun c7 hF => ?_)
      ·
        exact SX3_endWord_b189 (N := N) hb R hF
      ·
        refine s_gAs R (t_4 R.S) (Nat.le_of_ble_eq_true rfl) rfl (o_4_28 R.S) (a_184 R) ?_
        refine s_gI R (t_4 R.S) (Nat.le_of_ble_eq_true rfl) rfl ?_
        refine s_rI R (u_184 R.S).1 (u_184 R.S).2 (by decide) (a_184 R) (c_sub rfl (c_lit 1 1 rfl)) (rr_I _) hF (fun x17 ra10 hF => ?_)
        refine s_if (not_congr (i_eq rfl (c_lit 45 45 rfl) ra10 ⟨by decide, by decide⟩)) hF (fun c11 hF => ?_) (fun c11 hF => ?_)
        ·
          exact SX3_endWord_b189 (N := N) hb R hF
        ·
          exact SX3_endWord_b190 (N := N) hb R (c_lit 1 1 rfl) ⟨by decide, by decide⟩ hF
    ·
      refine s_gAs R (t_4 R.S) (Nat.le_of_ble_eq_true rfl) rfl (o_4_34 R.S) (a_190 R) ?_
      refine s_rI R (u_190 R.S).1 (u_190 R.S).2 (by decide) (a_190 R) rfl rl1 hF (fun x22 ra13 hF => ?_)
      refine s_if (i_le rfl (c_lit 0 0 rfl) ra13 ⟨by decide, by decide⟩) hF (fun c14 hF => ?_) (fun c14 hF => ?_)
      ·
        exact SX3_endWord_b82 (N := N) (k46 := fX3_endWord_b46 N n) (K46 := FX3_endWord_b46 N n) hb @ih R rfl rl1 hF
      ·
        refine s_gI R (t_4 R.S) (Nat.le_of_ble_eq_true rfl) rfl ?_
        refine s_gAs R (t_4 R.S) (Nat.le_of_ble_eq_true rfl) rfl (o_4_34 R.S) (a_190 R) ?_
        refine s_rI R (u_190 R.S).1 (u_190 R.S).2 (by decide) (a_190 R) rfl rl1 hF (fun x29 ra17 hF => ?_)
        refine s_kok R (t_4 R.S) (Nat.le_of_ble_eq_true rfl) ?_
        refine s_tB R hb (fun _ hq => SX3_addHyphen (b := 1) (Nat.le_of_ble_eq_true rfl) (R.rf) rfl (R.ri (t_4 R.S) (Nat.le_of_ble_eq_true rfl) rfl) (c_sub rfl (c_lit 1 1 rfl)) (rr_I _) hq) hF (fun f19 rv19 h19 x32 σ33 R19 e19 E19 hF => ?_)
        exact SX3_endWord_b82 (N := N) (k46 := fX3_endWord_b46 N n) (K46 := FX3_endWord_b46 N n) hb @ih R19 rfl rl1 hF
def FX3_endWord (N : Nat) (s : fS) : Option ((Unit ⊕ Nat) × fS) :=
  if ¬ ((s.i 4 30) = 0) then
    (uPI s 186 1 0).bind fun σ6 =>
    (FX3_setRow N 184 (σ6.i 4 30) 186 σ6).bind fun q17 =>
    tB (FX4_want q17.1 2 q17.2) fun x19 σ20 =>
    (FX3_findHyphens N σ20).bind fun q22 =>
    FX3_endWord_b46 N N 0 q22.2
  else
    some (.inl (), s)
theorem SX3_endWord {m b : Nat} {φ0 : Nat → Nat} {σo : fS} (hb : 1 ≤ b) {N : Nat} {q : (Unit ⊕ Nat) × fS} {φ : Nat → Nat} {h : eH} {s : fS} (R : fC m b φ0 σo φ h s) (hF : FX3_endWord N s = some q) : gG m b φ0 σo (lT lU) q (fX3_endWord N 4 h) := by
  unfold FX3_endWord at hF
  unfold fX3_endWord
  refine s_gI R (t_4 R.S) (Nat.le_of_ble_eq_true rfl) rfl ?_
  refine s_if (not_congr (i_eq rfl (c_lit 0 0 rfl) (R.ri (t_4 R.S) (Nat.le_of_ble_eq_true rfl) rfl) ⟨by decide, by decide⟩)) hF (fun c2 hF => ?_) (fun c2 hF => ?_)
  ·
    refine s_gO R (t_4 R.S) (Nat.le_of_ble_eq_true rfl) rfl (o_4_32 R.S) ?_
    refine s_pI R (t_186 R.S) (Nat.le_of_ble_eq_true rfl) rfl (c_lit 0 0 rfl) ⟨by decide, by decide⟩ hF (fun h4 σ6 R4 T4 hF => ?_)
    refine s_gO R4 (t_4 R4.S) (Nat.le_of_ble_eq_true rfl) rfl (o_4_0 R4.S) ?_
    refine s_gAs R4 (t_4 R4.S) (Nat.le_of_ble_eq_true rfl) rfl (o_4_28 R4.S) (a_184 R4) ?_
    refine s_gI R4 (t_4 R4.S) (Nat.le_of_ble_eq_true rfl) rfl ?_
    refine s_gO R4 (t_4 R4.S) (Nat.le_of_ble_eq_true rfl) rfl (o_4_32 R4.S) ?_
    refine s_kok R4 (t_4 R4.S) (Nat.le_of_ble_eq_true rfl) ?_
    refine s_call R4 hb (fun _ hq => SX3_setRow (b := 1) (N := N) (Nat.le_of_ble_eq_true rfl) (R4.rf) (a_184 R4) (u_184 R4.S).1 rfl (R4.ri (t_4 R4.S) (Nat.le_of_ble_eq_true rfl) rfl) hq) hF (fun f10 rv10 h10 q17 R10 e10 E10 hF => ?_)
    refine s_kok R10 (t_5 R10.S) (Nat.le_of_ble_eq_true rfl) ?_
    refine s_tB R10 (Nat.zero_le _) (fun _ hq => SX4_want (b := 0) (R10.rf) e10.1 e10.2 (c_lit 2 2 rfl) ⟨by decide, by decide⟩ hq) hF (fun f12 rv12 h12 x19 σ20 R12 e12 E12 hF => ?_)
    refine s_kok R12 (t_4 R12.S) (Nat.le_of_ble_eq_true rfl) ?_
    refine s_call R12 hb (fun _ hq => SX3_findHyphens (b := 1) (N := N) (Nat.le_of_ble_eq_true rfl) (R12.rf) hq) hF (fun f14 rv14 h14 q22 R14 e14 E14 hF => ?_)
    exact SX3_endWord_b46 (N := N) hb R14 (c_lit 0 0 rfl) ⟨by decide, by decide⟩ hF
  ·
    exact g_ret R hF trivial
def FX3_isVertical_b18 (s0 : Int) (s : fS) : Option (Int × fS) :=
  uZ s0 (s0, s)
theorem SX3_isVertical_b18 {m b : Nat} {φ0 : Nat → Nat} {σo : fS} {q : Int × fS} {φ : Nat → Nat} {h : eH} {s : fS} {s0' : Int32} {s0 : Int} (R : fC m b φ0 σo φ h s) (es0 : s0' = iI s0) (rs0 : r32 s0) (hF : FX3_isVertical_b18 s0 s = some q) : gG m b φ0 σo lI q (fX3_isVertical_b18 s0' h) := by
  subst es0
  unfold FX3_isVertical_b18 at hF
  unfold fX3_isVertical_b18
  exact g_z R rfl hF ⟨rfl, rs0⟩
def FX3_isVertical (s : fS) : Option (Int × fS) :=
  (uRI s 176 (s.i 4 27)).bind fun x5 =>
  if 2 ≤ x5 then
    FX3_isVertical_b18 0 s
  else
    FX3_isVertical_b18 1 s
theorem SX3_isVertical {m b : Nat} {φ0 : Nat → Nat} {σo : fS} {q : Int × fS} {φ : Nat → Nat} {h : eH} {s : fS} (R : fC m b φ0 σo φ h s) (hF : FX3_isVertical s = some q) : gG m b φ0 σo lI q (fX3_isVertical 4 h) := by
  unfold FX3_isVertical at hF
  unfold fX3_isVertical
  refine s_gAs R (t_4 R.S) (Nat.le_of_ble_eq_true rfl) rfl (o_4_19 R.S) (a_176 R) ?_
  refine s_gI R (t_4 R.S) (Nat.le_of_ble_eq_true rfl) rfl ?_
  refine s_rI R (u_176 R.S).1 (u_176 R.S).2 (by decide) (a_176 R) rfl (R.ri (t_4 R.S) (Nat.le_of_ble_eq_true rfl) rfl) hF (fun x5 ra3 hF => ?_)
  refine s_if (i_le (c_lit 2 2 rfl) rfl ⟨by decide, by decide⟩ ra3) hF (fun c4 hF => ?_) (fun c4 hF => ?_)
  ·
    exact SX3_isVertical_b18 R (c_lit 0 0 rfl) ⟨by decide, by decide⟩ hF
  ·
    exact SX3_isVertical_b18 R (c_lit 1 1 rfl) ⟨by decide, by decide⟩ hF
def FX27_grownBytes (p0 : Nat) (s : fS) : Option (Nat × fS) :=
  (uKL s p0).bind fun _ =>
  (uNA 112 0 s (imul 2 (s.n p0 : Int))).bind fun q3 =>
  (uKL q3.2 p0).bind fun _ =>
  (uKA 102 q3.2 p0).bind fun _ =>
  (uKA 102 q3.2 q3.1).bind fun _ =>
  (uCP q3.2 p0 0 q3.1 0 (q3.2.n p0 : Int)).bind fun σ7 =>
  some (q3.1, σ7)
theorem SX27_grownBytes {m b : Nat} {φ0 : Nat → Nat} {σo : fS} {q : Nat × fS} {φ : Nat → Nat} {h : eH} {s : fS} {p0' : Nat} {p0 : Nat} (R : fC m b φ0 σo φ h s) (ep0 : p0' = φ p0) (ap0 : s.t p0 < 128) (hF : FX27_grownBytes p0 s = some q) : gG m b φ0 σo lA q (fX27_grownBytes p0' h) := by
  unfold FX27_grownBytes at hF
  unfold fX27_grownBytes
  refine s_KL hF (fun y1 z1 hF => ?_)
  refine s_len R z1 y1 ep0 ?_
  refine s_nA (tmp := 10) R (Or.inl ⟨by decide, rfl⟩) (by decide) (c_mul (c_lit 2 2 rfl) rfl) (rr_I _) hF (fun h2 s2_ R2 E2 y2 z2 w2 hF => ?_)
  refine s_KL hF (fun y3 z3 hF => ?_)
  refine s_len R2 z3 y3 (ep0.trans (E2.k0 rfl _ y1).1.symm) ?_
  refine s_KA hF (fun y5 z5 hF => ?_)
  refine s_KA hF (fun y6 z6 hF => ?_)
  refine s_cp R2 y5 y6 (by rw [z6]; decide) (ep0.trans (E2.k0 rfl _ y1).1.symm) y2 (c_lit 0 0 rfl) ⟨by decide, by decide⟩ (c_lit 0 0 rfl) ⟨by decide, by decide⟩ rfl (R2.rn z3 y3) hF (fun h4 σ7 R4 T4 hF => ?_)
  exact g_ret R4 hF y2
def FX27_add_b98 (l1 : Int) (l2 : Int) (l3 : Int) (l4 : Int) (l5 : Int) (l6 : Int) (s : fS) : Option (Unit × fS) :=
  (uQI s 134 (s.i 133 6) (i2b (i2b l1))).bind fun σ5 =>
  (uQI σ5 135 (σ5.i 133 6) l2).bind fun σ11 =>
  (uQI σ11 136 (σ11.i 133 6) l3).bind fun σ17 =>
  (uQI σ17 137 (σ17.i 133 6) l4).bind fun σ23 =>
  (uQI σ23 138 (σ23.i 133 6) (i2b (i2b l5))).bind fun σ29 =>
  (uQI σ29 139 (σ29.i 133 6) l6).bind fun σ35 =>
  (uPI σ35 133 6 (iadd (σ35.i 133 6) 1)).bind fun σ39 =>
  some ((), σ39)
theorem SX27_add_b98 {m b : Nat} {φ0 : Nat → Nat} {σo : fS} {q : Unit × fS} {φ : Nat → Nat} {h : eH} {s : fS} {l1' : Int32} {l1 : Int} {l2' : Int32} {l2 : Int} {l3' : Int32} {l3 : Int} {l4' : Int32} {l4 : Int} {l5' : Int32} {l5 : Int} {l6' : Int32} {l6 : Int} (R : fC m b φ0 σo φ h s) (el1 : l1' = iI l1) (rl1 : r32 l1) (el2 : l2' = iI l2) (rl2 : r32 l2) (el3 : l3' = iI l3) (rl3 : r32 l3) (el4 : l4' = iI l4) (rl4 : r32 l4) (el5 : l5' = iI l5) (rl5 : r32 l5) (el6 : l6' = iI l6) (rl6 : r32 l6) (hF : FX27_add_b98 l1 l2 l3 l4 l5 l6 s = some q) : gG m b φ0 σo lU q (fX27_add_b98 133 l1' l2' l3' l4' l5' l6' h) := by
  subst el1; subst el2; subst el3; subst el4; subst el5; subst el6
  unfold FX27_add_b98 at hF
  unfold fX27_add_b98
  refine s_gA R (t_133 R.S) (Nat.le_of_ble_eq_true rfl) rfl (o_133_0 R.S) (fun _ _ => ?_)
  refine s_gI R (t_133 R.S) (Nat.le_of_ble_eq_true rfl) rfl ?_
  refine s_qI R (u_134 R.S).1 (u_134 R.S).2 (by decide) rfl rfl (R.ri (t_133 R.S) (Nat.le_of_ble_eq_true rfl) rfl) (c_2b (c_2b rfl)) (rr_I _) hF (fun h3 σ5 R3 T3 hF => ?_)
  refine s_gA R3 (t_133 R3.S) (Nat.le_of_ble_eq_true rfl) rfl (o_133_1 R3.S) (fun _ _ => ?_)
  refine s_gI R3 (t_133 R3.S) (Nat.le_of_ble_eq_true rfl) rfl ?_
  refine s_qI R3 (u_135 R3.S).1 (u_135 R3.S).2 (by decide) rfl rfl (R3.ri (t_133 R3.S) (Nat.le_of_ble_eq_true rfl) rfl) rfl rl2 hF (fun h6 σ11 R6 T6 hF => ?_)
  refine s_gA R6 (t_133 R6.S) (Nat.le_of_ble_eq_true rfl) rfl (o_133_2 R6.S) (fun _ _ => ?_)
  refine s_gI R6 (t_133 R6.S) (Nat.le_of_ble_eq_true rfl) rfl ?_
  refine s_qI R6 (u_136 R6.S).1 (u_136 R6.S).2 (by decide) rfl rfl (R6.ri (t_133 R6.S) (Nat.le_of_ble_eq_true rfl) rfl) rfl rl3 hF (fun h9 σ17 R9 T9 hF => ?_)
  refine s_gA R9 (t_133 R9.S) (Nat.le_of_ble_eq_true rfl) rfl (o_133_3 R9.S) (fun _ _ => ?_)
  refine s_gI R9 (t_133 R9.S) (Nat.le_of_ble_eq_true rfl) rfl ?_
  refine s_qI R9 (u_137 R9.S).1 (u_137 R9.S).2 (by decide) rfl rfl (R9.ri (t_133 R9.S) (Nat.le_of_ble_eq_true rfl) rfl) rfl rl4 hF (fun h12 σ23 R12 T12 hF => ?_)
  refine s_gA R12 (t_133 R12.S) (Nat.le_of_ble_eq_true rfl) rfl (o_133_4 R12.S) (fun _ _ => ?_)
  refine s_gI R12 (t_133 R12.S) (Nat.le_of_ble_eq_true rfl) rfl ?_
  refine s_qI R12 (u_138 R12.S).1 (u_138 R12.S).2 (by decide) rfl rfl (R12.ri (t_133 R12.S) (Nat.le_of_ble_eq_true rfl) rfl) (c_2b (c_2b rfl)) (rr_I _) hF (fun h15 σ29 R15 T15 hF => ?_)
  refine s_gA R15 (t_133 R15.S) (Nat.le_of_ble_eq_true rfl) rfl (o_133_5 R15.S) (fun _ _ => ?_)
  refine s_gI R15 (t_133 R15.S) (Nat.le_of_ble_eq_true rfl) rfl ?_
  refine s_qI R15 (u_139 R15.S).1 (u_139 R15.S).2 (by decide) rfl rfl (R15.ri (t_133 R15.S) (Nat.le_of_ble_eq_true rfl) rfl) rfl rl6 hF (fun h18 σ35 R18 T18 hF => ?_)
  refine s_gI R18 (t_133 R18.S) (Nat.le_of_ble_eq_true rfl) rfl ?_
  refine s_pI R18 (t_133 R18.S) (Nat.le_of_ble_eq_true rfl) rfl (c_add rfl (c_lit 1 1 rfl)) (rr_I _) hF (fun h20 σ39 R20 T20 hF => ?_)
  exact g_ret R20 hF trivial
def FX27_add (p0 : Int) (p1 : Int) (p2 : Int) (p3 : Int) (p4 : Int) (p5 : Int) (s : fS) : Option (Unit × fS) :=
  if ¬ ((s.i 133 6) = (s.n 134 : Int)) then
    FX27_add_b98 p0 p1 p2 p3 p4 p5 s
  else
    (FX27_grownBytes 134 s).bind fun q10 =>
    (uMV q10.2 134 q10.1).bind fun σ11 =>
    (FX27_grownBytes 138 σ11).bind fun q15 =>
    (uMV q15.2 138 q15.1).bind fun σ16 =>
    (FX1_grown 135 (σ16.n 134 : Int) σ16).bind fun q24 =>
    (uMV q24.2 135 q24.1).bind fun σ25 =>
    (FX1_grown 136 (σ25.n 134 : Int) σ25).bind fun q33 =>
    (uMV q33.2 136 q33.1).bind fun σ34 =>
    (FX1_grown 137 (σ34.n 134 : Int) σ34).bind fun q42 =>
    (uMV q42.2 137 q42.1).bind fun σ43 =>
    (FX1_grown 139 (σ43.n 134 : Int) σ43).bind fun q51 =>
    (uMV q51.2 139 q51.1).bind fun σ52 =>
    FX27_add_b98 p0 p1 p2 p3 p4 p5 σ52
theorem SX27_add {m b : Nat} {φ0 : Nat → Nat} {σo : fS} (hb : 1 ≤ b) {q : Unit × fS} {φ : Nat → Nat} {h : eH} {s : fS} {p0' : Int32} {p0 : Int} {p1' : Int32} {p1 : Int} {p2' : Int32} {p2 : Int} {p3' : Int32} {p3 : Int} {p4' : Int32} {p4 : Int} {p5' : Int32} {p5 : Int} (R : fC m b φ0 σo φ h s) (ep0 : p0' = iI p0) (rp0 : r32 p0) (ep1 : p1' = iI p1) (rp1 : r32 p1) (ep2 : p2' = iI p2) (rp2 : r32 p2) (ep3 : p3' = iI p3) (rp3 : r32 p3) (ep4 : p4' = iI p4) (rp4 : r32 p4) (ep5 : p5' = iI p5) (rp5 : r32 p5) (hF : FX27_add p0 p1 p2 p3 p4 p5 s = some q) : gG m b φ0 σo lU q (fX27_add 133 p0' p1' p2' p3' p4' p5' h) := by
  subst ep0; subst ep1; subst ep2; subst ep3; subst ep4; subst ep5
  unfold FX27_add at hF
  unfold fX27_add
  refine s_gI R (t_133 R.S) (Nat.le_of_ble_eq_true rfl) rfl ?_
  refine s_gA R (t_133 R.S) (Nat.le_of_ble_eq_true rfl) rfl (o_133_0 R.S) (fun _ _ => ?_)
  refine s_len R (by rw [(t_134 R.S)]; decide) (by rw [(t_134 R.S)]; decide) rfl ?_
  refine s_if (not_congr (i_eq rfl rfl (R.ri (t_133 R.S) (Nat.le_of_ble_eq_true rfl) rfl) (R.rn (by rw [(t_134 R.S)]; decide) (by rw [(t_134 R.S)]; decide)))) hF (fun c4 hF => ?_) (fun c4 hF => ?_)
  ·
    exact SX27_add_b98 R rfl rp0 rfl rp1 rfl rp2 rfl rp3 rfl rp4 rfl rp5 hF
  ·
    refine s_gA R (t_133 R.S) (Nat.le_of_ble_eq_true rfl) rfl (o_133_0 R.S) (fun _ _ => ?_)
    refine s_call R (Nat.zero_le _) (fun _ hq => SX27_grownBytes (b := 0) (R.rf) rfl (u_134 R.S).1 hq) hF (fun f6 rv6 h6 q10 R6 e6 E6 hF => ?_)
    refine s_mv R6 (t_133 R6.S) (Nat.le_of_ble_eq_true rfl) rfl (o_133_0 R6.S) (by decide) (f_mv_1 hb (by decide) (by decide)) e6 hF (fun f7 h7 σ11 R7 E7 K7 hF => ?_)
    refine s_gA R7 (t_133 R7.S) (Nat.le_of_ble_eq_true rfl) rfl (o_133_4 R7.S) (fun _ _ => ?_)
    refine s_call R7 (Nat.zero_le _) (fun _ hq => SX27_grownBytes (b := 0) (R7.rf) rfl (u_138 R7.S).1 hq) hF (fun f9 rv9 h9 q15 R9 e9 E9 hF => ?_)
    refine s_mv R9 (t_133 R9.S) (Nat.le_of_ble_eq_true rfl) rfl (o_133_4 R9.S) (by decide) (f_mv_1 hb (by decide) (by decide)) e9 hF (fun f10 h10 σ16 R10 E10 K10 hF => ?_)
    refine s_gA R10 (t_133 R10.S) (Nat.le_of_ble_eq_true rfl) rfl (o_133_1 R10.S) (fun _ _ => ?_)
    refine s_gA R10 (t_133 R10.S) (Nat.le_of_ble_eq_true rfl) rfl (o_133_0 R10.S) (fun _ _ => ?_)
    refine s_len R10 (by rw [(t_134 R10.S)]; decide) (by rw [(t_134 R10.S)]; decide) rfl ?_
    refine s_call R10 (Nat.zero_le _) (fun _ hq => SX1_grown (b := 0) (R10.rf) rfl (u_135 R10.S).1 rfl (R10.rn (by rw [(t_134 R10.S)]; decide) (by rw [(t_134 R10.S)]; decide)) hq) hF (fun f14 rv14 h14 q24 R14 e14 E14 hF => ?_)
    refine s_mv R14 (t_133 R14.S) (Nat.le_of_ble_eq_true rfl) rfl (o_133_1 R14.S) (by decide) (f_mv_1 hb (by decide) (by decide)) e14 hF (fun f15 h15 σ25 R15 E15 K15 hF => ?_)
    refine s_gA R15 (t_133 R15.S) (Nat.le_of_ble_eq_true rfl) rfl (o_133_2 R15.S) (fun _ _ => ?_)
    refine s_gA R15 (t_133 R15.S) (Nat.le_of_ble_eq_true rfl) rfl (o_133_0 R15.S) (fun _ _ => ?_)
    refine s_len R15 (by rw [(t_134 R15.S)]; decide) (by rw [(t_134 R15.S)]; decide) rfl ?_
    refine s_call R15 (Nat.zero_le _) (fun _ hq => SX1_grown (b := 0) (R15.rf) rfl (u_136 R15.S).1 rfl (R15.rn (by rw [(t_134 R15.S)]; decide) (by rw [(t_134 R15.S)]; decide)) hq) hF (fun f19 rv19 h19 q33 R19 e19 E19 hF => ?_)
    refine s_mv R19 (t_133 R19.S) (Nat.le_of_ble_eq_true rfl) rfl (o_133_2 R19.S) (by decide) (f_mv_1 hb (by decide) (by decide)) e19 hF (fun f20 h20 σ34 R20 E20 K20 hF => ?_)
    refine s_gA R20 (t_133 R20.S) (Nat.le_of_ble_eq_true rfl) rfl (o_133_3 R20.S) (fun _ _ => ?_)
    refine s_gA R20 (t_133 R20.S) (Nat.le_of_ble_eq_true rfl) rfl (o_133_0 R20.S) (fun _ _ => ?_)
    refine s_len R20 (by rw [(t_134 R20.S)]; decide) (by rw [(t_134 R20.S)]; decide) rfl ?_
    refine s_call R20 (Nat.zero_le _) (fun _ hq => SX1_grown (b := 0) (R20.rf) rfl (u_137 R20.S).1 rfl (R20.rn (by rw [(t_134 R20.S)]; decide) (by rw [(t_134 R20.S)]; decide)) hq) hF (fun f24 rv24 h24 q42 R24 e24 E24 hF => ?_)
    refine s_mv R24 (t_133 R24.S) (Nat.le_of_ble_eq_true rfl) rfl (o_133_3 R24.S) (by decide) (f_mv_1 hb (by decide) (by decide)) e24 hF (fun f25 h25 σ43 R25 E25 K25 hF => ?_)
    refine s_gA R25 (t_133 R25.S) (Nat.le_of_ble_eq_true rfl) rfl (o_133_5 R25.S) (fun _ _ => ?_)
    refine s_gA R25 (t_133 R25.S) (Nat.le_of_ble_eq_true rfl) rfl (o_133_0 R25.S) (fun _ _ => ?_)
    refine s_len R25 (by rw [(t_134 R25.S)]; decide) (by rw [(t_134 R25.S)]; decide) rfl ?_
    refine s_call R25 (Nat.zero_le _) (fun _ hq => SX1_grown (b := 0) (R25.rf) rfl (u_139 R25.S).1 rfl (R25.rn (by rw [(t_134 R25.S)]; decide) (by rw [(t_134 R25.S)]; decide)) hq) hF (fun f29 rv29 h29 q51 R29 e29 E29 hF => ?_)
    refine s_mv R29 (t_133 R29.S) (Nat.le_of_ble_eq_true rfl) rfl (o_133_5 R29.S) (by decide) (f_mv_1 hb (by decide) (by decide)) e29 hF (fun f30 h30 σ52 R30 E30 K30 hF => ?_)
    exact SX27_add_b98 R30 rfl rp0 rfl rp1 rfl rp2 rfl rp3 rfl rp4 rfl rp5 hF
def FX27_kind_b22 (s0 : Int) (s : fS) : Option (Int × fS) :=
  some (s0, s)
theorem SX27_kind_b22 {m b : Nat} {φ0 : Nat → Nat} {σo : fS} {q : Int × fS} {φ : Nat → Nat} {h : eH} {s : fS} {s0' : Int32} {s0 : Int} (R : fC m b φ0 σo φ h s) (es0 : s0' = iI s0) (rs0 : r32 s0) (hF : FX27_kind_b22 s0 s = some q) : gG m b φ0 σo lI q (fX27_kind_b22 s0' h) := by
  subst es0
  unfold FX27_kind_b22 at hF
  unfold fX27_kind_b22
  exact g_ret R hF ⟨rfl, rs0⟩
def FX27_kind_b21 (s : fS) : Option (Int × fS) :=
  FX27_kind_b22 (-1) s
theorem SX27_kind_b21 {m b : Nat} {φ0 : Nat → Nat} {σo : fS} {q : Int × fS} {φ : Nat → Nat} {h : eH} {s : fS} (R : fC m b φ0 σo φ h s) (hF : FX27_kind_b21 s = some q) : gG m b φ0 σo lI q (fX27_kind_b21 h) := by
  unfold FX27_kind_b21 at hF
  unfold fX27_kind_b21
  exact SX27_kind_b22 R (c_lit (-1) (-1) rfl) ⟨by decide, by decide⟩ hF
def FX27_kind (p0 : Int) (s : fS) : Option (Int × fS) :=
  if p0 < 0 then
    FX27_kind_b21 s
  else
    if (s.i 133 6) ≤ p0 then
      FX27_kind_b21 s
    else
      (uRI s 134 p0).bind fun x7 =>
      FX27_kind_b22 x7 s
theorem SX27_kind {m b : Nat} {φ0 : Nat → Nat} {σo : fS} {q : Int × fS} {φ : Nat → Nat} {h : eH} {s : fS} {p0' : Int32} {p0 : Int} (R : fC m b φ0 σo φ h s) (ep0 : p0' = iI p0) (rp0 : r32 p0) (hF : FX27_kind p0 s = some q) : gG m b φ0 σo lI q (fX27_kind 133 p0' h) := by
  subst ep0
  unfold FX27_kind at hF
  unfold fX27_kind
  refine s_if (i_lt rfl (c_lit 0 0 rfl) rp0 ⟨by decide, by decide⟩) hF (fun c1 hF => ?_) (fun c1 hF => ?_)
  ·
    exact SX27_kind_b21 R hF
  ·
    refine s_gI R (t_133 R.S) (Nat.le_of_ble_eq_true rfl) rfl ?_
    refine s_if (i_le rfl rfl (R.ri (t_133 R.S) (Nat.le_of_ble_eq_true rfl) rfl) rp0) hF (fun c3 hF => ?_) (fun c3 hF => ?_)
    ·
      exact SX27_kind_b21 R hF
    ·
      refine s_gA R (t_133 R.S) (Nat.le_of_ble_eq_true rfl) rfl (o_133_0 R.S) (fun _ _ => ?_)
      refine s_rI R (u_134 R.S).1 (u_134 R.S).2 (by decide) rfl rfl rp0 hF (fun x7 ra5 hF => ?_)
      exact SX27_kind_b22 R rfl ra5 hF
def FX28_canStep_b61 (s0 : Int) (s : fS) : Option (Int × fS) :=
  uZ s0 (s0, s)
theorem SX28_canStep_b61 {m b : Nat} {φ0 : Nat → Nat} {σo : fS} {q : Int × fS} {φ : Nat → Nat} {h : eH} {s : fS} {s0' : Int32} {s0 : Int} (R : fC m b φ0 σo φ h s) (es0 : s0' = iI s0) (rs0 : r32 s0) (hF : FX28_canStep_b61 s0 s = some q) : gG m b φ0 σo lI q (fX28_canStep_b61 s0' h) := by
  subst es0
  unfold FX28_canStep_b61 at hF
  unfold fX28_canStep_b61
  exact g_z R rfl hF ⟨rfl, rs0⟩
def FX28_canStep_b56 (s : fS) : Option (Int × fS) :=
  FX28_canStep_b61 1 s
theorem SX28_canStep_b56 {m b : Nat} {φ0 : Nat → Nat} {σo : fS} {q : Int × fS} {φ : Nat → Nat} {h : eH} {s : fS} (R : fC m b φ0 σo φ h s) (hF : FX28_canStep_b56 s = some q) : gG m b φ0 σo lI q (fX28_canStep_b56 h) := by
  unfold FX28_canStep_b56 at hF
  unfold fX28_canStep_b56
  exact SX28_canStep_b61 R (c_lit 1 1 rfl) ⟨by decide, by decide⟩ hF
def FX28_canStep_b60 (s : fS) : Option (Int × fS) :=
  FX28_canStep_b61 0 s
theorem SX28_canStep_b60 {m b : Nat} {φ0 : Nat → Nat} {σo : fS} {q : Int × fS} {φ : Nat → Nat} {h : eH} {s : fS} (R : fC m b φ0 σo φ h s) (hF : FX28_canStep_b60 s = some q) : gG m b φ0 σo lI q (fX28_canStep_b60 h) := by
  unfold FX28_canStep_b60 at hF
  unfold fX28_canStep_b60
  exact SX28_canStep_b61 R (c_lit 0 0 rfl) ⟨by decide, by decide⟩ hF
def FX28_canStep (s : fS) : Option (Int × fS) :=
  if (s.i 133 6) ≤ (s.i 140 10) then
    FX28_canStep_b60 s
  else
    (FX27_kind (s.i 140 10) s).bind fun q13 =>
    if ¬ (q13.1 = 2) then
      FX28_canStep_b56 q13.2
    else
      if (iadd (q13.2.i 140 10) 1) < (q13.2.i 133 6) then
        FX28_canStep_b56 q13.2
      else
        (q13.2.o 140 6).bind fun a22 =>
        (uK 29 q13.2 a22).bind fun _ =>
        if ¬ ((q13.2.i a22 4) = (-1)) then
          FX28_canStep_b60 q13.2
        else
          FX28_canStep_b56 q13.2
theorem SX28_canStep {m b : Nat} {φ0 : Nat → Nat} {σo : fS} {q : Int × fS} {φ : Nat → Nat} {h : eH} {s : fS} (R : fC m b φ0 σo φ h s) (hF : FX28_canStep s = some q) : gG m b φ0 σo lI q (fX28_canStep 140 h) := by
  unfold FX28_canStep at hF
  unfold fX28_canStep
  refine s_gI R (t_140 R.S) (Nat.le_of_ble_eq_true rfl) rfl ?_
  refine s_gO R (t_140 R.S) (Nat.le_of_ble_eq_true rfl) rfl (o_140_0 R.S) ?_
  refine s_gI R (t_133 R.S) (Nat.le_of_ble_eq_true rfl) rfl ?_
  refine s_if (i_le rfl rfl (R.ri (t_133 R.S) (Nat.le_of_ble_eq_true rfl) rfl) (R.ri (t_140 R.S) (Nat.le_of_ble_eq_true rfl) rfl)) hF (fun c4 hF => ?_) (fun c4 hF => ?_)
  ·
    exact SX28_canStep_b60 R hF
  ·
    refine s_gO R (t_140 R.S) (Nat.le_of_ble_eq_true rfl) rfl (o_140_0 R.S) ?_
    refine s_gI R (t_140 R.S) (Nat.le_of_ble_eq_true rfl) rfl ?_
    refine s_kok R (t_133 R.S) (Nat.le_of_ble_eq_true rfl) ?_
    refine s_call R (Nat.zero_le _) (fun _ hq => SX27_kind (b := 0) (R.rf) rfl (R.ri (t_140 R.S) (Nat.le_of_ble_eq_true rfl) rfl) hq) hF (fun f8 rv8 h8 q13 R8 e8 E8 hF => ?_)
    refine s_if (not_congr (i_eq e8.1 (c_lit 2 2 rfl) e8.2 ⟨by decide, by decide⟩)) hF (fun c9 hF => ?_) (fun c9 hF => ?_)
    ·
      exact SX28_canStep_b56 R8 hF
    ·
      refine s_gI R8 (t_140 R8.S) (Nat.le_of_ble_eq_true rfl) rfl ?_
      refine s_gO R8 (t_140 R8.S) (Nat.le_of_ble_eq_true rfl) rfl (o_140_0 R8.S) ?_
      refine s_gI R8 (t_133 R8.S) (Nat.le_of_ble_eq_true rfl) rfl ?_
      refine s_if (i_lt (c_add rfl (c_lit 1 1 rfl)) rfl (rr_I _) (R8.ri (t_133 R8.S) (Nat.le_of_ble_eq_true rfl) rfl)) hF (fun c13 hF => ?_) (fun c13 hF => ?_)
      ·
        exact SX28_canStep_b56 R8 hF
      ·
        refine s_oo hF (fun a22 e14 hF => ?_)
        refine s_gO R8 (t_140 R8.S) (Nat.le_of_ble_eq_true rfl) rfl e14 ?_
        refine s_K hF (fun t16 hF => ?_)
        refine s_gI R8 t16 (Nat.le_of_ble_eq_true rfl) rfl ?_
        refine s_if (not_congr (i_eq rfl (c_lit (-1) (-1) rfl) (R8.ri t16 (Nat.le_of_ble_eq_true rfl) rfl) ⟨by decide, by decide⟩)) hF (fun c17 hF => ?_) (fun c17 hF => ?_)
        ·
          exact SX28_canStep_b60 R8 hF
        ·
          exact SX28_canStep_b56 R8 hF
def FX30_crown (N : Nat) (this : Nat) (p1 : Nat) (s : fS) : Option (Unit × fS) :=
  (uK 28 s p1).bind fun _ =>
  (FX29_clear N p1 s).bind fun q2 =>
  (uK 29 q2.2 this).bind fun _ =>
  (uK 29 q2.2 this).bind fun _ =>
  (uRI q2.2 136 (q2.2.i this 4)).bind fun x9 =>
  (uK 28 q2.2 p1).bind fun _ =>
  (uPJ q2.2 p1 2 (lmax 0 (lsub (q2.2.i this 2) x9))).bind fun σ11 =>
  some ((), σ11)
theorem SX30_crown {m b : Nat} {φ0 : Nat → Nat} {σo : fS} {N : Nat} {q : Unit × fS} {φ : Nat → Nat} {h : eH} {s : fS} {this : Nat} {p1 : Nat} (R : fC m b φ0 σo φ h s) (hF : FX30_crown N this p1 s = some q) : gG m b φ0 σo lU q (fX30_crown N this 133 p1 h) := by
  unfold FX30_crown at hF
  unfold fX30_crown
  refine s_K hF (fun t2 hF => ?_)
  refine s_kok R t2 (Nat.le_of_ble_eq_true rfl) ?_
  refine s_call R (Nat.zero_le _) (fun _ hq => SX29_clear (b := 0) (N := N) (R.rf) hq) hF (fun f3 rv3 h3 q2 R3 e3 E3 hF => ?_)
  refine s_K hF (fun t5 hF => ?_)
  refine s_gI R3 t5 (Nat.le_of_ble_eq_true rfl) rfl ?_
  refine s_gA R3 (t_133 R3.S) (Nat.le_of_ble_eq_true rfl) rfl (o_133_2 R3.S) (fun _ _ => ?_)
  refine s_K hF (fun t8 hF => ?_)
  refine s_gI R3 t8 (Nat.le_of_ble_eq_true rfl) rfl ?_
  refine s_rI R3 (u_136 R3.S).1 (u_136 R3.S).2 (by decide) rfl rfl (R3.ri t8 (Nat.le_of_ble_eq_true rfl) rfl) hF (fun x9 ra9 hF => ?_)
  refine s_K hF (fun t11 hF => ?_)
  refine s_pJ R3 t11 (Nat.le_of_ble_eq_true rfl) rfl (d_max (d_lit 0 0 rfl) (d_sub (c_2l rfl (R3.ri t5 (Nat.le_of_ble_eq_true rfl) rfl)) (c_2l rfl ra9)) ⟨by decide, by decide⟩ (rr_J _)) (q_max ⟨by decide, by decide⟩ (rr_J _)) hF (fun h10 σ11 R10 T10 hF => ?_)
  exact g_ret R10 hF trivial
def FX28_open (N : Nat) (p0 : Int) (s : fS) : Option (Unit × fS) :=
  (s.o 140 6).bind fun a1 =>
  (uK 29 s a1).bind fun _ =>
  (uPI s a1 4 p0).bind fun σ3 =>
  (σ3.o 140 6).bind fun a5 =>
  (uK 29 σ3 a5).bind fun _ =>
  (uPI σ3 a5 1 (σ3.i 140 3)).bind fun σ9 =>
  (σ9.o 140 6).bind fun a11 =>
  (uK 29 σ9 a11).bind fun _ =>
  (uPI σ9 a11 2 (σ9.i 140 4)).bind fun σ15 =>
  (σ15.o 140 6).bind fun a17 =>
  (uK 29 σ15 a17).bind fun _ =>
  (uPI σ15 a17 3 (σ15.i 140 5)).bind fun σ21 =>
  (σ21.o 140 6).bind fun a23 =>
  (uK 29 σ21 a23).bind fun _ =>
  (FX30_crown N a23 141 σ21).bind fun q30 =>
  some ((), q30.2)
theorem SX28_open {m b : Nat} {φ0 : Nat → Nat} {σo : fS} {N : Nat} {q : Unit × fS} {φ : Nat → Nat} {h : eH} {s : fS} {p0' : Int32} {p0 : Int} (R : fC m b φ0 σo φ h s) (ep0 : p0' = iI p0) (rp0 : r32 p0) (hF : FX28_open N p0 s = some q) : gG m b φ0 σo lU q (fX28_open N 140 p0' h) := by
  subst ep0
  unfold FX28_open at hF
  unfold fX28_open
  refine s_oo hF (fun a1 e1 hF => ?_)
  refine s_gO R (t_140 R.S) (Nat.le_of_ble_eq_true rfl) rfl e1 ?_
  refine s_K hF (fun t3 hF => ?_)
  refine s_pI R t3 (Nat.le_of_ble_eq_true rfl) rfl rfl rp0 hF (fun h2 σ3 R2 T2 hF => ?_)
  refine s_oo hF (fun a5 e4 hF => ?_)
  refine s_gO R2 (t_140 R2.S) (Nat.le_of_ble_eq_true rfl) rfl e4 ?_
  refine s_gI R2 (t_140 R2.S) (Nat.le_of_ble_eq_true rfl) rfl ?_
  refine s_K hF (fun t7 hF => ?_)
  refine s_pI R2 t7 (Nat.le_of_ble_eq_true rfl) rfl rfl (R2.ri (t_140 R2.S) (Nat.le_of_ble_eq_true rfl) rfl) hF (fun h6 σ9 R6 T6 hF => ?_)
  refine s_oo hF (fun a11 e8 hF => ?_)
  refine s_gO R6 (t_140 R6.S) (Nat.le_of_ble_eq_true rfl) rfl e8 ?_
  refine s_gI R6 (t_140 R6.S) (Nat.le_of_ble_eq_true rfl) rfl ?_
  refine s_K hF (fun t11 hF => ?_)
  refine s_pI R6 t11 (Nat.le_of_ble_eq_true rfl) rfl rfl (R6.ri (t_140 R6.S) (Nat.le_of_ble_eq_true rfl) rfl) hF (fun h10 σ15 R10 T10 hF => ?_)
  refine s_oo hF (fun a17 e12 hF => ?_)
  refine s_gO R10 (t_140 R10.S) (Nat.le_of_ble_eq_true rfl) rfl e12 ?_
  refine s_gI R10 (t_140 R10.S) (Nat.le_of_ble_eq_true rfl) rfl ?_
  refine s_K hF (fun t15 hF => ?_)
  refine s_pI R10 t15 (Nat.le_of_ble_eq_true rfl) rfl rfl (R10.ri (t_140 R10.S) (Nat.le_of_ble_eq_true rfl) rfl) hF (fun h14 σ21 R14 T14 hF => ?_)
  refine s_oo hF (fun a23 e16 hF => ?_)
  refine s_gO R14 (t_140 R14.S) (Nat.le_of_ble_eq_true rfl) rfl e16 ?_
  refine s_gO R14 (t_140 R14.S) (Nat.le_of_ble_eq_true rfl) rfl (o_140_0 R14.S) ?_
  refine s_gO R14 (t_140 R14.S) (Nat.le_of_ble_eq_true rfl) rfl (o_140_1 R14.S) ?_
  refine s_K hF (fun t20 hF => ?_)
  refine s_kok R14 t20 (Nat.le_of_ble_eq_true rfl) ?_
  refine s_call R14 (Nat.zero_le _) (fun _ hq => SX30_crown (b := 0) (N := N) (R14.rf) hq) hF (fun f21 rv21 h21 q30 R21 e21 E21 hF => ?_)
  exact g_ret R21 hF trivial
def FX29_space (this : Nat) (p0 : Int) (s : fS) : Option (Unit × fS) :=
  (uK 28 s this).bind fun _ =>
  (uK 28 s this).bind fun _ =>
  (uK 28 s this).bind fun _ =>
  (uPJ s this 2 (ladd (s.j this 2) (ladd (s.j this 3) p0))).bind fun σ5 =>
  (uK 28 σ5 this).bind fun _ =>
  (uPJ σ5 this 3 0).bind fun σ7 =>
  some ((), σ7)
theorem SX29_space {m b : Nat} {φ0 : Nat → Nat} {σo : fS} {q : Unit × fS} {φ : Nat → Nat} {h : eH} {s : fS} {this : Nat} {p0' : Int64} {p0 : Int} (R : fC m b φ0 σo φ h s) (ep0 : p0' = iJ p0) (rp0 : r64 p0) (hF : FX29_space this p0 s = some q) : gG m b φ0 σo lU q (fX29_space this p0' h) := by
  subst ep0
  unfold FX29_space at hF
  unfold fX29_space
  refine s_K hF (fun t2 hF => ?_)
  refine s_gJ R t2 (Nat.le_of_ble_eq_true rfl) rfl ?_
  refine s_K hF (fun t4 hF => ?_)
  refine s_gJ R t4 (Nat.le_of_ble_eq_true rfl) rfl ?_
  refine s_K hF (fun t6 hF => ?_)
  refine s_pJ R t6 (Nat.le_of_ble_eq_true rfl) rfl (d_add rfl (d_add rfl rfl)) (rr_J _) hF (fun h5 σ5 R5 T5 hF => ?_)
  refine s_K hF (fun t8 hF => ?_)
  refine s_pJ R5 t8 (Nat.le_of_ble_eq_true rfl) rfl (d_lit 0 0 rfl) ⟨by decide, by decide⟩ hF (fun h7 σ7 R7 T7 hF => ?_)
  exact g_ret R7 hF trivial
def FX29_add_b164 (s : fS) : Option (Unit × fS) :=
  some ((), s)
theorem SX29_add_b164 {m b : Nat} {φ0 : Nat → Nat} {σo : fS} {q : Unit × fS} {φ : Nat → Nat} {h : eH} {s : fS} (R : fC m b φ0 σo φ h s) (hF : FX29_add_b164 s = some q) : gG m b φ0 σo lU q (fX29_add_b164 h) := by
  unfold FX29_add_b164 at hF
  unfold fX29_add_b164
  exact g_ret R hF trivial
def FX29_add (this : Nat) (p1 : Int) (p2 : Int) (s : fS) : Option (Unit × fS) :=
  (uRI s 134 p1).bind fun x3 =>
  if x3 = 0 then
    (uK 28 s this).bind fun _ =>
    (uK 28 s this).bind fun _ =>
    (uRI s 136 p1).bind fun x12 =>
    (uK 28 s this).bind fun _ =>
    (uPJ s this 2 (ladd (s.j this 2) (ladd (s.j this 3) x12))).bind fun σ14 =>
    (uRI σ14 137 p1).bind fun x18 =>
    (uK 28 σ14 this).bind fun _ =>
    (uPJ σ14 this 3 x18).bind fun σ20 =>
    (uK 28 σ20 this).bind fun _ =>
    if (σ20.j this 3) ≤ p2 then
      FX29_add_b164 σ20
    else
      (uK 28 σ20 this).bind fun _ =>
      (uK 28 σ20 this).bind fun _ =>
      (uK 28 σ20 this).bind fun _ =>
      (uPJ σ20 this 2 (ladd (σ20.j this 2) (lsub (σ20.j this 3) p2))).bind fun σ29 =>
      (uK 28 σ29 this).bind fun _ =>
      (uPJ σ29 this 3 p2).bind fun σ31 =>
      FX29_add_b164 σ31
  else
    if x3 = 1 then
      (uK 28 s this).bind fun _ =>
      (s.o this 0).bind fun a34 =>
      (uRI s 138 p1).bind fun x38 =>
      (uKA 101 s a34).bind fun _ =>
      (uRJ s a34 x38).bind fun x40 =>
      (uRI s 136 p1).bind fun x44 =>
      (uKA 101 s a34).bind fun _ =>
      (uQJ s a34 x38 (ladd x40 x44)).bind fun σ46 =>
      (uK 28 σ46 this).bind fun _ =>
      (uRI σ46 137 p1).bind fun x52 =>
      (uK 28 σ46 this).bind fun _ =>
      (uPJ σ46 this 1 (ladd (σ46.j this 1) x52)).bind fun σ54 =>
      (uRI σ54 135 p1).bind fun x58 =>
      (uK 28 σ54 this).bind fun _ =>
      (FX29_space this x58 σ54).bind fun q61 =>
      FX29_add_b164 q61.2
    else
      if x3 = 2 then
        (uRI s 135 p1).bind fun x65 =>
        (uK 28 s this).bind fun _ =>
        (FX29_space this x65 s).bind fun q68 =>
        FX29_add_b164 q68.2
      else
        FX29_add_b164 s
theorem SX29_add {m b : Nat} {φ0 : Nat → Nat} {σo : fS} {q : Unit × fS} {φ : Nat → Nat} {h : eH} {s : fS} {this : Nat} {p1' : Int32} {p1 : Int} {p2' : Int32} {p2 : Int} (R : fC m b φ0 σo φ h s) (ep1 : p1' = iI p1) (rp1 : r32 p1) (ep2 : p2' = iI p2) (rp2 : r32 p2) (hF : FX29_add this p1 p2 s = some q) : gG m b φ0 σo lU q (fX29_add this 133 p1' p2' h) := by
  subst ep1; subst ep2
  unfold FX29_add at hF
  unfold fX29_add
  refine s_gA R (t_133 R.S) (Nat.le_of_ble_eq_true rfl) rfl (o_133_0 R.S) (fun _ _ => ?_)
  refine s_rI R (u_134 R.S).1 (u_134 R.S).2 (by decide) rfl rfl rp1 hF (fun x3 ra2 hF => ?_)
  refine s_if (i_eq rfl (c_lit 0 0 rfl) ra2 ⟨by decide, by decide⟩) hF (fun c3 hF => ?_) (fun c3 hF => ?_)
  ·
    refine s_K hF (fun t5 hF => ?_)
    refine s_gJ R t5 (Nat.le_of_ble_eq_true rfl) rfl ?_
    refine s_K hF (fun t7 hF => ?_)
    refine s_gJ R t7 (Nat.le_of_ble_eq_true rfl) rfl ?_
    refine s_gA R (t_133 R.S) (Nat.le_of_ble_eq_true rfl) rfl (o_133_2 R.S) (fun _ _ => ?_)
    refine s_rI R (u_136 R.S).1 (u_136 R.S).2 (by decide) rfl rfl rp1 hF (fun x12 ra9 hF => ?_)
    refine s_K hF (fun t11 hF => ?_)
    refine s_pJ R t11 (Nat.le_of_ble_eq_true rfl) rfl (d_add rfl (d_add rfl (c_2l rfl ra9))) (rr_J _) hF (fun h10 σ14 R10 T10 hF => ?_)
    refine s_gA R10 (t_133 R10.S) (Nat.le_of_ble_eq_true rfl) rfl (o_133_3 R10.S) (fun _ _ => ?_)
    refine s_rI R10 (u_137 R10.S).1 (u_137 R10.S).2 (by decide) rfl rfl rp1 hF (fun x18 ra13 hF => ?_)
    refine s_K hF (fun t15 hF => ?_)
    refine s_pJ R10 t15 (Nat.le_of_ble_eq_true rfl) rfl (c_2l rfl ra13) (r32.w ra13) hF (fun h14 σ20 R14 T14 hF => ?_)
    refine s_K hF (fun t17 hF => ?_)
    refine s_gJ R14 t17 (Nat.le_of_ble_eq_true rfl) rfl ?_
    refine s_if (lg_le.trans (j_le rfl (c_2l rfl rp2) (R14.rj t17 (Nat.le_of_ble_eq_true rfl) rfl) (r32.w rp2))) hF (fun c18 hF => ?_) (fun c18 hF => ?_)
    ·
      exact SX29_add_b164 R14 hF
    ·
      refine s_K hF (fun t20 hF => ?_)
      refine s_gJ R14 t20 (Nat.le_of_ble_eq_true rfl) rfl ?_
      refine s_K hF (fun t22 hF => ?_)
      refine s_gJ R14 t22 (Nat.le_of_ble_eq_true rfl) rfl ?_
      refine s_K hF (fun t24 hF => ?_)
      refine s_pJ R14 t24 (Nat.le_of_ble_eq_true rfl) rfl (d_add rfl (d_sub rfl (c_2l rfl rp2))) (rr_J _) hF (fun h23 σ29 R23 T23 hF => ?_)
      refine s_K hF (fun t26 hF => ?_)
      refine s_pJ R23 t26 (Nat.le_of_ble_eq_true rfl) rfl (c_2l rfl rp2) (r32.w rp2) hF (fun h25 σ31 R25 T25 hF => ?_)
      exact SX29_add_b164 R25 hF
  ·
    refine s_if (i_eq rfl (c_lit 1 1 rfl) ra2 ⟨by decide, by decide⟩) hF (fun c27 hF => ?_) (fun c27 hF => ?_)
    ·
      refine s_K hF (fun t29 hF => ?_)
      refine s_oo hF (fun a34 e28 hF => ?_)
      refine s_gA R t29 (Nat.le_of_ble_eq_true rfl) rfl e28 (fun x28_ y28_ => ?_)
      refine s_gA R (t_133 R.S) (Nat.le_of_ble_eq_true rfl) rfl (o_133_4 R.S) (fun _ _ => ?_)
      refine s_rI R (u_138 R.S).1 (u_138 R.S).2 (by decide) rfl rfl rp1 hF (fun x38 ra31 hF => ?_)
      refine s_KA hF (fun y33 z33 hF => ?_)
      refine s_rJ R y33 z33 rfl rfl ra31 hF (fun x40 ra32 hF => ?_)
      refine s_gA R (t_133 R.S) (Nat.le_of_ble_eq_true rfl) rfl (o_133_2 R.S) (fun _ _ => ?_)
      refine s_rI R (u_136 R.S).1 (u_136 R.S).2 (by decide) rfl rfl rp1 hF (fun x44 ra35 hF => ?_)
      refine s_KA hF (fun y37 z37 hF => ?_)
      refine s_qJ R y37 z37 rfl rfl ra31 (d_add rfl (c_2l rfl ra35)) (rr_J _) hF (fun h36 σ46 R36 T36 hF => ?_)
      refine s_K hF (fun t39 hF => ?_)
      refine s_gJ R36 t39 (Nat.le_of_ble_eq_true rfl) rfl ?_
      refine s_gA R36 (t_133 R36.S) (Nat.le_of_ble_eq_true rfl) rfl (o_133_3 R36.S) (fun _ _ => ?_)
      refine s_rI R36 (u_137 R36.S).1 (u_137 R36.S).2 (by decide) rfl rfl rp1 hF (fun x52 ra41 hF => ?_)
      refine s_K hF (fun t43 hF => ?_)
      refine s_pJ R36 t43 (Nat.le_of_ble_eq_true rfl) rfl (d_add rfl (c_2l rfl ra41)) (rr_J _) hF (fun h42 σ54 R42 T42 hF => ?_)
      refine s_gA R42 (t_133 R42.S) (Nat.le_of_ble_eq_true rfl) rfl (o_133_1 R42.S) (fun _ _ => ?_)
      refine s_rI R42 (u_135 R42.S).1 (u_135 R42.S).2 (by decide) rfl rfl rp1 hF (fun x58 ra45 hF => ?_)
      refine s_K hF (fun t47 hF => ?_)
      refine s_kok R42 t47 (Nat.le_of_ble_eq_true rfl) ?_
      refine s_call R42 (Nat.zero_le _) (fun _ hq => SX29_space (b := 0) (R42.rf) (c_2l rfl ra45) (r32.w ra45) hq) hF (fun f48 rv48 h48 q61 R48 e48 E48 hF => ?_)
      exact SX29_add_b164 R48 hF
    ·
      refine s_if (i_eq rfl (c_lit 2 2 rfl) ra2 ⟨by decide, by decide⟩) hF (fun c49 hF => ?_) (fun c49 hF => ?_)
      ·
        refine s_gA R (t_133 R.S) (Nat.le_of_ble_eq_true rfl) rfl (o_133_1 R.S) (fun _ _ => ?_)
        refine s_rI R (u_135 R.S).1 (u_135 R.S).2 (by decide) rfl rfl rp1 hF (fun x65 ra51 hF => ?_)
        refine s_K hF (fun t53 hF => ?_)
        refine s_kok R t53 (Nat.le_of_ble_eq_true rfl) ?_
        refine s_call R (Nat.zero_le _) (fun _ hq => SX29_space (b := 0) (R.rf) (c_2l rfl ra51) (r32.w ra51) hq) hF (fun f54 rv54 h54 q68 R54 e54 E54 hF => ?_)
        exact SX29_add_b164 R54 hF
      ·
        exact SX29_add_b164 R hF
def FX28_penalty_b34 (s0 : Int) (s : fS) : Option (Int × fS) :=
  some (s0, s)
theorem SX28_penalty_b34 {m b : Nat} {φ0 : Nat → Nat} {σo : fS} {q : Int × fS} {φ : Nat → Nat} {h : eH} {s : fS} {s0' : Int32} {s0 : Int} (R : fC m b φ0 σo φ h s) (es0 : s0' = iI s0) (rs0 : r32 s0) (hF : FX28_penalty_b34 s0 s = some q) : gG m b φ0 σo lI q (fX28_penalty_b34 s0' h) := by
  subst es0
  unfold FX28_penalty_b34 at hF
  unfold fX28_penalty_b34
  exact g_ret R hF ⟨rfl, rs0⟩
def FX28_penalty_b61 (s0 : Int) (s : fS) : Option (Int × fS) :=
  some (s0, s)
theorem SX28_penalty_b61 {m b : Nat} {φ0 : Nat → Nat} {σo : fS} {q : Int × fS} {φ : Nat → Nat} {h : eH} {s : fS} {s0' : Int32} {s0 : Int} (R : fC m b φ0 σo φ h s) (es0 : s0' = iI s0) (rs0 : r32 s0) (hF : FX28_penalty_b61 s0 s = some q) : gG m b φ0 σo lI q (fX28_penalty_b61 s0' h) := by
  subst es0
  unfold FX28_penalty_b61 at hF
  unfold fX28_penalty_b61
  exact g_ret R hF ⟨rfl, rs0⟩
def FX28_penalty_b82 (s0 : Int) (s : fS) : Option (Int × fS) :=
  some (s0, s)
theorem SX28_penalty_b82 {m b : Nat} {φ0 : Nat → Nat} {σo : fS} {q : Int × fS} {φ : Nat → Nat} {h : eH} {s : fS} {s0' : Int32} {s0 : Int} (R : fC m b φ0 σo φ h s) (es0 : s0' = iI s0) (rs0 : r32 s0) (hF : FX28_penalty_b82 s0 s = some q) : gG m b φ0 σo lI q (fX28_penalty_b82 s0' h) := by
  subst es0
  unfold FX28_penalty_b82 at hF
  unfold fX28_penalty_b82
  exact g_ret R hF ⟨rfl, rs0⟩
def FX28_penalty (p0 : Int) (s : fS) : Option (Int × fS) :=
  (FX27_kind p0 s).bind fun q4 =>
  if ¬ (q4.1 = 1) then
    if ¬ (q4.1 = 2) then
      if ¬ (q4.1 = 3) then
        FX28_penalty_b82 10000 q4.2
      else
        (uRI q4.2 135 p0).bind fun x12 =>
        FX28_penalty_b82 x12 q4.2
    else
      (FX27_kind (iadd p0 1) q4.2).bind fun q17 =>
      if ¬ (q17.1 = 1) then
        FX28_penalty_b61 10000 q17.2
      else
        FX28_penalty_b61 0 q17.2
  else
    (FX27_kind (isub p0 1) q4.2).bind fun q22 =>
    if ¬ (q22.1 = 0) then
      FX28_penalty_b34 10000 q22.2
    else
      FX28_penalty_b34 0 q22.2
theorem SX28_penalty {m b : Nat} {φ0 : Nat → Nat} {σo : fS} {q : Int × fS} {φ : Nat → Nat} {h : eH} {s : fS} {p0' : Int32} {p0 : Int} (R : fC m b φ0 σo φ h s) (ep0 : p0' = iI p0) (rp0 : r32 p0) (hF : FX28_penalty p0 s = some q) : gG m b φ0 σo lI q (fX28_penalty 140 p0' h) := by
  subst ep0
  unfold FX28_penalty at hF
  unfold fX28_penalty
  refine s_gO R (t_140 R.S) (Nat.le_of_ble_eq_true rfl) rfl (o_140_0 R.S) ?_
  refine s_kok R (t_133 R.S) (Nat.le_of_ble_eq_true rfl) ?_
  refine s_call R (Nat.zero_le _) (fun _ hq => SX27_kind (b := 0) (R.rf) rfl rp0 hq) hF (fun f3 rv3 h3 q4 R3 e3 E3 hF => ?_)
  refine s_if (not_congr (i_eq e3.1 (c_lit 1 1 rfl) e3.2 ⟨by decide, by decide⟩)) hF (fun c4 hF => ?_) (fun c4 hF => ?_)
  ·
    refine s_if (not_congr (i_eq e3.1 (c_lit 2 2 rfl) e3.2 ⟨by decide, by decide⟩)) hF (fun c5 hF => ?_) (fun c5 hF => ?_)
    ·
      refine s_if (not_congr (i_eq e3.1 (c_lit 3 3 rfl) e3.2 ⟨by decide, by decide⟩)) hF (fun c6 hF => ?_) (fun c6 hF => ?_)
      ·
        exact SX28_penalty_b82 R3 (c_lit 10000 10000 rfl) ⟨by decide, by decide⟩ hF
      ·
        refine s_gO R3 (t_140 R3.S) (Nat.le_of_ble_eq_true rfl) rfl (o_140_0 R3.S) ?_
        refine s_gA R3 (t_133 R3.S) (Nat.le_of_ble_eq_true rfl) rfl (o_133_1 R3.S) (fun _ _ => ?_)
        refine s_rI R3 (u_135 R3.S).1 (u_135 R3.S).2 (by decide) rfl rfl rp0 hF (fun x12 ra9 hF => ?_)
        exact SX28_penalty_b82 R3 rfl ra9 hF
    ·
      refine s_gO R3 (t_140 R3.S) (Nat.le_of_ble_eq_true rfl) rfl (o_140_0 R3.S) ?_
      refine s_kok R3 (t_133 R3.S) (Nat.le_of_ble_eq_true rfl) ?_
      refine s_call R3 (Nat.zero_le _) (fun _ hq => SX27_kind (b := 0) (R3.rf) (c_add rfl (c_lit 1 1 rfl)) (rr_I _) hq) hF (fun f12 rv12 h12 q17 R12 e12 E12 hF => ?_)
      refine s_if (not_congr (i_eq e12.1 (c_lit 1 1 rfl) e12.2 ⟨by decide, by decide⟩)) hF (fun c13 hF => ?_) (fun c13 hF => ?_)
      ·
        exact SX28_penalty_b61 R12 (c_lit 10000 10000 rfl) ⟨by decide, by decide⟩ hF
      ·
        exact SX28_penalty_b61 R12 (c_lit 0 0 rfl) ⟨by decide, by decide⟩ hF
  ·
    refine s_gO R3 (t_140 R3.S) (Nat.le_of_ble_eq_true rfl) rfl (o_140_0 R3.S) ?_
    refine s_kok R3 (t_133 R3.S) (Nat.le_of_ble_eq_true rfl) ?_
    refine s_call R3 (Nat.zero_le _) (fun _ hq => SX27_kind (b := 0) (R3.rf) (c_sub rfl (c_lit 1 1 rfl)) (rr_I _) hq) hF (fun f16 rv16 h16 q22 R16 e16 E16 hF => ?_)
    refine s_if (not_congr (i_eq e16.1 (c_lit 0 0 rfl) e16.2 ⟨by decide, by decide⟩)) hF (fun c17 hF => ?_) (fun c17 hF => ?_)
    ·
      exact SX28_penalty_b34 R16 (c_lit 10000 10000 rfl) ⟨by decide, by decide⟩ hF
    ·
      exact SX28_penalty_b34 R16 (c_lit 0 0 rfl) ⟨by decide, by decide⟩ hF
def FX29_order_b23 (N : Nat) (l1 : Int) (s : fS) : Option (Int × fS) :=
  some (l1, s)
theorem SX29_order_b23 {m b : Nat} {φ0 : Nat → Nat} {σo : fS} {N : Nat} {q : Int × fS} {φ : Nat → Nat} {h : eH} {s : fS} {l1' : Int32} {l1 : Int} (R : fC m b φ0 σo φ h s) (el1 : l1' = iI l1) (rl1 : r32 l1) (hF : FX29_order_b23 N l1 s = some q) : gG m b φ0 σo lI q (fX29_order_b23 N l1' h) := by
  subst el1
  unfold FX29_order_b23 at hF
  unfold fX29_order_b23
  exact g_ret R hF ⟨rfl, rl1⟩
def FX29_order_b2 (N : Nat) : Nat → Nat → Int → fS → Option (Int × fS)
  | 0, _, _, _ => none
  | n + 1, l0, l1, s =>
    if l1 ≤ 0 then
      FX29_order_b23 N l1 s
    else
      (uK 28 s l0).bind fun _ =>
      (s.o l0 0).bind fun a2 =>
      (uKA 101 s a2).bind fun _ =>
      (uRJ s a2 l1).bind fun x4 =>
      if ¬ (x4 = 0) then
        FX29_order_b23 N l1 s
      else
        FX29_order_b2 N n l0 (iadd l1 (-1)) s
theorem SX29_order_b2 {m b : Nat} {φ0 : Nat → Nat} {σo : fS} {N : Nat} {q : Int × fS} : ∀ {n : Nat} {φ : Nat → Nat} {h : eH} {s : fS} {l0 : Nat} {l1' : Int32} {l1 : Int}, fC m b φ0 σo φ h s → l1' = iI l1 → r32 l1 → FX29_order_b2 N n l0 l1 s = some q → gG m b φ0 σo lI q (fX29_order_b2 N n l0 l1' h) := by
  intro n
  induction n with
 | zero => intro φ h s l0 l1' l1 R el1 rl1 hF; simp [FX29_order_b2] at hF
  | succ n ih =>
    intro φ h s l0 l1' l1 R el1 rl1 hF
    subst el1
    rw [FX29_order_b2] at hF
    rw [fX29_order_b2]
    refine s_if (i_le rfl (c_lit 0 0 rfl) rl1 ⟨by decide, by decide⟩) hF (fun c1 hF => ?_) (fun c1 hF => ?_)
    ·
      exact SX29_order_b23 (N := N) R rfl rl1 hF
    ·
      refine s_K hF (fun t3 hF => ?_)
      refine s_oo hF (fun a2 e2 hF => ?_)
      refine s_gA R t3 (Nat.le_of_ble_eq_true rfl) rfl e2 (fun x2_ y2_ => ?_)
      refine s_KA hF (fun y5 z5 hF => ?_)
      refine s_rJ R y5 z5 rfl rfl rl1 hF (fun x4 ra4 hF => ?_)
      refine s_if (not_congr (lg_eq.trans (j_eq rfl (d_lit 0 0 rfl) ra4 ⟨by decide, by decide⟩))) hF (fun c6 hF => ?_) (fun c6 hF => ?_)
      ·
        exact SX29_order_b23 (N := N) R rfl rl1 hF
      ·
        exact ih R (c_add rfl (c_lit (-1) (-1) rfl)) (rr_I _) hF
def FX29_order (N : Nat) (this : Nat) (s : fS) : Option (Int × fS) :=
  FX29_order_b2 N N this 3 s
theorem SX29_order {m b : Nat} {φ0 : Nat → Nat} {σo : fS} {N : Nat} {q : Int × fS} {φ : Nat → Nat} {h : eH} {s : fS} {this : Nat} (R : fC m b φ0 σo φ h s) (hF : FX29_order N this s = some q) : gG m b φ0 σo lI q (fX29_order N this h) := by
  unfold FX29_order at hF
  unfold fX29_order
  exact SX29_order_b2 (N := N) R (c_lit 3 3 rfl) ⟨by decide, by decide⟩ hF
def FX29_badnessOf_b81 (s0 : Int) (s : fS) : Option (Int × fS) :=
  some (s0, s)
theorem SX29_badnessOf_b81 {m b : Nat} {φ0 : Nat → Nat} {σo : fS} {q : Int × fS} {φ : Nat → Nat} {h : eH} {s : fS} {s0' : Int32} {s0 : Int} (R : fC m b φ0 σo φ h s) (es0 : s0' = iI s0) (rs0 : r32 s0) (hF : FX29_badnessOf_b81 s0 s = some q) : gG m b φ0 σo lI q (fX29_badnessOf_b81 s0' h) := by
  subst es0
  unfold FX29_badnessOf_b81 at hF
  unfold fX29_badnessOf_b81
  exact g_ret R hF ⟨rfl, rs0⟩
def FX29_badnessOf_b47 (s0 : Int) (s : fS) : Option (Int × fS) :=
  if s0 ≤ 1290 then
    FX29_badnessOf_b81 (l2i (ldiv (ladd (lmul (lmul s0 s0) s0) 131072) 262144)) s
  else
    FX29_badnessOf_b81 10000 s
theorem SX29_badnessOf_b47 {m b : Nat} {φ0 : Nat → Nat} {σo : fS} {q : Int × fS} {φ : Nat → Nat} {h : eH} {s : fS} {s0' : Int64} {s0 : Int} (R : fC m b φ0 σo φ h s) (es0 : s0' = iJ s0) (rs0 : r64 s0) (hF : FX29_badnessOf_b47 s0 s = some q) : gG m b φ0 σo lI q (fX29_badnessOf_b47 s0' h) := by
  subst es0
  unfold FX29_badnessOf_b47 at hF
  unfold fX29_badnessOf_b47
  refine s_if (lg_le.trans (j_le rfl (d_lit 1290 1290 rfl) rs0 ⟨by decide, by decide⟩)) hF (fun c1 hF => ?_) (fun c1 hF => ?_)
  ·
    exact SX29_badnessOf_b81 R (d_2i (d_div (d_add (d_mul (d_mul rfl rfl) rfl) (d_lit 131072 131072 rfl)) (d_lit 262144 262144 rfl))) (rr_I _) hF
  ·
    exact SX29_badnessOf_b81 R (c_lit 10000 10000 rfl) ⟨by decide, by decide⟩ hF
def FX29_badnessOf (p0 : Int) (p1 : Int) (s : fS) : Option (Int × fS) :=
  if ¬ (p1 = 0) then
    if 7230584 < p0 then
      if p1 < 1663497 then
        FX29_badnessOf_b47 p0 s
      else
        if (ldiv p1 297) = 0 then none else
        FX29_badnessOf_b47 (ldiv p0 (ldiv p1 297)) s
    else
      if p1 = 0 then none else
      FX29_badnessOf_b47 (ldiv (lmul 297 p0) p1) s
  else
    some (10000, s)
theorem SX29_badnessOf {m b : Nat} {φ0 : Nat → Nat} {σo : fS} {q : Int × fS} {φ : Nat → Nat} {h : eH} {s : fS} {p0' : Int64} {p0 : Int} {p1' : Int64} {p1 : Int} (R : fC m b φ0 σo φ h s) (ep0 : p0' = iJ p0) (rp0 : r64 p0) (ep1 : p1' = iJ p1) (rp1 : r64 p1) (hF : FX29_badnessOf p0 p1 s = some q) : gG m b φ0 σo lI q (fX29_badnessOf p0' p1' h) := by
  subst ep0; subst ep1
  unfold FX29_badnessOf at hF
  unfold fX29_badnessOf
  refine s_if (not_congr (lg_eq.trans (j_eq rfl (d_lit 0 0 rfl) rp1 ⟨by decide, by decide⟩))) hF (fun c1 hF => ?_) (fun c1 hF => ?_)
  ·
    refine s_if ((lg_cmp_gt _ _).trans (j_lt (d_lit 7230584 7230584 rfl) rfl ⟨by decide, by decide⟩ rp0)) hF (fun c2 hF => ?_) (fun c2 hF => ?_)
    ·
      refine s_if (lg_lt.trans (j_lt rfl (d_lit 1663497 1663497 rfl) rp1 ⟨by decide, by decide⟩)) hF (fun c3 hF => ?_) (fun c3 hF => ?_)
      ·
        exact SX29_badnessOf_b47 R rfl rp0 hF
      ·
        refine s_div (j_eq (d_div rfl (d_lit 297 297 rfl)) (d_lit 0 0 rfl) (rr_J _) ⟨by decide, by decide⟩) hF (fun c4 hF => ?_)
        exact SX29_badnessOf_b47 R (d_div rfl (d_div rfl (d_lit 297 297 rfl))) (rr_J _) hF
    ·
      refine s_div (j_eq rfl (d_lit 0 0 rfl) rp1 ⟨by decide, by decide⟩) hF (fun c5 hF => ?_)
      exact SX29_badnessOf_b47 R (d_div (d_mul (d_lit 297 297 rfl) rfl) rfl) (rr_J _) hF
  ·
    exact g_ret R hF ⟨(c_lit 10000 10000 rfl), ⟨by decide, by decide⟩⟩
def FX29_badness_b42 (N : Nat) (s0 : Int) (s : fS) : Option (Int × fS) :=
  some (s0, s)
theorem SX29_badness_b42 {m b : Nat} {φ0 : Nat → Nat} {σo : fS} {N : Nat} {q : Int × fS} {φ : Nat → Nat} {h : eH} {s : fS} {s0' : Int32} {s0 : Int} (R : fC m b φ0 σo φ h s) (es0 : s0' = iI s0) (rs0 : r32 s0) (hF : FX29_badness_b42 N s0 s = some q) : gG m b φ0 σo lI q (fX29_badness_b42 N s0' h) := by
  subst es0
  unfold FX29_badness_b42 at hF
  unfold fX29_badness_b42
  exact g_ret R hF ⟨rfl, rs0⟩
def FX29_badness_b67 (N : Nat) (s0 : Int) (s : fS) : Option (Int × fS) :=
  some (s0, s)
theorem SX29_badness_b67 {m b : Nat} {φ0 : Nat → Nat} {σo : fS} {N : Nat} {q : Int × fS} {φ : Nat → Nat} {h : eH} {s : fS} {s0' : Int32} {s0 : Int} (R : fC m b φ0 σo φ h s) (es0 : s0' = iI s0) (rs0 : r32 s0) (hF : FX29_badness_b67 N s0 s = some q) : gG m b φ0 σo lI q (fX29_badness_b67 N s0' h) := by
  subst es0
  unfold FX29_badness_b67 at hF
  unfold fX29_badness_b67
  exact g_ret R hF ⟨rfl, rs0⟩
def FX29_badness (N : Nat) (this : Nat) (p0 : Int) (s : fS) : Option (Int × fS) :=
  (uK 28 s this).bind fun _ =>
  if ¬ ((lsub p0 (s.j this 2)) = 0) then
    if (lsub p0 (s.j this 2)) ≤ 0 then
      (uK 28 s this).bind fun _ =>
      if (lneg (lsub p0 (s.j this 2))) ≤ (s.j this 1) then
        (uK 28 s this).bind fun _ =>
        (FX29_badnessOf (lneg (lsub p0 (s.j this 2))) (s.j this 1) s).bind fun q10 =>
        FX29_badness_b67 N q10.1 q10.2
      else
        FX29_badness_b67 N 1073741823 s
    else
      (uK 28 s this).bind fun _ =>
      (FX29_order N this s).bind fun q12 =>
      if q12.1 ≤ 0 then
        (uK 28 q12.2 this).bind fun _ =>
        (q12.2.o this 0).bind fun a14 =>
        (uKA 101 q12.2 a14).bind fun _ =>
        (uRJ q12.2 a14 0).bind fun x16 =>
        (FX29_badnessOf (lsub p0 (s.j this 2)) x16 q12.2).bind fun q18 =>
        FX29_badness_b42 N q18.1 q18.2
      else
        FX29_badness_b42 N 0 q12.2
  else
    some (0, s)
theorem SX29_badness {m b : Nat} {φ0 : Nat → Nat} {σo : fS} {N : Nat} {q : Int × fS} {φ : Nat → Nat} {h : eH} {s : fS} {this : Nat} {p0' : Int64} {p0 : Int} (R : fC m b φ0 σo φ h s) (ep0 : p0' = iJ p0) (rp0 : r64 p0) (hF : FX29_badness N this p0 s = some q) : gG m b φ0 σo lI q (fX29_badness N this p0' h) := by
  subst ep0
  unfold FX29_badness at hF
  unfold fX29_badness
  refine s_K hF (fun t2 hF => ?_)
  refine s_gJ R t2 (Nat.le_of_ble_eq_true rfl) rfl ?_
  refine s_if (not_congr (lg_eq.trans (j_eq (d_sub rfl rfl) (d_lit 0 0 rfl) (rr_J _) ⟨by decide, by decide⟩))) hF (fun c3 hF => ?_) (fun c3 hF => ?_)
  ·
    refine s_if (lg_le.trans (j_le (d_sub rfl rfl) (d_lit 0 0 rfl) (rr_J _) ⟨by decide, by decide⟩)) hF (fun c4 hF => ?_) (fun c4 hF => ?_)
    ·
      refine s_K hF (fun t6 hF => ?_)
      refine s_gJ R t6 (Nat.le_of_ble_eq_true rfl) rfl ?_
      refine s_if (lg_le.trans (j_le (d_neg (d_sub rfl rfl)) rfl (rr_J _) (R.rj t6 (Nat.le_of_ble_eq_true rfl) rfl))) hF (fun c7 hF => ?_) (fun c7 hF => ?_)
      ·
        refine s_K hF (fun t9 hF => ?_)
        refine s_gJ R t9 (Nat.le_of_ble_eq_true rfl) rfl ?_
        refine s_call R (Nat.zero_le _) (fun _ hq => SX29_badnessOf (b := 0) (R.rf) (d_neg (d_sub rfl rfl)) (rr_J _) rfl (R.rj t9 (Nat.le_of_ble_eq_true rfl) rfl) hq) hF (fun f10 rv10 h10 q10 R10 e10 E10 hF => ?_)
        exact SX29_badness_b67 (N := N) R10 e10.1 e10.2 hF
      ·
        exact SX29_badness_b67 (N := N) R (c_lit 1073741823 1073741823 rfl) ⟨by decide, by decide⟩ hF
    ·
      refine s_K hF (fun t12 hF => ?_)
      refine s_kok R t12 (Nat.le_of_ble_eq_true rfl) ?_
      refine s_call R (Nat.zero_le _) (fun _ hq => SX29_order (b := 0) (N := N) (R.rf) hq) hF (fun f13 rv13 h13 q12 R13 e13 E13 hF => ?_)
      refine s_if (i_le e13.1 (c_lit 0 0 rfl) e13.2 ⟨by decide, by decide⟩) hF (fun c14 hF => ?_) (fun c14 hF => ?_)
      ·
        refine s_K hF (fun t16 hF => ?_)
        refine s_oo hF (fun a14 e15 hF => ?_)
        refine s_gA R13 t16 (Nat.le_of_ble_eq_true rfl) rfl e15 (fun x15_ y15_ => ?_)
        refine s_KA hF (fun y18 z18 hF => ?_)
        refine s_rJ R13 y18 z18 rfl (c_lit 0 0 rfl) ⟨by decide, by decide⟩ hF (fun x16 ra17 hF => ?_)
        refine s_call R13 (Nat.zero_le _) (fun _ hq => SX29_badnessOf (b := 0) (R13.rf) (d_sub rfl rfl) (rr_J _) rfl ra17 hq) hF (fun f19 rv19 h19 q18 R19 e19 E19 hF => ?_)
        exact SX29_badness_b42 (N := N) R19 e19.1 e19.2 hF
      ·
        exact SX29_badness_b42 (N := N) R13 (c_lit 0 0 rfl) ⟨by decide, by decide⟩ hF
  ·
    exact g_ret R hF ⟨(c_lit 0 0 rfl), ⟨by decide, by decide⟩⟩
def FX28_cost_b49 (N : Nat) (s0 : Int) (s : fS) : Option (Int × fS) :=
  some (s0, s)
theorem SX28_cost_b49 {m b : Nat} {φ0 : Nat → Nat} {σo : fS} {N : Nat} {q : Int × fS} {φ : Nat → Nat} {h : eH} {s : fS} {s0' : Int32} {s0 : Int} (R : fC m b φ0 σo φ h s) (es0 : s0' = iI s0) (rs0 : r32 s0) (hF : FX28_cost_b49 N s0 s = some q) : gG m b φ0 σo lI q (fX28_cost_b49 N s0' h) := by
  subst es0
  unfold FX28_cost_b49 at hF
  unfold fX28_cost_b49
  exact g_ret R hF ⟨rfl, rs0⟩
def FX28_cost (N : Nat) (p0 : Int) (s : fS) : Option (Int × fS) :=
  (s.o 140 6).bind fun a3 =>
  (uK 29 s a3).bind fun _ =>
  (FX29_badness N 141 (s.i a3 1) s).bind fun q8 =>
  if ¬ (q8.1 = 1073741823) then
    if (-10000) < p0 then
      if 10000 ≤ q8.1 then
        FX28_cost_b49 N 100000 q8.2
      else
        FX28_cost_b49 N (iadd q8.1 p0) q8.2
    else
      some (p0, q8.2)
  else
    some (1073741823, q8.2)
theorem SX28_cost {m b : Nat} {φ0 : Nat → Nat} {σo : fS} {N : Nat} {q : Int × fS} {φ : Nat → Nat} {h : eH} {s : fS} {p0' : Int32} {p0 : Int} (R : fC m b φ0 σo φ h s) (ep0 : p0' = iI p0) (rp0 : r32 p0) (hF : FX28_cost N p0 s = some q) : gG m b φ0 σo lI q (fX28_cost N 140 p0' h) := by
  subst ep0
  unfold FX28_cost at hF
  unfold fX28_cost
  refine s_gO R (t_140 R.S) (Nat.le_of_ble_eq_true rfl) rfl (o_140_1 R.S) ?_
  refine s_oo hF (fun a3 e2 hF => ?_)
  refine s_gO R (t_140 R.S) (Nat.le_of_ble_eq_true rfl) rfl e2 ?_
  refine s_K hF (fun t4 hF => ?_)
  refine s_gI R t4 (Nat.le_of_ble_eq_true rfl) rfl ?_
  refine s_kok R (t_141 R.S) (Nat.le_of_ble_eq_true rfl) ?_
  refine s_call R (Nat.zero_le _) (fun _ hq => SX29_badness (b := 0) (N := N) (R.rf) (c_2l rfl (R.ri t4 (Nat.le_of_ble_eq_true rfl) rfl)) (r32.w (R.ri t4 (Nat.le_of_ble_eq_true rfl) rfl)) hq) hF (fun f6 rv6 h6 q8 R6 e6 E6 hF => ?_)
  refine s_if (not_congr (i_eq e6.1 (c_lit 1073741823 1073741823 rfl) e6.2 ⟨by decide, by decide⟩)) hF (fun c7 hF => ?_) (fun c7 hF => ?_)
  ·
    refine s_if (i_lt (c_lit (-10000) (-10000) rfl) rfl ⟨by decide, by decide⟩ rp0) hF (fun c8 hF => ?_) (fun c8 hF => ?_)
    ·
      refine s_if (i_le (c_lit 10000 10000 rfl) e6.1 ⟨by decide, by decide⟩ e6.2) hF (fun c9 hF => ?_) (fun c9 hF => ?_)
      ·
        exact SX28_cost_b49 (N := N) R6 (c_lit 100000 100000 rfl) ⟨by decide, by decide⟩ hF
      ·
        exact SX28_cost_b49 (N := N) R6 (c_add e6.1 rfl) (rr_I _) hF
    ·
      exact g_ret R6 hF ⟨rfl, rp0⟩
  ·
    exact g_ret R6 hF ⟨(c_lit 1073741823 1073741823 rfl), ⟨by decide, by decide⟩⟩
def FX29_become_b2 (N : Nat) : Nat → Nat → Nat → Int → fS → Option (Unit × fS)
  | 0, _, _, _, _ => none
  | n + 1, l0, l1, l2, s =>
    if 4 ≤ l2 then
      (uK 28 s l1).bind fun _ =>
      (uK 28 s l0).bind fun _ =>
      (uPJ s l0 1 (s.j l1 1)).bind fun σ4 =>
      (uK 28 σ4 l1).bind fun _ =>
      (uK 28 σ4 l0).bind fun _ =>
      (uPJ σ4 l0 2 (σ4.j l1 2)).bind fun σ8 =>
      (uK 28 σ8 l1).bind fun _ =>
      (uK 28 σ8 l0).bind fun _ =>
      (uPJ σ8 l0 3 (σ8.j l1 3)).bind fun σ12 =>
      some ((), σ12)
    else
      (uK 28 s l0).bind fun _ =>
      (s.o l0 0).bind fun a14 =>
      (uK 28 s l1).bind fun _ =>
      (s.o l1 0).bind fun a16 =>
      (uKA 101 s a16).bind fun _ =>
      (uRJ s a16 l2).bind fun x18 =>
      (uKA 101 s a14).bind fun _ =>
      (uQJ s a14 l2 x18).bind fun σ20 =>
      FX29_become_b2 N n l0 l1 (iadd l2 1) σ20
theorem SX29_become_b2 {m b : Nat} {φ0 : Nat → Nat} {σo : fS} {N : Nat} {q : Unit × fS} : ∀ {n : Nat} {φ : Nat → Nat} {h : eH} {s : fS} {l0 : Nat} {l1 : Nat} {l2' : Int32} {l2 : Int}, fC m b φ0 σo φ h s → l2' = iI l2 → r32 l2 → FX29_become_b2 N n l0 l1 l2 s = some q → gG m b φ0 σo lU q (fX29_become_b2 N n l0 l1 l2' h) := by
  intro n
  induction n with
 | zero => intro φ h s l0 l1 l2' l2 R el2 rl2 hF; simp [FX29_become_b2] at hF
  | succ n ih =>
    intro φ h s l0 l1 l2' l2 R el2 rl2 hF
    subst el2
    rw [FX29_become_b2] at hF
    rw [fX29_become_b2]
    refine s_if (i_le (c_lit 4 4 rfl) rfl ⟨by decide, by decide⟩ rl2) hF (fun c1 hF => ?_) (fun c1 hF => ?_)
    ·
      refine s_K hF (fun t3 hF => ?_)
      refine s_gJ R t3 (Nat.le_of_ble_eq_true rfl) rfl ?_
      refine s_K hF (fun t5 hF => ?_)
      refine s_pJ R t5 (Nat.le_of_ble_eq_true rfl) rfl rfl (R.rj t3 (Nat.le_of_ble_eq_true rfl) rfl) hF (fun h4 σ4 R4 T4 hF => ?_)
      refine s_K hF (fun t7 hF => ?_)
      refine s_gJ R4 t7 (Nat.le_of_ble_eq_true rfl) rfl ?_
      refine s_K hF (fun t9 hF => ?_)
      refine s_pJ R4 t9 (Nat.le_of_ble_eq_true rfl) rfl rfl (R4.rj t7 (Nat.le_of_ble_eq_true rfl) rfl) hF (fun h8 σ8 R8 T8 hF => ?_)
      refine s_K hF (fun t11 hF => ?_)
      refine s_gJ R8 t11 (Nat.le_of_ble_eq_true rfl) rfl ?_
      refine s_K hF (fun t13 hF => ?_)
      refine s_pJ R8 t13 (Nat.le_of_ble_eq_true rfl) rfl rfl (R8.rj t11 (Nat.le_of_ble_eq_true rfl) rfl) hF (fun h12 σ12 R12 T12 hF => ?_)
      exact g_ret R12 hF trivial
    ·
      refine s_K hF (fun t15 hF => ?_)
      refine s_oo hF (fun a14 e14 hF => ?_)
      refine s_gA R t15 (Nat.le_of_ble_eq_true rfl) rfl e14 (fun x14_ y14_ => ?_)
      refine s_K hF (fun t17 hF => ?_)
      refine s_oo hF (fun a16 e16 hF => ?_)
      refine s_gA R t17 (Nat.le_of_ble_eq_true rfl) rfl e16 (fun x16_ y16_ => ?_)
      refine s_KA hF (fun y19 z19 hF => ?_)
      refine s_rJ R y19 z19 rfl rfl rl2 hF (fun x18 ra18 hF => ?_)
      refine s_KA hF (fun y21 z21 hF => ?_)
      refine s_qJ R y21 z21 rfl rfl rl2 rfl ra18 hF (fun h20 σ20 R20 T20 hF => ?_)
      exact ih R20 (c_add rfl (c_lit 1 1 rfl)) (rr_I _) hF
def FX29_become (N : Nat) (this : Nat) (p0 : Nat) (s : fS) : Option (Unit × fS) :=
  FX29_become_b2 N N this p0 0 s
theorem SX29_become {m b : Nat} {φ0 : Nat → Nat} {σo : fS} {N : Nat} {q : Unit × fS} {φ : Nat → Nat} {h : eH} {s : fS} {this : Nat} {p0 : Nat} (R : fC m b φ0 σo φ h s) (hF : FX29_become N this p0 s = some q) : gG m b φ0 σo lU q (fX29_become N this p0 h) := by
  unfold FX29_become at hF
  unfold fX29_become
  exact SX29_become_b2 (N := N) R (c_lit 0 0 rfl) ⟨by decide, by decide⟩ hF
def FX28_ends_b53 (N : Nat) (s0 : Int) (s : fS) : Option (Int × fS) :=
  uZ s0 (s0, s)
theorem SX28_ends_b53 {m b : Nat} {φ0 : Nat → Nat} {σo : fS} {N : Nat} {q : Int × fS} {φ : Nat → Nat} {h : eH} {s : fS} {s0' : Int32} {s0 : Int} (R : fC m b φ0 σo φ h s) (es0 : s0' = iI s0) (rs0 : r32 s0) (hF : FX28_ends_b53 N s0 s = some q) : gG m b φ0 σo lI q (fX28_ends_b53 N s0' h) := by
  subst es0
  unfold FX28_ends_b53 at hF
  unfold fX28_ends_b53
  exact g_z R rfl hF ⟨rfl, rs0⟩
def FX28_ends_b48 (N : Nat) (s : fS) : Option (Int × fS) :=
  FX28_ends_b53 N 1 s
theorem SX28_ends_b48 {m b : Nat} {φ0 : Nat → Nat} {σo : fS} {N : Nat} {q : Int × fS} {φ : Nat → Nat} {h : eH} {s : fS} (R : fC m b φ0 σo φ h s) (hF : FX28_ends_b48 N s = some q) : gG m b φ0 σo lI q (fX28_ends_b48 N h) := by
  unfold FX28_ends_b48 at hF
  unfold fX28_ends_b48
  exact SX28_ends_b53 (N := N) R (c_lit 1 1 rfl) ⟨by decide, by decide⟩ hF
def FX28_ends_b35 (N : Nat) (l2 : Int) (l3 : Int) (s : fS) : Option (Int × fS) :=
  if l3 = 1073741823 then
    FX28_ends_b48 N s
  else
    if (-10000) < l2 then
      FX28_ends_b53 N 0 s
    else
      FX28_ends_b48 N s
theorem SX28_ends_b35 {m b : Nat} {φ0 : Nat → Nat} {σo : fS} {N : Nat} {q : Int × fS} {φ : Nat → Nat} {h : eH} {s : fS} {l2' : Int32} {l2 : Int} {l3' : Int32} {l3 : Int} (R : fC m b φ0 σo φ h s) (el2 : l2' = iI l2) (rl2 : r32 l2) (el3 : l3' = iI l3) (rl3 : r32 l3) (hF : FX28_ends_b35 N l2 l3 s = some q) : gG m b φ0 σo lI q (fX28_ends_b35 N l2' l3' h) := by
  subst el2; subst el3
  unfold FX28_ends_b35 at hF
  unfold fX28_ends_b35
  refine s_if (i_eq rfl (c_lit 1073741823 1073741823 rfl) rl3 ⟨by decide, by decide⟩) hF (fun c1 hF => ?_) (fun c1 hF => ?_)
  ·
    exact SX28_ends_b48 (N := N) R hF
  ·
    refine s_if (i_lt (c_lit (-10000) (-10000) rfl) rfl ⟨by decide, by decide⟩ rl2) hF (fun c2 hF => ?_) (fun c2 hF => ?_)
    ·
      exact SX28_ends_b53 (N := N) R (c_lit 0 0 rfl) ⟨by decide, by decide⟩ hF
    ·
      exact SX28_ends_b48 (N := N) R hF
def FX28_ends (N : Nat) (p0 : Int) (p1 : Int) (s : fS) : Option (Int × fS) :=
  (FX28_cost N p1 s).bind fun q2 =>
  if (q2.2.i 140 9) < q2.1 then
    FX28_ends_b35 N p1 q2.1 q2.2
  else
    (uPI q2.2 140 9 q2.1).bind fun σ6 =>
    (uPI σ6 140 8 p0).bind fun σ8 =>
    (FX29_become N 143 141 σ8).bind fun q15 =>
    FX28_ends_b35 N p1 q2.1 q15.2
theorem SX28_ends {m b : Nat} {φ0 : Nat → Nat} {σo : fS} {N : Nat} {q : Int × fS} {φ : Nat → Nat} {h : eH} {s : fS} {p0' : Int32} {p0 : Int} {p1' : Int32} {p1 : Int} (R : fC m b φ0 σo φ h s) (ep0 : p0' = iI p0) (rp0 : r32 p0) (ep1 : p1' = iI p1) (rp1 : r32 p1) (hF : FX28_ends N p0 p1 s = some q) : gG m b φ0 σo lI q (fX28_ends N 140 p0' p1' h) := by
  subst ep0; subst ep1
  unfold FX28_ends at hF
  unfold fX28_ends
  refine s_kok R (t_140 R.S) (Nat.le_of_ble_eq_true rfl) ?_
  refine s_call R (Nat.zero_le _) (fun _ hq => SX28_cost (b := 0) (N := N) (R.rf) rfl rp1 hq) hF (fun f2 rv2 h2 q2 R2 e2 E2 hF => ?_)
  refine s_gI R2 (t_140 R2.S) (Nat.le_of_ble_eq_true rfl) rfl ?_
  refine s_if (i_lt rfl e2.1 (R2.ri (t_140 R2.S) (Nat.le_of_ble_eq_true rfl) rfl) e2.2) hF (fun c4 hF => ?_) (fun c4 hF => ?_)
  ·
    exact SX28_ends_b35 (N := N) R2 rfl rp1 e2.1 e2.2 hF
  ·
    refine s_pI R2 (t_140 R2.S) (Nat.le_of_ble_eq_true rfl) rfl e2.1 e2.2 hF (fun h5 σ6 R5 T5 hF => ?_)
    refine s_pI R5 (t_140 R5.S) (Nat.le_of_ble_eq_true rfl) rfl rfl rp0 hF (fun h6 σ8 R6 T6 hF => ?_)
    refine s_gO R6 (t_140 R6.S) (Nat.le_of_ble_eq_true rfl) rfl (o_140_2 R6.S) ?_
    refine s_gO R6 (t_140 R6.S) (Nat.le_of_ble_eq_true rfl) rfl (o_140_1 R6.S) ?_
    refine s_kok R6 (t_143 R6.S) (Nat.le_of_ble_eq_true rfl) ?_
    refine s_call R6 (Nat.zero_le _) (fun _ hq => SX29_become (b := 0) (N := N) (R6.rf) hq) hF (fun f10 rv10 h10 q15 R10 e10 E10 hF => ?_)
    exact SX28_ends_b35 (N := N) R10 rfl rp1 e2.1 e2.2 hF
def FX30_set_b102 (N : Nat) (s0 : Nat) (s1 : Int) (s : fS) : Option (Unit × fS) :=
  (uK 29 s s0).bind fun _ =>
  (uPJ s s0 11 s1).bind fun σ1 =>
  some ((), σ1)
theorem SX30_set_b102 {m b : Nat} {φ0 : Nat → Nat} {σo : fS} {N : Nat} {q : Unit × fS} {φ : Nat → Nat} {h : eH} {s : fS} {s0 : Nat} {s1' : Int64} {s1 : Int} (R : fC m b φ0 σo φ h s) (es1 : s1' = iJ s1) (rs1 : r64 s1) (hF : FX30_set_b102 N s0 s1 s = some q) : gG m b φ0 σo lU q (fX30_set_b102 N s0 s1' h) := by
  subst es1
  unfold FX30_set_b102 at hF
  unfold fX30_set_b102
  refine s_K hF (fun t2 hF => ?_)
  refine s_pJ R t2 (Nat.le_of_ble_eq_true rfl) rfl rfl rs1 hF (fun h1 σ1 R1 T1 hF => ?_)
  exact g_ret R1 hF trivial
def FX30_set_b54 (N : Nat) (l0 : Nat) (s0 : Nat) (s1 : Int) (s : fS) : Option (Unit × fS) :=
  (uK 29 s s0).bind fun _ =>
  (uPI s s0 10 s1).bind fun σ1 =>
  (uK 29 σ1 l0).bind fun _ =>
  if (σ1.j l0 9) ≤ 0 then
    (uK 29 σ1 l0).bind fun _ =>
    if 0 ≤ (σ1.j l0 9) then
      FX30_set_b102 N l0 0 σ1
    else
      (uK 29 σ1 l0).bind fun _ =>
      (σ1.o l0 0).bind fun a9 =>
      (uK 28 σ1 a9).bind fun _ =>
      FX30_set_b102 N l0 (σ1.j a9 1) σ1
  else
    (uK 29 σ1 l0).bind fun _ =>
    (σ1.o l0 0).bind fun a13 =>
    (uK 28 σ1 a13).bind fun _ =>
    (σ1.o a13 0).bind fun a15 =>
    (uK 29 σ1 l0).bind fun _ =>
    (uKA 101 σ1 a15).bind fun _ =>
    (uRJ σ1 a15 (σ1.i l0 10)).bind fun x19 =>
    FX30_set_b102 N l0 x19 σ1
theorem SX30_set_b54 {m b : Nat} {φ0 : Nat → Nat} {σo : fS} {N : Nat} {q : Unit × fS} {φ : Nat → Nat} {h : eH} {s : fS} {l0 : Nat} {s0 : Nat} {s1' : Int32} {s1 : Int} (R : fC m b φ0 σo φ h s) (es1 : s1' = iI s1) (rs1 : r32 s1) (hF : FX30_set_b54 N l0 s0 s1 s = some q) : gG m b φ0 σo lU q (fX30_set_b54 N l0 s0 s1' h) := by
  subst es1
  unfold FX30_set_b54 at hF
  unfold fX30_set_b54
  refine s_K hF (fun t2 hF => ?_)
  refine s_pI R t2 (Nat.le_of_ble_eq_true rfl) rfl rfl rs1 hF (fun h1 σ1 R1 T1 hF => ?_)
  refine s_K hF (fun t4 hF => ?_)
  refine s_gJ R1 t4 (Nat.le_of_ble_eq_true rfl) rfl ?_
  refine s_if (lg_le.trans (j_le rfl (d_lit 0 0 rfl) (R1.rj t4 (Nat.le_of_ble_eq_true rfl) rfl) ⟨by decide, by decide⟩)) hF (fun c5 hF => ?_) (fun c5 hF => ?_)
  ·
    refine s_K hF (fun t7 hF => ?_)
    refine s_gJ R1 t7 (Nat.le_of_ble_eq_true rfl) rfl ?_
    refine s_if ((lg_cmp_ge _ _).trans (j_le (d_lit 0 0 rfl) rfl ⟨by decide, by decide⟩ (R1.rj t7 (Nat.le_of_ble_eq_true rfl) rfl))) hF (fun c8 hF => ?_) (fun c8 hF => ?_)
    ·
      exact SX30_set_b102 (N := N) R1 (d_lit 0 0 rfl) ⟨by decide, by decide⟩ hF
    ·
      refine s_K hF (fun t10 hF => ?_)
      refine s_oo hF (fun a9 e9 hF => ?_)
      refine s_gO R1 t10 (Nat.le_of_ble_eq_true rfl) rfl e9 ?_
      refine s_K hF (fun t12 hF => ?_)
      refine s_gJ R1 t12 (Nat.le_of_ble_eq_true rfl) rfl ?_
      exact SX30_set_b102 (N := N) R1 rfl (R1.rj t12 (Nat.le_of_ble_eq_true rfl) rfl) hF
  ·
    refine s_K hF (fun t14 hF => ?_)
    refine s_oo hF (fun a13 e13 hF => ?_)
    refine s_gO R1 t14 (Nat.le_of_ble_eq_true rfl) rfl e13 ?_
    refine s_K hF (fun t16 hF => ?_)
    refine s_oo hF (fun a15 e15 hF => ?_)
    refine s_gA R1 t16 (Nat.le_of_ble_eq_true rfl) rfl e15 (fun x15_ y15_ => ?_)
    refine s_K hF (fun t18 hF => ?_)
    refine s_gI R1 t18 (Nat.le_of_ble_eq_true rfl) rfl ?_
    refine s_KA hF (fun y20 z20 hF => ?_)
    refine s_rJ R1 y20 z20 rfl rfl (R1.ri t18 (Nat.le_of_ble_eq_true rfl) rfl) hF (fun x19 ra19 hF => ?_)
    exact SX30_set_b102 (N := N) R1 rfl ra19 hF
def FX30_set (N : Nat) (this : Nat) (s : fS) : Option (Unit × fS) :=
  (uK 29 s this).bind fun _ =>
  (uK 29 s this).bind fun _ =>
  (s.o this 0).bind fun a3 =>
  (uK 28 s a3).bind fun _ =>
  (uK 29 s this).bind fun _ =>
  (uPJ s this 9 (lsub (s.i this 1) (s.j a3 2))).bind fun σ7 =>
  (uK 29 σ7 this).bind fun _ =>
  (σ7.o this 0).bind fun a9 =>
  (uK 29 σ7 this).bind fun _ =>
  (uK 28 σ7 a9).bind fun _ =>
  (FX29_badness N a9 (σ7.i this 1) σ7).bind fun q14 =>
  (uK 29 q14.2 this).bind fun _ =>
  (uPI q14.2 this 8 q14.1).bind fun σ15 =>
  (uK 29 σ15 this).bind fun _ =>
  if (σ15.j this 9) ≤ 0 then
    FX30_set_b54 N this this 0 σ15
  else
    (uK 29 σ15 this).bind fun _ =>
    (σ15.o this 0).bind fun a20 =>
    (uK 28 σ15 a20).bind fun _ =>
    (FX29_order N a20 σ15).bind fun q23 =>
    FX30_set_b54 N this this q23.1 q23.2
theorem SX30_set {m b : Nat} {φ0 : Nat → Nat} {σo : fS} {N : Nat} {q : Unit × fS} {φ : Nat → Nat} {h : eH} {s : fS} {this : Nat} (R : fC m b φ0 σo φ h s) (hF : FX30_set N this s = some q) : gG m b φ0 σo lU q (fX30_set N this h) := by
  unfold FX30_set at hF
  unfold fX30_set
  refine s_K hF (fun t2 hF => ?_)
  refine s_gI R t2 (Nat.le_of_ble_eq_true rfl) rfl ?_
  refine s_K hF (fun t4 hF => ?_)
  refine s_oo hF (fun a3 e3 hF => ?_)
  refine s_gO R t4 (Nat.le_of_ble_eq_true rfl) rfl e3 ?_
  refine s_K hF (fun t6 hF => ?_)
  refine s_gJ R t6 (Nat.le_of_ble_eq_true rfl) rfl ?_
  refine s_K hF (fun t8 hF => ?_)
  refine s_pJ R t8 (Nat.le_of_ble_eq_true rfl) rfl (d_sub (c_2l rfl (R.ri t2 (Nat.le_of_ble_eq_true rfl) rfl)) rfl) (rr_J _) hF (fun h7 σ7 R7 T7 hF => ?_)
  refine s_K hF (fun t10 hF => ?_)
  refine s_oo hF (fun a9 e9 hF => ?_)
  refine s_gO R7 t10 (Nat.le_of_ble_eq_true rfl) rfl e9 ?_
  refine s_K hF (fun t12 hF => ?_)
  refine s_gI R7 t12 (Nat.le_of_ble_eq_true rfl) rfl ?_
  refine s_K hF (fun t14 hF => ?_)
  refine s_kok R7 t14 (Nat.le_of_ble_eq_true rfl) ?_
  refine s_call R7 (Nat.zero_le _) (fun _ hq => SX29_badness (b := 0) (N := N) (R7.rf) (c_2l rfl (R7.ri t12 (Nat.le_of_ble_eq_true rfl) rfl)) (r32.w (R7.ri t12 (Nat.le_of_ble_eq_true rfl) rfl)) hq) hF (fun f15 rv15 h15 q14 R15 e15 E15 hF => ?_)
  refine s_K hF (fun t17 hF => ?_)
  refine s_pI R15 t17 (Nat.le_of_ble_eq_true rfl) rfl e15.1 e15.2 hF (fun h16 σ15 R16 T16 hF => ?_)
  refine s_K hF (fun t19 hF => ?_)
  refine s_gJ R16 t19 (Nat.le_of_ble_eq_true rfl) rfl ?_
  refine s_if (lg_le.trans (j_le rfl (d_lit 0 0 rfl) (R16.rj t19 (Nat.le_of_ble_eq_true rfl) rfl) ⟨by decide, by decide⟩)) hF (fun c20 hF => ?_) (fun c20 hF => ?_)
  ·
    exact SX30_set_b54 (N := N) R16 (c_lit 0 0 rfl) ⟨by decide, by decide⟩ hF
  ·
    refine s_K hF (fun t22 hF => ?_)
    refine s_oo hF (fun a20 e21 hF => ?_)
    refine s_gO R16 t22 (Nat.le_of_ble_eq_true rfl) rfl e21 ?_
    refine s_K hF (fun t24 hF => ?_)
    refine s_kok R16 t24 (Nat.le_of_ble_eq_true rfl) ?_
    refine s_call R16 (Nat.zero_le _) (fun _ hq => SX29_order (b := 0) (N := N) (R16.rf) hq) hF (fun f25 rv25 h25 q23 R25 e25 E25 hF => ?_)
    exact SX30_set_b54 (N := N) R25 e25.1 e25.2 hF
def FX28_finish (N : Nat) (p0 : Int) (s : fS) : Option (Unit × fS) :=
  (s.o 140 6).bind fun a1 =>
  (uK 29 s a1).bind fun _ =>
  (uPI s a1 5 (s.i 140 8)).bind fun σ5 =>
  (σ5.o 140 6).bind fun a7 =>
  (uK 29 σ5 a7).bind fun _ =>
  (uPI σ5 a7 6 (σ5.i 140 9)).bind fun σ11 =>
  (σ11.o 140 6).bind fun a13 =>
  (uK 29 σ11 a13).bind fun _ =>
  (uPI σ11 a13 7 p0).bind fun σ15 =>
  (σ15.o 140 6).bind fun a17 =>
  (uK 29 σ15 a17).bind fun _ =>
  (σ15.o a17 0).bind fun a19 =>
  (uK 28 σ15 a19).bind fun _ =>
  (FX29_become N a19 143 σ15).bind fun q24 =>
  (q24.2.o 140 6).bind fun a25 =>
  (uK 29 q24.2 a25).bind fun _ =>
  (FX30_set N a25 q24.2).bind fun q28 =>
  (q28.2.o 140 7).bind fun a29 =>
  (q28.2.o 140 6).bind fun a31 =>
  (uK 29 q28.2 a31).bind fun _ =>
  (uPO q28.2 140 7 a31).bind fun σ33 =>
  (uK 29 σ33 a29).bind fun _ =>
  (uPO σ33 140 6 a29).bind fun σ35 =>
  (uPI σ35 140 10 (σ35.i 140 8)).bind fun σ39 =>
  (FX28_begin N σ39).bind fun q42 =>
  some ((), q42.2)
theorem SX28_finish {m b : Nat} {φ0 : Nat → Nat} {σo : fS} {N : Nat} {q : Unit × fS} {φ : Nat → Nat} {h : eH} {s : fS} {p0' : Int32} {p0 : Int} (R : fC m b φ0 σo φ h s) (ep0 : p0' = iI p0) (rp0 : r32 p0) (hF : FX28_finish N p0 s = some q) : gG m b φ0 σo lU q (fX28_finish N 140 p0' h) := by
  subst ep0
  unfold FX28_finish at hF
  unfold fX28_finish
  refine s_oo hF (fun a1 e1 hF => ?_)
  refine s_gO R (t_140 R.S) (Nat.le_of_ble_eq_true rfl) rfl e1 ?_
  refine s_gI R (t_140 R.S) (Nat.le_of_ble_eq_true rfl) rfl ?_
  refine s_K hF (fun t4 hF => ?_)
  refine s_pI R t4 (Nat.le_of_ble_eq_true rfl) rfl rfl (R.ri (t_140 R.S) (Nat.le_of_ble_eq_true rfl) rfl) hF (fun h3 σ5 R3 T3 hF => ?_)
  refine s_oo hF (fun a7 e5 hF => ?_)
  refine s_gO R3 (t_140 R3.S) (Nat.le_of_ble_eq_true rfl) rfl e5 ?_
  refine s_gI R3 (t_140 R3.S) (Nat.le_of_ble_eq_true rfl) rfl ?_
  refine s_K hF (fun t8 hF => ?_)
  refine s_pI R3 t8 (Nat.le_of_ble_eq_true rfl) rfl rfl (R3.ri (t_140 R3.S) (Nat.le_of_ble_eq_true rfl) rfl) hF (fun h7 σ11 R7 T7 hF => ?_)
  refine s_oo hF (fun a13 e9 hF => ?_)
  refine s_gO R7 (t_140 R7.S) (Nat.le_of_ble_eq_true rfl) rfl e9 ?_
  refine s_K hF (fun t11 hF => ?_)
  refine s_pI R7 t11 (Nat.le_of_ble_eq_true rfl) rfl rfl rp0 hF (fun h10 σ15 R10 T10 hF => ?_)
  refine s_oo hF (fun a17 e12 hF => ?_)
  refine s_gO R10 (t_140 R10.S) (Nat.le_of_ble_eq_true rfl) rfl e12 ?_
  refine s_K hF (fun t14 hF => ?_)
  refine s_oo hF (fun a19 e13 hF => ?_)
  refine s_gO R10 t14 (Nat.le_of_ble_eq_true rfl) rfl e13 ?_
  refine s_gO R10 (t_140 R10.S) (Nat.le_of_ble_eq_true rfl) rfl (o_140_2 R10.S) ?_
  refine s_K hF (fun t17 hF => ?_)
  refine s_kok R10 t17 (Nat.le_of_ble_eq_true rfl) ?_
  refine s_call R10 (Nat.zero_le _) (fun _ hq => SX29_become (b := 0) (N := N) (R10.rf) hq) hF (fun f18 rv18 h18 q24 R18 e18 E18 hF => ?_)
  refine s_oo hF (fun a25 e19 hF => ?_)
  refine s_gO R18 (t_140 R18.S) (Nat.le_of_ble_eq_true rfl) rfl e19 ?_
  refine s_K hF (fun t21 hF => ?_)
  refine s_kok R18 t21 (Nat.le_of_ble_eq_true rfl) ?_
  refine s_call R18 (Nat.zero_le _) (fun _ hq => SX30_set (b := 0) (N := N) (R18.rf) hq) hF (fun f22 rv22 h22 q28 R22 e22 E22 hF => ?_)
  refine s_oo hF (fun a29 e23 hF => ?_)
  refine s_gO R22 (t_140 R22.S) (Nat.le_of_ble_eq_true rfl) rfl e23 ?_
  refine s_oo hF (fun a31 e24 hF => ?_)
  refine s_gO R22 (t_140 R22.S) (Nat.le_of_ble_eq_true rfl) rfl e24 ?_
  refine s_K hF (fun t26 hF => ?_)
  refine s_pO R22 (t_140 R22.S) (Nat.le_of_ble_eq_true rfl) rfl (by rw [t26]; decide) (fun _ => rfl) hF (fun h25 σ33 R25 T25 hF => ?_)
  refine s_K hF (fun t28 hF => ?_)
  refine s_pO R25 (t_140 R25.S) (Nat.le_of_ble_eq_true rfl) rfl (by rw [t28]; decide) (fun _ => rfl) hF (fun h27 σ35 R27 T27 hF => ?_)
  refine s_gI R27 (t_140 R27.S) (Nat.le_of_ble_eq_true rfl) rfl ?_
  refine s_pI R27 (t_140 R27.S) (Nat.le_of_ble_eq_true rfl) rfl rfl (R27.ri (t_140 R27.S) (Nat.le_of_ble_eq_true rfl) rfl) hF (fun h30 σ39 R30 T30 hF => ?_)
  refine s_kok R30 (t_140 R30.S) (Nat.le_of_ble_eq_true rfl) ?_
  refine s_call R30 (Nat.zero_le _) (fun _ hq => SX28_begin (b := 0) (N := N) (R30.rf) hq) hF (fun f32 rv32 h32 q42 R32 e32 E32 hF => ?_)
  exact g_ret R32 hF trivial
def FX28_step_b94 (N : Nat) (l1 : Int) (s : fS) : Option (Int × fS) :=
  (s.o 140 6).bind fun a5 =>
  (uK 29 s a5).bind fun _ =>
  (FX29_add 141 l1 (s.i a5 3) s).bind fun q10 =>
  (uPI q10.2 140 10 (iadd (q10.2.i 140 10) 1)).bind fun σ13 =>
  some (0, σ13)
theorem SX28_step_b94 {m b : Nat} {φ0 : Nat → Nat} {σo : fS} {N : Nat} {q : Int × fS} {φ : Nat → Nat} {h : eH} {s : fS} {l1' : Int32} {l1 : Int} (R : fC m b φ0 σo φ h s) (el1 : l1' = iI l1) (rl1 : r32 l1) (hF : FX28_step_b94 N l1 s = some q) : gG m b φ0 σo lI q (fX28_step_b94 N 140 l1' h) := by
  subst el1
  unfold FX28_step_b94 at hF
  unfold fX28_step_b94
  refine s_gO R (t_140 R.S) (Nat.le_of_ble_eq_true rfl) rfl (o_140_1 R.S) ?_
  refine s_gO R (t_140 R.S) (Nat.le_of_ble_eq_true rfl) rfl (o_140_0 R.S) ?_
  refine s_oo hF (fun a5 e3 hF => ?_)
  refine s_gO R (t_140 R.S) (Nat.le_of_ble_eq_true rfl) rfl e3 ?_
  refine s_K hF (fun t5 hF => ?_)
  refine s_gI R t5 (Nat.le_of_ble_eq_true rfl) rfl ?_
  refine s_kok R (t_141 R.S) (Nat.le_of_ble_eq_true rfl) ?_
  refine s_call R (Nat.zero_le _) (fun _ hq => SX29_add (b := 0) (R.rf) rfl rl1 rfl (R.ri t5 (Nat.le_of_ble_eq_true rfl) rfl) hq) hF (fun f7 rv7 h7 q10 R7 e7 E7 hF => ?_)
  refine s_gI R7 (t_140 R7.S) (Nat.le_of_ble_eq_true rfl) rfl ?_
  refine s_pI R7 (t_140 R7.S) (Nat.le_of_ble_eq_true rfl) rfl (c_add rfl (c_lit 1 1 rfl)) (rr_I _) hF (fun h9 σ13 R9 T9 hF => ?_)
  exact g_ret R9 hF ⟨(c_lit 0 0 rfl), ⟨by decide, by decide⟩⟩
def FX28_step (N : Nat) (s : fS) : Option (Int × fS) :=
  (s.o 140 6).bind fun a3 =>
  (uK 29 s a3).bind fun _ =>
  if ¬ ((s.i a3 4) = (-1)) then
    (FX28_penalty (s.i 140 10) s).bind fun q9 =>
    if 10000 ≤ q9.1 then
      FX28_step_b94 N (s.i 140 10) q9.2
    else
      (FX28_ends N (s.i 140 10) q9.1 q9.2).bind fun q12 =>
      if q12.1 = 0 then
        FX28_step_b94 N (s.i 140 10) q12.2
      else
        (FX28_finish N (s.i 140 10) q12.2).bind fun q15 =>
        some (1, q15.2)
  else
    (uPI s 140 10 (iadd (s.i 140 10) 1)).bind fun σ18 =>
    (FX27_kind (s.i 140 10) σ18).bind fun q23 =>
    if q23.1 = 0 then
      (FX28_open N (s.i 140 10) q23.2).bind fun q26 =>
      (q26.2.o 140 6).bind fun a31 =>
      (uK 29 q26.2 a31).bind fun _ =>
      (FX29_add 141 (s.i 140 10) (q26.2.i a31 3) q26.2).bind fun q36 =>
      some (0, q36.2)
    else
      some (0, q23.2)
theorem SX28_step {m b : Nat} {φ0 : Nat → Nat} {σo : fS} {N : Nat} {q : Int × fS} {φ : Nat → Nat} {h : eH} {s : fS} (R : fC m b φ0 σo φ h s) (hF : FX28_step N s = some q) : gG m b φ0 σo lI q (fX28_step N 140 h) := by
  unfold FX28_step at hF
  unfold fX28_step
  refine s_gI R (t_140 R.S) (Nat.le_of_ble_eq_true rfl) rfl ?_
  refine s_oo hF (fun a3 e2 hF => ?_)
  refine s_gO R (t_140 R.S) (Nat.le_of_ble_eq_true rfl) rfl e2 ?_
  refine s_K hF (fun t4 hF => ?_)
  refine s_gI R t4 (Nat.le_of_ble_eq_true rfl) rfl ?_
  refine s_if (not_congr (i_eq rfl (c_lit (-1) (-1) rfl) (R.ri t4 (Nat.le_of_ble_eq_true rfl) rfl) ⟨by decide, by decide⟩)) hF (fun c5 hF => ?_) (fun c5 hF => ?_)
  ·
    refine s_kok R (t_140 R.S) (Nat.le_of_ble_eq_true rfl) ?_
    refine s_call R (Nat.zero_le _) (fun _ hq => SX28_penalty (b := 0) (R.rf) rfl (R.ri (t_140 R.S) (Nat.le_of_ble_eq_true rfl) rfl) hq) hF (fun f7 rv7 h7 q9 R7 e7 E7 hF => ?_)
    refine s_if (i_le (c_lit 10000 10000 rfl) e7.1 ⟨by decide, by decide⟩ e7.2) hF (fun c8 hF => ?_) (fun c8 hF => ?_)
    ·
      exact SX28_step_b94 (N := N) R7 rfl (R.ri (t_140 R.S) (Nat.le_of_ble_eq_true rfl) rfl) hF
    ·
      refine s_kok R7 (t_140 R7.S) (Nat.le_of_ble_eq_true rfl) ?_
      refine s_call R7 (Nat.zero_le _) (fun _ hq => SX28_ends (b := 0) (N := N) (R7.rf) rfl (R.ri (t_140 R.S) (Nat.le_of_ble_eq_true rfl) rfl) e7.1 e7.2 hq) hF (fun f10 rv10 h10 q12 R10 e10 E10 hF => ?_)
      refine s_if (i_eq e10.1 (c_lit 0 0 rfl) e10.2 ⟨by decide, by decide⟩) hF (fun c11 hF => ?_) (fun c11 hF => ?_)
      ·
        exact SX28_step_b94 (N := N) R10 rfl (R.ri (t_140 R.S) (Nat.le_of_ble_eq_true rfl) rfl) hF
      ·
        refine s_kok R10 (t_140 R10.S) (Nat.le_of_ble_eq_true rfl) ?_
        refine s_call R10 (Nat.zero_le _) (fun _ hq => SX28_finish (b := 0) (N := N) (R10.rf) rfl (R.ri (t_140 R.S) (Nat.le_of_ble_eq_true rfl) rfl) hq) hF (fun f13 rv13 h13 q15 R13 e13 E13 hF => ?_)
        exact g_ret R13 hF ⟨(c_lit 1 1 rfl), ⟨by decide, by decide⟩⟩
  ·
    refine s_gI R (t_140 R.S) (Nat.le_of_ble_eq_true rfl) rfl ?_
    refine s_pI R (t_140 R.S) (Nat.le_of_ble_eq_true rfl) rfl (c_add rfl (c_lit 1 1 rfl)) (rr_I _) hF (fun h15 σ18 R15 T15 hF => ?_)
    refine s_gO R15 (t_140 R15.S) (Nat.le_of_ble_eq_true rfl) rfl (o_140_0 R15.S) ?_
    refine s_kok R15 (t_133 R15.S) (Nat.le_of_ble_eq_true rfl) ?_
    refine s_call R15 (Nat.zero_le _) (fun _ hq => SX27_kind (b := 0) (R15.rf) rfl (R.ri (t_140 R.S) (Nat.le_of_ble_eq_true rfl) rfl) hq) hF (fun f18 rv18 h18 q23 R18 e18 E18 hF => ?_)
    refine s_if (i_eq e18.1 (c_lit 0 0 rfl) e18.2 ⟨by decide, by decide⟩) hF (fun c19 hF => ?_) (fun c19 hF => ?_)
    ·
      refine s_kok R18 (t_140 R18.S) (Nat.le_of_ble_eq_true rfl) ?_
      refine s_call R18 (Nat.zero_le _) (fun _ hq => SX28_open (b := 0) (N := N) (R18.rf) rfl (R.ri (t_140 R.S) (Nat.le_of_ble_eq_true rfl) rfl) hq) hF (fun f21 rv21 h21 q26 R21 e21 E21 hF => ?_)
      refine s_gO R21 (t_140 R21.S) (Nat.le_of_ble_eq_true rfl) rfl (o_140_1 R21.S) ?_
      refine s_gO R21 (t_140 R21.S) (Nat.le_of_ble_eq_true rfl) rfl (o_140_0 R21.S) ?_
      refine s_oo hF (fun a31 e24 hF => ?_)
      refine s_gO R21 (t_140 R21.S) (Nat.le_of_ble_eq_true rfl) rfl e24 ?_
      refine s_K hF (fun t26 hF => ?_)
      refine s_gI R21 t26 (Nat.le_of_ble_eq_true rfl) rfl ?_
      refine s_kok R21 (t_141 R21.S) (Nat.le_of_ble_eq_true rfl) ?_
      refine s_call R21 (Nat.zero_le _) (fun _ hq => SX29_add (b := 0) (R21.rf) rfl (R.ri (t_140 R.S) (Nat.le_of_ble_eq_true rfl) rfl) rfl (R21.ri t26 (Nat.le_of_ble_eq_true rfl) rfl) hq) hF (fun f28 rv28 h28 q36 R28 e28 E28 hF => ?_)
      exact g_ret R28 hF ⟨(c_lit 0 0 rfl), ⟨by decide, by decide⟩⟩
    ·
      exact g_ret R18 hF ⟨(c_lit 0 0 rfl), ⟨by decide, by decide⟩⟩
def FX3_wantFew_b75 (N : Nat) (K17 : Nat → Int → Int → fS → Option ((Unit ⊕ Nat) × fS)) (l1 : Nat) (l2 : Int) (l4 : Int) (s : fS) : Option ((Unit ⊕ Nat) × fS) :=
  K17 l1 l2 (iadd l4 1) s
theorem SX3_wantFew_b75 {m b : Nat} {φ0 : Nat → Nat} {σo : fS} {N : Nat} {k17 : Nat → Nat → Int64 → Int32 → eH → Option ((Unit ⊕ Nat) × eH)} {K17 : Nat → Int → Int → fS → Option ((Unit ⊕ Nat) × fS)} {q : (Unit ⊕ Nat) × fS} (hk17 : ∀ {φ : Nat → Nat} {h : eH} {s : fS} {l1 : Nat} {l2' : Int64} {l2 : Int} {l4' : Int32} {l4 : Int}, fC m b φ0 σo φ h s → l2' = iJ l2 → r64 l2 → l4' = iI l4 → r32 l4 → K17 l1 l2 l4 s = some q → gG m b φ0 σo (lT lU) q (k17 4 l1 l2' l4' h)) {φ : Nat → Nat} {h : eH} {s : fS} {l1 : Nat} {l2' : Int64} {l2 : Int} {l4' : Int32} {l4 : Int} (R : fC m b φ0 σo φ h s) (el2 : l2' = iJ l2) (rl2 : r64 l2) (el4 : l4' = iI l4) (rl4 : r32 l4) (hF : FX3_wantFew_b75 N K17 l1 l2 l4 s = some q) : gG m b φ0 σo (lT lU) q (fX3_wantFew_b75 N k17 4 l1 l2' l4' h) := by
  subst el2; subst el4
  unfold FX3_wantFew_b75 at hF
  unfold fX3_wantFew_b75
  exact hk17 R rfl rl2 (c_add rfl (c_lit 1 1 rfl)) (rr_I _) hF
def FX3_wantFew_b98 (N : Nat) (s1 : Int) (s : fS) : Option ((Unit ⊕ Nat) × fS) :=
  tB (FX4_want s1 17 s) fun x2 σ3 =>
  some (.inl (), σ3)
theorem SX3_wantFew_b98 {m b : Nat} {φ0 : Nat → Nat} {σo : fS} {N : Nat} {q : (Unit ⊕ Nat) × fS} {φ : Nat → Nat} {h : eH} {s : fS} {s1' : Int32} {s1 : Int} (R : fC m b φ0 σo φ h s) (es1 : s1' = iI s1) (rs1 : r32 s1) (hF : FX3_wantFew_b98 N s1 s = some q) : gG m b φ0 σo (lT lU) q (fX3_wantFew_b98 N 5 s1' h) := by
  subst es1
  unfold FX3_wantFew_b98 at hF
  unfold fX3_wantFew_b98
  refine s_kok R (t_5 R.S) (Nat.le_of_ble_eq_true rfl) ?_
  refine s_tB R (Nat.zero_le _) (fun _ hq => SX4_want (b := 0) (R.rf) rfl rs1 (c_lit 17 17 rfl) ⟨by decide, by decide⟩ hq) hF (fun f2 rv2 h2 x2 σ3 R2 e2 E2 hF => ?_)
  exact g_ret R2 hF trivial
def FX3_wantFew_b17 (N : Nat) : Nat → Nat → Int → Int → fS → Option ((Unit ⊕ Nat) × fS)
  | 0, _, _, _, _ => none
  | n + 1, l1, l2, l4, s =>
    (uK 29 s l1).bind fun _ =>
    if (s.i l1 5) ≤ l4 then
      if 20000 < l2 then
        FX3_wantFew_b98 N 0 s
      else
        FX3_wantFew_b98 N 1 s
    else
      (uRI s 134 l4).bind fun x11 =>
      if ¬ (x11 = 0) then
        FX3_wantFew_b75 N (FX3_wantFew_b17 N n) l1 l2 l4 s
      else
        (uRI s 135 l4).bind fun x18 =>
        if x18 = (-1) then
          FX3_wantFew_b75 N (FX3_wantFew_b17 N n) l1 l2 l4 s
        else
          (uRI s 135 l4).bind fun x27 =>
          (uRO s 21 x27).bind fun a29 =>
          (uK 41 s a29).bind fun _ =>
          FX3_wantFew_b75 N (FX3_wantFew_b17 N n) l1 (ladd l2 (s.i a29 12)) l4 s
theorem SX3_wantFew_b17 {m b : Nat} {φ0 : Nat → Nat} {σo : fS} {N : Nat} {q : (Unit ⊕ Nat) × fS} : ∀ {n : Nat} {φ : Nat → Nat} {h : eH} {s : fS} {l1 : Nat} {l2' : Int64} {l2 : Int} {l4' : Int32} {l4 : Int}, fC m b φ0 σo φ h s → l2' = iJ l2 → r64 l2 → l4' = iI l4 → r32 l4 → FX3_wantFew_b17 N n l1 l2 l4 s = some q → gG m b φ0 σo (lT lU) q (fX3_wantFew_b17 N n 4 l1 l2' l4' h) := by
  intro n
  induction n with
 | zero => intro φ h s l1 l2' l2 l4' l4 R el2 rl2 el4 rl4 hF; simp [FX3_wantFew_b17] at hF
  | succ n ih =>
    intro φ h s l1 l2' l2 l4' l4 R el2 rl2 el4 rl4 hF
    subst el2; subst el4
    rw [FX3_wantFew_b17] at hF
    rw [fX3_wantFew_b17]
    refine s_K hF (fun t2 hF => ?_)
    refine s_gI R t2 (Nat.le_of_ble_eq_true rfl) rfl ?_
    refine s_if (i_le rfl rfl (R.ri t2 (Nat.le_of_ble_eq_true rfl) rfl) rl4) hF (fun c3 hF => ?_) (fun c3 hF => ?_)
    ·
      refine s_gO R (t_4 R.S) (Nat.le_of_ble_eq_true rfl) rfl (o_4_0 R.S) ?_
      refine s_if ((lg_cmp_gt _ _).trans (j_lt (d_lit 20000 20000 rfl) rfl ⟨by decide, by decide⟩ rl2)) hF (fun c5 hF => ?_) (fun c5 hF => ?_)
      ·
        exact SX3_wantFew_b98 (N := N) R (c_lit 0 0 rfl) ⟨by decide, by decide⟩ hF
      ·
        exact SX3_wantFew_b98 (N := N) R (c_lit 1 1 rfl) ⟨by decide, by decide⟩ hF
    ·
      refine s_gO R (t_4 R.S) (Nat.le_of_ble_eq_true rfl) rfl (o_4_12 R.S) ?_
      refine s_gA R (t_133 R.S) (Nat.le_of_ble_eq_true rfl) rfl (o_133_0 R.S) (fun _ _ => ?_)
      refine s_rI R (u_134 R.S).1 (u_134 R.S).2 (by decide) rfl rfl rl4 hF (fun x11 ra8 hF => ?_)
      refine s_if (not_congr (i_eq rfl (c_lit 0 0 rfl) ra8 ⟨by decide, by decide⟩)) hF (fun c9 hF => ?_) (fun c9 hF => ?_)
      ·
        exact SX3_wantFew_b75 (N := N) (k17 := fX3_wantFew_b17 N n) (K17 := FX3_wantFew_b17 N n) @ih R rfl rl2 rfl rl4 hF
      ·
        refine s_gO R (t_4 R.S) (Nat.le_of_ble_eq_true rfl) rfl (o_4_12 R.S) ?_
        refine s_gA R (t_133 R.S) (Nat.le_of_ble_eq_true rfl) rfl (o_133_1 R.S) (fun _ _ => ?_)
        refine s_rI R (u_135 R.S).1 (u_135 R.S).2 (by decide) rfl rfl rl4 hF (fun x18 ra12 hF => ?_)
        refine s_if (i_eq rfl (c_lit (-1) (-1) rfl) ra12 ⟨by decide, by decide⟩) hF (fun c13 hF => ?_) (fun c13 hF => ?_)
        ·
          exact SX3_wantFew_b75 (N := N) (k17 := fX3_wantFew_b17 N n) (K17 := FX3_wantFew_b17 N n) @ih R rfl rl2 rfl rl4 hF
        ·
          refine s_gAs R (t_4 R.S) (Nat.le_of_ble_eq_true rfl) rfl (o_4_3 R.S) (a_21 R) ?_
          refine s_gO R (t_4 R.S) (Nat.le_of_ble_eq_true rfl) rfl (o_4_12 R.S) ?_
          refine s_gA R (t_133 R.S) (Nat.le_of_ble_eq_true rfl) rfl (o_133_1 R.S) (fun _ _ => ?_)
          refine s_rI R (u_135 R.S).1 (u_135 R.S).2 (by decide) rfl rfl rl4 hF (fun x27 ra17 hF => ?_)
          refine s_rO R (u_21 R.S).1 (u_21 R.S).2 rfl (fun _ => rfl) (Nat.le_of_ble_eq_true rfl) (a_21 R) rfl ra17 hF (fun a29 y18 hF => ?_)
          refine s_K hF (fun t20 hF => ?_)
          refine s_gI R t20 (Nat.le_of_ble_eq_true rfl) rfl ?_
          exact SX3_wantFew_b75 (N := N) (k17 := fX3_wantFew_b17 N n) (K17 := FX3_wantFew_b17 N n) @ih R (d_add rfl (c_2l rfl (R.ri t20 (Nat.le_of_ble_eq_true rfl) rfl))) (rr_J _) rfl rl4 hF
def FX3_wantFew (N : Nat) (p0 : Nat) (s : fS) : Option ((Unit ⊕ Nat) × fS) :=
  (uK 29 s p0).bind fun _ =>
  (uK 29 s p0).bind fun _ =>
  (uK 29 s p0).bind fun _ =>
  FX3_wantFew_b17 N N p0 (isub (s.i p0 5) (s.i p0 4)) (s.i p0 4) s
theorem SX3_wantFew {m b : Nat} {φ0 : Nat → Nat} {σo : fS} {N : Nat} {q : (Unit ⊕ Nat) × fS} {φ : Nat → Nat} {h : eH} {s : fS} {p0 : Nat} (R : fC m b φ0 σo φ h s) (hF : FX3_wantFew N p0 s = some q) : gG m b φ0 σo (lT lU) q (fX3_wantFew N 4 p0 h) := by
  unfold FX3_wantFew at hF
  unfold fX3_wantFew
  refine s_K hF (fun t2 hF => ?_)
  refine s_gI R t2 (Nat.le_of_ble_eq_true rfl) rfl ?_
  refine s_K hF (fun t4 hF => ?_)
  refine s_gI R t4 (Nat.le_of_ble_eq_true rfl) rfl ?_
  refine s_K hF (fun t6 hF => ?_)
  refine s_gI R t6 (Nat.le_of_ble_eq_true rfl) rfl ?_
  exact SX3_wantFew_b17 (N := N) R (c_2l (c_sub rfl rfl) (rr_I _)) (r32.w (rr_I _)) rfl (R.ri t6 (Nat.le_of_ble_eq_true rfl) rfl) hF
def FX3_widthOf_b102 (N : Nat) (K8 : Nat → Int → Int → fS → Option (Int × fS)) (l1 : Nat) (l2 : Int) (l4 : Int) (s : fS) : Option (Int × fS) :=
  K8 l1 l2 (iadd l4 1) s
theorem SX3_widthOf_b102 {m b : Nat} {φ0 : Nat → Nat} {σo : fS} {N : Nat} {k8 : Nat → Nat → Int64 → Int32 → eH → Option (Int32 × eH)} {K8 : Nat → Int → Int → fS → Option (Int × fS)} {q : Int × fS} (hk8 : ∀ {φ : Nat → Nat} {h : eH} {s : fS} {l1 : Nat} {l2' : Int64} {l2 : Int} {l4' : Int32} {l4 : Int}, fC m b φ0 σo φ h s → l2' = iJ l2 → r64 l2 → l4' = iI l4 → r32 l4 → K8 l1 l2 l4 s = some q → gG m b φ0 σo lI q (k8 4 l1 l2' l4' h)) {φ : Nat → Nat} {h : eH} {s : fS} {l1 : Nat} {l2' : Int64} {l2 : Int} {l4' : Int32} {l4 : Int} (R : fC m b φ0 σo φ h s) (el2 : l2' = iJ l2) (rl2 : r64 l2) (el4 : l4' = iI l4) (rl4 : r32 l4) (hF : FX3_widthOf_b102 N K8 l1 l2 l4 s = some q) : gG m b φ0 σo lI q (fX3_widthOf_b102 N k8 4 l1 l2' l4' h) := by
  subst el2; subst el4
  unfold FX3_widthOf_b102 at hF
  unfold fX3_widthOf_b102
  exact hk8 R rfl rl2 (c_add rfl (c_lit 1 1 rfl)) (rr_I _) hF
def FX3_widthOf_b8 (N : Nat) : Nat → Nat → Int → Int → fS → Option (Int × fS)
  | 0, _, _, _, _ => none
  | n + 1, l1, l2, l4, s =>
    (uK 29 s l1).bind fun _ =>
    if (s.i l1 5) ≤ l4 then
      some ((l2i (lmin 2147483647 l2)), s)
    else
      (uRI s 134 l4).bind fun x8 =>
      if x8 = 0 then
        (uRI s 135 l4).bind fun x15 =>
        (uRI s 139 l4).bind fun x21 =>
        if x15 = (-1) then
          if x21 = (-1073741824) then
            FX3_widthOf_b102 N (FX3_widthOf_b8 N n) l1 l2 l4 s
          else
            FX3_widthOf_b102 N (FX3_widthOf_b8 N n) l1 (lmax l2 x21) l4 s
        else
          (uRO s 21 x15).bind fun a27 =>
          (uK 41 s a27).bind fun _ =>
          FX3_widthOf_b102 N (FX3_widthOf_b8 N n) l1 (lmax l2 (ladd (s.i a27 3) x21)) l4 s
      else
        FX3_widthOf_b102 N (FX3_widthOf_b8 N n) l1 l2 l4 s
theorem SX3_widthOf_b8 {m b : Nat} {φ0 : Nat → Nat} {σo : fS} {N : Nat} {q : Int × fS} : ∀ {n : Nat} {φ : Nat → Nat} {h : eH} {s : fS} {l1 : Nat} {l2' : Int64} {l2 : Int} {l4' : Int32} {l4 : Int}, fC m b φ0 σo φ h s → l2' = iJ l2 → r64 l2 → l4' = iI l4 → r32 l4 → FX3_widthOf_b8 N n l1 l2 l4 s = some q → gG m b φ0 σo lI q (fX3_widthOf_b8 N n 4 l1 l2' l4' h) := by
  intro n
  induction n with
 | zero => intro φ h s l1 l2' l2 l4' l4 R el2 rl2 el4 rl4 hF; simp [FX3_widthOf_b8] at hF
  | succ n ih =>
    intro φ h s l1 l2' l2 l4' l4 R el2 rl2 el4 rl4 hF
    subst el2; subst el4
    rw [FX3_widthOf_b8] at hF
    rw [fX3_widthOf_b8]
    refine s_K hF (fun t2 hF => ?_)
    refine s_gI R t2 (Nat.le_of_ble_eq_true rfl) rfl ?_
    refine s_if (i_le rfl rfl (R.ri t2 (Nat.le_of_ble_eq_true rfl) rfl) rl4) hF (fun c3 hF => ?_) (fun c3 hF => ?_)
    ·
      exact g_ret R hF ⟨(d_2i (d_min (d_lit 2147483647 2147483647 rfl) rfl ⟨by decide, by decide⟩ rl2)), (rr_I _)⟩
    ·
      refine s_gO R (t_4 R.S) (Nat.le_of_ble_eq_true rfl) rfl (o_4_12 R.S) ?_
      refine s_gA R (t_133 R.S) (Nat.le_of_ble_eq_true rfl) rfl (o_133_0 R.S) (fun _ _ => ?_)
      refine s_rI R (u_134 R.S).1 (u_134 R.S).2 (by decide) rfl rfl rl4 hF (fun x8 ra6 hF => ?_)
      refine s_if (i_eq rfl (c_lit 0 0 rfl) ra6 ⟨by decide, by decide⟩) hF (fun c7 hF => ?_) (fun c7 hF => ?_)
      ·
        refine s_gO R (t_4 R.S) (Nat.le_of_ble_eq_true rfl) rfl (o_4_12 R.S) ?_
        refine s_gA R (t_133 R.S) (Nat.le_of_ble_eq_true rfl) rfl (o_133_1 R.S) (fun _ _ => ?_)
        refine s_rI R (u_135 R.S).1 (u_135 R.S).2 (by decide) rfl rfl rl4 hF (fun x15 ra10 hF => ?_)
        refine s_gO R (t_4 R.S) (Nat.le_of_ble_eq_true rfl) rfl (o_4_12 R.S) ?_
        refine s_gA R (t_133 R.S) (Nat.le_of_ble_eq_true rfl) rfl (o_133_5 R.S) (fun _ _ => ?_)
        refine s_rI R (u_139 R.S).1 (u_139 R.S).2 (by decide) rfl rfl rl4 hF (fun x21 ra13 hF => ?_)
        refine s_if (i_eq rfl (c_lit (-1) (-1) rfl) ra10 ⟨by decide, by decide⟩) hF (fun c14 hF => ?_) (fun c14 hF => ?_)
        ·
          refine s_if (i_eq rfl (c_lit (-1073741824) (-1073741824) rfl) ra13 ⟨by decide, by decide⟩) hF (fun c15 hF => ?_) (fun c15 hF => ?_)
          ·
            exact SX3_widthOf_b102 (N := N) (k8 := fX3_widthOf_b8 N n) (K8 := FX3_widthOf_b8 N n) @ih R rfl rl2 rfl rl4 hF
          ·
            exact SX3_widthOf_b102 (N := N) (k8 := fX3_widthOf_b8 N n) (K8 := FX3_widthOf_b8 N n) @ih R (d_max rfl (c_2l rfl ra13) rl2 (r32.w ra13)) (q_max rl2 (r32.w ra13)) rfl rl4 hF
        ·
          refine s_gAs R (t_4 R.S) (Nat.le_of_ble_eq_true rfl) rfl (o_4_3 R.S) (a_21 R) ?_
          refine s_rO R (u_21 R.S).1 (u_21 R.S).2 rfl (fun _ => rfl) (Nat.le_of_ble_eq_true rfl) (a_21 R) rfl ra10 hF (fun a27 y17 hF => ?_)
          refine s_K hF (fun t19 hF => ?_)
          refine s_gI R t19 (Nat.le_of_ble_eq_true rfl) rfl ?_
          exact SX3_widthOf_b102 (N := N) (k8 := fX3_widthOf_b8 N n) (K8 := FX3_widthOf_b8 N n) @ih R (d_max rfl (d_add (c_2l rfl (R.ri t19 (Nat.le_of_ble_eq_true rfl) rfl)) (c_2l rfl ra13)) rl2 (rr_J _)) (q_max rl2 (rr_J _)) rfl rl4 hF
      ·
        exact SX3_widthOf_b102 (N := N) (k8 := fX3_widthOf_b8 N n) (K8 := FX3_widthOf_b8 N n) @ih R rfl rl2 rfl rl4 hF
def FX3_widthOf (N : Nat) (p0 : Nat) (s : fS) : Option (Int × fS) :=
  (uK 29 s p0).bind fun _ =>
  FX3_widthOf_b8 N N p0 0 (s.i p0 4) s
theorem SX3_widthOf {m b : Nat} {φ0 : Nat → Nat} {σo : fS} {N : Nat} {q : Int × fS} {φ : Nat → Nat} {h : eH} {s : fS} {p0 : Nat} (R : fC m b φ0 σo φ h s) (hF : FX3_widthOf N p0 s = some q) : gG m b φ0 σo lI q (fX3_widthOf N 4 p0 h) := by
  unfold FX3_widthOf at hF
  unfold fX3_widthOf
  refine s_K hF (fun t2 hF => ?_)
  refine s_gI R t2 (Nat.le_of_ble_eq_true rfl) rfl ?_
  exact SX3_widthOf_b8 (N := N) R (d_lit 0 0 rfl) ⟨by decide, by decide⟩ rfl (R.ri t2 (Nat.le_of_ble_eq_true rfl) rfl) hF
def FX30_nearest_b37 (N : Nat) (K10 : Int → Int → Int → Int → Int → Int → fS → Option (Int × fS)) (l0 : Int) (l2 : Int) (l4 : Int) (l6 : Int) (l10 : Int) (s0 : Int) (s1 : Int) (s : fS) : Option (Int × fS) :=
  if l4 = 0 then none else
  if l4 = 0 then none else
  K10 l0 l2 l4 (ladd (lmul 2 l6) (ldiv (ladd s0 s1) l4)) (lrem (ladd s0 s1) l4) (iadd l10 (-1)) s
theorem SX30_nearest_b37 {m b : Nat} {φ0 : Nat → Nat} {σo : fS} {N : Nat} {k10 : Int64 → Int64 → Int64 → Int64 → Int64 → Int32 → eH → Option (Int64 × eH)} {K10 : Int → Int → Int → Int → Int → Int → fS → Option (Int × fS)} {q : Int × fS} (hk10 : ∀ {φ : Nat → Nat} {h : eH} {s : fS} {l0' : Int64} {l0 : Int} {l2' : Int64} {l2 : Int} {l4' : Int64} {l4 : Int} {l6' : Int64} {l6 : Int} {l8' : Int64} {l8 : Int} {l10' : Int32} {l10 : Int}, fC m b φ0 σo φ h s → l0' = iJ l0 → r64 l0 → l2' = iJ l2 → r64 l2 → l4' = iJ l4 → r64 l4 → l6' = iJ l6 → r64 l6 → l8' = iJ l8 → r64 l8 → l10' = iI l10 → r32 l10 → K10 l0 l2 l4 l6 l8 l10 s = some q → gG m b φ0 σo lJ q (k10 l0' l2' l4' l6' l8' l10' h)) {φ : Nat → Nat} {h : eH} {s : fS} {l0' : Int64} {l0 : Int} {l2' : Int64} {l2 : Int} {l4' : Int64} {l4 : Int} {l6' : Int64} {l6 : Int} {l10' : Int32} {l10 : Int} {s0' : Int64} {s0 : Int} {s1' : Int64} {s1 : Int} (R : fC m b φ0 σo φ h s) (el0 : l0' = iJ l0) (rl0 : r64 l0) (el2 : l2' = iJ l2) (rl2 : r64 l2) (el4 : l4' = iJ l4) (rl4 : r64 l4) (el6 : l6' = iJ l6) (rl6 : r64 l6) (el10 : l10' = iI l10) (rl10 : r32 l10) (es0 : s0' = iJ s0) (rs0 : r64 s0) (es1 : s1' = iJ s1) (rs1 : r64 s1) (hF : FX30_nearest_b37 N K10 l0 l2 l4 l6 l10 s0 s1 s = some q) : gG m b φ0 σo lJ q (fX30_nearest_b37 N k10 l0' l2' l4' l6' l10' s0' s1' h) := by
  subst el0; subst el2; subst el4; subst el6; subst el10; subst es0; subst es1
  unfold FX30_nearest_b37 at hF
  unfold fX30_nearest_b37
  refine s_div (j_eq rfl (d_lit 0 0 rfl) rl4 ⟨by decide, by decide⟩) hF (fun c1 hF => ?_)
  refine s_div (j_eq rfl (d_lit 0 0 rfl) rl4 ⟨by decide, by decide⟩) hF (fun c2 hF => ?_)
  exact hk10 R rfl rl0 rfl rl2 rfl rl4 (d_add (d_mul (d_lit 2 2 rfl) rfl) (d_div (d_add rfl rfl) rfl)) (rr_J _) (d_rem (d_add rfl rfl) rfl) (rr_J _) (c_add rfl (c_lit (-1) (-1) rfl)) (rr_I _) hF
def FX30_nearest_b88 (N : Nat) (s0 : Int) (s : fS) : Option (Int × fS) :=
  some (s0, s)
theorem SX30_nearest_b88 {m b : Nat} {φ0 : Nat → Nat} {σo : fS} {N : Nat} {q : Int × fS} {φ : Nat → Nat} {h : eH} {s : fS} {s0' : Int64} {s0 : Int} (R : fC m b φ0 σo φ h s) (es0 : s0' = iJ s0) (rs0 : r64 s0) (hF : FX30_nearest_b88 N s0 s = some q) : gG m b φ0 σo lJ q (fX30_nearest_b88 N s0' h) := by
  subst es0
  unfold FX30_nearest_b88 at hF
  unfold fX30_nearest_b88
  exact g_ret R hF ⟨rfl, rs0⟩
def FX30_nearest_b10 (N : Nat) : Nat → Int → Int → Int → Int → Int → Int → fS → Option (Int × fS)
  | 0, _, _, _, _, _, _, _ => none
  | n + 1, l0, l2, l4, l6, l8, l10, s =>
    if l10 < 0 then
      if (lmul 2 l8) < l4 then
        FX30_nearest_b88 N l6 s
      else
        FX30_nearest_b88 N (ladd l6 1) s
    else
      if ¬ ((land (lshr l0 l10) 1) = 1) then
        FX30_nearest_b37 N (FX30_nearest_b10 N n) l0 l2 l4 l6 l10 (lmul 2 l8) 0 s
      else
        FX30_nearest_b37 N (FX30_nearest_b10 N n) l0 l2 l4 l6 l10 (lmul 2 l8) l2 s
theorem SX30_nearest_b10 {m b : Nat} {φ0 : Nat → Nat} {σo : fS} {N : Nat} {q : Int × fS} : ∀ {n : Nat} {φ : Nat → Nat} {h : eH} {s : fS} {l0' : Int64} {l0 : Int} {l2' : Int64} {l2 : Int} {l4' : Int64} {l4 : Int} {l6' : Int64} {l6 : Int} {l8' : Int64} {l8 : Int} {l10' : Int32} {l10 : Int}, fC m b φ0 σo φ h s → l0' = iJ l0 → r64 l0 → l2' = iJ l2 → r64 l2 → l4' = iJ l4 → r64 l4 → l6' = iJ l6 → r64 l6 → l8' = iJ l8 → r64 l8 → l10' = iI l10 → r32 l10 → FX30_nearest_b10 N n l0 l2 l4 l6 l8 l10 s = some q → gG m b φ0 σo lJ q (fX30_nearest_b10 N n l0' l2' l4' l6' l8' l10' h) := by
  intro n
  induction n with
 | zero => intro φ h s l0' l0 l2' l2 l4' l4 l6' l6 l8' l8 l10' l10 R el0 rl0 el2 rl2 el4 rl4 el6 rl6 el8 rl8 el10 rl10 hF; simp [FX30_nearest_b10] at hF
  | succ n ih =>
    intro φ h s l0' l0 l2' l2 l4' l4 l6' l6 l8' l8 l10' l10 R el0 rl0 el2 rl2 el4 rl4 el6 rl6 el8 rl8 el10 rl10 hF
    subst el0; subst el2; subst el4; subst el6; subst el8; subst el10
    rw [FX30_nearest_b10] at hF
    rw [fX30_nearest_b10]
    refine s_if (i_lt rfl (c_lit 0 0 rfl) rl10 ⟨by decide, by decide⟩) hF (fun c1 hF => ?_) (fun c1 hF => ?_)
    ·
      refine s_if (lg_lt.trans (j_lt (d_mul (d_lit 2 2 rfl) rfl) rfl (rr_J _) rl4)) hF (fun c2 hF => ?_) (fun c2 hF => ?_)
      ·
        exact SX30_nearest_b88 (N := N) R rfl rl6 hF
      ·
        exact SX30_nearest_b88 (N := N) R (d_add rfl (d_lit 1 1 rfl)) (rr_J _) hF
    ·
      refine s_if (not_congr (lg_eq.trans (j_eq (d_and (d_shr rfl (c_2l rfl rl10)) (d_lit 1 1 rfl)) (d_lit 1 1 rfl) (rr_J _) ⟨by decide, by decide⟩))) hF (fun c3 hF => ?_) (fun c3 hF => ?_)
      ·
        exact SX30_nearest_b37 (N := N) (k10 := fX30_nearest_b10 N n) (K10 := FX30_nearest_b10 N n) @ih R rfl rl0 rfl rl2 rfl rl4 rfl rl6 rfl rl10 (d_mul (d_lit 2 2 rfl) rfl) (rr_J _) (d_lit 0 0 rfl) ⟨by decide, by decide⟩ hF
      ·
        exact SX30_nearest_b37 (N := N) (k10 := fX30_nearest_b10 N n) (K10 := FX30_nearest_b10 N n) @ih R rfl rl0 rfl rl2 rfl rl4 rfl rl6 rfl rl10 (d_mul (d_lit 2 2 rfl) rfl) (rr_J _) rfl rl2 hF
def FX30_nearest (N : Nat) (p0 : Int) (p1 : Int) (p2 : Int) (s : fS) : Option (Int × fS) :=
  FX30_nearest_b10 N N p0 p1 p2 0 0 62 s
theorem SX30_nearest {m b : Nat} {φ0 : Nat → Nat} {σo : fS} {N : Nat} {q : Int × fS} {φ : Nat → Nat} {h : eH} {s : fS} {p0' : Int64} {p0 : Int} {p1' : Int64} {p1 : Int} {p2' : Int64} {p2 : Int} (R : fC m b φ0 σo φ h s) (ep0 : p0' = iJ p0) (rp0 : r64 p0) (ep1 : p1' = iJ p1) (rp1 : r64 p1) (ep2 : p2' = iJ p2) (rp2 : r64 p2) (hF : FX30_nearest N p0 p1 p2 s = some q) : gG m b φ0 σo lJ q (fX30_nearest N p0' p1' p2' h) := by
  subst ep0; subst ep1; subst ep2
  unfold FX30_nearest at hF
  unfold fX30_nearest
  exact SX30_nearest_b10 (N := N) R rfl rp0 rfl rp1 rfl rp2 (d_lit 0 0 rfl) ⟨by decide, by decide⟩ (d_lit 0 0 rfl) ⟨by decide, by decide⟩ (c_lit 62 62 rfl) ⟨by decide, by decide⟩ hF
def FX30_share (N : Nat) (this : Nat) (s : fS) : Option (Int × fS) :=
  (uK 29 s this).bind fun _ =>
  if ¬ ((s.j this 11) = 0) then
    (uK 29 s this).bind fun _ =>
    if (s.j this 9) ≤ 0 then
      (uK 29 s this).bind fun _ =>
      (uK 29 s this).bind fun _ =>
      (uK 29 s this).bind fun _ =>
      (FX30_nearest N (lmin (lneg (s.j this 9)) (s.j this 11)) (s.j 151 1) (s.j this 11) s).bind fun q15 =>
      some ((lneg q15.1), q15.2)
    else
      (uK 29 s this).bind fun _ =>
      (uK 29 s this).bind fun _ =>
      (uRJ s 152 (s.i this 10)).bind fun x22 =>
      (uK 29 s this).bind fun _ =>
      (FX30_nearest N (s.j this 9) x22 (s.j this 11) s).bind fun q26 =>
      some (q26.1, q26.2)
  else
    some (0, s)
theorem SX30_share {m b : Nat} {φ0 : Nat → Nat} {σo : fS} {N : Nat} {q : Int × fS} {φ : Nat → Nat} {h : eH} {s : fS} {this : Nat} (R : fC m b φ0 σo φ h s) (hF : FX30_share N this s = some q) : gG m b φ0 σo lJ q (fX30_share N this 151 h) := by
  unfold FX30_share at hF
  unfold fX30_share
  refine s_K hF (fun t2 hF => ?_)
  refine s_gJ R t2 (Nat.le_of_ble_eq_true rfl) rfl ?_
  refine s_if (not_congr (lg_eq.trans (j_eq rfl (d_lit 0 0 rfl) (R.rj t2 (Nat.le_of_ble_eq_true rfl) rfl) ⟨by decide, by decide⟩))) hF (fun c3 hF => ?_) (fun c3 hF => ?_)
  ·
    refine s_K hF (fun t5 hF => ?_)
    refine s_gJ R t5 (Nat.le_of_ble_eq_true rfl) rfl ?_
    refine s_if (lg_le.trans (j_le rfl (d_lit 0 0 rfl) (R.rj t5 (Nat.le_of_ble_eq_true rfl) rfl) ⟨by decide, by decide⟩)) hF (fun c6 hF => ?_) (fun c6 hF => ?_)
    ·
      refine s_K hF (fun t8 hF => ?_)
      refine s_gJ R t8 (Nat.le_of_ble_eq_true rfl) rfl ?_
      refine s_K hF (fun t10 hF => ?_)
      refine s_gJ R t10 (Nat.le_of_ble_eq_true rfl) rfl ?_
      refine s_gJ R (t_151 R.S) (Nat.le_of_ble_eq_true rfl) rfl ?_
      refine s_K hF (fun t13 hF => ?_)
      refine s_gJ R t13 (Nat.le_of_ble_eq_true rfl) rfl ?_
      refine s_call R (Nat.zero_le _) (fun _ hq => SX30_nearest (b := 0) (N := N) (R.rf) (d_min (d_neg rfl) rfl (rr_J _) (R.rj t10 (Nat.le_of_ble_eq_true rfl) rfl)) (q_min (rr_J _) (R.rj t10 (Nat.le_of_ble_eq_true rfl) rfl)) rfl (R.rj (t_151 R.S) (Nat.le_of_ble_eq_true rfl) rfl) rfl (R.rj t13 (Nat.le_of_ble_eq_true rfl) rfl) hq) hF (fun f14 rv14 h14 q15 R14 e14 E14 hF => ?_)
      exact g_ret R14 hF ⟨(d_neg e14.1), (rr_J _)⟩
    ·
      refine s_K hF (fun t16 hF => ?_)
      refine s_gJ R t16 (Nat.le_of_ble_eq_true rfl) rfl ?_
      refine s_gAs R (t_151 R.S) (Nat.le_of_ble_eq_true rfl) rfl (o_151_0 R.S) (a_152 R) ?_
      refine s_K hF (fun t19 hF => ?_)
      refine s_gI R t19 (Nat.le_of_ble_eq_true rfl) rfl ?_
      refine s_rJ R (u_152 R.S).1 (u_152 R.S).2 (a_152 R) rfl (R.ri t19 (Nat.le_of_ble_eq_true rfl) rfl) hF (fun x22 ra20 hF => ?_)
      refine s_K hF (fun t22 hF => ?_)
      refine s_gJ R t22 (Nat.le_of_ble_eq_true rfl) rfl ?_
      refine s_call R (Nat.zero_le _) (fun _ hq => SX30_nearest (b := 0) (N := N) (R.rf) rfl (R.rj t16 (Nat.le_of_ble_eq_true rfl) rfl) rfl ra20 rfl (R.rj t22 (Nat.le_of_ble_eq_true rfl) rfl) hq) hF (fun f23 rv23 h23 q26 R23 e23 E23 hF => ?_)
      exact g_ret R23 hF ⟨e23.1, e23.2⟩
  ·
    exact g_ret R hF ⟨(d_lit 0 0 rfl), ⟨by decide, by decide⟩⟩
def FX20_enter (p0 : Nat) (p1 : Int) (p2 : Int) (s : fS) : Option (Unit × fS) :=
  (uK 41 s p0).bind fun _ =>
  (uQO s 99 (s.i 97 8) p0).bind fun σ5 =>
  (uQJ σ5 100 (σ5.i 97 8) p1).bind fun σ11 =>
  (uQJ σ11 101 (σ11.i 97 8) p2).bind fun σ17 =>
  (uK 41 σ17 p0).bind fun _ =>
  (uQI σ17 102 (σ17.i 97 8) (σ17.i p0 0)).bind fun σ25 =>
  (uPI σ25 97 8 (iadd (σ25.i 97 8) 1)).bind fun σ29 =>
  some ((), σ29)
theorem SX20_enter {m b : Nat} {φ0 : Nat → Nat} {σo : fS} {q : Unit × fS} {φ : Nat → Nat} {h : eH} {s : fS} {p0 : Nat} {p1' : Int64} {p1 : Int} {p2' : Int64} {p2 : Int} (R : fC m b φ0 σo φ h s) (ep1 : p1' = iJ p1) (rp1 : r64 p1) (ep2 : p2' = iJ p2) (rp2 : r64 p2) (hF : FX20_enter p0 p1 p2 s = some q) : gG m b φ0 σo lU q (fX20_enter 97 p0 p1' p2' h) := by
  subst ep1; subst ep2
  unfold FX20_enter at hF
  unfold fX20_enter
  refine s_gAs R (t_97 R.S) (Nat.le_of_ble_eq_true rfl) rfl (o_97_4 R.S) (a_99 R) ?_
  refine s_gI R (t_97 R.S) (Nat.le_of_ble_eq_true rfl) rfl ?_
  refine s_K hF (fun t4 hF => ?_)
  refine s_qO R (by rw [(t_99 R.S)]; decide) (t_99 R.S) rfl (fun _ => rfl) (Nat.le_of_ble_eq_true rfl) (a_99 R) rfl (R.ri (t_97 R.S) (Nat.le_of_ble_eq_true rfl) rfl) t4 (Nat.le_of_ble_eq_true rfl) hF (fun h3 σ5 R3 T3 hF => ?_)
  refine s_gAs R3 (t_97 R3.S) (Nat.le_of_ble_eq_true rfl) rfl (o_97_5 R3.S) (a_100 R3) ?_
  refine s_gI R3 (t_97 R3.S) (Nat.le_of_ble_eq_true rfl) rfl ?_
  refine s_qJ R3 (u_100 R3.S).1 (u_100 R3.S).2 (a_100 R3) rfl (R3.ri (t_97 R3.S) (Nat.le_of_ble_eq_true rfl) rfl) rfl rp1 hF (fun h7 σ11 R7 T7 hF => ?_)
  refine s_gAs R7 (t_97 R7.S) (Nat.le_of_ble_eq_true rfl) rfl (o_97_6 R7.S) (a_101 R7) ?_
  refine s_gI R7 (t_97 R7.S) (Nat.le_of_ble_eq_true rfl) rfl ?_
  refine s_qJ R7 (u_101 R7.S).1 (u_101 R7.S).2 (a_101 R7) rfl (R7.ri (t_97 R7.S) (Nat.le_of_ble_eq_true rfl) rfl) rfl rp2 hF (fun h10 σ17 R10 T10 hF => ?_)
  refine s_gAs R10 (t_97 R10.S) (Nat.le_of_ble_eq_true rfl) rfl (o_97_7 R10.S) (a_102 R10) ?_
  refine s_gI R10 (t_97 R10.S) (Nat.le_of_ble_eq_true rfl) rfl ?_
  refine s_K hF (fun t14 hF => ?_)
  refine s_gI R10 t14 (Nat.le_of_ble_eq_true rfl) rfl ?_
  refine s_qI R10 (u_102 R10.S).1 (u_102 R10.S).2 (by decide) (a_102 R10) rfl (R10.ri (t_97 R10.S) (Nat.le_of_ble_eq_true rfl) rfl) rfl (R10.ri t14 (Nat.le_of_ble_eq_true rfl) rfl) hF (fun h15 σ25 R15 T15 hF => ?_)
  refine s_gI R15 (t_97 R15.S) (Nat.le_of_ble_eq_true rfl) rfl ?_
  refine s_pI R15 (t_97 R15.S) (Nat.le_of_ble_eq_true rfl) rfl (c_add rfl (c_lit 1 1 rfl)) (rr_I _) hF (fun h17 σ29 R17 T17 hF => ?_)
  exact g_ret R17 hF trivial
def FX7_kind (p0 : Int) (s : fS) : Option (Int × fS) :=
  (uRI s 18 p0).bind fun x3 =>
  some (x3, s)
theorem SX7_kind {m b : Nat} {φ0 : Nat → Nat} {σo : fS} {q : Int × fS} {φ : Nat → Nat} {h : eH} {s : fS} {p0' : Int32} {p0 : Int} (R : fC m b φ0 σo φ h s) (ep0 : p0' = iI p0) (rp0 : r32 p0) (hF : FX7_kind p0 s = some q) : gG m b φ0 σo lI q (fX7_kind 17 p0' h) := by
  subst ep0
  unfold FX7_kind at hF
  unfold fX7_kind
  refine s_gA R (t_17 R.S) (Nat.le_of_ble_eq_true rfl) rfl (o_17_0 R.S) (fun _ _ => ?_)
  refine s_rI R (u_18 R.S).1 (u_18 R.S).2 (by decide) rfl rfl rp0 hF (fun x3 ra2 hF => ?_)
  exact g_ret R hF ⟨rfl, ra2⟩
def FX7_of (p0 : Int) (p1 : Int) (s : fS) : Option (Int × fS) :=
  (uRI s 19 (iadd (imul 5 p0) p1)).bind fun x3 =>
  some (x3, s)
theorem SX7_of {m b : Nat} {φ0 : Nat → Nat} {σo : fS} {q : Int × fS} {φ : Nat → Nat} {h : eH} {s : fS} {p0' : Int32} {p0 : Int} {p1' : Int32} {p1 : Int} (R : fC m b φ0 σo φ h s) (ep0 : p0' = iI p0) (rp0 : r32 p0) (ep1 : p1' = iI p1) (rp1 : r32 p1) (hF : FX7_of p0 p1 s = some q) : gG m b φ0 σo lI q (fX7_of 17 p0' p1' h) := by
  subst ep0; subst ep1
  unfold FX7_of at hF
  unfold fX7_of
  refine s_gA R (t_17 R.S) (Nat.le_of_ble_eq_true rfl) rfl (o_17_1 R.S) (fun _ _ => ?_)
  refine s_rI R (u_19 R.S).1 (u_19 R.S).2 (by decide) rfl (c_add (c_mul (c_lit 5 5 rfl) rfl) rfl) (rr_I _) hF (fun x3 ra2 hF => ?_)
  exact g_ret R hF ⟨rfl, ra2⟩
def FX20_mark (p0 : Int) (p1 : Int) (p2 : Int) (p3 : Int) (p4 : Int) (p5 : Int) (s : fS) : Option (Int × fS) :=
  if ¬ ((s.i 97 3) = 3000) then
    (uPI s 97 3 (iadd (s.i 97 3) 1)).bind fun σ6 =>
    (uQJ σ6 98 (imul 6 (s.i 97 3)) p0).bind fun σ10 =>
    (uQJ σ10 98 (iadd (imul 6 (s.i 97 3)) 1) p1).bind fun σ14 =>
    (uQJ σ14 98 (iadd (imul 6 (s.i 97 3)) 2) p2).bind fun σ18 =>
    (uQJ σ18 98 (iadd (imul 6 (s.i 97 3)) 3) p3).bind fun σ22 =>
    (uQJ σ22 98 (iadd (imul 6 (s.i 97 3)) 4) p4).bind fun σ26 =>
    (uQJ σ26 98 (iadd (imul 6 (s.i 97 3)) 5) p5).bind fun σ30 =>
    some (1, σ30)
  else
    some (0, s)
theorem SX20_mark {m b : Nat} {φ0 : Nat → Nat} {σo : fS} {q : Int × fS} {φ : Nat → Nat} {h : eH} {s : fS} {p0' : Int32} {p0 : Int} {p1' : Int64} {p1 : Int} {p2' : Int64} {p2 : Int} {p3' : Int32} {p3 : Int} {p4' : Int32} {p4 : Int} {p5' : Int32} {p5 : Int} (R : fC m b φ0 σo φ h s) (ep0 : p0' = iI p0) (rp0 : r32 p0) (ep1 : p1' = iJ p1) (rp1 : r64 p1) (ep2 : p2' = iJ p2) (rp2 : r64 p2) (ep3 : p3' = iI p3) (rp3 : r32 p3) (ep4 : p4' = iI p4) (rp4 : r32 p4) (ep5 : p5' = iI p5) (rp5 : r32 p5) (hF : FX20_mark p0 p1 p2 p3 p4 p5 s = some q) : gG m b φ0 σo lI q (fX20_mark 97 p0' p1' p2' p3' p4' p5' h) := by
  subst ep0; subst ep1; subst ep2; subst ep3; subst ep4; subst ep5
  unfold FX20_mark at hF
  unfold fX20_mark
  refine s_gI R (t_97 R.S) (Nat.le_of_ble_eq_true rfl) rfl ?_
  refine s_if (not_congr (i_eq rfl (c_lit 3000 3000 rfl) (R.ri (t_97 R.S) (Nat.le_of_ble_eq_true rfl) rfl) ⟨by decide, by decide⟩)) hF (fun c2 hF => ?_) (fun c2 hF => ?_)
  ·
    refine s_gI R (t_97 R.S) (Nat.le_of_ble_eq_true rfl) rfl ?_
    refine s_pI R (t_97 R.S) (Nat.le_of_ble_eq_true rfl) rfl (c_add rfl (c_lit 1 1 rfl)) (rr_I _) hF (fun h4 σ6 R4 T4 hF => ?_)
    refine s_gAs R4 (t_97 R4.S) (Nat.le_of_ble_eq_true rfl) rfl (o_97_2 R4.S) (a_98 R4) ?_
    refine s_qJ R4 (u_98 R4.S).1 (u_98 R4.S).2 (a_98 R4) (c_mul (c_lit 6 6 rfl) rfl) (rr_I _) (c_2l rfl rp0) (r32.w rp0) hF (fun h6 σ10 R6 T6 hF => ?_)
    refine s_gAs R6 (t_97 R6.S) (Nat.le_of_ble_eq_true rfl) rfl (o_97_2 R6.S) (a_98 R6) ?_
    refine s_qJ R6 (u_98 R6.S).1 (u_98 R6.S).2 (a_98 R6) (c_add (c_mul (c_lit 6 6 rfl) rfl) (c_lit 1 1 rfl)) (rr_I _) rfl rp1 hF (fun h8 σ14 R8 T8 hF => ?_)
    refine s_gAs R8 (t_97 R8.S) (Nat.le_of_ble_eq_true rfl) rfl (o_97_2 R8.S) (a_98 R8) ?_
    refine s_qJ R8 (u_98 R8.S).1 (u_98 R8.S).2 (a_98 R8) (c_add (c_mul (c_lit 6 6 rfl) rfl) (c_lit 2 2 rfl)) (rr_I _) rfl rp2 hF (fun h10 σ18 R10 T10 hF => ?_)
    refine s_gAs R10 (t_97 R10.S) (Nat.le_of_ble_eq_true rfl) rfl (o_97_2 R10.S) (a_98 R10) ?_
    refine s_qJ R10 (u_98 R10.S).1 (u_98 R10.S).2 (a_98 R10) (c_add (c_mul (c_lit 6 6 rfl) rfl) (c_lit 3 3 rfl)) (rr_I _) (c_2l rfl rp3) (r32.w rp3) hF (fun h12 σ22 R12 T12 hF => ?_)
    refine s_gAs R12 (t_97 R12.S) (Nat.le_of_ble_eq_true rfl) rfl (o_97_2 R12.S) (a_98 R12) ?_
    refine s_qJ R12 (u_98 R12.S).1 (u_98 R12.S).2 (a_98 R12) (c_add (c_mul (c_lit 6 6 rfl) rfl) (c_lit 4 4 rfl)) (rr_I _) (c_2l rfl rp4) (r32.w rp4) hF (fun h14 σ26 R14 T14 hF => ?_)
    refine s_gAs R14 (t_97 R14.S) (Nat.le_of_ble_eq_true rfl) rfl (o_97_2 R14.S) (a_98 R14) ?_
    refine s_qJ R14 (u_98 R14.S).1 (u_98 R14.S).2 (a_98 R14) (c_add (c_mul (c_lit 6 6 rfl) rfl) (c_lit 5 5 rfl)) (rr_I _) (c_2l rfl rp5) (r32.w rp5) hF (fun h16 σ30 R16 T16 hF => ?_)
    exact g_ret R16 hF ⟨(c_lit 1 1 rfl), ⟨by decide, by decide⟩⟩
  ·
    exact g_ret R hF ⟨(c_lit 0 0 rfl), ⟨by decide, by decide⟩⟩
def FX7_isRunning_b16 (s0 : Int) (s : fS) : Option (Int × fS) :=
  uZ s0 (s0, s)
theorem SX7_isRunning_b16 {m b : Nat} {φ0 : Nat → Nat} {σo : fS} {q : Int × fS} {φ : Nat → Nat} {h : eH} {s : fS} {s0' : Int32} {s0 : Int} (R : fC m b φ0 σo φ h s) (es0 : s0' = iI s0) (rs0 : r32 s0) (hF : FX7_isRunning_b16 s0 s = some q) : gG m b φ0 σo lI q (fX7_isRunning_b16 s0' h) := by
  subst es0
  unfold FX7_isRunning_b16 at hF
  unfold fX7_isRunning_b16
  exact g_z R rfl hF ⟨rfl, rs0⟩
def FX7_isRunning (p0 : Int) (p1 : Int) (s : fS) : Option (Int × fS) :=
  (FX7_of p0 p1 s).bind fun q2 =>
  if ¬ (q2.1 = (-1073741824)) then
    FX7_isRunning_b16 0 q2.2
  else
    FX7_isRunning_b16 1 q2.2
theorem SX7_isRunning {m b : Nat} {φ0 : Nat → Nat} {σo : fS} {q : Int × fS} {φ : Nat → Nat} {h : eH} {s : fS} {p0' : Int32} {p0 : Int} {p1' : Int32} {p1 : Int} (R : fC m b φ0 σo φ h s) (ep0 : p0' = iI p0) (rp0 : r32 p0) (ep1 : p1' = iI p1) (rp1 : r32 p1) (hF : FX7_isRunning p0 p1 s = some q) : gG m b φ0 σo lI q (fX7_isRunning 17 p0' p1' h) := by
  subst ep0; subst ep1
  unfold FX7_isRunning at hF
  unfold fX7_isRunning
  refine s_kok R (t_17 R.S) (Nat.le_of_ble_eq_true rfl) ?_
  refine s_call R (Nat.zero_le _) (fun _ hq => SX7_of (b := 0) (R.rf) rfl rp0 rfl rp1 hq) hF (fun f2 rv2 h2 q2 R2 e2 E2 hF => ?_)
  refine s_if (not_congr (i_eq e2.1 (c_lit (-1073741824) (-1073741824) rfl) e2.2 ⟨by decide, by decide⟩)) hF (fun c3 hF => ?_) (fun c3 hF => ?_)
  ·
    exact SX7_isRunning_b16 R2 (c_lit 0 0 rfl) ⟨by decide, by decide⟩ hF
  ·
    exact SX7_isRunning_b16 R2 (c_lit 1 1 rfl) ⟨by decide, by decide⟩ hF
def FX7_solid_b18 (s0 : Int) (s : fS) : Option (Int × fS) :=
  some (s0, s)
theorem SX7_solid_b18 {m b : Nat} {φ0 : Nat → Nat} {σo : fS} {q : Int × fS} {φ : Nat → Nat} {h : eH} {s : fS} {s0' : Int32} {s0 : Int} (R : fC m b φ0 σo φ h s) (es0 : s0' = iI s0) (rs0 : r32 s0) (hF : FX7_solid_b18 s0 s = some q) : gG m b φ0 σo lI q (fX7_solid_b18 s0' h) := by
  subst es0
  unfold FX7_solid_b18 at hF
  unfold fX7_solid_b18
  exact g_ret R hF ⟨rfl, rs0⟩
def FX7_solid (p0 : Int) (p1 : Int) (s : fS) : Option (Int × fS) :=
  (FX7_of p0 p1 s).bind fun q2 =>
  if ¬ (q2.1 = (-1073741824)) then
    FX7_solid_b18 q2.1 q2.2
  else
    FX7_solid_b18 0 q2.2
theorem SX7_solid {m b : Nat} {φ0 : Nat → Nat} {σo : fS} {q : Int × fS} {φ : Nat → Nat} {h : eH} {s : fS} {p0' : Int32} {p0 : Int} {p1' : Int32} {p1 : Int} (R : fC m b φ0 σo φ h s) (ep0 : p0' = iI p0) (rp0 : r32 p0) (ep1 : p1' = iI p1) (rp1 : r32 p1) (hF : FX7_solid p0 p1 s = some q) : gG m b φ0 σo lI q (fX7_solid 17 p0' p1' h) := by
  subst ep0; subst ep1
  unfold FX7_solid at hF
  unfold fX7_solid
  refine s_kok R (t_17 R.S) (Nat.le_of_ble_eq_true rfl) ?_
  refine s_call R (Nat.zero_le _) (fun _ hq => SX7_of (b := 0) (R.rf) rfl rp0 rfl rp1 hq) hF (fun f2 rv2 h2 q2 R2 e2 E2 hF => ?_)
  refine s_if (not_congr (i_eq e2.1 (c_lit (-1073741824) (-1073741824) rfl) e2.2 ⟨by decide, by decide⟩)) hF (fun c3 hF => ?_) (fun c3 hF => ?_)
  ·
    exact SX7_solid_b18 R2 e2.1 e2.2 hF
  ·
    exact SX7_solid_b18 R2 (c_lit 0 0 rfl) ⟨by decide, by decide⟩ hF
def FX20_rule_b128 (s : fS) : Option (Int × fS) :=
  some (1, s)
theorem SX20_rule_b128 {m b : Nat} {φ0 : Nat → Nat} {σo : fS} {q : Int × fS} {φ : Nat → Nat} {h : eH} {s : fS} (R : fC m b φ0 σo φ h s) (hF : FX20_rule_b128 s = some q) : gG m b φ0 σo lI q (fX20_rule_b128 h) := by
  unfold FX20_rule_b128 at hF
  unfold fX20_rule_b128
  exact g_ret R hF ⟨(c_lit 1 1 rfl), ⟨by decide, by decide⟩⟩
def FX20_rule_b151 (l7 : Int) (l8 : Int) (l9 : Int) (s1 : Int) (s2 : Int) (s3 : Int) (s : fS) : Option (Int × fS) :=
  (FX20_mark s1 s2 s3 l7 l8 l9 s).bind fun q2 =>
  uZ q2.1 (q2.1, q2.2)
theorem SX20_rule_b151 {m b : Nat} {φ0 : Nat → Nat} {σo : fS} {q : Int × fS} {φ : Nat → Nat} {h : eH} {s : fS} {l7' : Int32} {l7 : Int} {l8' : Int32} {l8 : Int} {l9' : Int32} {l9 : Int} {s1' : Int32} {s1 : Int} {s2' : Int64} {s2 : Int} {s3' : Int64} {s3 : Int} (R : fC m b φ0 σo φ h s) (el7 : l7' = iI l7) (rl7 : r32 l7) (el8 : l8' = iI l8) (rl8 : r32 l8) (el9 : l9' = iI l9) (rl9 : r32 l9) (es1 : s1' = iI s1) (rs1 : r32 s1) (es2 : s2' = iJ s2) (rs2 : r64 s2) (es3 : s3' = iJ s3) (rs3 : r64 s3) (hF : FX20_rule_b151 l7 l8 l9 s1 s2 s3 s = some q) : gG m b φ0 σo lI q (fX20_rule_b151 l7' l8' l9' 97 s1' s2' s3' h) := by
  subst el7; subst el8; subst el9; subst es1; subst es2; subst es3
  unfold FX20_rule_b151 at hF
  unfold fX20_rule_b151
  refine s_kok R (t_97 R.S) (Nat.le_of_ble_eq_true rfl) ?_
  refine s_call R (Nat.zero_le _) (fun _ hq => SX20_mark (b := 0) (R.rf) rfl rs1 rfl rs2 rfl rs3 rfl rl7 rfl rl8 rfl rl9 hq) hF (fun f2 rv2 h2 q2 R2 e2 E2 hF => ?_)
  exact g_z R2 e2.1 hF ⟨e2.1, e2.2⟩
def FX20_rule_b109 (l1 : Nat) (l3 : Int) (l5 : Int) (l7 : Int) (l8 : Int) (s0 : Int) (s : fS) : Option (Int × fS) :=
  if l7 ≤ 0 then
    FX20_rule_b128 s
  else
    if 0 < (ladd l8 s0) then
      (uK 41 s l1).bind fun _ =>
      if (s.i l1 2) = 0 then
        FX20_rule_b151 l7 l8 s0 (-1) l3 l5 s
      else
        FX20_rule_b151 l7 l8 s0 (-1) l3 (ladd l5 l8) s
    else
      FX20_rule_b128 s
theorem SX20_rule_b109 {m b : Nat} {φ0 : Nat → Nat} {σo : fS} {q : Int × fS} {φ : Nat → Nat} {h : eH} {s : fS} {l1 : Nat} {l3' : Int64} {l3 : Int} {l5' : Int64} {l5 : Int} {l7' : Int32} {l7 : Int} {l8' : Int32} {l8 : Int} {s0' : Int32} {s0 : Int} (R : fC m b φ0 σo φ h s) (el3 : l3' = iJ l3) (rl3 : r64 l3) (el5 : l5' = iJ l5) (rl5 : r64 l5) (el7 : l7' = iI l7) (rl7 : r32 l7) (el8 : l8' = iI l8) (rl8 : r32 l8) (es0 : s0' = iI s0) (rs0 : r32 s0) (hF : FX20_rule_b109 l1 l3 l5 l7 l8 s0 s = some q) : gG m b φ0 σo lI q (fX20_rule_b109 97 l1 l3' l5' l7' l8' s0' h) := by
  subst el3; subst el5; subst el7; subst el8; subst es0
  unfold FX20_rule_b109 at hF
  unfold fX20_rule_b109
  refine s_if (i_le rfl (c_lit 0 0 rfl) rl7 ⟨by decide, by decide⟩) hF (fun c1 hF => ?_) (fun c1 hF => ?_)
  ·
    exact SX20_rule_b128 R hF
  ·
    refine s_if ((lg_cmp_gt _ _).trans (j_lt (d_lit 0 0 rfl) (d_add (c_2l rfl rl8) (c_2l rfl rs0)) ⟨by decide, by decide⟩ (rr_J _))) hF (fun c2 hF => ?_) (fun c2 hF => ?_)
    ·
      refine s_K hF (fun t4 hF => ?_)
      refine s_gI R t4 (Nat.le_of_ble_eq_true rfl) rfl ?_
      refine s_if (i_eq rfl (c_lit 0 0 rfl) (R.ri t4 (Nat.le_of_ble_eq_true rfl) rfl) ⟨by decide, by decide⟩) hF (fun c5 hF => ?_) (fun c5 hF => ?_)
      ·
        exact SX20_rule_b151 R rfl rl7 rfl rl8 rfl rs0 (c_lit (-1) (-1) rfl) ⟨by decide, by decide⟩ rfl rl3 rfl rl5 hF
      ·
        exact SX20_rule_b151 R rfl rl7 rfl rl8 rfl rs0 (c_lit (-1) (-1) rfl) ⟨by decide, by decide⟩ rfl rl3 (d_add rfl (c_2l rfl rl8)) (rr_J _) hF
    ·
      exact SX20_rule_b128 R hF
def FX20_rule_b100 (l1 : Nat) (l2 : Int) (l3 : Int) (l5 : Int) (l7 : Int) (l8 : Int) (s : fS) : Option (Int × fS) :=
  (FX7_solid l2 2 s).bind fun q4 =>
  FX20_rule_b109 l1 l3 l5 l7 l8 q4.1 q4.2
theorem SX20_rule_b100 {m b : Nat} {φ0 : Nat → Nat} {σo : fS} {q : Int × fS} {φ : Nat → Nat} {h : eH} {s : fS} {l1 : Nat} {l2' : Int32} {l2 : Int} {l3' : Int64} {l3 : Int} {l5' : Int64} {l5 : Int} {l7' : Int32} {l7 : Int} {l8' : Int32} {l8 : Int} (R : fC m b φ0 σo φ h s) (el2 : l2' = iI l2) (rl2 : r32 l2) (el3 : l3' = iJ l3) (rl3 : r64 l3) (el5 : l5' = iJ l5) (rl5 : r64 l5) (el7 : l7' = iI l7) (rl7 : r32 l7) (el8 : l8' = iI l8) (rl8 : r32 l8) (hF : FX20_rule_b100 l1 l2 l3 l5 l7 l8 s = some q) : gG m b φ0 σo lI q (fX20_rule_b100 97 l1 l2' l3' l5' l7' l8' h) := by
  subst el2; subst el3; subst el5; subst el7; subst el8
  unfold FX20_rule_b100 at hF
  unfold fX20_rule_b100
  refine s_gO R (t_97 R.S) (Nat.le_of_ble_eq_true rfl) rfl (o_97_0 R.S) ?_
  refine s_kok R (t_17 R.S) (Nat.le_of_ble_eq_true rfl) ?_
  refine s_call R (Nat.zero_le _) (fun _ hq => SX7_solid (b := 0) (R.rf) rfl rl2 (c_lit 2 2 rfl) ⟨by decide, by decide⟩ hq) hF (fun f3 rv3 h3 q4 R3 e3 E3 hF => ?_)
  exact SX20_rule_b109 R3 rfl rl3 rfl rl5 rfl rl7 rfl rl8 e3.1 e3.2 hF
def FX20_rule_b72 (l1 : Nat) (l2 : Int) (l3 : Int) (l5 : Int) (l7 : Int) (s0 : Int) (s : fS) : Option (Int × fS) :=
  (FX7_isRunning l2 2 s).bind fun q4 =>
  if q4.1 = 0 then
    FX20_rule_b100 l1 l2 l3 l5 l7 s0 q4.2
  else
    (uK 41 q4.2 l1).bind fun _ =>
    if ¬ ((q4.2.i l1 2) = 0) then
      FX20_rule_b100 l1 l2 l3 l5 l7 s0 q4.2
    else
      (uK 41 q4.2 l1).bind fun _ =>
      FX20_rule_b109 l1 l3 l5 l7 s0 (q4.2.i l1 5) q4.2
theorem SX20_rule_b72 {m b : Nat} {φ0 : Nat → Nat} {σo : fS} {q : Int × fS} {φ : Nat → Nat} {h : eH} {s : fS} {l1 : Nat} {l2' : Int32} {l2 : Int} {l3' : Int64} {l3 : Int} {l5' : Int64} {l5 : Int} {l7' : Int32} {l7 : Int} {s0' : Int32} {s0 : Int} (R : fC m b φ0 σo φ h s) (el2 : l2' = iI l2) (rl2 : r32 l2) (el3 : l3' = iJ l3) (rl3 : r64 l3) (el5 : l5' = iJ l5) (rl5 : r64 l5) (el7 : l7' = iI l7) (rl7 : r32 l7) (es0 : s0' = iI s0) (rs0 : r32 s0) (hF : FX20_rule_b72 l1 l2 l3 l5 l7 s0 s = some q) : gG m b φ0 σo lI q (fX20_rule_b72 97 l1 l2' l3' l5' l7' s0' h) := by
  subst el2; subst el3; subst el5; subst el7; subst es0
  unfold FX20_rule_b72 at hF
  unfold fX20_rule_b72
  refine s_gO R (t_97 R.S) (Nat.le_of_ble_eq_true rfl) rfl (o_97_0 R.S) ?_
  refine s_kok R (t_17 R.S) (Nat.le_of_ble_eq_true rfl) ?_
  refine s_call R (Nat.zero_le _) (fun _ hq => SX7_isRunning (b := 0) (R.rf) rfl rl2 (c_lit 2 2 rfl) ⟨by decide, by decide⟩ hq) hF (fun f3 rv3 h3 q4 R3 e3 E3 hF => ?_)
  refine s_if (i_eq e3.1 (c_lit 0 0 rfl) e3.2 ⟨by decide, by decide⟩) hF (fun c4 hF => ?_) (fun c4 hF => ?_)
  ·
    exact SX20_rule_b100 R3 rfl rl2 rfl rl3 rfl rl5 rfl rl7 rfl rs0 hF
  ·
    refine s_K hF (fun t6 hF => ?_)
    refine s_gI R3 t6 (Nat.le_of_ble_eq_true rfl) rfl ?_
    refine s_if (not_congr (i_eq rfl (c_lit 0 0 rfl) (R3.ri t6 (Nat.le_of_ble_eq_true rfl) rfl) ⟨by decide, by decide⟩)) hF (fun c7 hF => ?_) (fun c7 hF => ?_)
    ·
      exact SX20_rule_b100 R3 rfl rl2 rfl rl3 rfl rl5 rfl rl7 rfl rs0 hF
    ·
      refine s_K hF (fun t9 hF => ?_)
      refine s_gI R3 t9 (Nat.le_of_ble_eq_true rfl) rfl ?_
      exact SX20_rule_b109 R3 rfl rl3 rfl rl5 rfl rl7 rfl rs0 rfl (R3.ri t9 (Nat.le_of_ble_eq_true rfl) rfl) hF
def FX20_rule_b63 (l1 : Nat) (l2 : Int) (l3 : Int) (l5 : Int) (l7 : Int) (s : fS) : Option (Int × fS) :=
  (FX7_solid l2 1 s).bind fun q4 =>
  FX20_rule_b72 l1 l2 l3 l5 l7 q4.1 q4.2
theorem SX20_rule_b63 {m b : Nat} {φ0 : Nat → Nat} {σo : fS} {q : Int × fS} {φ : Nat → Nat} {h : eH} {s : fS} {l1 : Nat} {l2' : Int32} {l2 : Int} {l3' : Int64} {l3 : Int} {l5' : Int64} {l5 : Int} {l7' : Int32} {l7 : Int} (R : fC m b φ0 σo φ h s) (el2 : l2' = iI l2) (rl2 : r32 l2) (el3 : l3' = iJ l3) (rl3 : r64 l3) (el5 : l5' = iJ l5) (rl5 : r64 l5) (el7 : l7' = iI l7) (rl7 : r32 l7) (hF : FX20_rule_b63 l1 l2 l3 l5 l7 s = some q) : gG m b φ0 σo lI q (fX20_rule_b63 97 l1 l2' l3' l5' l7' h) := by
  subst el2; subst el3; subst el5; subst el7
  unfold FX20_rule_b63 at hF
  unfold fX20_rule_b63
  refine s_gO R (t_97 R.S) (Nat.le_of_ble_eq_true rfl) rfl (o_97_0 R.S) ?_
  refine s_kok R (t_17 R.S) (Nat.le_of_ble_eq_true rfl) ?_
  refine s_call R (Nat.zero_le _) (fun _ hq => SX7_solid (b := 0) (R.rf) rfl rl2 (c_lit 1 1 rfl) ⟨by decide, by decide⟩ hq) hF (fun f3 rv3 h3 q4 R3 e3 E3 hF => ?_)
  exact SX20_rule_b72 R3 rfl rl2 rfl rl3 rfl rl5 rfl rl7 e3.1 e3.2 hF
def FX20_rule_b35 (l1 : Nat) (l2 : Int) (l3 : Int) (l5 : Int) (s0 : Int) (s : fS) : Option (Int × fS) :=
  (FX7_isRunning l2 1 s).bind fun q4 =>
  if q4.1 = 0 then
    FX20_rule_b63 l1 l2 l3 l5 s0 q4.2
  else
    (uK 41 q4.2 l1).bind fun _ =>
    if ¬ ((q4.2.i l1 2) = 0) then
      FX20_rule_b63 l1 l2 l3 l5 s0 q4.2
    else
      (uK 41 q4.2 l1).bind fun _ =>
      FX20_rule_b72 l1 l2 l3 l5 s0 (q4.2.i l1 4) q4.2
theorem SX20_rule_b35 {m b : Nat} {φ0 : Nat → Nat} {σo : fS} {q : Int × fS} {φ : Nat → Nat} {h : eH} {s : fS} {l1 : Nat} {l2' : Int32} {l2 : Int} {l3' : Int64} {l3 : Int} {l5' : Int64} {l5 : Int} {s0' : Int32} {s0 : Int} (R : fC m b φ0 σo φ h s) (el2 : l2' = iI l2) (rl2 : r32 l2) (el3 : l3' = iJ l3) (rl3 : r64 l3) (el5 : l5' = iJ l5) (rl5 : r64 l5) (es0 : s0' = iI s0) (rs0 : r32 s0) (hF : FX20_rule_b35 l1 l2 l3 l5 s0 s = some q) : gG m b φ0 σo lI q (fX20_rule_b35 97 l1 l2' l3' l5' s0' h) := by
  subst el2; subst el3; subst el5; subst es0
  unfold FX20_rule_b35 at hF
  unfold fX20_rule_b35
  refine s_gO R (t_97 R.S) (Nat.le_of_ble_eq_true rfl) rfl (o_97_0 R.S) ?_
  refine s_kok R (t_17 R.S) (Nat.le_of_ble_eq_true rfl) ?_
  refine s_call R (Nat.zero_le _) (fun _ hq => SX7_isRunning (b := 0) (R.rf) rfl rl2 (c_lit 1 1 rfl) ⟨by decide, by decide⟩ hq) hF (fun f3 rv3 h3 q4 R3 e3 E3 hF => ?_)
  refine s_if (i_eq e3.1 (c_lit 0 0 rfl) e3.2 ⟨by decide, by decide⟩) hF (fun c4 hF => ?_) (fun c4 hF => ?_)
  ·
    exact SX20_rule_b63 R3 rfl rl2 rfl rl3 rfl rl5 rfl rs0 hF
  ·
    refine s_K hF (fun t6 hF => ?_)
    refine s_gI R3 t6 (Nat.le_of_ble_eq_true rfl) rfl ?_
    refine s_if (not_congr (i_eq rfl (c_lit 0 0 rfl) (R3.ri t6 (Nat.le_of_ble_eq_true rfl) rfl) ⟨by decide, by decide⟩)) hF (fun c7 hF => ?_) (fun c7 hF => ?_)
    ·
      exact SX20_rule_b63 R3 rfl rl2 rfl rl3 rfl rl5 rfl rs0 hF
    ·
      refine s_K hF (fun t9 hF => ?_)
      refine s_gI R3 t9 (Nat.le_of_ble_eq_true rfl) rfl ?_
      exact SX20_rule_b72 R3 rfl rl2 rfl rl3 rfl rl5 rfl rs0 rfl (R3.ri t9 (Nat.le_of_ble_eq_true rfl) rfl) hF
def FX20_rule_b26 (l1 : Nat) (l2 : Int) (l3 : Int) (l5 : Int) (s : fS) : Option (Int × fS) :=
  (FX7_solid l2 0 s).bind fun q4 =>
  FX20_rule_b35 l1 l2 l3 l5 q4.1 q4.2
theorem SX20_rule_b26 {m b : Nat} {φ0 : Nat → Nat} {σo : fS} {q : Int × fS} {φ : Nat → Nat} {h : eH} {s : fS} {l1 : Nat} {l2' : Int32} {l2 : Int} {l3' : Int64} {l3 : Int} {l5' : Int64} {l5 : Int} (R : fC m b φ0 σo φ h s) (el2 : l2' = iI l2) (rl2 : r32 l2) (el3 : l3' = iJ l3) (rl3 : r64 l3) (el5 : l5' = iJ l5) (rl5 : r64 l5) (hF : FX20_rule_b26 l1 l2 l3 l5 s = some q) : gG m b φ0 σo lI q (fX20_rule_b26 97 l1 l2' l3' l5' h) := by
  subst el2; subst el3; subst el5
  unfold FX20_rule_b26 at hF
  unfold fX20_rule_b26
  refine s_gO R (t_97 R.S) (Nat.le_of_ble_eq_true rfl) rfl (o_97_0 R.S) ?_
  refine s_kok R (t_17 R.S) (Nat.le_of_ble_eq_true rfl) ?_
  refine s_call R (Nat.zero_le _) (fun _ hq => SX7_solid (b := 0) (R.rf) rfl rl2 (c_lit 0 0 rfl) ⟨by decide, by decide⟩ hq) hF (fun f3 rv3 h3 q4 R3 e3 E3 hF => ?_)
  exact SX20_rule_b35 R3 rfl rl2 rfl rl3 rfl rl5 e3.1 e3.2 hF
def FX20_rule (p0 : Nat) (p1 : Int) (p2 : Int) (p3 : Int) (s : fS) : Option (Int × fS) :=
  (FX7_isRunning p1 0 s).bind fun q4 =>
  if q4.1 = 0 then
    FX20_rule_b26 p0 p1 p2 p3 q4.2
  else
    (uK 41 q4.2 p0).bind fun _ =>
    if (q4.2.i p0 2) = 0 then
      FX20_rule_b26 p0 p1 p2 p3 q4.2
    else
      (uK 41 q4.2 p0).bind fun _ =>
      FX20_rule_b35 p0 p1 p2 p3 (q4.2.i p0 3) q4.2
theorem SX20_rule {m b : Nat} {φ0 : Nat → Nat} {σo : fS} {q : Int × fS} {φ : Nat → Nat} {h : eH} {s : fS} {p0 : Nat} {p1' : Int32} {p1 : Int} {p2' : Int64} {p2 : Int} {p3' : Int64} {p3 : Int} (R : fC m b φ0 σo φ h s) (ep1 : p1' = iI p1) (rp1 : r32 p1) (ep2 : p2' = iJ p2) (rp2 : r64 p2) (ep3 : p3' = iJ p3) (rp3 : r64 p3) (hF : FX20_rule p0 p1 p2 p3 s = some q) : gG m b φ0 σo lI q (fX20_rule 97 p0 p1' p2' p3' h) := by
  subst ep1; subst ep2; subst ep3
  unfold FX20_rule at hF
  unfold fX20_rule
  refine s_gO R (t_97 R.S) (Nat.le_of_ble_eq_true rfl) rfl (o_97_0 R.S) ?_
  refine s_kok R (t_17 R.S) (Nat.le_of_ble_eq_true rfl) ?_
  refine s_call R (Nat.zero_le _) (fun _ hq => SX7_isRunning (b := 0) (R.rf) rfl rp1 (c_lit 0 0 rfl) ⟨by decide, by decide⟩ hq) hF (fun f3 rv3 h3 q4 R3 e3 E3 hF => ?_)
  refine s_if (i_eq e3.1 (c_lit 0 0 rfl) e3.2 ⟨by decide, by decide⟩) hF (fun c4 hF => ?_) (fun c4 hF => ?_)
  ·
    exact SX20_rule_b26 R3 rfl rp1 rfl rp2 rfl rp3 hF
  ·
    refine s_K hF (fun t6 hF => ?_)
    refine s_gI R3 t6 (Nat.le_of_ble_eq_true rfl) rfl ?_
    refine s_if (i_eq rfl (c_lit 0 0 rfl) (R3.ri t6 (Nat.le_of_ble_eq_true rfl) rfl) ⟨by decide, by decide⟩) hF (fun c7 hF => ?_) (fun c7 hF => ?_)
    ·
      exact SX20_rule_b26 R3 rfl rp1 rfl rp2 rfl rp3 hF
    ·
      refine s_K hF (fun t9 hF => ?_)
      refine s_gI R3 t9 (Nat.le_of_ble_eq_true rfl) rfl ?_
      exact SX20_rule_b35 R3 rfl rp1 rfl rp2 rfl rp3 rfl (R3.ri t9 (Nat.le_of_ble_eq_true rfl) rfl) hF
def FX20_item_b164 (l1 : Int) (s1 : Int) (s2 : Int) (s3 : Int) (s : fS) : Option (Int × fS) :=
  (FX7_of l1 1 s).bind fun q4 =>
  (FX7_of l1 2 q4.2).bind fun q8 =>
  (FX7_of l1 3 q8.2).bind fun q12 =>
  (FX20_mark s1 s2 s3 q4.1 q8.1 q12.1 q12.2).bind fun q14 =>
  uZ q14.1 (q14.1, q14.2)
theorem SX20_item_b164 {m b : Nat} {φ0 : Nat → Nat} {σo : fS} {q : Int × fS} {φ : Nat → Nat} {h : eH} {s : fS} {l1' : Int32} {l1 : Int} {s1' : Int32} {s1 : Int} {s2' : Int64} {s2 : Int} {s3' : Int64} {s3 : Int} (R : fC m b φ0 σo φ h s) (el1 : l1' = iI l1) (rl1 : r32 l1) (es1 : s1' = iI s1) (rs1 : r32 s1) (es2 : s2' = iJ s2) (rs2 : r64 s2) (es3 : s3' = iJ s3) (rs3 : r64 s3) (hF : FX20_item_b164 l1 s1 s2 s3 s = some q) : gG m b φ0 σo lI q (fX20_item_b164 97 l1' 97 s1' s2' s3' h) := by
  subst el1; subst es1; subst es2; subst es3
  unfold FX20_item_b164 at hF
  unfold fX20_item_b164
  refine s_gO R (t_97 R.S) (Nat.le_of_ble_eq_true rfl) rfl (o_97_0 R.S) ?_
  refine s_kok R (t_17 R.S) (Nat.le_of_ble_eq_true rfl) ?_
  refine s_call R (Nat.zero_le _) (fun _ hq => SX7_of (b := 0) (R.rf) rfl rl1 (c_lit 1 1 rfl) ⟨by decide, by decide⟩ hq) hF (fun f3 rv3 h3 q4 R3 e3 E3 hF => ?_)
  refine s_gO R3 (t_97 R3.S) (Nat.le_of_ble_eq_true rfl) rfl (o_97_0 R3.S) ?_
  refine s_kok R3 (t_17 R3.S) (Nat.le_of_ble_eq_true rfl) ?_
  refine s_call R3 (Nat.zero_le _) (fun _ hq => SX7_of (b := 0) (R3.rf) rfl rl1 (c_lit 2 2 rfl) ⟨by decide, by decide⟩ hq) hF (fun f6 rv6 h6 q8 R6 e6 E6 hF => ?_)
  refine s_gO R6 (t_97 R6.S) (Nat.le_of_ble_eq_true rfl) rfl (o_97_0 R6.S) ?_
  refine s_kok R6 (t_17 R6.S) (Nat.le_of_ble_eq_true rfl) ?_
  refine s_call R6 (Nat.zero_le _) (fun _ hq => SX7_of (b := 0) (R6.rf) rfl rl1 (c_lit 3 3 rfl) ⟨by decide, by decide⟩ hq) hF (fun f9 rv9 h9 q12 R9 e9 E9 hF => ?_)
  refine s_kok R9 (t_97 R9.S) (Nat.le_of_ble_eq_true rfl) ?_
  refine s_call R9 (Nat.zero_le _) (fun _ hq => SX20_mark (b := 0) (R9.rf) rfl rs1 rfl rs2 rfl rs3 e3.1 e3.2 e6.1 e6.2 e9.1 e9.2 hq) hF (fun f11 rv11 h11 q14 R11 e11 E11 hF => ?_)
  exact g_z R11 e11.1 hF ⟨e11.1, e11.2⟩
def FX20_item_b276 (s1 : Nat) (s2 : Int) (s3 : Int) (s : fS) : Option (Int × fS) :=
  (FX20_enter s1 s2 s3 s).bind fun q2 =>
  some (1, q2.2)
theorem SX20_item_b276 {m b : Nat} {φ0 : Nat → Nat} {σo : fS} {q : Int × fS} {φ : Nat → Nat} {h : eH} {s : fS} {s1 : Nat} {s2' : Int64} {s2 : Int} {s3' : Int64} {s3 : Int} (R : fC m b φ0 σo φ h s) (es2 : s2' = iJ s2) (rs2 : r64 s2) (es3 : s3' = iJ s3) (rs3 : r64 s3) (hF : FX20_item_b276 s1 s2 s3 s = some q) : gG m b φ0 σo lI q (fX20_item_b276 97 s1 s2' s3' h) := by
  subst es2; subst es3
  unfold FX20_item_b276 at hF
  unfold fX20_item_b276
  refine s_kok R (t_97 R.S) (Nat.le_of_ble_eq_true rfl) ?_
  refine s_call R (Nat.zero_le _) (fun _ hq => SX20_enter (b := 0) (R.rf) rfl rs2 rfl rs3 hq) hF (fun f2 rv2 h2 q2 R2 e2 E2 hF => ?_)
  exact g_ret R2 hF ⟨(c_lit 1 1 rfl), ⟨by decide, by decide⟩⟩
def FX20_item_b251 (l2 : Nat) (l5 : Int) (l7 : Nat) (l8 : Int) (s1 : Nat) (s2 : Int) (s : fS) : Option (Int × fS) :=
  (uK 41 s l2).bind fun _ =>
  if (s.i l2 2) = 0 then
    FX20_item_b276 s1 s2 (ladd l5 l8) s
  else
    (uK 41 s l7).bind fun _ =>
    FX20_item_b276 s1 s2 (ladd l5 (s.i l7 4)) s
theorem SX20_item_b251 {m b : Nat} {φ0 : Nat → Nat} {σo : fS} {q : Int × fS} {φ : Nat → Nat} {h : eH} {s : fS} {l2 : Nat} {l5' : Int64} {l5 : Int} {l7 : Nat} {l8' : Int32} {l8 : Int} {s1 : Nat} {s2' : Int64} {s2 : Int} (R : fC m b φ0 σo φ h s) (el5 : l5' = iJ l5) (rl5 : r64 l5) (el8 : l8' = iI l8) (rl8 : r32 l8) (es2 : s2' = iJ s2) (rs2 : r64 s2) (hF : FX20_item_b251 l2 l5 l7 l8 s1 s2 s = some q) : gG m b φ0 σo lI q (fX20_item_b251 l2 l5' l7 l8' 97 s1 s2' h) := by
  subst el5; subst el8; subst es2
  unfold FX20_item_b251 at hF
  unfold fX20_item_b251
  refine s_K hF (fun t2 hF => ?_)
  refine s_gI R t2 (Nat.le_of_ble_eq_true rfl) rfl ?_
  refine s_if (i_eq rfl (c_lit 0 0 rfl) (R.ri t2 (Nat.le_of_ble_eq_true rfl) rfl) ⟨by decide, by decide⟩) hF (fun c3 hF => ?_) (fun c3 hF => ?_)
  ·
    exact SX20_item_b276 R rfl rs2 (d_add rfl (c_2l rfl rl8)) (rr_J _) hF
  ·
    refine s_K hF (fun t5 hF => ?_)
    refine s_gI R t5 (Nat.le_of_ble_eq_true rfl) rfl ?_
    exact SX20_item_b276 R rfl rs2 (d_add rfl (c_2l rfl (R.ri t5 (Nat.le_of_ble_eq_true rfl) rfl))) (rr_J _) hF
def FX20_item_b84 (l1 : Int) (l2 : Nat) (l3 : Int) (s0 : Int) (s1 : Int) (s : fS) : Option (Int × fS) :=
  (FX7_kind l1 s).bind fun q4 =>
  if q4.1 = 0 then
    (FX7_of l1 0 q4.2).bind fun q9 =>
    (uK 41 q9.2 l2).bind fun _ =>
    if (q9.2.i l2 2) = 0 then
      FX20_item_b164 l1 q9.1 l3 (ladd s0 s1) q9.2
    else
      (FX7_of l1 2 q9.2).bind fun q16 =>
      FX20_item_b164 l1 q9.1 l3 (ladd (ladd s0 s1) q16.1) q16.2
  else
    if q4.1 = 1 then
      (FX20_rule l2 l1 l3 (ladd s0 s1) q4.2).bind fun q19 =>
      uZ q19.1 (q19.1, q19.2)
    else
      if q4.1 = 2 then
        some (1, q4.2)
      else
        if q4.1 = 3 then
          some (1, q4.2)
        else
          if q4.1 = 4 then
            (FX7_of l1 0 q4.2).bind fun q29 =>
            (uRO q29.2 21 q29.1).bind fun a30 =>
            (FX7_of l1 1 q29.2).bind fun q35 =>
            (uK 41 q35.2 l2).bind fun _ =>
            if (q35.2.i l2 2) = 0 then
              FX20_item_b251 l2 (ladd s0 s1) a30 q35.1 a30 l3 q35.2
            else
              FX20_item_b251 l2 (ladd s0 s1) a30 q35.1 a30 (ladd l3 q35.1) q35.2
          else
            some (1, q4.2)
theorem SX20_item_b84 {m b : Nat} {φ0 : Nat → Nat} {σo : fS} {q : Int × fS} {φ : Nat → Nat} {h : eH} {s : fS} {l1' : Int32} {l1 : Int} {l2 : Nat} {l3' : Int64} {l3 : Int} {s0' : Int64} {s0 : Int} {s1' : Int64} {s1 : Int} (R : fC m b φ0 σo φ h s) (el1 : l1' = iI l1) (rl1 : r32 l1) (el3 : l3' = iJ l3) (rl3 : r64 l3) (es0 : s0' = iJ s0) (rs0 : r64 s0) (es1 : s1' = iJ s1) (rs1 : r64 s1) (hF : FX20_item_b84 l1 l2 l3 s0 s1 s = some q) : gG m b φ0 σo lI q (fX20_item_b84 97 l1' l2 l3' s0' s1' h) := by
  subst el1; subst el3; subst es0; subst es1
  unfold FX20_item_b84 at hF
  unfold fX20_item_b84
  refine s_gO R (t_97 R.S) (Nat.le_of_ble_eq_true rfl) rfl (o_97_0 R.S) ?_
  refine s_kok R (t_17 R.S) (Nat.le_of_ble_eq_true rfl) ?_
  refine s_call R (Nat.zero_le _) (fun _ hq => SX7_kind (b := 0) (R.rf) rfl rl1 hq) hF (fun f3 rv3 h3 q4 R3 e3 E3 hF => ?_)
  refine s_if (i_eq e3.1 (c_lit 0 0 rfl) e3.2 ⟨by decide, by decide⟩) hF (fun c4 hF => ?_) (fun c4 hF => ?_)
  ·
    refine s_gO R3 (t_97 R3.S) (Nat.le_of_ble_eq_true rfl) rfl (o_97_0 R3.S) ?_
    refine s_kok R3 (t_17 R3.S) (Nat.le_of_ble_eq_true rfl) ?_
    refine s_call R3 (Nat.zero_le _) (fun _ hq => SX7_of (b := 0) (R3.rf) rfl rl1 (c_lit 0 0 rfl) ⟨by decide, by decide⟩ hq) hF (fun f7 rv7 h7 q9 R7 e7 E7 hF => ?_)
    refine s_K hF (fun t9 hF => ?_)
    refine s_gI R7 t9 (Nat.le_of_ble_eq_true rfl) rfl ?_
    refine s_if (i_eq rfl (c_lit 0 0 rfl) (R7.ri t9 (Nat.le_of_ble_eq_true rfl) rfl) ⟨by decide, by decide⟩) hF (fun c10 hF => ?_) (fun c10 hF => ?_)
    ·
      exact SX20_item_b164 R7 rfl rl1 e7.1 e7.2 rfl rl3 (d_add rfl rfl) (rr_J _) hF
    ·
      refine s_gO R7 (t_97 R7.S) (Nat.le_of_ble_eq_true rfl) rfl (o_97_0 R7.S) ?_
      refine s_kok R7 (t_17 R7.S) (Nat.le_of_ble_eq_true rfl) ?_
      refine s_call R7 (Nat.zero_le _) (fun _ hq => SX7_of (b := 0) (R7.rf) rfl rl1 (c_lit 2 2 rfl) ⟨by decide, by decide⟩ hq) hF (fun f13 rv13 h13 q16 R13 e13 E13 hF => ?_)
      exact SX20_item_b164 R13 rfl rl1 e7.1 e7.2 rfl rl3 (d_add (d_add rfl rfl) (c_2l e13.1 e13.2)) (rr_J _) hF
  ·
    refine s_if (i_eq e3.1 (c_lit 1 1 rfl) e3.2 ⟨by decide, by decide⟩) hF (fun c14 hF => ?_) (fun c14 hF => ?_)
    ·
      refine s_kok R3 (t_97 R3.S) (Nat.le_of_ble_eq_true rfl) ?_
      refine s_call R3 (Nat.zero_le _) (fun _ hq => SX20_rule (b := 0) (R3.rf) rfl rl1 rfl rl3 (d_add rfl rfl) (rr_J _) hq) hF (fun f16 rv16 h16 q19 R16 e16 E16 hF => ?_)
      exact g_z R16 e16.1 hF ⟨e16.1, e16.2⟩
    ·
      refine s_if (i_eq e3.1 (c_lit 2 2 rfl) e3.2 ⟨by decide, by decide⟩) hF (fun c17 hF => ?_) (fun c17 hF => ?_)
      ·
        exact g_ret R3 hF ⟨(c_lit 1 1 rfl), ⟨by decide, by decide⟩⟩
      ·
        refine s_if (i_eq e3.1 (c_lit 3 3 rfl) e3.2 ⟨by decide, by decide⟩) hF (fun c18 hF => ?_) (fun c18 hF => ?_)
        ·
          exact g_ret R3 hF ⟨(c_lit 1 1 rfl), ⟨by decide, by decide⟩⟩
        ·
          refine s_if (i_eq e3.1 (c_lit 4 4 rfl) e3.2 ⟨by decide, by decide⟩) hF (fun c19 hF => ?_) (fun c19 hF => ?_)
          ·
            refine s_gAs R3 (t_97 R3.S) (Nat.le_of_ble_eq_true rfl) rfl (o_97_1 R3.S) (a_21 R3) ?_
            refine s_gO R3 (t_97 R3.S) (Nat.le_of_ble_eq_true rfl) rfl (o_97_0 R3.S) ?_
            refine s_kok R3 (t_17 R3.S) (Nat.le_of_ble_eq_true rfl) ?_
            refine s_call R3 (Nat.zero_le _) (fun _ hq => SX7_of (b := 0) (R3.rf) rfl rl1 (c_lit 0 0 rfl) ⟨by decide, by decide⟩ hq) hF (fun f23 rv23 h23 q29 R23 e23 E23 hF => ?_)
            refine s_rO R23 (u_21 R23.S).1 (u_21 R23.S).2 rfl (fun _ => rfl) (Nat.le_of_ble_eq_true rfl) (a_21 R23) e23.1 e23.2 hF (fun a30 y24 hF => ?_)
            refine s_gO R23 (t_97 R23.S) (Nat.le_of_ble_eq_true rfl) rfl (o_97_0 R23.S) ?_
            refine s_kok R23 (t_17 R23.S) (Nat.le_of_ble_eq_true rfl) ?_
            refine s_call R23 (Nat.zero_le _) (fun _ hq => SX7_of (b := 0) (R23.rf) rfl rl1 (c_lit 1 1 rfl) ⟨by decide, by decide⟩ hq) hF (fun f27 rv27 h27 q35 R27 e27 E27 hF => ?_)
            refine s_K hF (fun t29 hF => ?_)
            refine s_gI R27 t29 (Nat.le_of_ble_eq_true rfl) rfl ?_
            refine s_if (i_eq rfl (c_lit 0 0 rfl) (R27.ri t29 (Nat.le_of_ble_eq_true rfl) rfl) ⟨by decide, by decide⟩) hF (fun c30 hF => ?_) (fun c30 hF => ?_)
            ·
              exact SX20_item_b251 R27 (d_add rfl rfl) (rr_J _) e27.1 e27.2 rfl rl3 hF
            ·
              exact SX20_item_b251 R27 (d_add rfl rfl) (rr_J _) e27.1 e27.2 (d_add rfl (c_2l e27.1 e27.2)) (rr_J _) hF
          ·
            exact g_ret R3 hF ⟨(c_lit 1 1 rfl), ⟨by decide, by decide⟩⟩
def FX20_item_b43 (l1 : Int) (l2 : Nat) (s0 : Int) (s1 : Int) (s : fS) : Option (Int × fS) :=
  (uRJ s 101 (isub (s.i 97 8) 1)).bind fun x5 =>
  (uK 41 s l2).bind fun _ =>
  if (s.i l2 2) = 0 then
    FX20_item_b84 l1 l2 (ladd s0 s1) x5 0 s
  else
    (uRI s 20 l1).bind fun x14 =>
    (uK 41 s l2).bind fun _ =>
    FX20_item_b84 l1 l2 (ladd s0 s1) x5 (lsub x14 (s.i l2 4)) s
theorem SX20_item_b43 {m b : Nat} {φ0 : Nat → Nat} {σo : fS} {q : Int × fS} {φ : Nat → Nat} {h : eH} {s : fS} {l1' : Int32} {l1 : Int} {l2 : Nat} {s0' : Int64} {s0 : Int} {s1' : Int32} {s1 : Int} (R : fC m b φ0 σo φ h s) (el1 : l1' = iI l1) (rl1 : r32 l1) (es0 : s0' = iJ s0) (rs0 : r64 s0) (es1 : s1' = iI s1) (rs1 : r32 s1) (hF : FX20_item_b43 l1 l2 s0 s1 s = some q) : gG m b φ0 σo lI q (fX20_item_b43 97 l1' l2 s0' s1' h) := by
  subst el1; subst es0; subst es1
  unfold FX20_item_b43 at hF
  unfold fX20_item_b43
  refine s_gAs R (t_97 R.S) (Nat.le_of_ble_eq_true rfl) rfl (o_97_6 R.S) (a_101 R) ?_
  refine s_gI R (t_97 R.S) (Nat.le_of_ble_eq_true rfl) rfl ?_
  refine s_rJ R (u_101 R.S).1 (u_101 R.S).2 (a_101 R) (c_sub rfl (c_lit 1 1 rfl)) (rr_I _) hF (fun x5 ra3 hF => ?_)
  refine s_K hF (fun t5 hF => ?_)
  refine s_gI R t5 (Nat.le_of_ble_eq_true rfl) rfl ?_
  refine s_if (i_eq rfl (c_lit 0 0 rfl) (R.ri t5 (Nat.le_of_ble_eq_true rfl) rfl) ⟨by decide, by decide⟩) hF (fun c6 hF => ?_) (fun c6 hF => ?_)
  ·
    exact SX20_item_b84 R rfl rl1 (d_add rfl (c_2l rfl rs1)) (rr_J _) rfl ra3 (d_lit 0 0 rfl) ⟨by decide, by decide⟩ hF
  ·
    refine s_gO R (t_97 R.S) (Nat.le_of_ble_eq_true rfl) rfl (o_97_0 R.S) ?_
    refine s_gA R (t_17 R.S) (Nat.le_of_ble_eq_true rfl) rfl (o_17_2 R.S) (fun _ _ => ?_)
    refine s_rI R (u_20 R.S).1 (u_20 R.S).2 (by decide) rfl rfl rl1 hF (fun x14 ra9 hF => ?_)
    refine s_K hF (fun t11 hF => ?_)
    refine s_gI R t11 (Nat.le_of_ble_eq_true rfl) rfl ?_
    exact SX20_item_b84 R rfl rl1 (d_add rfl (c_2l rfl rs1)) (rr_J _) rfl ra3 (d_sub (c_2l rfl ra9) (c_2l rfl (R.ri t11 (Nat.le_of_ble_eq_true rfl) rfl))) (rr_J _) hF
def FX20_item (p0 : Int) (s : fS) : Option (Int × fS) :=
  (uRO s 99 (isub (s.i 97 8) 1)).bind fun a5 =>
  (uRJ s 100 (isub (s.i 97 8) 1)).bind fun x11 =>
  (uK 41 s a5).bind fun _ =>
  if (s.i a5 2) = 0 then
    (uRI s 20 p0).bind fun x20 =>
    FX20_item_b43 p0 a5 x11 x20 s
  else
    FX20_item_b43 p0 a5 x11 0 s
theorem SX20_item {m b : Nat} {φ0 : Nat → Nat} {σo : fS} {q : Int × fS} {φ : Nat → Nat} {h : eH} {s : fS} {p0' : Int32} {p0 : Int} (R : fC m b φ0 σo φ h s) (ep0 : p0' = iI p0) (rp0 : r32 p0) (hF : FX20_item p0 s = some q) : gG m b φ0 σo lI q (fX20_item 97 p0' h) := by
  subst ep0
  unfold FX20_item at hF
  unfold fX20_item
  refine s_gAs R (t_97 R.S) (Nat.le_of_ble_eq_true rfl) rfl (o_97_4 R.S) (a_99 R) ?_
  refine s_gI R (t_97 R.S) (Nat.le_of_ble_eq_true rfl) rfl ?_
  refine s_rO R (u_99 R.S).1 (u_99 R.S).2 rfl (fun _ => rfl) (Nat.le_of_ble_eq_true rfl) (a_99 R) (c_sub rfl (c_lit 1 1 rfl)) (rr_I _) hF (fun a5 y3 hF => ?_)
  refine s_gAs R (t_97 R.S) (Nat.le_of_ble_eq_true rfl) rfl (o_97_5 R.S) (a_100 R) ?_
  refine s_gI R (t_97 R.S) (Nat.le_of_ble_eq_true rfl) rfl ?_
  refine s_rJ R (u_100 R.S).1 (u_100 R.S).2 (a_100 R) (c_sub rfl (c_lit 1 1 rfl)) (rr_I _) hF (fun x11 ra6 hF => ?_)
  refine s_K hF (fun t8 hF => ?_)
  refine s_gI R t8 (Nat.le_of_ble_eq_true rfl) rfl ?_
  refine s_if (i_eq rfl (c_lit 0 0 rfl) (R.ri t8 (Nat.le_of_ble_eq_true rfl) rfl) ⟨by decide, by decide⟩) hF (fun c9 hF => ?_) (fun c9 hF => ?_)
  ·
    refine s_gO R (t_97 R.S) (Nat.le_of_ble_eq_true rfl) rfl (o_97_0 R.S) ?_
    refine s_gA R (t_17 R.S) (Nat.le_of_ble_eq_true rfl) rfl (o_17_2 R.S) (fun _ _ => ?_)
    refine s_rI R (u_20 R.S).1 (u_20 R.S).2 (by decide) rfl rfl rp0 hF (fun x20 ra12 hF => ?_)
    exact SX20_item_b43 R rfl rp0 rfl ra6 rfl ra12 hF
  ·
    exact SX20_item_b43 R rfl rp0 rfl ra6 (c_lit 0 0 rfl) ⟨by decide, by decide⟩ hF
def FX20_lay_b87 (N : Nat) (K16 : Int → fS → Option (Int × fS)) (l6 : Int) (s : fS) : Option (Int × fS) :=
  K16 l6 s
theorem SX20_lay_b87 {m b : Nat} {φ0 : Nat → Nat} {σo : fS} {N : Nat} {k16 : Nat → Int32 → eH → Option (Int32 × eH)} {K16 : Int → fS → Option (Int × fS)} {q : Int × fS} (hk16 : ∀ {φ : Nat → Nat} {h : eH} {s : fS} {l6' : Int32} {l6 : Int}, fC m b φ0 σo φ h s → l6' = iI l6 → r32 l6 → K16 l6 s = some q → gG m b φ0 σo lI q (k16 97 l6' h)) {φ : Nat → Nat} {h : eH} {s : fS} {l6' : Int32} {l6 : Int} (R : fC m b φ0 σo φ h s) (el6 : l6' = iI l6) (rl6 : r32 l6) (hF : FX20_lay_b87 N K16 l6 s = some q) : gG m b φ0 σo lI q (fX20_lay_b87 N k16 97 l6' h) := by
  subst el6
  unfold FX20_lay_b87 at hF
  unfold fX20_lay_b87
  exact hk16 R rfl rl6 hF
def FX20_lay_b90 (N : Nat) (l6 : Int) (s : fS) : Option (Int × fS) :=
  uZ l6 (l6, s)
theorem SX20_lay_b90 {m b : Nat} {φ0 : Nat → Nat} {σo : fS} {N : Nat} {q : Int × fS} {φ : Nat → Nat} {h : eH} {s : fS} {l6' : Int32} {l6 : Int} (R : fC m b φ0 σo φ h s) (el6 : l6' = iI l6) (rl6 : r32 l6) (hF : FX20_lay_b90 N l6 s = some q) : gG m b φ0 σo lI q (fX20_lay_b90 N l6' h) := by
  subst el6
  unfold FX20_lay_b90 at hF
  unfold fX20_lay_b90
  exact g_z R rfl hF ⟨rfl, rl6⟩
def FX20_lay_b16 (N : Nat) : Nat → Int → fS → Option (Int × fS)
  | 0, _, _ => none
  | n + 1, l6, s =>
    if l6 = 0 then
      FX20_lay_b90 N l6 s
    else
      if (s.i 97 8) ≤ 0 then
        FX20_lay_b90 N l6 s
      else
        (uRI s 102 (isub (s.i 97 8) 1)).bind fun x9 =>
        (uRO s 99 (isub (s.i 97 8) 1)).bind fun a13 =>
        (uK 41 s a13).bind fun _ =>
        if ¬ (x9 = (s.i a13 1)) then
          (uRI s 102 (isub (s.i 97 8) 1)).bind fun x20 =>
          (uQI s 102 (isub (s.i 97 8) 1) (iadd x20 1)).bind fun σ22 =>
          (FX20_item x20 σ22).bind fun q25 =>
          FX20_lay_b87 N (FX20_lay_b16 N n) q25.1 q25.2
        else
          (uPI s 97 8 (isub (s.i 97 8) 1)).bind fun σ28 =>
          FX20_lay_b87 N (FX20_lay_b16 N n) l6 σ28
theorem SX20_lay_b16 {m b : Nat} {φ0 : Nat → Nat} {σo : fS} {N : Nat} {q : Int × fS} : ∀ {n : Nat} {φ : Nat → Nat} {h : eH} {s : fS} {l6' : Int32} {l6 : Int}, fC m b φ0 σo φ h s → l6' = iI l6 → r32 l6 → FX20_lay_b16 N n l6 s = some q → gG m b φ0 σo lI q (fX20_lay_b16 N n 97 l6' h) := by
  intro n
  induction n with
 | zero => intro φ h s l6' l6 R el6 rl6 hF; simp [FX20_lay_b16] at hF
  | succ n ih =>
    intro φ h s l6' l6 R el6 rl6 hF
    subst el6
    rw [FX20_lay_b16] at hF
    rw [fX20_lay_b16]
    refine s_if (i_eq rfl (c_lit 0 0 rfl) rl6 ⟨by decide, by decide⟩) hF (fun c1 hF => ?_) (fun c1 hF => ?_)
    ·
      exact SX20_lay_b90 (N := N) R rfl rl6 hF
    ·
      refine s_gI R (t_97 R.S) (Nat.le_of_ble_eq_true rfl) rfl ?_
      refine s_if (i_le rfl (c_lit 0 0 rfl) (R.ri (t_97 R.S) (Nat.le_of_ble_eq_true rfl) rfl) ⟨by decide, by decide⟩) hF (fun c3 hF => ?_) (fun c3 hF => ?_)
      ·
        exact SX20_lay_b90 (N := N) R rfl rl6 hF
      ·
        refine s_gI R (t_97 R.S) (Nat.le_of_ble_eq_true rfl) rfl ?_
        refine s_gAs R (t_97 R.S) (Nat.le_of_ble_eq_true rfl) rfl (o_97_7 R.S) (a_102 R) ?_
        refine s_rI R (u_102 R.S).1 (u_102 R.S).2 (by decide) (a_102 R) (c_sub rfl (c_lit 1 1 rfl)) (rr_I _) hF (fun x9 ra6 hF => ?_)
        refine s_gAs R (t_97 R.S) (Nat.le_of_ble_eq_true rfl) rfl (o_97_4 R.S) (a_99 R) ?_
        refine s_rO R (u_99 R.S).1 (u_99 R.S).2 rfl (fun _ => rfl) (Nat.le_of_ble_eq_true rfl) (a_99 R) (c_sub rfl (c_lit 1 1 rfl)) (rr_I _) hF (fun a13 y8 hF => ?_)
        refine s_K hF (fun t10 hF => ?_)
        refine s_gI R t10 (Nat.le_of_ble_eq_true rfl) rfl ?_
        refine s_if (not_congr (i_eq rfl rfl ra6 (R.ri t10 (Nat.le_of_ble_eq_true rfl) rfl))) hF (fun c11 hF => ?_) (fun c11 hF => ?_)
        ·
          refine s_gAs R (t_97 R.S) (Nat.le_of_ble_eq_true rfl) rfl (o_97_7 R.S) (a_102 R) ?_
          refine s_rI R (u_102 R.S).1 (u_102 R.S).2 (by decide) (a_102 R) (c_sub rfl (c_lit 1 1 rfl)) (rr_I _) hF (fun x20 ra13 hF => ?_)
          refine s_qI R (u_102 R.S).1 (u_102 R.S).2 (by decide) (a_102 R) (c_sub rfl (c_lit 1 1 rfl)) (rr_I _) (c_add rfl (c_lit 1 1 rfl)) (rr_I _) hF (fun h14 σ22 R14 T14 hF => ?_)
          refine s_kok R14 (t_97 R14.S) (Nat.le_of_ble_eq_true rfl) ?_
          refine s_call R14 (Nat.zero_le _) (fun _ hq => SX20_item (b := 0) (R14.rf) rfl ra13 hq) hF (fun f16 rv16 h16 q25 R16 e16 E16 hF => ?_)
          exact SX20_lay_b87 (N := N) (k16 := fX20_lay_b16 N n) (K16 := FX20_lay_b16 N n) @ih R16 e16.1 e16.2 hF
        ·
          refine s_gI R (t_97 R.S) (Nat.le_of_ble_eq_true rfl) rfl ?_
          refine s_pI R (t_97 R.S) (Nat.le_of_ble_eq_true rfl) rfl (c_sub rfl (c_lit 1 1 rfl)) (rr_I _) hF (fun h18 σ28 R18 T18 hF => ?_)
          exact SX20_lay_b87 (N := N) (k16 := fX20_lay_b16 N n) (K16 := FX20_lay_b16 N n) @ih R18 rfl rl6 hF
def FX20_lay (N : Nat) (p0 : Nat) (p1 : Int) (p2 : Int) (s : fS) : Option (Int × fS) :=
  (uPI s 97 8 0).bind fun σ1 =>
  (FX20_enter p0 p1 p2 σ1).bind fun q4 =>
  FX20_lay_b16 N N 1 q4.2
theorem SX20_lay {m b : Nat} {φ0 : Nat → Nat} {σo : fS} {N : Nat} {q : Int × fS} {φ : Nat → Nat} {h : eH} {s : fS} {p0 : Nat} {p1' : Int64} {p1 : Int} {p2' : Int64} {p2 : Int} (R : fC m b φ0 σo φ h s) (ep1 : p1' = iJ p1) (rp1 : r64 p1) (ep2 : p2' = iJ p2) (rp2 : r64 p2) (hF : FX20_lay N p0 p1 p2 s = some q) : gG m b φ0 σo lI q (fX20_lay N 97 p0 p1' p2' h) := by
  subst ep1; subst ep2
  unfold FX20_lay at hF
  unfold fX20_lay
  refine s_pI R (t_97 R.S) (Nat.le_of_ble_eq_true rfl) rfl (c_lit 0 0 rfl) ⟨by decide, by decide⟩ hF (fun h1 σ1 R1 T1 hF => ?_)
  refine s_kok R1 (t_97 R1.S) (Nat.le_of_ble_eq_true rfl) ?_
  refine s_call R1 (Nat.zero_le _) (fun _ hq => SX20_enter (b := 0) (R1.rf) rfl rp1 rfl rp2 hq) hF (fun f3 rv3 h3 q4 R3 e3 E3 hF => ?_)
  exact SX20_lay_b16 (N := N) R3 (c_lit 1 1 rfl) ⟨by decide, by decide⟩ hF
def FX20_line_b17 (s : fS) : Option (Int × fS) :=
  some (1, s)
theorem SX20_line_b17 {m b : Nat} {φ0 : Nat → Nat} {σo : fS} {q : Int × fS} {φ : Nat → Nat} {h : eH} {s : fS} (R : fC m b φ0 σo φ h s) (hF : FX20_line_b17 s = some q) : gG m b φ0 σo lI q (fX20_line_b17 h) := by
  unfold FX20_line_b17 at hF
  unfold fX20_line_b17
  exact g_ret R hF ⟨(c_lit 1 1 rfl), ⟨by decide, by decide⟩⟩
def FX20_line (p0 : Int) (p1 : Int) (p2 : Int) (p3 : Int) (p4 : Int) (s : fS) : Option (Int × fS) :=
  if p2 ≤ 0 then
    FX20_line_b17 s
  else
    if 0 < (ladd p3 p4) then
      (FX20_mark (-1) p0 p1 p2 p3 p4 s).bind fun q4 =>
      uZ q4.1 (q4.1, q4.2)
    else
      FX20_line_b17 s
theorem SX20_line {m b : Nat} {φ0 : Nat → Nat} {σo : fS} {q : Int × fS} {φ : Nat → Nat} {h : eH} {s : fS} {p0' : Int64} {p0 : Int} {p1' : Int64} {p1 : Int} {p2' : Int32} {p2 : Int} {p3' : Int32} {p3 : Int} {p4' : Int32} {p4 : Int} (R : fC m b φ0 σo φ h s) (ep0 : p0' = iJ p0) (rp0 : r64 p0) (ep1 : p1' = iJ p1) (rp1 : r64 p1) (ep2 : p2' = iI p2) (rp2 : r32 p2) (ep3 : p3' = iI p3) (rp3 : r32 p3) (ep4 : p4' = iI p4) (rp4 : r32 p4) (hF : FX20_line p0 p1 p2 p3 p4 s = some q) : gG m b φ0 σo lI q (fX20_line 97 p0' p1' p2' p3' p4' h) := by
  subst ep0; subst ep1; subst ep2; subst ep3; subst ep4
  unfold FX20_line at hF
  unfold fX20_line
  refine s_if (i_le rfl (c_lit 0 0 rfl) rp2 ⟨by decide, by decide⟩) hF (fun c1 hF => ?_) (fun c1 hF => ?_)
  ·
    exact SX20_line_b17 R hF
  ·
    refine s_if ((lg_cmp_gt _ _).trans (j_lt (d_lit 0 0 rfl) (d_add (c_2l rfl rp3) (c_2l rfl rp4)) ⟨by decide, by decide⟩ (rr_J _))) hF (fun c2 hF => ?_) (fun c2 hF => ?_)
    ·
      refine s_kok R (t_97 R.S) (Nat.le_of_ble_eq_true rfl) ?_
      refine s_call R (Nat.zero_le _) (fun _ hq => SX20_mark (b := 0) (R.rf) (c_lit (-1) (-1) rfl) ⟨by decide, by decide⟩ rfl rp0 rfl rp1 rfl rp2 rfl rp3 rfl rp4 hq) hF (fun f4 rv4 h4 q4 R4 e4 E4 hF => ?_)
      exact g_z R4 e4.1 hF ⟨e4.1, e4.2⟩
    ·
      exact SX20_line_b17 R hF
