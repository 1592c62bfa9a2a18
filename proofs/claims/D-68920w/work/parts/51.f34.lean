set_option maxRecDepth 100000
set_option maxHeartbeats 4000000
def FX35_first (p0 : Int) (p1 : Int) (s : fS) : Option (Unit × fS) :=
  (uQI s 265 p0 p1).bind fun σ3 =>
  some ((), σ3)
theorem SX35_first {m b : Nat} {φ0 : Nat → Nat} {σo : fS} (hm : 1 ≤ m) {q : Unit × fS} {φ : Nat → Nat} {h : eH} {s : fS} {p0' : Int32} {p0 : Int} {p1' : Int32} {p1 : Int} (R : fC m b φ0 σo φ h s) (ep0 : p0' = iI p0) (rp0 : r32 p0) (ep1 : p1' = iI p1) (rp1 : r32 p1) (hF : FX35_first p0 p1 s = some q) : gG m b φ0 σo lU q (fX35_first 192 p0' p1' h) := by
  subst ep0; subst ep1
  unfold FX35_first at hF
  unfold fX35_first
  refine s_gAs R (t_192 hm R.S) (Nat.le_of_ble_eq_true rfl) rfl (o_192_22 hm R.S) (a_265 hm R) ?_
  refine s_qI R (u_265 hm R.S).1 (u_265 hm R.S).2 (by decide) (a_265 hm R) rfl rp0 rfl rp1 hF (fun h2 σ3 R2 T2 hF => ?_)
  exact g_ret R2 hF trivial
def FX35_addName_b2 (N : Nat) : Nat → Int → fS → Option (Int × fS)
  | 0, _, _ => none
  | n + 1, l1, s =>
    if (s.i 192 19) ≤ l1 then
      (uQI s 262 (s.i 192 15) (s.i 192 19)).bind fun σ10 =>
      (uPI σ10 192 15 (iadd (σ10.i 192 15) 1)).bind fun σ14 =>
      some ((isub (σ14.i 192 15) 1), σ14)
    else
      (uRI s 263 l1).bind fun x24 =>
      (uQI s 261 (iadd (imul 40 (s.i 192 15)) l1) (i2b (i2b x24))).bind fun σ26 =>
      FX35_addName_b2 N n (iadd l1 1) σ26
theorem SX35_addName_b2 {m b : Nat} {φ0 : Nat → Nat} {σo : fS} (hm : 1 ≤ m) {N : Nat} {q : Int × fS} : ∀ {n : Nat} {φ : Nat → Nat} {h : eH} {s : fS} {l1' : Int32} {l1 : Int}, fC m b φ0 σo φ h s → l1' = iI l1 → r32 l1 → FX35_addName_b2 N n l1 s = some q → gG m b φ0 σo lI q (fX35_addName_b2 N n 192 l1' h) := by
  intro n
  induction n with
 | zero => intro φ h s l1' l1 R el1 rl1 hF; simp [FX35_addName_b2] at hF
  | succ n ih =>
    intro φ h s l1' l1 R el1 rl1 hF
    subst el1
    rw [FX35_addName_b2] at hF
    rw [fX35_addName_b2]
    refine s_gI R (t_192 hm R.S) (Nat.le_of_ble_eq_true rfl) rfl ?_
    refine s_if (i_le rfl rfl (R.ri (t_192 hm R.S) (Nat.le_of_ble_eq_true rfl) rfl) rl1) hF (fun c2 hF => ?_) (fun c2 hF => ?_)
    ·
      refine s_gAs R (t_192 hm R.S) (Nat.le_of_ble_eq_true rfl) rfl (o_192_17 hm R.S) (a_262 hm R) ?_
      refine s_gI R (t_192 hm R.S) (Nat.le_of_ble_eq_true rfl) rfl ?_
      refine s_gI R (t_192 hm R.S) (Nat.le_of_ble_eq_true rfl) rfl ?_
      refine s_qI R (u_262 hm R.S).1 (u_262 hm R.S).2 (by decide) (a_262 hm R) rfl (R.ri (t_192 hm R.S) (Nat.le_of_ble_eq_true rfl) rfl) rfl (R.ri (t_192 hm R.S) (Nat.le_of_ble_eq_true rfl) rfl) hF (fun h6 σ10 R6 T6 hF => ?_)
      refine s_gI R6 (t_192 hm R6.S) (Nat.le_of_ble_eq_true rfl) rfl ?_
      refine s_pI R6 (t_192 hm R6.S) (Nat.le_of_ble_eq_true rfl) rfl (c_add rfl (c_lit 1 1 rfl)) (rr_I _) hF (fun h8 σ14 R8 T8 hF => ?_)
      refine s_gI R8 (t_192 hm R8.S) (Nat.le_of_ble_eq_true rfl) rfl ?_
      exact g_ret R8 hF ⟨(c_sub rfl (c_lit 1 1 rfl)), (rr_I _)⟩
    ·
      refine s_gAs R (t_192 hm R.S) (Nat.le_of_ble_eq_true rfl) rfl (o_192_16 hm R.S) (a_261 hm R) ?_
      refine s_gI R (t_192 hm R.S) (Nat.le_of_ble_eq_true rfl) rfl ?_
      refine s_gAs R (t_192 hm R.S) (Nat.le_of_ble_eq_true rfl) rfl (o_192_18 hm R.S) (a_263 hm R) ?_
      refine s_rI R (u_263 hm R.S).1 (u_263 hm R.S).2 (by decide) (a_263 hm R) rfl rl1 hF (fun x24 ra13 hF => ?_)
      refine s_qI R (u_261 hm R.S).1 (u_261 hm R.S).2 (by decide) (a_261 hm R) (c_add (c_mul (c_lit 40 40 rfl) rfl) rfl) (rr_I _) (c_2b (c_2b rfl)) (rr_I _) hF (fun h14 σ26 R14 T14 hF => ?_)
      exact ih R14 (c_add rfl (c_lit 1 1 rfl)) (rr_I _) hF
def FX35_addName (N : Nat) (s : fS) : Option (Int × fS) :=
  FX35_addName_b2 N N 0 s
theorem SX35_addName {m b : Nat} {φ0 : Nat → Nat} {σo : fS} (hm : 1 ≤ m) {N : Nat} {q : Int × fS} {φ : Nat → Nat} {h : eH} {s : fS} (R : fC m b φ0 σo φ h s) (hF : FX35_addName N s = some q) : gG m b φ0 σo lI q (fX35_addName N 192 h) := by
  unfold FX35_addName at hF
  unfold fX35_addName
  exact SX35_addName_b2 (N := N) hm R (c_lit 0 0 rfl) ⟨by decide, by decide⟩ hF
def FX35_primitives_b73 (N : Nat) (K7 : Nat → Int → fS → Option (Unit × fS)) (l1 : Nat) (l2 : Int) (s : fS) : Option (Unit × fS) :=
  K7 l1 (iadd l2 1) s
theorem SX35_primitives_b73 {m b : Nat} {φ0 : Nat → Nat} {σo : fS} (hm : 1 ≤ m) {N : Nat} {k7 : Nat → Nat → Int32 → eH → Option (Unit × eH)} {K7 : Nat → Int → fS → Option (Unit × fS)} {q : Unit × fS} (hk7 : ∀ {φ : Nat → Nat} {h : eH} {s : fS} {l1 : Nat} {l2' : Int32} {l2 : Int}, fC m b φ0 σo φ h s → l2' = iI l2 → r32 l2 → K7 l1 l2 s = some q → gG m b φ0 σo lU q (k7 192 l1 l2' h)) {φ : Nat → Nat} {h : eH} {s : fS} {l1 : Nat} {l2' : Int32} {l2 : Int} (R : fC m b φ0 σo φ h s) (el2 : l2' = iI l2) (rl2 : r32 l2) (hF : FX35_primitives_b73 N K7 l1 l2 s = some q) : gG m b φ0 σo lU q (fX35_primitives_b73 N k7 192 l1 l2' h) := by
  subst el2
  unfold FX35_primitives_b73 at hF
  unfold fX35_primitives_b73
  exact hk7 R (c_add rfl (c_lit 1 1 rfl)) (rr_I _) hF
def FX35_primitives_b7 (N : Nat) : Nat → Nat → Int → fS → Option (Unit × fS)
  | 0, _, _, _ => none
  | n + 1, l1, l2, s =>
    (s_ok l1).bind fun _ =>
    (FJ1_length l1 s).bind fun q2 =>
    if q2.1 ≤ l2 then
      some ((), q2.2)
    else
      (s_ok l1).bind fun _ =>
      (FJ1_charAt l1 l2 q2.2).bind fun q5 =>
      if ¬ (q5.1 = 47) then
        (s_ok l1).bind fun _ =>
        (FJ1_charAt l1 l2 q5.2).bind fun q12 =>
        (uQI q12.2 263 (q5.2.i 192 19) q12.1).bind fun σ13 =>
        (uPI σ13 192 19 (iadd (σ13.i 192 19) 1)).bind fun σ17 =>
        FX35_primitives_b73 N (FX35_primitives_b7 N n) l1 l2 σ17
      else
        (FX35_addName N q5.2).bind fun q20 =>
        (uQI q20.2 265 q20.1 (iadd 1000 q20.1)).bind fun σ23 =>
        (uPI σ23 192 19 0).bind fun σ25 =>
        FX35_primitives_b73 N (FX35_primitives_b7 N n) l1 l2 σ25
theorem SX35_primitives_b7 {m b : Nat} {φ0 : Nat → Nat} {σo : fS} (hm : 1 ≤ m) {N : Nat} {q : Unit × fS} : ∀ {n : Nat} {φ : Nat → Nat} {h : eH} {s : fS} {l1 : Nat} {l2' : Int32} {l2 : Int}, fC m b φ0 σo φ h s → l2' = iI l2 → r32 l2 → FX35_primitives_b7 N n l1 l2 s = some q → gG m b φ0 σo lU q (fX35_primitives_b7 N n 192 l1 l2' h) := by
  intro n
  induction n with
 | zero => intro φ h s l1 l2' l2 R el2 rl2 hF; simp [FX35_primitives_b7] at hF
  | succ n ih =>
    intro φ h s l1 l2' l2 R el2 rl2 hF
    subst el2
    rw [FX35_primitives_b7] at hF
    rw [fX35_primitives_b7]
    refine s_opt hF (fun _ hF => ?_)
    refine s_call R (Nat.zero_le _) (fun _ hq => SJ1_length (b := 0) (R.rf) hq) hF (fun f2 rv2 h2 q2 R2 e2 E2 hF => ?_)
    refine s_if (i_le e2.1 rfl e2.2 rl2) hF (fun c3 hF => ?_) (fun c3 hF => ?_)
    ·
      exact g_ret R2 hF trivial
    ·
      refine s_opt hF (fun _ hF => ?_)
      refine s_call R2 (Nat.zero_le _) (fun _ hq => SJ1_charAt (b := 0) (R2.rf) rfl rl2 hq) hF (fun f5 rv5 h5 q5 R5 e5 E5 hF => ?_)
      refine s_if (not_congr (i_eq e5.1 (c_lit 47 47 rfl) e5.2 ⟨by decide, by decide⟩)) hF (fun c6 hF => ?_) (fun c6 hF => ?_)
      ·
        refine s_gAs R5 (t_192 hm R5.S) (Nat.le_of_ble_eq_true rfl) rfl (o_192_18 hm R5.S) (a_263 hm R5) ?_
        refine s_gI R5 (t_192 hm R5.S) (Nat.le_of_ble_eq_true rfl) rfl ?_
        refine s_opt hF (fun _ hF => ?_)
        refine s_call R5 (Nat.zero_le _) (fun _ hq => SJ1_charAt (b := 0) (R5.rf) rfl rl2 hq) hF (fun f10 rv10 h10 q12 R10 e10 E10 hF => ?_)
        refine s_qI R10 (u_263 hm R10.S).1 (u_263 hm R10.S).2 (by decide) (a_263 hm R10) rfl (R5.ri (t_192 hm R5.S) (Nat.le_of_ble_eq_true rfl) rfl) e10.1 e10.2 hF (fun h11 σ13 R11 T11 hF => ?_)
        refine s_gI R11 (t_192 hm R11.S) (Nat.le_of_ble_eq_true rfl) rfl ?_
        refine s_pI R11 (t_192 hm R11.S) (Nat.le_of_ble_eq_true rfl) rfl (c_add rfl (c_lit 1 1 rfl)) (rr_I _) hF (fun h13 σ17 R13 T13 hF => ?_)
        exact SX35_primitives_b73 (N := N) (k7 := fX35_primitives_b7 N n) (K7 := FX35_primitives_b7 N n) hm @ih R13 rfl rl2 hF
      ·
        refine s_kok R5 (t_192 hm R5.S) (Nat.le_of_ble_eq_true rfl) ?_
        refine s_call R5 (Nat.zero_le _) (fun _ hq => SX35_addName (b := 0) (N := N) hm (R5.rf) hq) hF (fun f15 rv15 h15 q20 R15 e15 E15 hF => ?_)
        refine s_gAs R15 (t_192 hm R15.S) (Nat.le_of_ble_eq_true rfl) rfl (o_192_22 hm R15.S) (a_265 hm R15) ?_
        refine s_qI R15 (u_265 hm R15.S).1 (u_265 hm R15.S).2 (by decide) (a_265 hm R15) e15.1 e15.2 (c_add (c_lit 1000 1000 rfl) e15.1) (rr_I _) hF (fun h17 σ23 R17 T17 hF => ?_)
        refine s_pI R17 (t_192 hm R17.S) (Nat.le_of_ble_eq_true rfl) rfl (c_lit 0 0 rfl) ⟨by decide, by decide⟩ hF (fun h18 σ25 R18 T18 hF => ?_)
        exact SX35_primitives_b73 (N := N) (k7 := fX35_primitives_b7 N n) (K7 := FX35_primitives_b7 N n) hm @ih R18 rfl rl2 hF
def FX35_primitives (N : Nat) (p0 : Nat) (s : fS) : Option (Unit × fS) :=
  (uPI s 192 19 0).bind fun σ1 =>
  FX35_primitives_b7 N N p0 0 σ1
theorem SX35_primitives {m b : Nat} {φ0 : Nat → Nat} {σo : fS} (hm : 1 ≤ m) {N : Nat} {q : Unit × fS} {φ : Nat → Nat} {h : eH} {s : fS} {p0 : Nat} (R : fC m b φ0 σo φ h s) (hF : FX35_primitives N p0 s = some q) : gG m b φ0 σo lU q (fX35_primitives N 192 p0 h) := by
  unfold FX35_primitives at hF
  unfold fX35_primitives
  refine s_pI R (t_192 hm R.S) (Nat.le_of_ble_eq_true rfl) rfl (c_lit 0 0 rfl) ⟨by decide, by decide⟩ hF (fun h1 σ1 R1 T1 hF => ?_)
  exact SX35_primitives_b7 (N := N) hm R1 (c_lit 0 0 rfl) ⟨by decide, by decide⟩ hF
def FX35_clear_b275 (N : Nat) (K207 : Int → fS → Option (Unit × fS)) (l1 : Int) (s1 : Int) (s2 : Int) (s : fS) : Option (Unit × fS) :=
  (uQI s 265 s1 s2).bind fun σ1 =>
  K207 (iadd l1 1) σ1
theorem SX35_clear_b275 {m b : Nat} {φ0 : Nat → Nat} {σo : fS} (hm : 1 ≤ m) {N : Nat} {k207 : Nat → Int32 → eH → Option (Unit × eH)} {K207 : Int → fS → Option (Unit × fS)} {q : Unit × fS} (hk207 : ∀ {φ : Nat → Nat} {h : eH} {s : fS} {l1' : Int32} {l1 : Int}, fC m b φ0 σo φ h s → l1' = iI l1 → r32 l1 → K207 l1 s = some q → gG m b φ0 σo lU q (k207 192 l1' h)) {φ : Nat → Nat} {h : eH} {s : fS} {l1' : Int32} {l1 : Int} {s1' : Int32} {s1 : Int} {s2' : Int32} {s2 : Int} (R : fC m b φ0 σo φ h s) (el1 : l1' = iI l1) (rl1 : r32 l1) (es1 : s1' = iI s1) (rs1 : r32 s1) (es2 : s2' = iI s2) (rs2 : r32 s2) (hF : FX35_clear_b275 N K207 l1 s1 s2 s = some q) : gG m b φ0 σo lU q (fX35_clear_b275 N k207 192 l1' 265 s1' s2' h) := by
  subst el1; subst es1; subst es2
  unfold FX35_clear_b275 at hF
  unfold fX35_clear_b275
  refine s_qI R (u_265 hm R.S).1 (u_265 hm R.S).2 (by decide) (a_265 hm R) rfl rs1 rfl rs2 hF (fun h1 σ1 R1 T1 hF => ?_)
  exact hk207 R1 (c_add rfl (c_lit 1 1 rfl)) (rr_I _) hF
def FX35_clear_b254 (N : Nat) (K207 : Int → fS → Option (Unit × fS)) (l1 : Int) (s0 : Int) (s : fS) : Option (Unit × fS) :=
  if s0 = 0 then
    FX35_clear_b275 N K207 l1 (iadd 1460 l1) 12 s
  else
    FX35_clear_b275 N K207 l1 (iadd 1460 l1) 11 s
theorem SX35_clear_b254 {m b : Nat} {φ0 : Nat → Nat} {σo : fS} (hm : 1 ≤ m) {N : Nat} {k207 : Nat → Int32 → eH → Option (Unit × eH)} {K207 : Int → fS → Option (Unit × fS)} {q : Unit × fS} (hk207 : ∀ {φ : Nat → Nat} {h : eH} {s : fS} {l1' : Int32} {l1 : Int}, fC m b φ0 σo φ h s → l1' = iI l1 → r32 l1 → K207 l1 s = some q → gG m b φ0 σo lU q (k207 192 l1' h)) {φ : Nat → Nat} {h : eH} {s : fS} {l1' : Int32} {l1 : Int} {s0' : Int32} {s0 : Int} (R : fC m b φ0 σo φ h s) (el1 : l1' = iI l1) (rl1 : r32 l1) (es0 : s0' = iI s0) (rs0 : r32 s0) (hF : FX35_clear_b254 N K207 l1 s0 s = some q) : gG m b φ0 σo lU q (fX35_clear_b254 N k207 192 l1' s0' h) := by
  subst el1; subst es0
  unfold FX35_clear_b254 at hF
  unfold fX35_clear_b254
  refine s_gAs R (t_192 hm R.S) (Nat.le_of_ble_eq_true rfl) rfl (o_192_22 hm R.S) (a_265 hm R) ?_
  refine s_if (i_eq rfl (c_lit 0 0 rfl) rs0 ⟨by decide, by decide⟩) hF (fun c2 hF => ?_) (fun c2 hF => ?_)
  ·
    exact SX35_clear_b275 (N := N) (k207 := k207) (K207 := K207) hm @hk207 R rfl rl1 (c_add (c_lit 1460 1460 rfl) rfl) (rr_I _) (c_lit 12 12 rfl) ⟨by decide, by decide⟩ hF
  ·
    exact SX35_clear_b275 (N := N) (k207 := k207) (K207 := K207) hm @hk207 R rfl rl1 (c_add (c_lit 1460 1460 rfl) rfl) (rr_I _) (c_lit 11 11 rfl) ⟨by decide, by decide⟩ hF
def FX35_clear_b249 (N : Nat) (K207 : Int → fS → Option (Unit × fS)) (l1 : Int) (s : fS) : Option (Unit × fS) :=
  FX35_clear_b254 N K207 l1 1 s
theorem SX35_clear_b249 {m b : Nat} {φ0 : Nat → Nat} {σo : fS} (hm : 1 ≤ m) {N : Nat} {k207 : Nat → Int32 → eH → Option (Unit × eH)} {K207 : Int → fS → Option (Unit × fS)} {q : Unit × fS} (hk207 : ∀ {φ : Nat → Nat} {h : eH} {s : fS} {l1' : Int32} {l1 : Int}, fC m b φ0 σo φ h s → l1' = iI l1 → r32 l1 → K207 l1 s = some q → gG m b φ0 σo lU q (k207 192 l1' h)) {φ : Nat → Nat} {h : eH} {s : fS} {l1' : Int32} {l1 : Int} (R : fC m b φ0 σo φ h s) (el1 : l1' = iI l1) (rl1 : r32 l1) (hF : FX35_clear_b249 N K207 l1 s = some q) : gG m b φ0 σo lU q (fX35_clear_b249 N k207 192 l1' h) := by
  subst el1
  unfold FX35_clear_b249 at hF
  unfold fX35_clear_b249
  exact SX35_clear_b254 (N := N) (k207 := k207) (K207 := K207) hm @hk207 R rfl rl1 (c_lit 1 1 rfl) ⟨by decide, by decide⟩ hF
def FX35_clear_b253 (N : Nat) (K207 : Int → fS → Option (Unit × fS)) (l1 : Int) (s : fS) : Option (Unit × fS) :=
  FX35_clear_b254 N K207 l1 0 s
theorem SX35_clear_b253 {m b : Nat} {φ0 : Nat → Nat} {σo : fS} (hm : 1 ≤ m) {N : Nat} {k207 : Nat → Int32 → eH → Option (Unit × eH)} {K207 : Int → fS → Option (Unit × fS)} {q : Unit × fS} (hk207 : ∀ {φ : Nat → Nat} {h : eH} {s : fS} {l1' : Int32} {l1 : Int}, fC m b φ0 σo φ h s → l1' = iI l1 → r32 l1 → K207 l1 s = some q → gG m b φ0 σo lU q (k207 192 l1' h)) {φ : Nat → Nat} {h : eH} {s : fS} {l1' : Int32} {l1 : Int} (R : fC m b φ0 σo φ h s) (el1 : l1' = iI l1) (rl1 : r32 l1) (hF : FX35_clear_b253 N K207 l1 s = some q) : gG m b φ0 σo lU q (fX35_clear_b253 N k207 192 l1' h) := by
  subst el1
  unfold FX35_clear_b253 at hF
  unfold fX35_clear_b253
  exact SX35_clear_b254 (N := N) (k207 := k207) (K207 := K207) hm @hk207 R rfl rl1 (c_lit 0 0 rfl) ⟨by decide, by decide⟩ hF
def FX35_clear_b237 (N : Nat) (K207 : Int → fS → Option (Unit × fS)) (l1 : Int) (s : fS) : Option (Unit × fS) :=
  if l1 < 65 then
    FX35_clear_b253 N K207 l1 s
  else
    if 90 < l1 then
      FX35_clear_b253 N K207 l1 s
    else
      FX35_clear_b249 N K207 l1 s
theorem SX35_clear_b237 {m b : Nat} {φ0 : Nat → Nat} {σo : fS} (hm : 1 ≤ m) {N : Nat} {k207 : Nat → Int32 → eH → Option (Unit × eH)} {K207 : Int → fS → Option (Unit × fS)} {q : Unit × fS} (hk207 : ∀ {φ : Nat → Nat} {h : eH} {s : fS} {l1' : Int32} {l1 : Int}, fC m b φ0 σo φ h s → l1' = iI l1 → r32 l1 → K207 l1 s = some q → gG m b φ0 σo lU q (k207 192 l1' h)) {φ : Nat → Nat} {h : eH} {s : fS} {l1' : Int32} {l1 : Int} (R : fC m b φ0 σo φ h s) (el1 : l1' = iI l1) (rl1 : r32 l1) (hF : FX35_clear_b237 N K207 l1 s = some q) : gG m b φ0 σo lU q (fX35_clear_b237 N k207 192 l1' h) := by
  subst el1
  unfold FX35_clear_b237 at hF
  unfold fX35_clear_b237
  refine s_if (i_lt rfl (c_lit 65 65 rfl) rl1 ⟨by decide, by decide⟩) hF (fun c1 hF => ?_) (fun c1 hF => ?_)
  ·
    exact SX35_clear_b253 (N := N) (k207 := k207) (K207 := K207) hm @hk207 R rfl rl1 hF
  ·
    refine s_if (i_lt (c_lit 90 90 rfl) rfl ⟨by decide, by decide⟩ rl1) hF (fun c2 hF => ?_) (fun c2 hF => ?_)
    ·
      exact SX35_clear_b253 (N := N) (k207 := k207) (K207 := K207) hm @hk207 R rfl rl1 hF
    ·
      exact SX35_clear_b249 (N := N) (k207 := k207) (K207 := K207) hm @hk207 R rfl rl1 hF
def FX35_clear_b207 (N : Nat) : Nat → Int → fS → Option (Unit × fS)
  | 0, _, _ => none
  | n + 1, l1, s =>
    if 256 ≤ l1 then
      (uQI s 265 3811 (-1)).bind fun σ4 =>
      (FX35_first 1552 0 σ4).bind fun q7 =>
      (FX35_first 1583 1 q7.2).bind fun q9 =>
      (FX35_first 1585 2 q9.2).bind fun q11 =>
      (FX35_first 1496 3 q11.2).bind fun q13 =>
      (FX35_first 1498 4 q13.2).bind fun q15 =>
      (FX35_first 1473 5 q15.2).bind fun q17 =>
      (FX35_first 1495 6 q17.2).bind fun q19 =>
      (FX35_first 1554 7 q19.2).bind fun q21 =>
      (FX35_first 1555 8 q21.2).bind fun q23 =>
      (FX35_first 1460 9 q23.2).bind fun q25 =>
      (FX35_first 1492 10 q25.2).bind fun q27 =>
      (FX35_first 1469 10 q27.2).bind fun q29 =>
      (FX35_first 1586 13 q29.2).bind fun q31 =>
      (FX35_first 1497 14 q31.2).bind fun q33 =>
      (FX35_first 1587 15 q33.2).bind fun q35 =>
      (FX35_first 1972 100 q35.2).bind fun q37 =>
      (FX35_first 1973 200 q37.2).bind fun q39 =>
      (FX35_first 1974 10 q39.2).bind fun q41 =>
      (FX35_first 1975 50 q41.2).bind fun q43 =>
      (FX35_first 1976 50 q43.2).bind fun q45 =>
      (FX35_first 1977 150 q45.2).bind fun q47 =>
      (FX35_first 1978 150 q47.2).bind fun q49 =>
      (FX35_first 1979 100 q49.2).bind fun q51 =>
      (FX35_first 1981 10000 q51.2).bind fun q53 =>
      (FX35_first 1982 10000 q53.2).bind fun q55 =>
      (FX35_first 1983 5000 q55.2).bind fun q57 =>
      (FX35_first 2241 26214400 q57.2).bind fun q59 =>
      (FX35_first 2242 39321600 q59.2).bind fun q61 =>
      (FX35_first 2243 1310720 q61.2).bind fun q63 =>
      (FX35_first 2245 262144 q63.2).bind fun q65 =>
      (FX35_first 3272 65536 q65.2).bind fun q67 =>
      (FX35_first 3275 786432 q67.2).bind fun q69 =>
      (FX35_first 3279 65536 q69.2).bind fun q71 =>
      (FX35_first 3283 655360 q71.2).bind fun q73 =>
      (FX35_first 3296 65536 q73.2).bind fun q75 =>
      (FX35_first 3297 1 q75.2).bind fun q77 =>
      (FX35_primitives N 1000000122 q77.2).bind fun q79 =>
      (FX35_primitives N 1000000123 q79.2).bind fun q81 =>
      some ((), q81.2)
    else
      (uQI s 265 (iadd 3299 l1) (-1)).bind fun σ84 =>
      if l1 < 97 then
        FX35_clear_b237 N (FX35_clear_b207 N n) l1 σ84
      else
        if l1 ≤ 122 then
          FX35_clear_b249 N (FX35_clear_b207 N n) l1 σ84
        else
          FX35_clear_b237 N (FX35_clear_b207 N n) l1 σ84
theorem SX35_clear_b207 {m b : Nat} {φ0 : Nat → Nat} {σo : fS} (hm : 1 ≤ m) {N : Nat} {q : Unit × fS} : ∀ {n : Nat} {φ : Nat → Nat} {h : eH} {s : fS} {l1' : Int32} {l1 : Int}, fC m b φ0 σo φ h s → l1' = iI l1 → r32 l1 → FX35_clear_b207 N n l1 s = some q → gG m b φ0 σo lU q (fX35_clear_b207 N n 192 l1' h) := by
  intro n
  induction n with
 | zero => intro φ h s l1' l1 R el1 rl1 hF; simp [FX35_clear_b207] at hF
  | succ n ih =>
    intro φ h s l1' l1 R el1 rl1 hF
    subst el1
    rw [FX35_clear_b207] at hF
    rw [fX35_clear_b207]
    refine s_if (i_le (c_lit 256 256 rfl) rfl ⟨by decide, by decide⟩ rl1) hF (fun c1 hF => ?_) (fun c1 hF => ?_)
    ·
      refine s_gAs R (t_192 hm R.S) (Nat.le_of_ble_eq_true rfl) rfl (o_192_22 hm R.S) (a_265 hm R) ?_
      refine s_qI R (u_265 hm R.S).1 (u_265 hm R.S).2 (by decide) (a_265 hm R) (c_lit 3811 3811 rfl) ⟨by decide, by decide⟩ (c_lit (-1) (-1) rfl) ⟨by decide, by decide⟩ hF (fun h3 σ4 R3 T3 hF => ?_)
      refine s_kok R3 (t_192 hm R3.S) (Nat.le_of_ble_eq_true rfl) ?_
      refine s_call R3 (Nat.zero_le _) (fun _ hq => SX35_first (b := 0) hm (R3.rf) (c_lit 1552 1552 rfl) ⟨by decide, by decide⟩ (c_lit 0 0 rfl) ⟨by decide, by decide⟩ hq) hF (fun f5 rv5 h5 q7 R5 e5 E5 hF => ?_)
      refine s_kok R5 (t_192 hm R5.S) (Nat.le_of_ble_eq_true rfl) ?_
      refine s_call R5 (Nat.zero_le _) (fun _ hq => SX35_first (b := 0) hm (R5.rf) (c_lit 1583 1583 rfl) ⟨by decide, by decide⟩ (c_lit 1 1 rfl) ⟨by decide, by decide⟩ hq) hF (fun f7 rv7 h7 q9 R7 e7 E7 hF => ?_)
      refine s_kok R7 (t_192 hm R7.S) (Nat.le_of_ble_eq_true rfl) ?_
      refine s_call R7 (Nat.zero_le _) (fun _ hq => SX35_first (b := 0) hm (R7.rf) (c_lit 1585 1585 rfl) ⟨by decide, by decide⟩ (c_lit 2 2 rfl) ⟨by decide, by decide⟩ hq) hF (fun f9 rv9 h9 q11 R9 e9 E9 hF => ?_)
      refine s_kok R9 (t_192 hm R9.S) (Nat.le_of_ble_eq_true rfl) ?_
      refine s_call R9 (Nat.zero_le _) (fun _ hq => SX35_first (b := 0) hm (R9.rf) (c_lit 1496 1496 rfl) ⟨by decide, by decide⟩ (c_lit 3 3 rfl) ⟨by decide, by decide⟩ hq) hF (fun f11 rv11 h11 q13 R11 e11 E11 hF => ?_)
      refine s_kok R11 (t_192 hm R11.S) (Nat.le_of_ble_eq_true rfl) ?_
      refine s_call R11 (Nat.zero_le _) (fun _ hq => SX35_first (b := 0) hm (R11.rf) (c_lit 1498 1498 rfl) ⟨by decide, by decide⟩ (c_lit 4 4 rfl) ⟨by decide, by decide⟩ hq) hF (fun f13 rv13 h13 q15 R13 e13 E13 hF => ?_)
      refine s_kok R13 (t_192 hm R13.S) (Nat.le_of_ble_eq_true rfl) ?_
      refine s_call R13 (Nat.zero_le _) (fun _ hq => SX35_first (b := 0) hm (R13.rf) (c_lit 1473 1473 rfl) ⟨by decide, by decide⟩ (c_lit 5 5 rfl) ⟨by decide, by decide⟩ hq) hF (fun f15 rv15 h15 q17 R15 e15 E15 hF => ?_)
      refine s_kok R15 (t_192 hm R15.S) (Nat.le_of_ble_eq_true rfl) ?_
      refine s_call R15 (Nat.zero_le _) (fun _ hq => SX35_first (b := 0) hm (R15.rf) (c_lit 1495 1495 rfl) ⟨by decide, by decide⟩ (c_lit 6 6 rfl) ⟨by decide, by decide⟩ hq) hF (fun f17 rv17 h17 q19 R17 e17 E17 hF => ?_)
      refine s_kok R17 (t_192 hm R17.S) (Nat.le_of_ble_eq_true rfl) ?_
      refine s_call R17 (Nat.zero_le _) (fun _ hq => SX35_first (b := 0) hm (R17.rf) (c_lit 1554 1554 rfl) ⟨by decide, by decide⟩ (c_lit 7 7 rfl) ⟨by decide, by decide⟩ hq) hF (fun f19 rv19 h19 q21 R19 e19 E19 hF => ?_)
      refine s_kok R19 (t_192 hm R19.S) (Nat.le_of_ble_eq_true rfl) ?_
      refine s_call R19 (Nat.zero_le _) (fun _ hq => SX35_first (b := 0) hm (R19.rf) (c_lit 1555 1555 rfl) ⟨by decide, by decide⟩ (c_lit 8 8 rfl) ⟨by decide, by decide⟩ hq) hF (fun f21 rv21 h21 q23 R21 e21 E21 hF => ?_)
      refine s_kok R21 (t_192 hm R21.S) (Nat.le_of_ble_eq_true rfl) ?_
      refine s_call R21 (Nat.zero_le _) (fun _ hq => SX35_first (b := 0) hm (R21.rf) (c_lit 1460 1460 rfl) ⟨by decide, by decide⟩ (c_lit 9 9 rfl) ⟨by decide, by decide⟩ hq) hF (fun f23 rv23 h23 q25 R23 e23 E23 hF => ?_)
      refine s_kok R23 (t_192 hm R23.S) (Nat.le_of_ble_eq_true rfl) ?_
      refine s_call R23 (Nat.zero_le _) (fun _ hq => SX35_first (b := 0) hm (R23.rf) (c_lit 1492 1492 rfl) ⟨by decide, by decide⟩ (c_lit 10 10 rfl) ⟨by decide, by decide⟩ hq) hF (fun f25 rv25 h25 q27 R25 e25 E25 hF => ?_)
      refine s_kok R25 (t_192 hm R25.S) (Nat.le_of_ble_eq_true rfl) ?_
      refine s_call R25 (Nat.zero_le _) (fun _ hq => SX35_first (b := 0) hm (R25.rf) (c_lit 1469 1469 rfl) ⟨by decide, by decide⟩ (c_lit 10 10 rfl) ⟨by decide, by decide⟩ hq) hF (fun f27 rv27 h27 q29 R27 e27 E27 hF => ?_)
      refine s_kok R27 (t_192 hm R27.S) (Nat.le_of_ble_eq_true rfl) ?_
      refine s_call R27 (Nat.zero_le _) (fun _ hq => SX35_first (b := 0) hm (R27.rf) (c_lit 1586 1586 rfl) ⟨by decide, by decide⟩ (c_lit 13 13 rfl) ⟨by decide, by decide⟩ hq) hF (fun f29 rv29 h29 q31 R29 e29 E29 hF => ?_)
      refine s_kok R29 (t_192 hm R29.S) (Nat.le_of_ble_eq_true rfl) ?_
      refine s_call R29 (Nat.zero_le _) (fun _ hq => SX35_first (b := 0) hm (R29.rf) (c_lit 1497 1497 rfl) ⟨by decide, by decide⟩ (c_lit 14 14 rfl) ⟨by decide, by decide⟩ hq) hF (fun f31 rv31 h31 q33 R31 e31 E31 hF => ?_)
      refine s_kok R31 (t_192 hm R31.S) (Nat.le_of_ble_eq_true rfl) ?_
      refine s_call R31 (Nat.zero_le _) (fun _ hq => SX35_first (b := 0) hm (R31.rf) (c_lit 1587 1587 rfl) ⟨by decide, by decide⟩ (c_lit 15 15 rfl) ⟨by decide, by decide⟩ hq) hF (fun f33 rv33 h33 q35 R33 e33 E33 hF => ?_)
      refine s_kok R33 (t_192 hm R33.S) (Nat.le_of_ble_eq_true rfl) ?_
      refine s_call R33 (Nat.zero_le _) (fun _ hq => SX35_first (b := 0) hm (R33.rf) (c_lit 1972 1972 rfl) ⟨by decide, by decide⟩ (c_lit 100 100 rfl) ⟨by decide, by decide⟩ hq) hF (fun f35 rv35 h35 q37 R35 e35 E35 hF => ?_)
      refine s_kok R35 (t_192 hm R35.S) (Nat.le_of_ble_eq_true rfl) ?_
      refine s_call R35 (Nat.zero_le _) (fun _ hq => SX35_first (b := 0) hm (R35.rf) (c_lit 1973 1973 rfl) ⟨by decide, by decide⟩ (c_lit 200 200 rfl) ⟨by decide, by decide⟩ hq) hF (fun f37 rv37 h37 q39 R37 e37 E37 hF => ?_)
      refine s_kok R37 (t_192 hm R37.S) (Nat.le_of_ble_eq_true rfl) ?_
      refine s_call R37 (Nat.zero_le _) (fun _ hq => SX35_first (b := 0) hm (R37.rf) (c_lit 1974 1974 rfl) ⟨by decide, by decide⟩ (c_lit 10 10 rfl) ⟨by decide, by decide⟩ hq) hF (fun f39 rv39 h39 q41 R39 e39 E39 hF => ?_)
      refine s_kok R39 (t_192 hm R39.S) (Nat.le_of_ble_eq_true rfl) ?_
      refine s_call R39 (Nat.zero_le _) (fun _ hq => SX35_first (b := 0) hm (R39.rf) (c_lit 1975 1975 rfl) ⟨by decide, by decide⟩ (c_lit 50 50 rfl) ⟨by decide, by decide⟩ hq) hF (fun f41 rv41 h41 q43 R41 e41 E41 hF => ?_)
      refine s_kok R41 (t_192 hm R41.S) (Nat.le_of_ble_eq_true rfl) ?_
      refine s_call R41 (Nat.zero_le _) (fun _ hq => SX35_first (b := 0) hm (R41.rf) (c_lit 1976 1976 rfl) ⟨by decide, by decide⟩ (c_lit 50 50 rfl) ⟨by decide, by decide⟩ hq) hF (fun f43 rv43 h43 q45 R43 e43 E43 hF => ?_)
      refine s_kok R43 (t_192 hm R43.S) (Nat.le_of_ble_eq_true rfl) ?_
      refine s_call R43 (Nat.zero_le _) (fun _ hq => SX35_first (b := 0) hm (R43.rf) (c_lit 1977 1977 rfl) ⟨by decide, by decide⟩ (c_lit 150 150 rfl) ⟨by decide, by decide⟩ hq) hF (fun f45 rv45 h45 q47 R45 e45 E45 hF => ?_)
      refine s_kok R45 (t_192 hm R45.S) (Nat.le_of_ble_eq_true rfl) ?_
      refine s_call R45 (Nat.zero_le _) (fun _ hq => SX35_first (b := 0) hm (R45.rf) (c_lit 1978 1978 rfl) ⟨by decide, by decide⟩ (c_lit 150 150 rfl) ⟨by decide, by decide⟩ hq) hF (fun f47 rv47 h47 q49 R47 e47 E47 hF => ?_)
      refine s_kok R47 (t_192 hm R47.S) (Nat.le_of_ble_eq_true rfl) ?_
      refine s_call R47 (Nat.zero_le _) (fun _ hq => SX35_first (b := 0) hm (R47.rf) (c_lit 1979 1979 rfl) ⟨by decide, by decide⟩ (c_lit 100 100 rfl) ⟨by decide, by decide⟩ hq) hF (fun f49 rv49 h49 q51 R49 e49 E49 hF => ?_)
      refine s_kok R49 (t_192 hm R49.S) (Nat.le_of_ble_eq_true rfl) ?_
      refine s_call R49 (Nat.zero_le _) (fun _ hq => SX35_first (b := 0) hm (R49.rf) (c_lit 1981 1981 rfl) ⟨by decide, by decide⟩ (c_lit 10000 10000 rfl) ⟨by decide, by decide⟩ hq) hF (fun f51 rv51 h51 q53 R51 e51 E51 hF => ?_)
      refine s_kok R51 (t_192 hm R51.S) (Nat.le_of_ble_eq_true rfl) ?_
      refine s_call R51 (Nat.zero_le _) (fun _ hq => SX35_first (b := 0) hm (R51.rf) (c_lit 1982 1982 rfl) ⟨by decide, by decide⟩ (c_lit 10000 10000 rfl) ⟨by decide, by decide⟩ hq) hF (fun f53 rv53 h53 q55 R53 e53 E53 hF => ?_)
      refine s_kok R53 (t_192 hm R53.S) (Nat.le_of_ble_eq_true rfl) ?_
      refine s_call R53 (Nat.zero_le _) (fun _ hq => SX35_first (b := 0) hm (R53.rf) (c_lit 1983 1983 rfl) ⟨by decide, by decide⟩ (c_lit 5000 5000 rfl) ⟨by decide, by decide⟩ hq) hF (fun f55 rv55 h55 q57 R55 e55 E55 hF => ?_)
      refine s_kok R55 (t_192 hm R55.S) (Nat.le_of_ble_eq_true rfl) ?_
      refine s_call R55 (Nat.zero_le _) (fun _ hq => SX35_first (b := 0) hm (R55.rf) (c_lit 2241 2241 rfl) ⟨by decide, by decide⟩ (c_lit 26214400 26214400 rfl) ⟨by decide, by decide⟩ hq) hF (fun f57 rv57 h57 q59 R57 e57 E57 hF => ?_)
      refine s_kok R57 (t_192 hm R57.S) (Nat.le_of_ble_eq_true rfl) ?_
      refine s_call R57 (Nat.zero_le _) (fun _ hq => SX35_first (b := 0) hm (R57.rf) (c_lit 2242 2242 rfl) ⟨by decide, by decide⟩ (c_lit 39321600 39321600 rfl) ⟨by decide, by decide⟩ hq) hF (fun f59 rv59 h59 q61 R59 e59 E59 hF => ?_)
      refine s_kok R59 (t_192 hm R59.S) (Nat.le_of_ble_eq_true rfl) ?_
      refine s_call R59 (Nat.zero_le _) (fun _ hq => SX35_first (b := 0) hm (R59.rf) (c_lit 2243 2243 rfl) ⟨by decide, by decide⟩ (c_lit 1310720 1310720 rfl) ⟨by decide, by decide⟩ hq) hF (fun f61 rv61 h61 q63 R61 e61 E61 hF => ?_)
      refine s_kok R61 (t_192 hm R61.S) (Nat.le_of_ble_eq_true rfl) ?_
      refine s_call R61 (Nat.zero_le _) (fun _ hq => SX35_first (b := 0) hm (R61.rf) (c_lit 2245 2245 rfl) ⟨by decide, by decide⟩ (c_lit 262144 262144 rfl) ⟨by decide, by decide⟩ hq) hF (fun f63 rv63 h63 q65 R63 e63 E63 hF => ?_)
      refine s_kok R63 (t_192 hm R63.S) (Nat.le_of_ble_eq_true rfl) ?_
      refine s_call R63 (Nat.zero_le _) (fun _ hq => SX35_first (b := 0) hm (R63.rf) (c_lit 3272 3272 rfl) ⟨by decide, by decide⟩ (c_lit 65536 65536 rfl) ⟨by decide, by decide⟩ hq) hF (fun f65 rv65 h65 q67 R65 e65 E65 hF => ?_)
      refine s_kok R65 (t_192 hm R65.S) (Nat.le_of_ble_eq_true rfl) ?_
      refine s_call R65 (Nat.zero_le _) (fun _ hq => SX35_first (b := 0) hm (R65.rf) (c_lit 3275 3275 rfl) ⟨by decide, by decide⟩ (c_lit 786432 786432 rfl) ⟨by decide, by decide⟩ hq) hF (fun f67 rv67 h67 q69 R67 e67 E67 hF => ?_)
      refine s_kok R67 (t_192 hm R67.S) (Nat.le_of_ble_eq_true rfl) ?_
      refine s_call R67 (Nat.zero_le _) (fun _ hq => SX35_first (b := 0) hm (R67.rf) (c_lit 3279 3279 rfl) ⟨by decide, by decide⟩ (c_lit 65536 65536 rfl) ⟨by decide, by decide⟩ hq) hF (fun f69 rv69 h69 q71 R69 e69 E69 hF => ?_)
      refine s_kok R69 (t_192 hm R69.S) (Nat.le_of_ble_eq_true rfl) ?_
      refine s_call R69 (Nat.zero_le _) (fun _ hq => SX35_first (b := 0) hm (R69.rf) (c_lit 3283 3283 rfl) ⟨by decide, by decide⟩ (c_lit 655360 655360 rfl) ⟨by decide, by decide⟩ hq) hF (fun f71 rv71 h71 q73 R71 e71 E71 hF => ?_)
      refine s_kok R71 (t_192 hm R71.S) (Nat.le_of_ble_eq_true rfl) ?_
      refine s_call R71 (Nat.zero_le _) (fun _ hq => SX35_first (b := 0) hm (R71.rf) (c_lit 3296 3296 rfl) ⟨by decide, by decide⟩ (c_lit 65536 65536 rfl) ⟨by decide, by decide⟩ hq) hF (fun f73 rv73 h73 q75 R73 e73 E73 hF => ?_)
      refine s_kok R73 (t_192 hm R73.S) (Nat.le_of_ble_eq_true rfl) ?_
      refine s_call R73 (Nat.zero_le _) (fun _ hq => SX35_first (b := 0) hm (R73.rf) (c_lit 3297 3297 rfl) ⟨by decide, by decide⟩ (c_lit 1 1 rfl) ⟨by decide, by decide⟩ hq) hF (fun f75 rv75 h75 q77 R75 e75 E75 hF => ?_)
      refine s_kok R75 (t_192 hm R75.S) (Nat.le_of_ble_eq_true rfl) ?_
      refine s_call R75 (Nat.zero_le _) (fun _ hq => SX35_primitives (b := 0) (N := N) hm (R75.rf) hq) hF (fun f77 rv77 h77 q79 R77 e77 E77 hF => ?_)
      refine s_kok R77 (t_192 hm R77.S) (Nat.le_of_ble_eq_true rfl) ?_
      refine s_call R77 (Nat.zero_le _) (fun _ hq => SX35_primitives (b := 0) (N := N) hm (R77.rf) hq) hF (fun f79 rv79 h79 q81 R79 e79 E79 hF => ?_)
      exact g_ret R79 hF trivial
    ·
      refine s_gAs R (t_192 hm R.S) (Nat.le_of_ble_eq_true rfl) rfl (o_192_22 hm R.S) (a_265 hm R) ?_
      refine s_qI R (u_265 hm R.S).1 (u_265 hm R.S).2 (by decide) (a_265 hm R) (c_add (c_lit 3299 3299 rfl) rfl) (rr_I _) (c_lit (-1) (-1) rfl) ⟨by decide, by decide⟩ hF (fun h81 σ84 R81 T81 hF => ?_)
      refine s_if (i_lt rfl (c_lit 97 97 rfl) rl1 ⟨by decide, by decide⟩) hF (fun c82 hF => ?_) (fun c82 hF => ?_)
      ·
        exact SX35_clear_b237 (N := N) (k207 := fX35_clear_b207 N n) (K207 := FX35_clear_b207 N n) hm @ih R81 rfl rl1 hF
      ·
        refine s_if (i_le rfl (c_lit 122 122 rfl) rl1 ⟨by decide, by decide⟩) hF (fun c83 hF => ?_) (fun c83 hF => ?_)
        ·
          exact SX35_clear_b249 (N := N) (k207 := fX35_clear_b207 N n) (K207 := FX35_clear_b207 N n) hm @ih R81 rfl rl1 hF
        ·
          exact SX35_clear_b237 (N := N) (k207 := fX35_clear_b207 N n) (K207 := FX35_clear_b207 N n) hm @ih R81 rfl rl1 hF
def FX35_clear_b185 (N : Nat) : Nat → Int → fS → Option (Unit × fS)
  | 0, _, _ => none
  | n + 1, l1, s =>
    if 3812 ≤ l1 then
      FX35_clear_b207 N N 0 s
    else
      (uQI s 265 l1 0).bind fun σ4 =>
      FX35_clear_b185 N n (iadd l1 1) σ4
theorem SX35_clear_b185 {m b : Nat} {φ0 : Nat → Nat} {σo : fS} (hm : 1 ≤ m) {N : Nat} {q : Unit × fS} : ∀ {n : Nat} {φ : Nat → Nat} {h : eH} {s : fS} {l1' : Int32} {l1 : Int}, fC m b φ0 σo φ h s → l1' = iI l1 → r32 l1 → FX35_clear_b185 N n l1 s = some q → gG m b φ0 σo lU q (fX35_clear_b185 N n 192 l1' h) := by
  intro n
  induction n with
 | zero => intro φ h s l1' l1 R el1 rl1 hF; simp [FX35_clear_b185] at hF
  | succ n ih =>
    intro φ h s l1' l1 R el1 rl1 hF
    subst el1
    rw [FX35_clear_b185] at hF
    rw [fX35_clear_b185]
    refine s_if (i_le (c_lit 3812 3812 rfl) rfl ⟨by decide, by decide⟩ rl1) hF (fun c1 hF => ?_) (fun c1 hF => ?_)
    ·
      exact SX35_clear_b207 (N := N) hm R (c_lit 0 0 rfl) ⟨by decide, by decide⟩ hF
    ·
      refine s_gAs R (t_192 hm R.S) (Nat.le_of_ble_eq_true rfl) rfl (o_192_22 hm R.S) (a_265 hm R) ?_
      refine s_qI R (u_265 hm R.S).1 (u_265 hm R.S).2 (by decide) (a_265 hm R) rfl rl1 (c_lit 0 0 rfl) ⟨by decide, by decide⟩ hF (fun h3 σ4 R3 T3 hF => ?_)
      exact ih R3 (c_add rfl (c_lit 1 1 rfl)) (rr_I _) hF
def FX35_clear (N : Nat) (s : fS) : Option (Unit × fS) :=
  (uPI s 192 9 0).bind fun σ1 =>
  (uPI σ1 192 10 0).bind fun σ3 =>
  (uPI σ3 192 12 0).bind fun σ5 =>
  (uPI σ5 192 13 0).bind fun σ7 =>
  (uPI σ7 192 14 0).bind fun σ9 =>
  (uPI σ9 192 21 0).bind fun σ11 =>
  (uPI σ11 192 30 0).bind fun σ13 =>
  (uPI σ13 192 35 0).bind fun σ15 =>
  (uPI σ15 192 37 0).bind fun σ17 =>
  (uPI σ17 192 41 0).bind fun σ19 =>
  (uPI σ19 192 44 0).bind fun σ21 =>
  (uPI σ21 192 45 0).bind fun σ23 =>
  (uPI σ23 192 46 0).bind fun σ25 =>
  (uPZ σ25 192 47 0).bind fun σ27 =>
  (uPI σ27 192 15 0).bind fun σ29 =>
  (uPI σ29 192 48 0).bind fun σ31 =>
  (uPI σ31 192 51 1).bind fun σ33 =>
  (uQI σ33 285 0 0).bind fun σ37 =>
  (uQI σ37 286 0 0).bind fun σ41 =>
  (uQI σ41 287 0 (-2147483647)).bind fun σ45 =>
  (uPI σ45 192 56 0).bind fun σ47 =>
  (uPI σ47 192 58 0).bind fun σ49 =>
  (uPI σ49 192 65 0).bind fun σ51 =>
  (uPI σ51 192 86 0).bind fun σ53 =>
  (uPZ σ53 192 94 0).bind fun σ55 =>
  (uPI σ55 192 95 0).bind fun σ57 =>
  (uPI σ57 192 96 (-1)).bind fun σ59 =>
  (uPI σ59 192 97 1073741823).bind fun σ61 =>
  (uPI σ61 192 101 0).bind fun σ63 =>
  (uPI σ63 192 110 0).bind fun σ65 =>
  (uPI σ65 192 111 0).bind fun σ67 =>
  (uPI σ67 192 112 0).bind fun σ69 =>
  (uPI σ69 192 113 0).bind fun σ71 =>
  (uPI σ71 213 21 0).bind fun σ75 =>
  FX35_clear_b185 N N 0 σ75
theorem SX35_clear {m b : Nat} {φ0 : Nat → Nat} {σo : fS} (hm : 1 ≤ m) {N : Nat} {q : Unit × fS} {φ : Nat → Nat} {h : eH} {s : fS} (R : fC m b φ0 σo φ h s) (hF : FX35_clear N s = some q) : gG m b φ0 σo lU q (fX35_clear N 192 h) := by
  unfold FX35_clear at hF
  unfold fX35_clear
  refine s_pI R (t_192 hm R.S) (Nat.le_of_ble_eq_true rfl) rfl (c_lit 0 0 rfl) ⟨by decide, by decide⟩ hF (fun h1 σ1 R1 T1 hF => ?_)
  refine s_pI R1 (t_192 hm R1.S) (Nat.le_of_ble_eq_true rfl) rfl (c_lit 0 0 rfl) ⟨by decide, by decide⟩ hF (fun h2 σ3 R2 T2 hF => ?_)
  refine s_pI R2 (t_192 hm R2.S) (Nat.le_of_ble_eq_true rfl) rfl (c_lit 0 0 rfl) ⟨by decide, by decide⟩ hF (fun h3 σ5 R3 T3 hF => ?_)
  refine s_pI R3 (t_192 hm R3.S) (Nat.le_of_ble_eq_true rfl) rfl (c_lit 0 0 rfl) ⟨by decide, by decide⟩ hF (fun h4 σ7 R4 T4 hF => ?_)
  refine s_pI R4 (t_192 hm R4.S) (Nat.le_of_ble_eq_true rfl) rfl (c_lit 0 0 rfl) ⟨by decide, by decide⟩ hF (fun h5 σ9 R5 T5 hF => ?_)
  refine s_pI R5 (t_192 hm R5.S) (Nat.le_of_ble_eq_true rfl) rfl (c_lit 0 0 rfl) ⟨by decide, by decide⟩ hF (fun h6 σ11 R6 T6 hF => ?_)
  refine s_pI R6 (t_192 hm R6.S) (Nat.le_of_ble_eq_true rfl) rfl (c_lit 0 0 rfl) ⟨by decide, by decide⟩ hF (fun h7 σ13 R7 T7 hF => ?_)
  refine s_pI R7 (t_192 hm R7.S) (Nat.le_of_ble_eq_true rfl) rfl (c_lit 0 0 rfl) ⟨by decide, by decide⟩ hF (fun h8 σ15 R8 T8 hF => ?_)
  refine s_pI R8 (t_192 hm R8.S) (Nat.le_of_ble_eq_true rfl) rfl (c_lit 0 0 rfl) ⟨by decide, by decide⟩ hF (fun h9 σ17 R9 T9 hF => ?_)
  refine s_pI R9 (t_192 hm R9.S) (Nat.le_of_ble_eq_true rfl) rfl (c_lit 0 0 rfl) ⟨by decide, by decide⟩ hF (fun h10 σ19 R10 T10 hF => ?_)
  refine s_pI R10 (t_192 hm R10.S) (Nat.le_of_ble_eq_true rfl) rfl (c_lit 0 0 rfl) ⟨by decide, by decide⟩ hF (fun h11 σ21 R11 T11 hF => ?_)
  refine s_pI R11 (t_192 hm R11.S) (Nat.le_of_ble_eq_true rfl) rfl (c_lit 0 0 rfl) ⟨by decide, by decide⟩ hF (fun h12 σ23 R12 T12 hF => ?_)
  refine s_pI R12 (t_192 hm R12.S) (Nat.le_of_ble_eq_true rfl) rfl (c_lit 0 0 rfl) ⟨by decide, by decide⟩ hF (fun h13 σ25 R13 T13 hF => ?_)
  refine s_pZ R13 (t_192 hm R13.S) (Nat.le_of_ble_eq_true rfl) rfl (c_lit 0 0 rfl) ⟨by decide, by decide⟩ hF (fun h14 σ27 R14 T14 hF => ?_)
  refine s_pI R14 (t_192 hm R14.S) (Nat.le_of_ble_eq_true rfl) rfl (c_lit 0 0 rfl) ⟨by decide, by decide⟩ hF (fun h15 σ29 R15 T15 hF => ?_)
  refine s_pI R15 (t_192 hm R15.S) (Nat.le_of_ble_eq_true rfl) rfl (c_lit 0 0 rfl) ⟨by decide, by decide⟩ hF (fun h16 σ31 R16 T16 hF => ?_)
  refine s_pI R16 (t_192 hm R16.S) (Nat.le_of_ble_eq_true rfl) rfl (c_lit 1 1 rfl) ⟨by decide, by decide⟩ hF (fun h17 σ33 R17 T17 hF => ?_)
  refine s_gAs R17 (t_192 hm R17.S) (Nat.le_of_ble_eq_true rfl) rfl (o_192_52 hm R17.S) (a_285 hm R17) ?_
  refine s_qI R17 (u_285 hm R17.S).1 (u_285 hm R17.S).2 (by decide) (a_285 hm R17) (c_lit 0 0 rfl) ⟨by decide, by decide⟩ (c_lit 0 0 rfl) ⟨by decide, by decide⟩ hF (fun h19 σ37 R19 T19 hF => ?_)
  refine s_gAs R19 (t_192 hm R19.S) (Nat.le_of_ble_eq_true rfl) rfl (o_192_53 hm R19.S) (a_286 hm R19) ?_
  refine s_qI R19 (u_286 hm R19.S).1 (u_286 hm R19.S).2 (by decide) (a_286 hm R19) (c_lit 0 0 rfl) ⟨by decide, by decide⟩ (c_lit 0 0 rfl) ⟨by decide, by decide⟩ hF (fun h21 σ41 R21 T21 hF => ?_)
  refine s_gAs R21 (t_192 hm R21.S) (Nat.le_of_ble_eq_true rfl) rfl (o_192_54 hm R21.S) (a_287 hm R21) ?_
  refine s_qI R21 (u_287 hm R21.S).1 (u_287 hm R21.S).2 (by decide) (a_287 hm R21) (c_lit 0 0 rfl) ⟨by decide, by decide⟩ (c_lit (-2147483647) (-2147483647) rfl) ⟨by decide, by decide⟩ hF (fun h23 σ45 R23 T23 hF => ?_)
  refine s_pI R23 (t_192 hm R23.S) (Nat.le_of_ble_eq_true rfl) rfl (c_lit 0 0 rfl) ⟨by decide, by decide⟩ hF (fun h24 σ47 R24 T24 hF => ?_)
  refine s_pI R24 (t_192 hm R24.S) (Nat.le_of_ble_eq_true rfl) rfl (c_lit 0 0 rfl) ⟨by decide, by decide⟩ hF (fun h25 σ49 R25 T25 hF => ?_)
  refine s_pI R25 (t_192 hm R25.S) (Nat.le_of_ble_eq_true rfl) rfl (c_lit 0 0 rfl) ⟨by decide, by decide⟩ hF (fun h26 σ51 R26 T26 hF => ?_)
  refine s_pI R26 (t_192 hm R26.S) (Nat.le_of_ble_eq_true rfl) rfl (c_lit 0 0 rfl) ⟨by decide, by decide⟩ hF (fun h27 σ53 R27 T27 hF => ?_)
  refine s_pZ R27 (t_192 hm R27.S) (Nat.le_of_ble_eq_true rfl) rfl (c_lit 0 0 rfl) ⟨by decide, by decide⟩ hF (fun h28 σ55 R28 T28 hF => ?_)
  refine s_pI R28 (t_192 hm R28.S) (Nat.le_of_ble_eq_true rfl) rfl (c_lit 0 0 rfl) ⟨by decide, by decide⟩ hF (fun h29 σ57 R29 T29 hF => ?_)
  refine s_pI R29 (t_192 hm R29.S) (Nat.le_of_ble_eq_true rfl) rfl (c_lit (-1) (-1) rfl) ⟨by decide, by decide⟩ hF (fun h30 σ59 R30 T30 hF => ?_)
  refine s_pI R30 (t_192 hm R30.S) (Nat.le_of_ble_eq_true rfl) rfl (c_lit 1073741823 1073741823 rfl) ⟨by decide, by decide⟩ hF (fun h31 σ61 R31 T31 hF => ?_)
  refine s_pI R31 (t_192 hm R31.S) (Nat.le_of_ble_eq_true rfl) rfl (c_lit 0 0 rfl) ⟨by decide, by decide⟩ hF (fun h32 σ63 R32 T32 hF => ?_)
  refine s_pI R32 (t_192 hm R32.S) (Nat.le_of_ble_eq_true rfl) rfl (c_lit 0 0 rfl) ⟨by decide, by decide⟩ hF (fun h33 σ65 R33 T33 hF => ?_)
  refine s_pI R33 (t_192 hm R33.S) (Nat.le_of_ble_eq_true rfl) rfl (c_lit 0 0 rfl) ⟨by decide, by decide⟩ hF (fun h34 σ67 R34 T34 hF => ?_)
  refine s_pI R34 (t_192 hm R34.S) (Nat.le_of_ble_eq_true rfl) rfl (c_lit 0 0 rfl) ⟨by decide, by decide⟩ hF (fun h35 σ69 R35 T35 hF => ?_)
  refine s_pI R35 (t_192 hm R35.S) (Nat.le_of_ble_eq_true rfl) rfl (c_lit 0 0 rfl) ⟨by decide, by decide⟩ hF (fun h36 σ71 R36 T36 hF => ?_)
  refine s_gO R36 (t_192 hm R36.S) (Nat.le_of_ble_eq_true rfl) rfl (o_192_6 hm R36.S) ?_
  refine s_pI R36 (t_213 hm R36.S) (Nat.le_of_ble_eq_true rfl) rfl (c_lit 0 0 rfl) ⟨by decide, by decide⟩ hF (fun h38 σ75 R38 T38 hF => ?_)
  exact SX35_clear_b185 (N := N) hm R38 (c_lit 0 0 rfl) ⟨by decide, by decide⟩ hF
def FX35_about_b16 (l1 : Int) (s1 : Int) (s : fS) : Option (Int × fS) :=
  (uPI s 192 0 s1).bind fun σ1 =>
  if (σ1.i 192 0) ≤ 0 then
    if l1 = 0 then
      some ((σ1.i 192 44), σ1)
    else
      if l1 = 1 then
        some ((σ1.i 192 101), σ1)
      else
        if l1 = 2 then
          some ((σ1.i 192 65), σ1)
        else
          if l1 = 3 then
            (uRI σ1 293 (σ1.i 192 65)).bind fun x20 =>
            some (x20, σ1)
          else
            if l1 = 4 then
              some ((σ1.i 192 111), σ1)
            else
              if l1 = 5 then
                some ((σ1.i 192 110), σ1)
              else
                if l1 = 6 then
                  some ((σ1.i 192 112), σ1)
                else
                  some ((σ1.i 192 113), σ1)
  else
    some (0, σ1)
theorem SX35_about_b16 {m b : Nat} {φ0 : Nat → Nat} {σo : fS} (hm : 1 ≤ m) {q : Int × fS} {φ : Nat → Nat} {h : eH} {s : fS} {l1' : Int32} {l1 : Int} {s1' : Int32} {s1 : Int} (R : fC m b φ0 σo φ h s) (el1 : l1' = iI l1) (rl1 : r32 l1) (es1 : s1' = iI s1) (rs1 : r32 s1) (hF : FX35_about_b16 l1 s1 s = some q) : gG m b φ0 σo lI q (fX35_about_b16 192 l1' 192 s1' h) := by
  subst el1; subst es1
  unfold FX35_about_b16 at hF
  unfold fX35_about_b16
  refine s_pI R (t_192 hm R.S) (Nat.le_of_ble_eq_true rfl) rfl rfl rs1 hF (fun h1 σ1 R1 T1 hF => ?_)
  refine s_gI R1 (t_192 hm R1.S) (Nat.le_of_ble_eq_true rfl) rfl ?_
  refine s_if (i_le rfl (c_lit 0 0 rfl) (R1.ri (t_192 hm R1.S) (Nat.le_of_ble_eq_true rfl) rfl) ⟨by decide, by decide⟩) hF (fun c3 hF => ?_) (fun c3 hF => ?_)
  ·
    refine s_if (i_eq rfl (c_lit 0 0 rfl) rl1 ⟨by decide, by decide⟩) hF (fun c4 hF => ?_) (fun c4 hF => ?_)
    ·
      refine s_gI R1 (t_192 hm R1.S) (Nat.le_of_ble_eq_true rfl) rfl ?_
      exact g_ret R1 hF ⟨rfl, (R1.ri (t_192 hm R1.S) (Nat.le_of_ble_eq_true rfl) rfl)⟩
    ·
      refine s_if (i_eq rfl (c_lit 1 1 rfl) rl1 ⟨by decide, by decide⟩) hF (fun c6 hF => ?_) (fun c6 hF => ?_)
      ·
        refine s_gI R1 (t_192 hm R1.S) (Nat.le_of_ble_eq_true rfl) rfl ?_
        exact g_ret R1 hF ⟨rfl, (R1.ri (t_192 hm R1.S) (Nat.le_of_ble_eq_true rfl) rfl)⟩
      ·
        refine s_if (i_eq rfl (c_lit 2 2 rfl) rl1 ⟨by decide, by decide⟩) hF (fun c8 hF => ?_) (fun c8 hF => ?_)
        ·
          refine s_gI R1 (t_192 hm R1.S) (Nat.le_of_ble_eq_true rfl) rfl ?_
          exact g_ret R1 hF ⟨rfl, (R1.ri (t_192 hm R1.S) (Nat.le_of_ble_eq_true rfl) rfl)⟩
        ·
          refine s_if (i_eq rfl (c_lit 3 3 rfl) rl1 ⟨by decide, by decide⟩) hF (fun c10 hF => ?_) (fun c10 hF => ?_)
          ·
            refine s_gAs R1 (t_192 hm R1.S) (Nat.le_of_ble_eq_true rfl) rfl (o_192_66 hm R1.S) (a_293 hm R1) ?_
            refine s_gI R1 (t_192 hm R1.S) (Nat.le_of_ble_eq_true rfl) rfl ?_
            refine s_rI R1 (u_293 hm R1.S).1 (u_293 hm R1.S).2 (by decide) (a_293 hm R1) rfl (R1.ri (t_192 hm R1.S) (Nat.le_of_ble_eq_true rfl) rfl) hF (fun x20 ra13 hF => ?_)
            exact g_ret R1 hF ⟨rfl, ra13⟩
          ·
            refine s_if (i_eq rfl (c_lit 4 4 rfl) rl1 ⟨by decide, by decide⟩) hF (fun c14 hF => ?_) (fun c14 hF => ?_)
            ·
              refine s_gI R1 (t_192 hm R1.S) (Nat.le_of_ble_eq_true rfl) rfl ?_
              exact g_ret R1 hF ⟨rfl, (R1.ri (t_192 hm R1.S) (Nat.le_of_ble_eq_true rfl) rfl)⟩
            ·
              refine s_if (i_eq rfl (c_lit 5 5 rfl) rl1 ⟨by decide, by decide⟩) hF (fun c16 hF => ?_) (fun c16 hF => ?_)
              ·
                refine s_gI R1 (t_192 hm R1.S) (Nat.le_of_ble_eq_true rfl) rfl ?_
                exact g_ret R1 hF ⟨rfl, (R1.ri (t_192 hm R1.S) (Nat.le_of_ble_eq_true rfl) rfl)⟩
              ·
                refine s_if (i_eq rfl (c_lit 6 6 rfl) rl1 ⟨by decide, by decide⟩) hF (fun c18 hF => ?_) (fun c18 hF => ?_)
                ·
                  refine s_gI R1 (t_192 hm R1.S) (Nat.le_of_ble_eq_true rfl) rfl ?_
                  exact g_ret R1 hF ⟨rfl, (R1.ri (t_192 hm R1.S) (Nat.le_of_ble_eq_true rfl) rfl)⟩
                ·
                  refine s_gI R1 (t_192 hm R1.S) (Nat.le_of_ble_eq_true rfl) rfl ?_
                  exact g_ret R1 hF ⟨rfl, (R1.ri (t_192 hm R1.S) (Nat.le_of_ble_eq_true rfl) rfl)⟩
  ·
    exact g_ret R1 hF ⟨(c_lit 0 0 rfl), ⟨by decide, by decide⟩⟩
def FX35_about_b11 (l1 : Int) (s : fS) : Option (Int × fS) :=
  FX35_about_b16 l1 1 s
theorem SX35_about_b11 {m b : Nat} {φ0 : Nat → Nat} {σo : fS} (hm : 1 ≤ m) {q : Int × fS} {φ : Nat → Nat} {h : eH} {s : fS} {l1' : Int32} {l1 : Int} (R : fC m b φ0 σo φ h s) (el1 : l1' = iI l1) (rl1 : r32 l1) (hF : FX35_about_b11 l1 s = some q) : gG m b φ0 σo lI q (fX35_about_b11 192 l1' 192 h) := by
  subst el1
  unfold FX35_about_b11 at hF
  unfold fX35_about_b11
  exact SX35_about_b16 hm R rfl rl1 (c_lit 1 1 rfl) ⟨by decide, by decide⟩ hF
def FX35_about (p0 : Int) (s : fS) : Option (Int × fS) :=
  if p0 < 0 then
    FX35_about_b11 p0 s
  else
    if p0 ≤ 7 then
      FX35_about_b16 p0 0 s
    else
      FX35_about_b11 p0 s
theorem SX35_about {m b : Nat} {φ0 : Nat → Nat} {σo : fS} (hm : 1 ≤ m) {q : Int × fS} {φ : Nat → Nat} {h : eH} {s : fS} {p0' : Int32} {p0 : Int} (R : fC m b φ0 σo φ h s) (ep0 : p0' = iI p0) (rp0 : r32 p0) (hF : FX35_about p0 s = some q) : gG m b φ0 σo lI q (fX35_about 192 p0' h) := by
  subst ep0
  unfold FX35_about at hF
  unfold fX35_about
  refine s_if (i_lt rfl (c_lit 0 0 rfl) rp0 ⟨by decide, by decide⟩) hF (fun c1 hF => ?_) (fun c1 hF => ?_)
  ·
    exact SX35_about_b11 hm R rfl rp0 hF
  ·
    refine s_if (i_le rfl (c_lit 7 7 rfl) rp0 ⟨by decide, by decide⟩) hF (fun c2 hF => ?_) (fun c2 hF => ?_)
    ·
      exact SX35_about_b16 hm R rfl rp0 (c_lit 0 0 rfl) ⟨by decide, by decide⟩ hF
    ·
      exact SX35_about_b11 hm R rfl rp0 hF
def FX35_isSolid_b19 (s0 : Int) (s : fS) : Option (Int × fS) :=
  uZ s0 (s0, s)
theorem SX35_isSolid_b19 {m b : Nat} {φ0 : Nat → Nat} {σo : fS} (hm : 1 ≤ m) {q : Int × fS} {φ : Nat → Nat} {h : eH} {s : fS} {s0' : Int32} {s0 : Int} (R : fC m b φ0 σo φ h s) (es0 : s0' = iI s0) (rs0 : r32 s0) (hF : FX35_isSolid_b19 s0 s = some q) : gG m b φ0 σo lI q (fX35_isSolid_b19 s0' h) := by
  subst es0
  unfold FX35_isSolid_b19 at hF
  unfold fX35_isSolid_b19
  exact g_z R rfl hF ⟨rfl, rs0⟩
def FX35_isSolid_b14 (s : fS) : Option (Int × fS) :=
  FX35_isSolid_b19 1 s
theorem SX35_isSolid_b14 {m b : Nat} {φ0 : Nat → Nat} {σo : fS} (hm : 1 ≤ m) {q : Int × fS} {φ : Nat → Nat} {h : eH} {s : fS} (R : fC m b φ0 σo φ h s) (hF : FX35_isSolid_b14 s = some q) : gG m b φ0 σo lI q (fX35_isSolid_b14 h) := by
  unfold FX35_isSolid_b14 at hF
  unfold fX35_isSolid_b14
  exact SX35_isSolid_b19 hm R (c_lit 1 1 rfl) ⟨by decide, by decide⟩ hF
def FX35_isSolid (p0 : Int) (s : fS) : Option (Int × fS) :=
  if p0 = 0 then
    FX35_isSolid_b14 s
  else
    if p0 = 1 then
      FX35_isSolid_b14 s
    else
      if ¬ (p0 = 5) then
        FX35_isSolid_b19 0 s
      else
        FX35_isSolid_b14 s
theorem SX35_isSolid {m b : Nat} {φ0 : Nat → Nat} {σo : fS} (hm : 1 ≤ m) {q : Int × fS} {φ : Nat → Nat} {h : eH} {s : fS} {p0' : Int32} {p0 : Int} (R : fC m b φ0 σo φ h s) (ep0 : p0' = iI p0) (rp0 : r32 p0) (hF : FX35_isSolid p0 s = some q) : gG m b φ0 σo lI q (fX35_isSolid p0' h) := by
  subst ep0
  unfold FX35_isSolid at hF
  unfold fX35_isSolid
  refine s_if (i_eq rfl (c_lit 0 0 rfl) rp0 ⟨by decide, by decide⟩) hF (fun c1 hF => ?_) (fun c1 hF => ?_)
  ·
    exact SX35_isSolid_b14 hm R hF
  ·
    refine s_if (i_eq rfl (c_lit 1 1 rfl) rp0 ⟨by decide, by decide⟩) hF (fun c2 hF => ?_) (fun c2 hF => ?_)
    ·
      exact SX35_isSolid_b14 hm R hF
    ·
      refine s_if (not_congr (i_eq rfl (c_lit 5 5 rfl) rp0 ⟨by decide, by decide⟩)) hF (fun c3 hF => ?_) (fun c3 hF => ?_)
      ·
        exact SX35_isSolid_b19 hm R (c_lit 0 0 rfl) ⟨by decide, by decide⟩ hF
      ·
        exact SX35_isSolid_b14 hm R hF
def FX35_isSize_b21 (s0 : Int) (s : fS) : Option (Int × fS) :=
  uZ s0 (s0, s)
theorem SX35_isSize_b21 {m b : Nat} {φ0 : Nat → Nat} {σo : fS} (hm : 1 ≤ m) {q : Int × fS} {φ : Nat → Nat} {h : eH} {s : fS} {s0' : Int32} {s0 : Int} (R : fC m b φ0 σo φ h s) (es0 : s0' = iI s0) (rs0 : r32 s0) (hF : FX35_isSize_b21 s0 s = some q) : gG m b φ0 σo lI q (fX35_isSize_b21 s0' h) := by
  subst es0
  unfold FX35_isSize_b21 at hF
  unfold fX35_isSize_b21
  exact g_z R rfl hF ⟨rfl, rs0⟩
def FX35_isSize_b20 (s : fS) : Option (Int × fS) :=
  FX35_isSize_b21 0 s
theorem SX35_isSize_b20 {m b : Nat} {φ0 : Nat → Nat} {σo : fS} (hm : 1 ≤ m) {q : Int × fS} {φ : Nat → Nat} {h : eH} {s : fS} (R : fC m b φ0 σo φ h s) (hF : FX35_isSize_b20 s = some q) : gG m b φ0 σo lI q (fX35_isSize_b20 h) := by
  unfold FX35_isSize_b20 at hF
  unfold fX35_isSize_b20
  exact SX35_isSize_b21 hm R (c_lit 0 0 rfl) ⟨by decide, by decide⟩ hF
def FX35_isSize (p0 : Int) (s : fS) : Option (Int × fS) :=
  if p0 < (-1073741823) then
    FX35_isSize_b20 s
  else
    if 1073741823 < p0 then
      FX35_isSize_b20 s
    else
      FX35_isSize_b21 1 s
theorem SX35_isSize {m b : Nat} {φ0 : Nat → Nat} {σo : fS} (hm : 1 ≤ m) {q : Int × fS} {φ : Nat → Nat} {h : eH} {s : fS} {p0' : Int64} {p0 : Int} (R : fC m b φ0 σo φ h s) (ep0 : p0' = iJ p0) (rp0 : r64 p0) (hF : FX35_isSize p0 s = some q) : gG m b φ0 σo lI q (fX35_isSize p0' h) := by
  subst ep0
  unfold FX35_isSize at hF
  unfold fX35_isSize
  refine s_if (lg_lt.trans (j_lt rfl (d_lit (-1073741823) (-1073741823) rfl) rp0 ⟨by decide, by decide⟩)) hF (fun c1 hF => ?_) (fun c1 hF => ?_)
  ·
    exact SX35_isSize_b20 hm R hF
  ·
    refine s_if ((lg_cmp_gt _ _).trans (j_lt (d_lit 1073741823 1073741823 rfl) rfl ⟨by decide, by decide⟩ rp0)) hF (fun c2 hF => ?_) (fun c2 hF => ?_)
    ·
      exact SX35_isSize_b20 hm R hF
    ·
      exact SX35_isSize_b21 hm R (c_lit 1 1 rfl) ⟨by decide, by decide⟩ hF
def FX35_grow_b33 (s1 : Int) (s : fS) : Option (Unit × fS) :=
  (uPZ s 192 78 s1).bind fun σ1 =>
  some ((), σ1)
theorem SX35_grow_b33 {m b : Nat} {φ0 : Nat → Nat} {σo : fS} (hm : 1 ≤ m) {q : Unit × fS} {φ : Nat → Nat} {h : eH} {s : fS} {s1' : Int32} {s1 : Int} (R : fC m b φ0 σo φ h s) (es1 : s1' = iI s1) (rs1 : r32 s1) (hF : FX35_grow_b33 s1 s = some q) : gG m b φ0 σo lU q (fX35_grow_b33 192 s1' h) := by
  subst es1
  unfold FX35_grow_b33 at hF
  unfold fX35_grow_b33
  refine s_pZ R (t_192 hm R.S) (Nat.le_of_ble_eq_true rfl) rfl rfl rs1 hF (fun h1 σ1 R1 T1 hF => ?_)
  exact g_ret R1 hF trivial
def FX35_grow_b32 (s : fS) : Option (Unit × fS) :=
  FX35_grow_b33 0 s
theorem SX35_grow_b32 {m b : Nat} {φ0 : Nat → Nat} {σo : fS} (hm : 1 ≤ m) {q : Unit × fS} {φ : Nat → Nat} {h : eH} {s : fS} (R : fC m b φ0 σo φ h s) (hF : FX35_grow_b32 s = some q) : gG m b φ0 σo lU q (fX35_grow_b32 192 h) := by
  unfold FX35_grow_b32 at hF
  unfold fX35_grow_b32
  exact SX35_grow_b33 hm R (c_lit 0 0 rfl) ⟨by decide, by decide⟩ hF
def FX35_grow (p0 : Int) (s : fS) : Option (Unit × fS) :=
  (uPJ s 192 79 (ladd (s.j 192 79) p0)).bind fun σ3 =>
  if (σ3.i 192 78) = 0 then
    FX35_grow_b32 σ3
  else
    (FX35_isSize (σ3.j 192 79) σ3).bind fun q10 =>
    if q10.1 = 0 then
      FX35_grow_b32 q10.2
    else
      FX35_grow_b33 1 q10.2
theorem SX35_grow {m b : Nat} {φ0 : Nat → Nat} {σo : fS} (hm : 1 ≤ m) {q : Unit × fS} {φ : Nat → Nat} {h : eH} {s : fS} {p0' : Int64} {p0 : Int} (R : fC m b φ0 σo φ h s) (ep0 : p0' = iJ p0) (rp0 : r64 p0) (hF : FX35_grow p0 s = some q) : gG m b φ0 σo lU q (fX35_grow 192 p0' h) := by
  subst ep0
  unfold FX35_grow at hF
  unfold fX35_grow
  refine s_gJ R (t_192 hm R.S) (Nat.le_of_ble_eq_true rfl) rfl ?_
  refine s_pJ R (t_192 hm R.S) (Nat.le_of_ble_eq_true rfl) rfl (d_add rfl rfl) (rr_J _) hF (fun h2 σ3 R2 T2 hF => ?_)
  refine s_gI R2 (t_192 hm R2.S) (Nat.le_of_ble_eq_true rfl) rfl ?_
  refine s_if (i_eq rfl (c_lit 0 0 rfl) (R2.ri (t_192 hm R2.S) (Nat.le_of_ble_eq_true rfl) rfl) ⟨by decide, by decide⟩) hF (fun c4 hF => ?_) (fun c4 hF => ?_)
  ·
    exact SX35_grow_b32 hm R2 hF
  ·
    refine s_gJ R2 (t_192 hm R2.S) (Nat.le_of_ble_eq_true rfl) rfl ?_
    refine s_call R2 (Nat.zero_le _) (fun _ hq => SX35_isSize (b := 0) hm (R2.rf) rfl (R2.rj (t_192 hm R2.S) (Nat.le_of_ble_eq_true rfl) rfl) hq) hF (fun f6 rv6 h6 q10 R6 e6 E6 hF => ?_)
    refine s_if (i_eq e6.1 (c_lit 0 0 rfl) e6.2 ⟨by decide, by decide⟩) hF (fun c7 hF => ?_) (fun c7 hF => ?_)
    ·
      exact SX35_grow_b32 hm R6 hF
    ·
      exact SX35_grow_b33 hm R6 (c_lit 1 1 rfl) ⟨by decide, by decide⟩ hF
def FX35_sizeOf_b45 (s0 : Int) (s : fS) : Option (Int × fS) :=
  some (s0, s)
theorem SX35_sizeOf_b45 {m b : Nat} {φ0 : Nat → Nat} {σo : fS} (hm : 1 ≤ m) {q : Int × fS} {φ : Nat → Nat} {h : eH} {s : fS} {s0' : Int32} {s0 : Int} (R : fC m b φ0 σo φ h s) (es0 : s0' = iI s0) (rs0 : r32 s0) (hF : FX35_sizeOf_b45 s0 s = some q) : gG m b φ0 σo lI q (fX35_sizeOf_b45 s0' h) := by
  subst es0
  unfold FX35_sizeOf_b45 at hF
  unfold fX35_sizeOf_b45
  exact g_ret R hF ⟨rfl, rs0⟩
def FX35_sizeOf_b89 (s0 : Int) (s : fS) : Option (Int × fS) :=
  some (s0, s)
theorem SX35_sizeOf_b89 {m b : Nat} {φ0 : Nat → Nat} {σo : fS} (hm : 1 ≤ m) {q : Int × fS} {φ : Nat → Nat} {h : eH} {s : fS} {s0' : Int32} {s0 : Int} (R : fC m b φ0 σo φ h s) (es0 : s0' = iI s0) (rs0 : r32 s0) (hF : FX35_sizeOf_b89 s0 s = some q) : gG m b φ0 σo lI q (fX35_sizeOf_b89 s0' h) := by
  subst es0
  unfold FX35_sizeOf_b89 at hF
  unfold fX35_sizeOf_b89
  exact g_ret R hF ⟨rfl, rs0⟩
def FX35_sizeOf (p0 : Nat) (p1 : Int) (p2 : Int) (s : fS) : Option (Int × fS) :=
  (uKA 100 s p0).bind fun _ =>
  (uRI s p0 p1).bind fun x1 =>
  if ¬ (x1 = 0) then
    (uKA 100 s p0).bind fun _ =>
    (uRI s p0 p1).bind fun x4 =>
    if ¬ (x4 = 1) then
      (uKA 100 s p0).bind fun _ =>
      (uRI s p0 (iadd p1 1)).bind fun x7 =>
      if ¬ (p2 = 0) then
        if ¬ (p2 = 1) then
          (uRI s 297 x7).bind fun x13 =>
          FX35_sizeOf_b89 x13 s
        else
          (uRI s 296 x7).bind fun x17 =>
          FX35_sizeOf_b89 x17 s
      else
        (uRI s 295 x7).bind fun x21 =>
        FX35_sizeOf_b89 x21 s
    else
      (uKA 100 s p0).bind fun _ =>
      (uRI s p0 (iadd (iadd p1 1) p2)).bind fun x23 =>
      if ¬ (x23 = (-1073741824)) then
        (uKA 100 s p0).bind fun _ =>
        (uRI s p0 (iadd (iadd p1 1) p2)).bind fun x26 =>
        FX35_sizeOf_b45 x26 s
      else
        FX35_sizeOf_b45 0 s
  else
    (uKA 100 s p0).bind fun _ =>
    (uRI s p0 (iadd (iadd p1 3) p2)).bind fun x28 =>
    some (x28, s)
theorem SX35_sizeOf {m b : Nat} {φ0 : Nat → Nat} {σo : fS} (hm : 1 ≤ m) {q : Int × fS} {φ : Nat → Nat} {h : eH} {s : fS} {p0' : Nat} {p0 : Nat} {p1' : Int32} {p1 : Int} {p2' : Int32} {p2 : Int} (R : fC m b φ0 σo φ h s) (ep0 : p0' = φ p0) (ap0 : s.t p0 < 128) (ep1 : p1' = iI p1) (rp1 : r32 p1) (ep2 : p2' = iI p2) (rp2 : r32 p2) (hF : FX35_sizeOf p0 p1 p2 s = some q) : gG m b φ0 σo lI q (fX35_sizeOf 192 p0' p1' p2' h) := by
  subst ep1; subst ep2
  unfold FX35_sizeOf at hF
  unfold fX35_sizeOf
  refine s_KA hF (fun y2 z2 hF => ?_)
  refine s_rI R y2 z2 (by decide) ep0 rfl rp1 hF (fun x1 ra1 hF => ?_)
  refine s_if (not_congr (i_eq rfl (c_lit 0 0 rfl) ra1 ⟨by decide, by decide⟩)) hF (fun c3 hF => ?_) (fun c3 hF => ?_)
  ·
    refine s_KA hF (fun y5 z5 hF => ?_)
    refine s_rI R y5 z5 (by decide) ep0 rfl rp1 hF (fun x4 ra4 hF => ?_)
    refine s_if (not_congr (i_eq rfl (c_lit 1 1 rfl) ra4 ⟨by decide, by decide⟩)) hF (fun c6 hF => ?_) (fun c6 hF => ?_)
    ·
      refine s_KA hF (fun y8 z8 hF => ?_)
      refine s_rI R y8 z8 (by decide) ep0 (c_add rfl (c_lit 1 1 rfl)) (rr_I _) hF (fun x7 ra7 hF => ?_)
      refine s_if (not_congr (i_eq rfl (c_lit 0 0 rfl) rp2 ⟨by decide, by decide⟩)) hF (fun c9 hF => ?_) (fun c9 hF => ?_)
      ·
        refine s_if (not_congr (i_eq rfl (c_lit 1 1 rfl) rp2 ⟨by decide, by decide⟩)) hF (fun c10 hF => ?_) (fun c10 hF => ?_)
        ·
          refine s_gAs R (t_192 hm R.S) (Nat.le_of_ble_eq_true rfl) rfl (o_192_70 hm R.S) (a_297 hm R) ?_
          refine s_rI R (u_297 hm R.S).1 (u_297 hm R.S).2 (by decide) (a_297 hm R) rfl ra7 hF (fun x13 ra12 hF => ?_)
          exact SX35_sizeOf_b89 hm R rfl ra12 hF
        ·
          refine s_gAs R (t_192 hm R.S) (Nat.le_of_ble_eq_true rfl) rfl (o_192_69 hm R.S) (a_296 hm R) ?_
          refine s_rI R (u_296 hm R.S).1 (u_296 hm R.S).2 (by decide) (a_296 hm R) rfl ra7 hF (fun x17 ra14 hF => ?_)
          exact SX35_sizeOf_b89 hm R rfl ra14 hF
      ·
        refine s_gAs R (t_192 hm R.S) (Nat.le_of_ble_eq_true rfl) rfl (o_192_68 hm R.S) (a_295 hm R) ?_
        refine s_rI R (u_295 hm R.S).1 (u_295 hm R.S).2 (by decide) (a_295 hm R) rfl ra7 hF (fun x21 ra16 hF => ?_)
        exact SX35_sizeOf_b89 hm R rfl ra16 hF
    ·
      refine s_KA hF (fun y18 z18 hF => ?_)
      refine s_rI R y18 z18 (by decide) ep0 (c_add (c_add rfl (c_lit 1 1 rfl)) rfl) (rr_I _) hF (fun x23 ra17 hF => ?_)
      refine s_if (not_congr (i_eq rfl (c_lit (-1073741824) (-1073741824) rfl) ra17 ⟨by decide, by decide⟩)) hF (fun c19 hF => ?_) (fun c19 hF => ?_)
      ·
        refine s_KA hF (fun y21 z21 hF => ?_)
        refine s_rI R y21 z21 (by decide) ep0 (c_add (c_add rfl (c_lit 1 1 rfl)) rfl) (rr_I _) hF (fun x26 ra20 hF => ?_)
        exact SX35_sizeOf_b45 hm R rfl ra20 hF
      ·
        exact SX35_sizeOf_b45 hm R (c_lit 0 0 rfl) ⟨by decide, by decide⟩ hF
  ·
    refine s_KA hF (fun y23 z23 hF => ?_)
    refine s_rI R y23 z23 (by decide) ep0 (c_add (c_add rfl (c_lit 3 3 rfl)) rfl) (rr_I _) hF (fun x28 ra22 hF => ?_)
    exact g_ret R hF ⟨rfl, ra22⟩
def FX35_isRunning_b25 (s0 : Int) (s : fS) : Option (Int × fS) :=
  uZ s0 (s0, s)
theorem SX35_isRunning_b25 {m b : Nat} {φ0 : Nat → Nat} {σo : fS} (hm : 1 ≤ m) {q : Int × fS} {φ : Nat → Nat} {h : eH} {s : fS} {s0' : Int32} {s0 : Int} (R : fC m b φ0 σo φ h s) (es0 : s0' = iI s0) (rs0 : r32 s0) (hF : FX35_isRunning_b25 s0 s = some q) : gG m b φ0 σo lI q (fX35_isRunning_b25 s0' h) := by
  subst es0
  unfold FX35_isRunning_b25 at hF
  unfold fX35_isRunning_b25
  exact g_z R rfl hF ⟨rfl, rs0⟩
def FX35_isRunning_b24 (s : fS) : Option (Int × fS) :=
  FX35_isRunning_b25 0 s
theorem SX35_isRunning_b24 {m b : Nat} {φ0 : Nat → Nat} {σo : fS} (hm : 1 ≤ m) {q : Int × fS} {φ : Nat → Nat} {h : eH} {s : fS} (R : fC m b φ0 σo φ h s) (hF : FX35_isRunning_b24 s = some q) : gG m b φ0 σo lI q (fX35_isRunning_b24 h) := by
  unfold FX35_isRunning_b24 at hF
  unfold fX35_isRunning_b24
  exact SX35_isRunning_b25 hm R (c_lit 0 0 rfl) ⟨by decide, by decide⟩ hF
def FX35_isRunning (p0 : Nat) (p1 : Int) (p2 : Int) (s : fS) : Option (Int × fS) :=
  (uKA 100 s p0).bind fun _ =>
  (uRI s p0 p1).bind fun x1 =>
  if ¬ (x1 = 1) then
    FX35_isRunning_b24 s
  else
    (uKA 100 s p0).bind fun _ =>
    (uRI s p0 (iadd (iadd p1 1) p2)).bind fun x4 =>
    if ¬ (x4 = (-1073741824)) then
      FX35_isRunning_b24 s
    else
      FX35_isRunning_b25 1 s
theorem SX35_isRunning {m b : Nat} {φ0 : Nat → Nat} {σo : fS} (hm : 1 ≤ m) {q : Int × fS} {φ : Nat → Nat} {h : eH} {s : fS} {p0' : Nat} {p0 : Nat} {p1' : Int32} {p1 : Int} {p2' : Int32} {p2 : Int} (R : fC m b φ0 σo φ h s) (ep0 : p0' = φ p0) (ap0 : s.t p0 < 128) (ep1 : p1' = iI p1) (rp1 : r32 p1) (ep2 : p2' = iI p2) (rp2 : r32 p2) (hF : FX35_isRunning p0 p1 p2 s = some q) : gG m b φ0 σo lI q (fX35_isRunning 192 p0' p1' p2' h) := by
  subst ep1; subst ep2
  unfold FX35_isRunning at hF
  unfold fX35_isRunning
  refine s_KA hF (fun y2 z2 hF => ?_)
  refine s_rI R y2 z2 (by decide) ep0 rfl rp1 hF (fun x1 ra1 hF => ?_)
  refine s_if (not_congr (i_eq rfl (c_lit 1 1 rfl) ra1 ⟨by decide, by decide⟩)) hF (fun c3 hF => ?_) (fun c3 hF => ?_)
  ·
    exact SX35_isRunning_b24 hm R hF
  ·
    refine s_KA hF (fun y5 z5 hF => ?_)
    refine s_rI R y5 z5 (by decide) ep0 (c_add (c_add rfl (c_lit 1 1 rfl)) rfl) (rr_I _) hF (fun x4 ra4 hF => ?_)
    refine s_if (not_congr (i_eq rfl (c_lit (-1073741824) (-1073741824) rfl) ra4 ⟨by decide, by decide⟩)) hF (fun c6 hF => ?_) (fun c6 hF => ?_)
    ·
      exact SX35_isRunning_b24 hm R hF
    ·
      exact SX35_isRunning_b25 hm R (c_lit 1 1 rfl) ⟨by decide, by decide⟩ hF
def FX35_greater_b39 (s0 : Int) (s : fS) : Option (Int × fS) :=
  some (s0, s)
theorem SX35_greater_b39 {m b : Nat} {φ0 : Nat → Nat} {σo : fS} (hm : 1 ≤ m) {q : Int × fS} {φ : Nat → Nat} {h : eH} {s : fS} {s0' : Int64} {s0 : Int} (R : fC m b φ0 σo φ h s) (es0 : s0' = iJ s0) (rs0 : r64 s0) (hF : FX35_greater_b39 s0 s = some q) : gG m b φ0 σo lJ q (fX35_greater_b39 s0' h) := by
  subst es0
  unfold FX35_greater_b39 at hF
  unfold fX35_greater_b39
  exact g_ret R hF ⟨rfl, rs0⟩
def FX35_greater_b25 (l1 : Int) (l3 : Int) (s1 : Int) (s : fS) : Option (Int × fS) :=
  (uPZ s 192 78 s1).bind fun σ1 =>
  if l3 ≤ l1 then
    FX35_greater_b39 l1 σ1
  else
    FX35_greater_b39 l3 σ1
theorem SX35_greater_b25 {m b : Nat} {φ0 : Nat → Nat} {σo : fS} (hm : 1 ≤ m) {q : Int × fS} {φ : Nat → Nat} {h : eH} {s : fS} {l1' : Int64} {l1 : Int} {l3' : Int64} {l3 : Int} {s1' : Int32} {s1 : Int} (R : fC m b φ0 σo φ h s) (el1 : l1' = iJ l1) (rl1 : r64 l1) (el3 : l3' = iJ l3) (rl3 : r64 l3) (es1 : s1' = iI s1) (rs1 : r32 s1) (hF : FX35_greater_b25 l1 l3 s1 s = some q) : gG m b φ0 σo lJ q (fX35_greater_b25 l1' l3' 192 s1' h) := by
  subst el1; subst el3; subst es1
  unfold FX35_greater_b25 at hF
  unfold fX35_greater_b25
  refine s_pZ R (t_192 hm R.S) (Nat.le_of_ble_eq_true rfl) rfl rfl rs1 hF (fun h1 σ1 R1 T1 hF => ?_)
  refine s_if (lg_le.trans (j_le rfl rfl rl3 rl1)) hF (fun c2 hF => ?_) (fun c2 hF => ?_)
  ·
    exact SX35_greater_b39 hm R1 rfl rl1 hF
  ·
    exact SX35_greater_b39 hm R1 rfl rl3 hF
def FX35_greater_b20 (l1 : Int) (l3 : Int) (s : fS) : Option (Int × fS) :=
  FX35_greater_b25 l1 l3 1 s
theorem SX35_greater_b20 {m b : Nat} {φ0 : Nat → Nat} {σo : fS} (hm : 1 ≤ m) {q : Int × fS} {φ : Nat → Nat} {h : eH} {s : fS} {l1' : Int64} {l1 : Int} {l3' : Int64} {l3 : Int} (R : fC m b φ0 σo φ h s) (el1 : l1' = iJ l1) (rl1 : r64 l1) (el3 : l3' = iJ l3) (rl3 : r64 l3) (hF : FX35_greater_b20 l1 l3 s = some q) : gG m b φ0 σo lJ q (fX35_greater_b20 l1' l3' 192 h) := by
  subst el1; subst el3
  unfold FX35_greater_b20 at hF
  unfold fX35_greater_b20
  exact SX35_greater_b25 hm R rfl rl1 rfl rl3 (c_lit 1 1 rfl) ⟨by decide, by decide⟩ hF
def FX35_greater_b24 (l1 : Int) (l3 : Int) (s : fS) : Option (Int × fS) :=
  FX35_greater_b25 l1 l3 0 s
theorem SX35_greater_b24 {m b : Nat} {φ0 : Nat → Nat} {σo : fS} (hm : 1 ≤ m) {q : Int × fS} {φ : Nat → Nat} {h : eH} {s : fS} {l1' : Int64} {l1 : Int} {l3' : Int64} {l3 : Int} (R : fC m b φ0 σo φ h s) (el1 : l1' = iJ l1) (rl1 : r64 l1) (el3 : l3' = iJ l3) (rl3 : r64 l3) (hF : FX35_greater_b24 l1 l3 s = some q) : gG m b φ0 σo lJ q (fX35_greater_b24 l1' l3' 192 h) := by
  subst el1; subst el3
  unfold FX35_greater_b24 at hF
  unfold fX35_greater_b24
  exact SX35_greater_b25 hm R rfl rl1 rfl rl3 (c_lit 0 0 rfl) ⟨by decide, by decide⟩ hF
def FX35_greater (p0 : Int) (p1 : Int) (p2 : Int) (s : fS) : Option (Int × fS) :=
  if (s.i 192 78) = 0 then
    FX35_greater_b24 p0 p1 s
  else
    if p2 = 0 then
      FX35_greater_b20 p0 p1 s
    else
      (FX35_isSize p1 s).bind fun q5 =>
      if q5.1 = 0 then
        FX35_greater_b24 p0 p1 q5.2
      else
        FX35_greater_b20 p0 p1 q5.2
theorem SX35_greater {m b : Nat} {φ0 : Nat → Nat} {σo : fS} (hm : 1 ≤ m) {q : Int × fS} {φ : Nat → Nat} {h : eH} {s : fS} {p0' : Int64} {p0 : Int} {p1' : Int64} {p1 : Int} {p2' : Int32} {p2 : Int} (R : fC m b φ0 σo φ h s) (ep0 : p0' = iJ p0) (rp0 : r64 p0) (ep1 : p1' = iJ p1) (rp1 : r64 p1) (ep2 : p2' = iI p2) (rp2 : r32 p2) (hF : FX35_greater p0 p1 p2 s = some q) : gG m b φ0 σo lJ q (fX35_greater 192 p0' p1' p2' h) := by
  subst ep0; subst ep1; subst ep2
  unfold FX35_greater at hF
  unfold fX35_greater
  refine s_gI R (t_192 hm R.S) (Nat.le_of_ble_eq_true rfl) rfl ?_
  refine s_if (i_eq rfl (c_lit 0 0 rfl) (R.ri (t_192 hm R.S) (Nat.le_of_ble_eq_true rfl) rfl) ⟨by decide, by decide⟩) hF (fun c2 hF => ?_) (fun c2 hF => ?_)
  ·
    exact SX35_greater_b24 hm R rfl rp0 rfl rp1 hF
  ·
    refine s_if (i_eq rfl (c_lit 0 0 rfl) rp2 ⟨by decide, by decide⟩) hF (fun c3 hF => ?_) (fun c3 hF => ?_)
    ·
      exact SX35_greater_b20 hm R rfl rp0 rfl rp1 hF
    ·
      refine s_call R (Nat.zero_le _) (fun _ hq => SX35_isSize (b := 0) hm (R.rf) rfl rp1 hq) hF (fun f4 rv4 h4 q5 R4 e4 E4 hF => ?_)
      refine s_if (i_eq e4.1 (c_lit 0 0 rfl) e4.2 ⟨by decide, by decide⟩) hF (fun c5 hF => ?_) (fun c5 hF => ?_)
      ·
        exact SX35_greater_b24 hm R4 rfl rp0 rfl rp1 hF
      ·
        exact SX35_greater_b20 hm R4 rfl rp0 rfl rp1 hF
def FX35_addSolid_b104 (s1 : Int) (s : fS) : Option (Unit × fS) :=
  (uPJ s 192 81 s1).bind fun σ1 =>
  some ((), σ1)
theorem SX35_addSolid_b104 {m b : Nat} {φ0 : Nat → Nat} {σo : fS} (hm : 1 ≤ m) {q : Unit × fS} {φ : Nat → Nat} {h : eH} {s : fS} {s1' : Int64} {s1 : Int} (R : fC m b φ0 σo φ h s) (es1 : s1' = iJ s1) (rs1 : r64 s1) (hF : FX35_addSolid_b104 s1 s = some q) : gG m b φ0 σo lU q (fX35_addSolid_b104 192 s1' h) := by
  subst es1
  unfold FX35_addSolid_b104 at hF
  unfold fX35_addSolid_b104
  refine s_pJ R (t_192 hm R.S) (Nat.le_of_ble_eq_true rfl) rfl rfl rs1 hF (fun h1 σ1 R1 T1 hF => ?_)
  exact g_ret R1 hF trivial
def FX35_addSolid_b101 (s2 : Int) (s3 : Int) (s4 : Int) (s : fS) : Option (Unit × fS) :=
  (FX35_greater s2 s3 s4 s).bind fun q2 =>
  FX35_addSolid_b104 q2.1 q2.2
theorem SX35_addSolid_b101 {m b : Nat} {φ0 : Nat → Nat} {σo : fS} (hm : 1 ≤ m) {q : Unit × fS} {φ : Nat → Nat} {h : eH} {s : fS} {s2' : Int64} {s2 : Int} {s3' : Int64} {s3 : Int} {s4' : Int32} {s4 : Int} (R : fC m b φ0 σo φ h s) (es2 : s2' = iJ s2) (rs2 : r64 s2) (es3 : s3' = iJ s3) (rs3 : r64 s3) (es4 : s4' = iI s4) (rs4 : r32 s4) (hF : FX35_addSolid_b101 s2 s3 s4 s = some q) : gG m b φ0 σo lU q (fX35_addSolid_b101 192 192 s2' s3' s4' h) := by
  subst es2; subst es3; subst es4
  unfold FX35_addSolid_b101 at hF
  unfold fX35_addSolid_b101
  refine s_kok R (t_192 hm R.S) (Nat.le_of_ble_eq_true rfl) ?_
  refine s_call R (Nat.zero_le _) (fun _ hq => SX35_greater (b := 0) hm (R.rf) rfl rs2 rfl rs3 rfl rs4 hq) hF (fun f2 rv2 h2 q2 R2 e2 E2 hF => ?_)
  exact SX35_addSolid_b104 hm R2 e2.1 e2.2 hF
def FX35_addSolid_b223 (s1 : Int) (s : fS) : Option (Unit × fS) :=
  (uPJ s 192 82 s1).bind fun σ1 =>
  some ((), σ1)
theorem SX35_addSolid_b223 {m b : Nat} {φ0 : Nat → Nat} {σo : fS} (hm : 1 ≤ m) {q : Unit × fS} {φ : Nat → Nat} {h : eH} {s : fS} {s1' : Int64} {s1 : Int} (R : fC m b φ0 σo φ h s) (es1 : s1' = iJ s1) (rs1 : r64 s1) (hF : FX35_addSolid_b223 s1 s = some q) : gG m b φ0 σo lU q (fX35_addSolid_b223 192 s1' h) := by
  subst es1
  unfold FX35_addSolid_b223 at hF
  unfold fX35_addSolid_b223
  refine s_pJ R (t_192 hm R.S) (Nat.le_of_ble_eq_true rfl) rfl rfl rs1 hF (fun h1 σ1 R1 T1 hF => ?_)
  exact g_ret R1 hF trivial
def FX35_addSolid_b220 (s2 : Int) (s3 : Int) (s4 : Int) (s : fS) : Option (Unit × fS) :=
  (FX35_greater s2 s3 s4 s).bind fun q2 =>
  FX35_addSolid_b223 q2.1 q2.2
theorem SX35_addSolid_b220 {m b : Nat} {φ0 : Nat → Nat} {σo : fS} (hm : 1 ≤ m) {q : Unit × fS} {φ : Nat → Nat} {h : eH} {s : fS} {s2' : Int64} {s2 : Int} {s3' : Int64} {s3 : Int} {s4' : Int32} {s4 : Int} (R : fC m b φ0 σo φ h s) (es2 : s2' = iJ s2) (rs2 : r64 s2) (es3 : s3' = iJ s3) (rs3 : r64 s3) (es4 : s4' = iI s4) (rs4 : r32 s4) (hF : FX35_addSolid_b220 s2 s3 s4 s = some q) : gG m b φ0 σo lU q (fX35_addSolid_b220 192 192 s2' s3' s4' h) := by
  subst es2; subst es3; subst es4
  unfold FX35_addSolid_b220 at hF
  unfold fX35_addSolid_b220
  refine s_kok R (t_192 hm R.S) (Nat.le_of_ble_eq_true rfl) ?_
  refine s_call R (Nat.zero_le _) (fun _ hq => SX35_greater (b := 0) hm (R.rf) rfl rs2 rfl rs3 rfl rs4 hq) hF (fun f2 rv2 h2 q2 R2 e2 E2 hF => ?_)
  exact SX35_addSolid_b223 hm R2 e2.1 e2.2 hF
def FX35_addSolid_b170 (l1 : Nat) (l2 : Int) (l4 : Int) (s1 : Int) (s : fS) : Option (Unit × fS) :=
  (uPJ s 192 81 s1).bind fun σ1 =>
  (FX35_isRunning l1 l2 2 σ1).bind fun q4 =>
  if q4.1 = 0 then
    (FX35_sizeOf l1 l2 2 q4.2).bind fun q9 =>
    (uKA 100 q9.2 l1).bind fun _ =>
    (uRI q9.2 l1 l2).bind fun x10 =>
    if ¬ (x10 = 5) then
      FX35_addSolid_b220 (q4.2.j 192 82) (ladd q9.1 l4) 0 q9.2
    else
      FX35_addSolid_b220 (q4.2.j 192 82) (ladd q9.1 l4) 1 q9.2
  else
    FX35_addSolid_b223 (q4.2.j 192 82) q4.2
theorem SX35_addSolid_b170 {m b : Nat} {φ0 : Nat → Nat} {σo : fS} (hm : 1 ≤ m) {q : Unit × fS} {φ : Nat → Nat} {h : eH} {s : fS} {l1' : Nat} {l1 : Nat} {l2' : Int32} {l2 : Int} {l4' : Int32} {l4 : Int} {s1' : Int64} {s1 : Int} (R : fC m b φ0 σo φ h s) (el1 : l1' = φ l1) (al1 : s.t l1 < 128) (el2 : l2' = iI l2) (rl2 : r32 l2) (el4 : l4' = iI l4) (rl4 : r32 l4) (es1 : s1' = iJ s1) (rs1 : r64 s1) (hF : FX35_addSolid_b170 l1 l2 l4 s1 s = some q) : gG m b φ0 σo lU q (fX35_addSolid_b170 192 l1' l2' l4' 192 s1' h) := by
  subst el2; subst el4; subst es1
  unfold FX35_addSolid_b170 at hF
  unfold fX35_addSolid_b170
  refine s_pJ R (t_192 hm R.S) (Nat.le_of_ble_eq_true rfl) rfl rfl rs1 hF (fun h1 σ1 R1 T1 hF => ?_)
  refine s_kok R1 (t_192 hm R1.S) (Nat.le_of_ble_eq_true rfl) ?_
  refine s_call R1 (Nat.zero_le _) (fun _ hq => SX35_isRunning (b := 0) hm (R1.rf) el1 (by rw [T1]; exact al1) rfl rl2 (c_lit 2 2 rfl) ⟨by decide, by decide⟩ hq) hF (fun f3 rv3 h3 q4 R3 e3 E3 hF => ?_)
  refine s_if (i_eq e3.1 (c_lit 0 0 rfl) e3.2 ⟨by decide, by decide⟩) hF (fun c4 hF => ?_) (fun c4 hF => ?_)
  ·
    refine s_gJ R3 (t_192 hm R3.S) (Nat.le_of_ble_eq_true rfl) rfl ?_
    refine s_kok R3 (t_192 hm R3.S) (Nat.le_of_ble_eq_true rfl) ?_
    refine s_call R3 (Nat.zero_le _) (fun _ hq => SX35_sizeOf (b := 0) hm (R3.rf) (el1.trans (E3.k0 rfl _ (by rw [T1]; exact al1)).1.symm) (by rw [(E3.k0 rfl _ (by rw [T1]; exact al1)).2]; exact (by rw [T1]; exact al1)) rfl rl2 (c_lit 2 2 rfl) ⟨by decide, by decide⟩ hq) hF (fun f7 rv7 h7 q9 R7 e7 E7 hF => ?_)
    refine s_KA hF (fun y9 z9 hF => ?_)
    refine s_rI R7 y9 z9 (by decide) ((el1.trans (E3.k0 rfl _ (by rw [T1]; exact al1)).1.symm).trans (E7.k0 rfl _ (by rw [(E3.k0 rfl _ (by rw [T1]; exact al1)).2]; exact (by rw [T1]; exact al1))).1.symm) rfl rl2 hF (fun x10 ra8 hF => ?_)
    refine s_if (not_congr (i_eq rfl (c_lit 5 5 rfl) ra8 ⟨by decide, by decide⟩)) hF (fun c10 hF => ?_) (fun c10 hF => ?_)
    ·
      exact SX35_addSolid_b220 hm R7 rfl (R3.rj (t_192 hm R3.S) (Nat.le_of_ble_eq_true rfl) rfl) (d_add (c_2l e7.1 e7.2) (c_2l rfl rl4)) (rr_J _) (c_lit 0 0 rfl) ⟨by decide, by decide⟩ hF
    ·
      exact SX35_addSolid_b220 hm R7 rfl (R3.rj (t_192 hm R3.S) (Nat.le_of_ble_eq_true rfl) rfl) (d_add (c_2l e7.1 e7.2) (c_2l rfl rl4)) (rr_J _) (c_lit 1 1 rfl) ⟨by decide, by decide⟩ hF
  ·
    refine s_gJ R3 (t_192 hm R3.S) (Nat.le_of_ble_eq_true rfl) rfl ?_
    exact SX35_addSolid_b223 hm R3 rfl (R3.rj (t_192 hm R3.S) (Nat.le_of_ble_eq_true rfl) rfl) hF
def FX35_addSolid_b167 (l1 : Nat) (l2 : Int) (l4 : Int) (s2 : Int) (s3 : Int) (s4 : Int) (s : fS) : Option (Unit × fS) :=
  (FX35_greater s2 s3 s4 s).bind fun q2 =>
  FX35_addSolid_b170 l1 l2 l4 q2.1 q2.2
theorem SX35_addSolid_b167 {m b : Nat} {φ0 : Nat → Nat} {σo : fS} (hm : 1 ≤ m) {q : Unit × fS} {φ : Nat → Nat} {h : eH} {s : fS} {l1' : Nat} {l1 : Nat} {l2' : Int32} {l2 : Int} {l4' : Int32} {l4 : Int} {s2' : Int64} {s2 : Int} {s3' : Int64} {s3 : Int} {s4' : Int32} {s4 : Int} (R : fC m b φ0 σo φ h s) (el1 : l1' = φ l1) (al1 : s.t l1 < 128) (el2 : l2' = iI l2) (rl2 : r32 l2) (el4 : l4' = iI l4) (rl4 : r32 l4) (es2 : s2' = iJ s2) (rs2 : r64 s2) (es3 : s3' = iJ s3) (rs3 : r64 s3) (es4 : s4' = iI s4) (rs4 : r32 s4) (hF : FX35_addSolid_b167 l1 l2 l4 s2 s3 s4 s = some q) : gG m b φ0 σo lU q (fX35_addSolid_b167 192 l1' l2' l4' 192 192 s2' s3' s4' h) := by
  subst el2; subst el4; subst es2; subst es3; subst es4
  unfold FX35_addSolid_b167 at hF
  unfold fX35_addSolid_b167
  refine s_kok R (t_192 hm R.S) (Nat.le_of_ble_eq_true rfl) ?_
  refine s_call R (Nat.zero_le _) (fun _ hq => SX35_greater (b := 0) hm (R.rf) rfl rs2 rfl rs3 rfl rs4 hq) hF (fun f2 rv2 h2 q2 R2 e2 E2 hF => ?_)
  exact SX35_addSolid_b170 hm R2 (el1.trans (E2.k0 rfl _ al1).1.symm) (by rw [(E2.k0 rfl _ al1).2]; exact al1) rfl rl2 rfl rl4 e2.1 e2.2 hF
def FX35_addSolid_b16 (l1 : Nat) (l2 : Int) (l3 : Int) (s0 : Int) (s : fS) : Option (Unit × fS) :=
  if l3 = 0 then
    (FX35_sizeOf l1 l2 0 s).bind fun q3 =>
    (FX35_grow q3.1 q3.2).bind fun q5 =>
    (FX35_isRunning l1 l2 1 q5.2).bind fun q7 =>
    if q7.1 = 0 then
      (FX35_sizeOf l1 l2 1 q7.2).bind fun q12 =>
      (uKA 100 q12.2 l1).bind fun _ =>
      (uRI q12.2 l1 l2).bind fun x13 =>
      if ¬ (x13 = 5) then
        FX35_addSolid_b167 l1 l2 s0 (q7.2.j 192 81) (lsub q12.1 s0) 0 q12.2
      else
        FX35_addSolid_b167 l1 l2 s0 (q7.2.j 192 81) (lsub q12.1 s0) 1 q12.2
    else
      FX35_addSolid_b170 l1 l2 s0 (q7.2.j 192 81) q7.2
  else
    (FX35_grow (s.j 192 80) s).bind fun q21 =>
    (FX35_sizeOf l1 l2 1 q21.2).bind fun q23 =>
    (FX35_grow q23.1 q23.2).bind fun q25 =>
    (FX35_sizeOf l1 l2 2 q25.2).bind fun q27 =>
    (uPJ q27.2 192 80 q27.1).bind fun σ28 =>
    (FX35_isRunning l1 l2 0 σ28).bind fun q31 =>
    if q31.1 = 0 then
      (FX35_sizeOf l1 l2 0 q31.2).bind fun q36 =>
      (uKA 100 q36.2 l1).bind fun _ =>
      (uRI q36.2 l1 l2).bind fun x37 =>
      if ¬ (x37 = 5) then
        FX35_addSolid_b101 (q31.2.j 192 81) (ladd q36.1 s0) 0 q36.2
      else
        FX35_addSolid_b101 (q31.2.j 192 81) (ladd q36.1 s0) 1 q36.2
    else
      FX35_addSolid_b104 (q31.2.j 192 81) q31.2
theorem SX35_addSolid_b16 {m b : Nat} {φ0 : Nat → Nat} {σo : fS} (hm : 1 ≤ m) {q : Unit × fS} {φ : Nat → Nat} {h : eH} {s : fS} {l1' : Nat} {l1 : Nat} {l2' : Int32} {l2 : Int} {l3' : Int32} {l3 : Int} {s0' : Int32} {s0 : Int} (R : fC m b φ0 σo φ h s) (el1 : l1' = φ l1) (al1 : s.t l1 < 128) (el2 : l2' = iI l2) (rl2 : r32 l2) (el3 : l3' = iI l3) (rl3 : r32 l3) (es0 : s0' = iI s0) (rs0 : r32 s0) (hF : FX35_addSolid_b16 l1 l2 l3 s0 s = some q) : gG m b φ0 σo lU q (fX35_addSolid_b16 192 l1' l2' l3' s0' h) := by
  subst el2; subst el3; subst es0
  unfold FX35_addSolid_b16 at hF
  unfold fX35_addSolid_b16
  refine s_if (i_eq rfl (c_lit 0 0 rfl) rl3 ⟨by decide, by decide⟩) hF (fun c1 hF => ?_) (fun c1 hF => ?_)
  ·
    refine s_kok R (t_192 hm R.S) (Nat.le_of_ble_eq_true rfl) ?_
    refine s_call R (Nat.zero_le _) (fun _ hq => SX35_sizeOf (b := 0) hm (R.rf) el1 al1 rfl rl2 (c_lit 0 0 rfl) ⟨by decide, by decide⟩ hq) hF (fun f3 rv3 h3 q3 R3 e3 E3 hF => ?_)
    refine s_kok R3 (t_192 hm R3.S) (Nat.le_of_ble_eq_true rfl) ?_
    refine s_call R3 (Nat.zero_le _) (fun _ hq => SX35_grow (b := 0) hm (R3.rf) (c_2l e3.1 e3.2) (r32.w e3.2) hq) hF (fun f5 rv5 h5 q5 R5 e5 E5 hF => ?_)
    refine s_kok R5 (t_192 hm R5.S) (Nat.le_of_ble_eq_true rfl) ?_
    refine s_call R5 (Nat.zero_le _) (fun _ hq => SX35_isRunning (b := 0) hm (R5.rf) ((el1.trans (E3.k0 rfl _ al1).1.symm).trans (E5.k0 rfl _ (by rw [(E3.k0 rfl _ al1).2]; exact al1)).1.symm) (by rw [(E5.k0 rfl _ (by rw [(E3.k0 rfl _ al1).2]; exact al1)).2]; exact (by rw [(E3.k0 rfl _ al1).2]; exact al1)) rfl rl2 (c_lit 1 1 rfl) ⟨by decide, by decide⟩ hq) hF (fun f7 rv7 h7 q7 R7 e7 E7 hF => ?_)
    refine s_if (i_eq e7.1 (c_lit 0 0 rfl) e7.2 ⟨by decide, by decide⟩) hF (fun c8 hF => ?_) (fun c8 hF => ?_)
    ·
      refine s_gJ R7 (t_192 hm R7.S) (Nat.le_of_ble_eq_true rfl) rfl ?_
      refine s_kok R7 (t_192 hm R7.S) (Nat.le_of_ble_eq_true rfl) ?_
      refine s_call R7 (Nat.zero_le _) (fun _ hq => SX35_sizeOf (b := 0) hm (R7.rf) (((el1.trans (E3.k0 rfl _ al1).1.symm).trans (E5.k0 rfl _ (by rw [(E3.k0 rfl _ al1).2]; exact al1)).1.symm).trans (E7.k0 rfl _ (by rw [(E5.k0 rfl _ (by rw [(E3.k0 rfl _ al1).2]; exact al1)).2]; exact (by rw [(E3.k0 rfl _ al1).2]; exact al1))).1.symm) (by rw [(E7.k0 rfl _ (by rw [(E5.k0 rfl _ (by rw [(E3.k0 rfl _ al1).2]; exact al1)).2]; exact (by rw [(E3.k0 rfl _ al1).2]; exact al1))).2]; exact (by rw [(E5.k0 rfl _ (by rw [(E3.k0 rfl _ al1).2]; exact al1)).2]; exact (by rw [(E3.k0 rfl _ al1).2]; exact al1))) rfl rl2 (c_lit 1 1 rfl) ⟨by decide, by decide⟩ hq) hF (fun f11 rv11 h11 q12 R11 e11 E11 hF => ?_)
      refine s_KA hF (fun y13 z13 hF => ?_)
      refine s_rI R11 y13 z13 (by decide) ((((el1.trans (E3.k0 rfl _ al1).1.symm).trans (E5.k0 rfl _ (by rw [(E3.k0 rfl _ al1).2]; exact al1)).1.symm).trans (E7.k0 rfl _ (by rw [(E5.k0 rfl _ (by rw [(E3.k0 rfl _ al1).2]; exact al1)).2]; exact (by rw [(E3.k0 rfl _ al1).2]; exact al1))).1.symm).trans (E11.k0 rfl _ (by rw [(E7.k0 rfl _ (by rw [(E5.k0 rfl _ (by rw [(E3.k0 rfl _ al1).2]; exact al1)).2]; exact (by rw [(E3.k0 rfl _ al1).2]; exact al1))).2]; exact (by rw [(E5.k0 rfl _ (by rw [(E3.k0 rfl _ al1).2]; exact al1)).2]; exact (by rw [(E3.k0 rfl _ al1).2]; exact al1)))).1.symm) rfl rl2 hF (fun x13 ra12 hF => ?_)
      refine s_if (not_congr (i_eq rfl (c_lit 5 5 rfl) ra12 ⟨by decide, by decide⟩)) hF (fun c14 hF => ?_) (fun c14 hF => ?_)
      ·
        exact SX35_addSolid_b167 hm R11 ((((el1.trans (E3.k0 rfl _ al1).1.symm).trans (E5.k0 rfl _ (by rw [(E3.k0 rfl _ al1).2]; exact al1)).1.symm).trans (E7.k0 rfl _ (by rw [(E5.k0 rfl _ (by rw [(E3.k0 rfl _ al1).2]; exact al1)).2]; exact (by rw [(E3.k0 rfl _ al1).2]; exact al1))).1.symm).trans (E11.k0 rfl _ (by rw [(E7.k0 rfl _ (by rw [(E5.k0 rfl _ (by rw [(E3.k0 rfl _ al1).2]; exact al1)).2]; exact (by rw [(E3.k0 rfl _ al1).2]; exact al1))).2]; exact (by rw [(E5.k0 rfl _ (by rw [(E3.k0 rfl _ al1).2]; exact al1)).2]; exact (by rw [(E3.k0 rfl _ al1).2]; exact al1)))).1.symm) y13 rfl rl2 rfl rs0 rfl (R7.rj (t_192 hm R7.S) (Nat.le_of_ble_eq_true rfl) rfl) (d_sub (c_2l e11.1 e11.2) (c_2l rfl rs0)) (rr_J _) (c_lit 0 0 rfl) ⟨by decide, by decide⟩ hF
      ·
        exact SX35_addSolid_b167 hm R11 ((((el1.trans (E3.k0 rfl _ al1).1.symm).trans (E5.k0 rfl _ (by rw [(E3.k0 rfl _ al1).2]; exact al1)).1.symm).trans (E7.k0 rfl _ (by rw [(E5.k0 rfl _ (by rw [(E3.k0 rfl _ al1).2]; exact al1)).2]; exact (by rw [(E3.k0 rfl _ al1).2]; exact al1))).1.symm).trans (E11.k0 rfl _ (by rw [(E7.k0 rfl _ (by rw [(E5.k0 rfl _ (by rw [(E3.k0 rfl _ al1).2]; exact al1)).2]; exact (by rw [(E3.k0 rfl _ al1).2]; exact al1))).2]; exact (by rw [(E5.k0 rfl _ (by rw [(E3.k0 rfl _ al1).2]; exact al1)).2]; exact (by rw [(E3.k0 rfl _ al1).2]; exact al1)))).1.symm) y13 rfl rl2 rfl rs0 rfl (R7.rj (t_192 hm R7.S) (Nat.le_of_ble_eq_true rfl) rfl) (d_sub (c_2l e11.1 e11.2) (c_2l rfl rs0)) (rr_J _) (c_lit 1 1 rfl) ⟨by decide, by decide⟩ hF
    ·
      refine s_gJ R7 (t_192 hm R7.S) (Nat.le_of_ble_eq_true rfl) rfl ?_
      exact SX35_addSolid_b170 hm R7 (((el1.trans (E3.k0 rfl _ al1).1.symm).trans (E5.k0 rfl _ (by rw [(E3.k0 rfl _ al1).2]; exact al1)).1.symm).trans (E7.k0 rfl _ (by rw [(E5.k0 rfl _ (by rw [(E3.k0 rfl _ al1).2]; exact al1)).2]; exact (by rw [(E3.k0 rfl _ al1).2]; exact al1))).1.symm) (by rw [(E7.k0 rfl _ (by rw [(E5.k0 rfl _ (by rw [(E3.k0 rfl _ al1).2]; exact al1)).2]; exact (by rw [(E3.k0 rfl _ al1).2]; exact al1))).2]; exact (by rw [(E5.k0 rfl _ (by rw [(E3.k0 rfl _ al1).2]; exact al1)).2]; exact (by rw [(E3.k0 rfl _ al1).2]; exact al1))) rfl rl2 rfl rs0 rfl (R7.rj (t_192 hm R7.S) (Nat.le_of_ble_eq_true rfl) rfl) hF
  ·
    refine s_gJ R (t_192 hm R.S) (Nat.le_of_ble_eq_true rfl) rfl ?_
    refine s_kok R (t_192 hm R.S) (Nat.le_of_ble_eq_true rfl) ?_
    refine s_call R (Nat.zero_le _) (fun _ hq => SX35_grow (b := 0) hm (R.rf) rfl (R.rj (t_192 hm R.S) (Nat.le_of_ble_eq_true rfl) rfl) hq) hF (fun f18 rv18 h18 q21 R18 e18 E18 hF => ?_)
    refine s_kok R18 (t_192 hm R18.S) (Nat.le_of_ble_eq_true rfl) ?_
    refine s_call R18 (Nat.zero_le _) (fun _ hq => SX35_sizeOf (b := 0) hm (R18.rf) (el1.trans (E18.k0 rfl _ al1).1.symm) (by rw [(E18.k0 rfl _ al1).2]; exact al1) rfl rl2 (c_lit 1 1 rfl) ⟨by decide, by decide⟩ hq) hF (fun f20 rv20 h20 q23 R20 e20 E20 hF => ?_)
    refine s_kok R20 (t_192 hm R20.S) (Nat.le_of_ble_eq_true rfl) ?_
    refine s_call R20 (Nat.zero_le _) (fun _ hq => SX35_grow (b := 0) hm (R20.rf) (c_2l e20.1 e20.2) (r32.w e20.2) hq) hF (fun f22 rv22 h22 q25 R22 e22 E22 hF => ?_)
    refine s_kok R22 (t_192 hm R22.S) (Nat.le_of_ble_eq_true rfl) ?_
    refine s_call R22 (Nat.zero_le _) (fun _ hq => SX35_sizeOf (b := 0) hm (R22.rf) (((el1.trans (E18.k0 rfl _ al1).1.symm).trans (E20.k0 rfl _ (by rw [(E18.k0 rfl _ al1).2]; exact al1)).1.symm).trans (E22.k0 rfl _ (by rw [(E20.k0 rfl _ (by rw [(E18.k0 rfl _ al1).2]; exact al1)).2]; exact (by rw [(E18.k0 rfl _ al1).2]; exact al1))).1.symm) (by rw [(E22.k0 rfl _ (by rw [(E20.k0 rfl _ (by rw [(E18.k0 rfl _ al1).2]; exact al1)).2]; exact (by rw [(E18.k0 rfl _ al1).2]; exact al1))).2]; exact (by rw [(E20.k0 rfl _ (by rw [(E18.k0 rfl _ al1).2]; exact al1)).2]; exact (by rw [(E18.k0 rfl _ al1).2]; exact al1))) rfl rl2 (c_lit 2 2 rfl) ⟨by decide, by decide⟩ hq) hF (fun f24 rv24 h24 q27 R24 e24 E24 hF => ?_)
    refine s_pJ R24 (t_192 hm R24.S) (Nat.le_of_ble_eq_true rfl) rfl (c_2l e24.1 e24.2) (r32.w e24.2) hF (fun h25 σ28 R25 T25 hF => ?_)
    refine s_kok R25 (t_192 hm R25.S) (Nat.le_of_ble_eq_true rfl) ?_
    refine s_call R25 (Nat.zero_le _) (fun _ hq => SX35_isRunning (b := 0) hm (R25.rf) ((((el1.trans (E18.k0 rfl _ al1).1.symm).trans (E20.k0 rfl _ (by rw [(E18.k0 rfl _ al1).2]; exact al1)).1.symm).trans (E22.k0 rfl _ (by rw [(E20.k0 rfl _ (by rw [(E18.k0 rfl _ al1).2]; exact al1)).2]; exact (by rw [(E18.k0 rfl _ al1).2]; exact al1))).1.symm).trans (E24.k0 rfl _ (by rw [(E22.k0 rfl _ (by rw [(E20.k0 rfl _ (by rw [(E18.k0 rfl _ al1).2]; exact al1)).2]; exact (by rw [(E18.k0 rfl _ al1).2]; exact al1))).2]; exact (by rw [(E20.k0 rfl _ (by rw [(E18.k0 rfl _ al1).2]; exact al1)).2]; exact (by rw [(E18.k0 rfl _ al1).2]; exact al1)))).1.symm) (by rw [T25]; exact (by rw [(E24.k0 rfl _ (by rw [(E22.k0 rfl _ (by rw [(E20.k0 rfl _ (by rw [(E18.k0 rfl _ al1).2]; exact al1)).2]; exact (by rw [(E18.k0 rfl _ al1).2]; exact al1))).2]; exact (by rw [(E20.k0 rfl _ (by rw [(E18.k0 rfl _ al1).2]; exact al1)).2]; exact (by rw [(E18.k0 rfl _ al1).2]; exact al1)))).2]; exact (by rw [(E22.k0 rfl _ (by rw [(E20.k0 rfl _ (by rw [(E18.k0 rfl _ al1).2]; exact al1)).2]; exact (by rw [(E18.k0 rfl _ al1).2]; exact al1))).2]; exact (by rw [(E20.k0 rfl _ (by rw [(E18.k0 rfl _ al1).2]; exact al1)).2]; exact (by rw [(E18.k0 rfl _ al1).2]; exact al1))))) rfl rl2 (c_lit 0 0 rfl) ⟨by decide, by decide⟩ hq) hF (fun f27 rv27 h27 q31 R27 e27 E27 hF => ?_)
    refine s_if (i_eq e27.1 (c_lit 0 0 rfl) e27.2 ⟨by decide, by decide⟩) hF (fun c28 hF => ?_) (fun c28 hF => ?_)
    ·
      refine s_gJ R27 (t_192 hm R27.S) (Nat.le_of_ble_eq_true rfl) rfl ?_
      refine s_kok R27 (t_192 hm R27.S) (Nat.le_of_ble_eq_true rfl) ?_
      refine s_call R27 (Nat.zero_le _) (fun _ hq => SX35_sizeOf (b := 0) hm (R27.rf) (((((el1.trans (E18.k0 rfl _ al1).1.symm).trans (E20.k0 rfl _ (by rw [(E18.k0 rfl _ al1).2]; exact al1)).1.symm).trans (E22.k0 rfl _ (by rw [(E20.k0 rfl _ (by rw [(E18.k0 rfl _ al1).2]; exact al1)).2]; exact (by rw [(E18.k0 rfl _ al1).2]; exact al1))).1.symm).trans (E24.k0 rfl _ (by rw [(E22.k0 rfl _ (by rw [(E20.k0 rfl _ (by rw [(E18.k0 rfl _ al1).2]; exact al1)).2]; exact (by rw [(E18.k0 rfl _ al1).2]; exact al1))).2]; exact (by rw [(E20.k0 rfl _ (by rw [(E18.k0 rfl _ al1).2]; exact al1)).2]; exact (by rw [(E18.k0 rfl _ al1).2]; exact al1)))).1.symm).trans (E27.k0 rfl _ (by rw [T25]; exact (by rw [(E24.k0 rfl _ (by rw [(E22.k0 rfl _ (by rw [(E20.k0 rfl _ (by rw [(E18.k0 rfl _ al1).2]; exact al1)).2]; exact (by rw [(E18.k0 rfl _ al1).2]; exact al1))).2]; exact (by rw [(E20.k0 rfl _ (by rw [(E18.k0 rfl _ al1).2]; exact al1)).2]; exact (by rw [(E18.k0 rfl _ al1).2]; exact al1)))).2]; exact (by rw [(E22.k0 rfl _ (by rw [(E20.k0 rfl _ (by rw [(E18.k0 rfl _ al1).2]; exact al1)).2]; exact (by rw [(E18.k0 rfl _ al1).2]; exact al1))).2]; exact (by rw [(E20.k0 rfl _ (by rw [(E18.k0 rfl _ al1).2]; exact al1)).2]; exact (by rw [(E18.k0 rfl _ al1).2]; exact al1)))))).1.symm) (by rw [(E27.k0 rfl _ (by rw [T25]; exact (by rw [(E24.k0 rfl _ (by rw [(E22.k0 rfl _ (by rw [(E20.k0 rfl _ (by rw [(E18.k0 rfl _ al1).2]; exact al1)).2]; exact (by rw [(E18.k0 rfl _ al1).2]; exact al1))).2]; exact (by rw [(E20.k0 rfl _ (by rw [(E18.k0 rfl _ al1).2]; exact al1)).2]; exact (by rw [(E18.k0 rfl _ al1).2]; exact al1)))).2]; exact (by rw [(E22.k0 rfl _ (by rw [(E20.k0 rfl _ (by rw [(E18.k0 rfl _ al1).2]; exact al1)).2]; exact (by rw [(E18.k0 rfl _ al1).2]; exact al1))).2]; exact (by rw [(E20.k0 rfl _ (by rw [(E18.k0 rfl _ al1).2]; exact al1)).2]; exact (by rw [(E18.k0 rfl _ al1).2]; exact al1)))))).2]; exact (by rw [T25]; exact (by rw [(E24.k0 rfl _ (by rw [(E22.k0 rfl _ (by rw [(E20.k0 rfl _ (by rw [(E18.k0 rfl _ al1).2]; exact al1)).2]; exact (by rw [(E18.k0 rfl _ al1).2]; exact al1))).2]; exact (by rw [(E20.k0 rfl _ (by rw [(E18.k0 rfl _ al1).2]; exact al1)).2]; exact (by rw [(E18.k0 rfl _ al1).2]; exact al1)))).2]; exact (by rw [(E22.k0 rfl _ (by rw [(E20.k0 rfl _ (by rw [(E18.k0 rfl _ al1).2]; exact al1)).2]; exact (by rw [(E18.k0 rfl _ al1).2]; exact al1))).2]; exact (by rw [(E20.k0 rfl _ (by rw [(E18.k0 rfl _ al1).2]; exact al1)).2]; exact (by rw [(E18.k0 rfl _ al1).2]; exact al1)))))) rfl rl2 (c_lit 0 0 rfl) ⟨by decide, by decide⟩ hq) hF (fun f31 rv31 h31 q36 R31 e31 E31 hF => ?_)
      refine s_KA hF (fun y33 z33 hF => ?_)
      refine s_rI R31 y33 z33 (by decide) ((((((el1.trans (E18.k0 rfl _ al1).1.symm).trans (E20.k0 rfl _ (by rw [(E18.k0 rfl _ al1).2]; exact al1)).1.symm).trans (E22.k0 rfl _ (by rw [(E20.k0 rfl _ (by rw [(E18.k0 rfl _ al1).2]; exact al1)).2]; exact (by rw [(E18.k0 rfl _ al1).2]; exact al1))).1.symm).trans (E24.k0 rfl _ (by rw [(E22.k0 rfl _ (by rw [(E20.k0 rfl _ (by rw [(E18.k0 rfl _ al1).2]; exact al1)).2]; exact (by rw [(E18.k0 rfl _ al1).2]; exact al1))).2]; exact (by rw [(E20.k0 rfl _ (by rw [(E18.k0 rfl _ al1).2]; exact al1)).2]; exact (by rw [(E18.k0 rfl _ al1).2]; exact al1)))).1.symm).trans (E27.k0 rfl _ (by rw [T25]; exact (by rw [(E24.k0 rfl _ (by rw [(E22.k0 rfl _ (by rw [(E20.k0 rfl _ (by rw [(E18.k0 rfl _ al1).2]; exact al1)).2]; exact (by rw [(E18.k0 rfl _ al1).2]; exact al1))).2]; exact (by rw [(E20.k0 rfl _ (by rw [(E18.k0 rfl _ al1).2]; exact al1)).2]; exact (by rw [(E18.k0 rfl _ al1).2]; exact al1)))).2]; exact (by rw [(E22.k0 rfl _ (by rw [(E20.k0 rfl _ (by rw [(E18.k0 rfl _ al1).2]; exact al1)).2]; exact (by rw [(E18.k0 rfl _ al1).2]; exact al1))).2]; exact (by rw [(E20.k0 rfl _ (by rw [(E18.k0 rfl _ al1).2]; exact al1)).2]; exact (by rw [(E18.k0 rfl _ al1).2]; exact al1)))))).1.symm).trans (E31.k0 rfl _ (by rw [(E27.k0 rfl _ (by rw [T25]; exact (by rw [(E24.k0 rfl _ (by rw [(E22.k0 rfl _ (by rw [(E20.k0 rfl _ (by rw [(E18.k0 rfl _ al1).2]; exact al1)).2]; exact (by rw [(E18.k0 rfl _ al1).2]; exact al1))).2]; exact (by rw [(E20.k0 rfl _ (by rw [(E18.k0 rfl _ al1).2]; exact al1)).2]; exact (by rw [(E18.k0 rfl _ al1).2]; exact al1)))).2]; exact (by rw [(E22.k0 rfl _ (by rw [(E20.k0 rfl _ (by rw [(E18.k0 rfl _ al1).2]; exact al1)).2]; exact (by rw [(E18.k0 rfl _ al1).2]; exact al1))).2]; exact (by rw [(E20.k0 rfl _ (by rw [(E18.k0 rfl _ al1).2]; exact al1)).2]; exact (by rw [(E18.k0 rfl _ al1).2]; exact al1)))))).2]; exact (by rw [T25]; exact (by rw [(E24.k0 rfl _ (by rw [(E22.k0 rfl _ (by rw [(E20.k0 rfl _ (by rw [(E18.k0 rfl _ al1).2]; exact al1)).2]; exact (by rw [(E18.k0 rfl _ al1).2]; exact al1))).2]; exact (by rw [(E20.k0 rfl _ (by rw [(E18.k0 rfl _ al1).2]; exact al1)).2]; exact (by rw [(E18.k0 rfl _ al1).2]; exact al1)))).2]; exact (by rw [(E22.k0 rfl _ (by rw [(E20.k0 rfl _ (by rw [(E18.k0 rfl _ al1).2]; exact al1)).2]; exact (by rw [(E18.k0 rfl _ al1).2]; exact al1))).2]; exact (by rw [(E20.k0 rfl _ (by rw [(E18.k0 rfl _ al1).2]; exact al1)).2]; exact (by rw [(E18.k0 rfl _ al1).2]; exact al1))))))).1.symm) rfl rl2 hF (fun x37 ra32 hF => ?_)
      refine s_if (not_congr (i_eq rfl (c_lit 5 5 rfl) ra32 ⟨by decide, by decide⟩)) hF (fun c34 hF => ?_) (fun c34 hF => ?_)
      ·
        exact SX35_addSolid_b101 hm R31 rfl (R27.rj (t_192 hm R27.S) (Nat.le_of_ble_eq_true rfl) rfl) (d_add (c_2l e31.1 e31.2) (c_2l rfl rs0)) (rr_J _) (c_lit 0 0 rfl) ⟨by decide, by decide⟩ hF
      ·
        exact SX35_addSolid_b101 hm R31 rfl (R27.rj (t_192 hm R27.S) (Nat.le_of_ble_eq_true rfl) rfl) (d_add (c_2l e31.1 e31.2) (c_2l rfl rs0)) (rr_J _) (c_lit 1 1 rfl) ⟨by decide, by decide⟩ hF
    ·
      refine s_gJ R27 (t_192 hm R27.S) (Nat.le_of_ble_eq_true rfl) rfl ?_
      exact SX35_addSolid_b104 hm R27 rfl (R27.rj (t_192 hm R27.S) (Nat.le_of_ble_eq_true rfl) rfl) hF
def FX35_addSolid (p0 : Nat) (p1 : Int) (p2 : Int) (s : fS) : Option (Unit × fS) :=
  (uKA 100 s p0).bind fun _ =>
  (uRI s p0 p1).bind fun x1 =>
  if ¬ (x1 = 5) then
    FX35_addSolid_b16 p0 p1 p2 0 s
  else
    (uKA 100 s p0).bind fun _ =>
    (uRI s p0 (iadd p1 2)).bind fun x4 =>
    FX35_addSolid_b16 p0 p1 p2 x4 s
theorem SX35_addSolid {m b : Nat} {φ0 : Nat → Nat} {σo : fS} (hm : 1 ≤ m) {q : Unit × fS} {φ : Nat → Nat} {h : eH} {s : fS} {p0' : Nat} {p0 : Nat} {p1' : Int32} {p1 : Int} {p2' : Int32} {p2 : Int} (R : fC m b φ0 σo φ h s) (ep0 : p0' = φ p0) (ap0 : s.t p0 < 128) (ep1 : p1' = iI p1) (rp1 : r32 p1) (ep2 : p2' = iI p2) (rp2 : r32 p2) (hF : FX35_addSolid p0 p1 p2 s = some q) : gG m b φ0 σo lU q (fX35_addSolid 192 p0' p1' p2' h) := by
  subst ep1; subst ep2
  unfold FX35_addSolid at hF
  unfold fX35_addSolid
  refine s_KA hF (fun y2 z2 hF => ?_)
  refine s_rI R y2 z2 (by decide) ep0 rfl rp1 hF (fun x1 ra1 hF => ?_)
  refine s_if (not_congr (i_eq rfl (c_lit 5 5 rfl) ra1 ⟨by decide, by decide⟩)) hF (fun c3 hF => ?_) (fun c3 hF => ?_)
  ·
    exact SX35_addSolid_b16 hm R ep0 y2 rfl rp1 rfl rp2 (c_lit 0 0 rfl) ⟨by decide, by decide⟩ hF
  ·
    refine s_KA hF (fun y5 z5 hF => ?_)
    refine s_rI R y5 z5 (by decide) ep0 (c_add rfl (c_lit 2 2 rfl)) (rr_I _) hF (fun x4 ra4 hF => ?_)
    exact SX35_addSolid_b16 hm R ep0 y5 rfl rp1 rfl rp2 rfl ra4 hF
def FX35_add_b133 (s : fS) : Option (Unit × fS) :=
  some ((), s)
theorem SX35_add_b133 {m b : Nat} {φ0 : Nat → Nat} {σo : fS} (hm : 1 ≤ m) {q : Unit × fS} {φ : Nat → Nat} {h : eH} {s : fS} (R : fC m b φ0 σo φ h s) (hF : FX35_add_b133 s = some q) : gG m b φ0 σo lU q (fX35_add_b133 h) := by
  unfold FX35_add_b133 at hF
  unfold fX35_add_b133
  exact g_ret R hF trivial
def FX35_add_b130 (s1 : Int) (s : fS) : Option (Unit × fS) :=
  (uPZ s 192 78 s1).bind fun σ1 =>
  FX35_add_b133 σ1
theorem SX35_add_b130 {m b : Nat} {φ0 : Nat → Nat} {σo : fS} (hm : 1 ≤ m) {q : Unit × fS} {φ : Nat → Nat} {h : eH} {s : fS} {s1' : Int32} {s1 : Int} (R : fC m b φ0 σo φ h s) (es1 : s1' = iI s1) (rs1 : r32 s1) (hF : FX35_add_b130 s1 s = some q) : gG m b φ0 σo lU q (fX35_add_b130 192 s1' h) := by
  subst es1
  unfold FX35_add_b130 at hF
  unfold fX35_add_b130
  refine s_pZ R (t_192 hm R.S) (Nat.le_of_ble_eq_true rfl) rfl rfl rs1 hF (fun h1 σ1 R1 T1 hF => ?_)
  exact SX35_add_b133 hm R1 hF
def FX35_add_b129 (s : fS) : Option (Unit × fS) :=
  FX35_add_b130 0 s
theorem SX35_add_b129 {m b : Nat} {φ0 : Nat → Nat} {σo : fS} (hm : 1 ≤ m) {q : Unit × fS} {φ : Nat → Nat} {h : eH} {s : fS} (R : fC m b φ0 σo φ h s) (hF : FX35_add_b129 s = some q) : gG m b φ0 σo lU q (fX35_add_b129 192 h) := by
  unfold FX35_add_b129 at hF
  unfold fX35_add_b129
  exact SX35_add_b130 hm R (c_lit 0 0 rfl) ⟨by decide, by decide⟩ hF
def FX35_add_b34 (l1 : Nat) (l2 : Int) (s : fS) : Option (Unit × fS) :=
  (uKA 100 s l1).bind fun _ =>
  (uRI s l1 (iadd l2 1)).bind fun x1 =>
  (FX35_grow x1 s).bind fun q4 =>
  (uKA 100 q4.2 l1).bind fun _ =>
  (uRI q4.2 l1 l2).bind fun x5 =>
  if ¬ (x5 = 2) then
    FX35_add_b133 q4.2
  else
    (uKA 100 q4.2 l1).bind fun _ =>
    (uRI q4.2 l1 (iadd l2 3)).bind fun x8 =>
    (uRJ q4.2 305 x8).bind fun x14 =>
    (uKA 100 q4.2 l1).bind fun _ =>
    (uRI q4.2 l1 (iadd l2 2)).bind fun x16 =>
    (uQJ q4.2 305 x8 (ladd x14 x16)).bind fun σ18 =>
    (uKA 100 σ18 l1).bind fun _ =>
    (uRI σ18 l1 (iadd l2 4)).bind fun x22 =>
    (uPJ σ18 192 85 (ladd (σ18.j 192 85) x22)).bind fun σ24 =>
    if (σ24.i 192 78) = 0 then
      FX35_add_b129 σ24
    else
      (uRJ σ24 305 x8).bind fun x31 =>
      (FX35_isSize x31 σ24).bind fun q33 =>
      if q33.1 = 0 then
        FX35_add_b129 q33.2
      else
        (FX35_isSize (q33.2.j 192 85) q33.2).bind fun q37 =>
        if q37.1 = 0 then
          FX35_add_b129 q37.2
        else
          FX35_add_b130 1 q37.2
theorem SX35_add_b34 {m b : Nat} {φ0 : Nat → Nat} {σo : fS} (hm : 1 ≤ m) {q : Unit × fS} {φ : Nat → Nat} {h : eH} {s : fS} {l1' : Nat} {l1 : Nat} {l2' : Int32} {l2 : Int} (R : fC m b φ0 σo φ h s) (el1 : l1' = φ l1) (al1 : s.t l1 < 128) (el2 : l2' = iI l2) (rl2 : r32 l2) (hF : FX35_add_b34 l1 l2 s = some q) : gG m b φ0 σo lU q (fX35_add_b34 192 l1' l2' h) := by
  subst el2
  unfold FX35_add_b34 at hF
  unfold fX35_add_b34
  refine s_KA hF (fun y2 z2 hF => ?_)
  refine s_rI R y2 z2 (by decide) el1 (c_add rfl (c_lit 1 1 rfl)) (rr_I _) hF (fun x1 ra1 hF => ?_)
  refine s_kok R (t_192 hm R.S) (Nat.le_of_ble_eq_true rfl) ?_
  refine s_call R (Nat.zero_le _) (fun _ hq => SX35_grow (b := 0) hm (R.rf) (c_2l rfl ra1) (r32.w ra1) hq) hF (fun f4 rv4 h4 q4 R4 e4 E4 hF => ?_)
  refine s_KA hF (fun y6 z6 hF => ?_)
  refine s_rI R4 y6 z6 (by decide) (el1.trans (E4.k0 rfl _ y2).1.symm) rfl rl2 hF (fun x5 ra5 hF => ?_)
  refine s_if (not_congr (i_eq rfl (c_lit 2 2 rfl) ra5 ⟨by decide, by decide⟩)) hF (fun c7 hF => ?_) (fun c7 hF => ?_)
  ·
    exact SX35_add_b133 hm R4 hF
  ·
    refine s_KA hF (fun y9 z9 hF => ?_)
    refine s_rI R4 y9 z9 (by decide) (el1.trans (E4.k0 rfl _ y2).1.symm) (c_add rfl (c_lit 3 3 rfl)) (rr_I _) hF (fun x8 ra8 hF => ?_)
    refine s_gAs R4 (t_192 hm R4.S) (Nat.le_of_ble_eq_true rfl) rfl (o_192_83 hm R4.S) (a_305 hm R4) ?_
    refine s_gAs R4 (t_192 hm R4.S) (Nat.le_of_ble_eq_true rfl) rfl (o_192_83 hm R4.S) (a_305 hm R4) ?_
    refine s_rJ R4 (u_305 hm R4.S).1 (u_305 hm R4.S).2 (a_305 hm R4) rfl ra8 hF (fun x14 ra12 hF => ?_)
    refine s_KA hF (fun y14 z14 hF => ?_)
    refine s_rI R4 y14 z14 (by decide) (el1.trans (E4.k0 rfl _ y2).1.symm) (c_add rfl (c_lit 2 2 rfl)) (rr_I _) hF (fun x16 ra13 hF => ?_)
    refine s_qJ R4 (u_305 hm R4.S).1 (u_305 hm R4.S).2 (a_305 hm R4) rfl ra8 (d_add rfl (c_2l rfl ra13)) (rr_J _) hF (fun h15 σ18 R15 T15 hF => ?_)
    refine s_gJ R15 (t_192 hm R15.S) (Nat.le_of_ble_eq_true rfl) rfl ?_
    refine s_KA hF (fun y18 z18 hF => ?_)
    refine s_rI R15 y18 z18 (by decide) (el1.trans (E4.k0 rfl _ y2).1.symm) (c_add rfl (c_lit 4 4 rfl)) (rr_I _) hF (fun x22 ra17 hF => ?_)
    refine s_pJ R15 (t_192 hm R15.S) (Nat.le_of_ble_eq_true rfl) rfl (d_add rfl (c_2l rfl ra17)) (rr_J _) hF (fun h19 σ24 R19 T19 hF => ?_)
    refine s_gI R19 (t_192 hm R19.S) (Nat.le_of_ble_eq_true rfl) rfl ?_
    refine s_if (i_eq rfl (c_lit 0 0 rfl) (R19.ri (t_192 hm R19.S) (Nat.le_of_ble_eq_true rfl) rfl) ⟨by decide, by decide⟩) hF (fun c21 hF => ?_) (fun c21 hF => ?_)
    ·
      exact SX35_add_b129 hm R19 hF
    ·
      refine s_gAs R19 (t_192 hm R19.S) (Nat.le_of_ble_eq_true rfl) rfl (o_192_83 hm R19.S) (a_305 hm R19) ?_
      refine s_rJ R19 (u_305 hm R19.S).1 (u_305 hm R19.S).2 (a_305 hm R19) rfl ra8 hF (fun x31 ra23 hF => ?_)
      refine s_call R19 (Nat.zero_le _) (fun _ hq => SX35_isSize (b := 0) hm (R19.rf) rfl ra23 hq) hF (fun f24 rv24 h24 q33 R24 e24 E24 hF => ?_)
      refine s_if (i_eq e24.1 (c_lit 0 0 rfl) e24.2 ⟨by decide, by decide⟩) hF (fun c25 hF => ?_) (fun c25 hF => ?_)
      ·
        exact SX35_add_b129 hm R24 hF
      ·
        refine s_gJ R24 (t_192 hm R24.S) (Nat.le_of_ble_eq_true rfl) rfl ?_
        refine s_call R24 (Nat.zero_le _) (fun _ hq => SX35_isSize (b := 0) hm (R24.rf) rfl (R24.rj (t_192 hm R24.S) (Nat.le_of_ble_eq_true rfl) rfl) hq) hF (fun f27 rv27 h27 q37 R27 e27 E27 hF => ?_)
        refine s_if (i_eq e27.1 (c_lit 0 0 rfl) e27.2 ⟨by decide, by decide⟩) hF (fun c28 hF => ?_) (fun c28 hF => ?_)
        ·
          exact SX35_add_b129 hm R27 hF
        ·
          exact SX35_add_b130 hm R27 (c_lit 1 1 rfl) ⟨by decide, by decide⟩ hF
def FX35_add (p0 : Nat) (p1 : Int) (p2 : Int) (s : fS) : Option (Unit × fS) :=
  (uKA 100 s p0).bind fun _ =>
  (uRI s p0 p1).bind fun x1 =>
  (FX35_isSolid x1 s).bind fun q3 =>
  if q3.1 = 0 then
    if p2 = 0 then
      FX35_add_b34 p0 p1 q3.2
    else
      (FX35_grow (q3.2.j 192 80) q3.2).bind fun q9 =>
      (uPJ q9.2 192 80 0).bind fun σ10 =>
      FX35_add_b34 p0 p1 σ10
  else
    (FX35_addSolid p0 p1 p2 q3.2).bind fun q13 =>
    some ((), q13.2)
theorem SX35_add {m b : Nat} {φ0 : Nat → Nat} {σo : fS} (hm : 1 ≤ m) {q : Unit × fS} {φ : Nat → Nat} {h : eH} {s : fS} {p0' : Nat} {p0 : Nat} {p1' : Int32} {p1 : Int} {p2' : Int32} {p2 : Int} (R : fC m b φ0 σo φ h s) (ep0 : p0' = φ p0) (ap0 : s.t p0 < 128) (ep1 : p1' = iI p1) (rp1 : r32 p1) (ep2 : p2' = iI p2) (rp2 : r32 p2) (hF : FX35_add p0 p1 p2 s = some q) : gG m b φ0 σo lU q (fX35_add 192 p0' p1' p2' h) := by
  subst ep1; subst ep2
  unfold FX35_add at hF
  unfold fX35_add
  refine s_KA hF (fun y2 z2 hF => ?_)
  refine s_rI R y2 z2 (by decide) ep0 rfl rp1 hF (fun x1 ra1 hF => ?_)
  refine s_call R (Nat.zero_le _) (fun _ hq => SX35_isSolid (b := 0) hm (R.rf) rfl ra1 hq) hF (fun f3 rv3 h3 q3 R3 e3 E3 hF => ?_)
  refine s_if (i_eq e3.1 (c_lit 0 0 rfl) e3.2 ⟨by decide, by decide⟩) hF (fun c4 hF => ?_) (fun c4 hF => ?_)
  ·
    refine s_if (i_eq rfl (c_lit 0 0 rfl) rp2 ⟨by decide, by decide⟩) hF (fun c5 hF => ?_) (fun c5 hF => ?_)
    ·
      exact SX35_add_b34 hm R3 (ep0.trans (E3.k0 rfl _ y2).1.symm) (by rw [(E3.k0 rfl _ y2).2]; exact y2) rfl rp1 hF
    ·
      refine s_gJ R3 (t_192 hm R3.S) (Nat.le_of_ble_eq_true rfl) rfl ?_
      refine s_kok R3 (t_192 hm R3.S) (Nat.le_of_ble_eq_true rfl) ?_
      refine s_call R3 (Nat.zero_le _) (fun _ hq => SX35_grow (b := 0) hm (R3.rf) rfl (R3.rj (t_192 hm R3.S) (Nat.le_of_ble_eq_true rfl) rfl) hq) hF (fun f8 rv8 h8 q9 R8 e8 E8 hF => ?_)
      refine s_pJ R8 (t_192 hm R8.S) (Nat.le_of_ble_eq_true rfl) rfl (d_lit 0 0 rfl) ⟨by decide, by decide⟩ hF (fun h9 σ10 R9 T9 hF => ?_)
      exact SX35_add_b34 hm R9 ((ep0.trans (E3.k0 rfl _ y2).1.symm).trans (E8.k0 rfl _ (by rw [(E3.k0 rfl _ y2).2]; exact y2)).1.symm) (by rw [T9]; exact (by rw [(E8.k0 rfl _ (by rw [(E3.k0 rfl _ y2).2]; exact y2)).2]; exact (by rw [(E3.k0 rfl _ y2).2]; exact y2))) rfl rp1 hF
  ·
    refine s_kok R3 (t_192 hm R3.S) (Nat.le_of_ble_eq_true rfl) ?_
    refine s_call R3 (Nat.zero_le _) (fun _ hq => SX35_addSolid (b := 0) hm (R3.rf) (ep0.trans (E3.k0 rfl _ y2).1.symm) (by rw [(E3.k0 rfl _ y2).2]; exact y2) rfl rp1 rfl rp2 hq) hF (fun f11 rv11 h11 q13 R11 e11 E11 hF => ?_)
    exact g_ret R11 hF trivial
