set_option maxRecDepth 100000
set_option maxHeartbeats 4000000
def FX40_remove_b12 (N : Nat) : Nat → Nat → Int → fS → Option (Unit × fS)
  | 0, _, _, _ => none
  | n + 1, l0, l2, s =>
    (uK 42 s l0).bind fun _ =>
    if (s.i l0 3) ≤ l2 then
      some ((), s)
    else
      (uK 42 s l0).bind fun _ =>
      (s.o l0 1).bind fun a4 =>
      (uK 42 s l0).bind fun _ =>
      (s.o l0 1).bind fun a6 =>
      (uKA 100 s a6).bind fun _ =>
      (uRI s a6 (iadd l2 1)).bind fun x8 =>
      (uKA 100 s a4).bind fun _ =>
      (uQI s a4 l2 x8).bind fun σ10 =>
      (uK 42 σ10 l0).bind fun _ =>
      (σ10.o l0 2).bind fun a12 =>
      (uK 42 σ10 l0).bind fun _ =>
      (σ10.o l0 2).bind fun a14 =>
      (uKA 100 σ10 a14).bind fun _ =>
      (uRI σ10 a14 (iadd l2 1)).bind fun x16 =>
      (uKA 100 σ10 a12).bind fun _ =>
      (uQI σ10 a12 l2 x16).bind fun σ18 =>
      FX40_remove_b12 N n l0 (iadd l2 1) σ18
theorem SX40_remove_b12 {m b : Nat} {φ0 : Nat → Nat} {σo : fS} (hm : 1 ≤ m) {N : Nat} {q : Unit × fS} : ∀ {n : Nat} {φ : Nat → Nat} {h : eH} {s : fS} {l0 : Nat} {l2' : Int32} {l2 : Int}, fC m b φ0 σo φ h s → l2' = iI l2 → r32 l2 → FX40_remove_b12 N n l0 l2 s = some q → gG m b φ0 σo lU q (fX40_remove_b12 N n l0 l2' h) := by
  intro n
  induction n with
 | zero => intro φ h s l0 l2' l2 R el2 rl2 hF; simp [FX40_remove_b12] at hF
  | succ n ih =>
    intro φ h s l0 l2' l2 R el2 rl2 hF
    subst el2
    rw [FX40_remove_b12] at hF
    rw [fX40_remove_b12]
    refine s_K hF (fun t2 hF => ?_)
    refine s_gI R t2 (Nat.le_of_ble_eq_true rfl) rfl ?_
    refine s_if (i_le rfl rfl (R.ri t2 (Nat.le_of_ble_eq_true rfl) rfl) rl2) hF (fun c3 hF => ?_) (fun c3 hF => ?_)
    ·
      exact g_ret R hF trivial
    ·
      refine s_K hF (fun t5 hF => ?_)
      refine s_oo hF (fun a4 e4 hF => ?_)
      refine s_gA R t5 (Nat.le_of_ble_eq_true rfl) rfl e4 (fun x4_ y4_ => ?_)
      refine s_K hF (fun t7 hF => ?_)
      refine s_oo hF (fun a6 e6 hF => ?_)
      refine s_gA R t7 (Nat.le_of_ble_eq_true rfl) rfl e6 (fun x6_ y6_ => ?_)
      refine s_KA hF (fun y9 z9 hF => ?_)
      refine s_rI R y9 z9 (by decide) rfl (c_add rfl (c_lit 1 1 rfl)) (rr_I _) hF (fun x8 ra8 hF => ?_)
      refine s_KA hF (fun y11 z11 hF => ?_)
      refine s_qI R y11 z11 (by decide) rfl rfl rl2 rfl ra8 hF (fun h10 σ10 R10 T10 hF => ?_)
      refine s_K hF (fun t13 hF => ?_)
      refine s_oo hF (fun a12 e12 hF => ?_)
      refine s_gA R10 t13 (Nat.le_of_ble_eq_true rfl) rfl e12 (fun x12_ y12_ => ?_)
      refine s_K hF (fun t15 hF => ?_)
      refine s_oo hF (fun a14 e14 hF => ?_)
      refine s_gA R10 t15 (Nat.le_of_ble_eq_true rfl) rfl e14 (fun x14_ y14_ => ?_)
      refine s_KA hF (fun y17 z17 hF => ?_)
      refine s_rI R10 y17 z17 (by decide) rfl (c_add rfl (c_lit 1 1 rfl)) (rr_I _) hF (fun x16 ra16 hF => ?_)
      refine s_KA hF (fun y19 z19 hF => ?_)
      refine s_qI R10 y19 z19 (by decide) rfl rfl rl2 rfl ra16 hF (fun h18 σ18 R18 T18 hF => ?_)
      exact ih R18 (c_add rfl (c_lit 1 1 rfl)) (rr_I _) hF
def FX40_remove (N : Nat) (this : Nat) (p0 : Int) (s : fS) : Option (Unit × fS) :=
  (uK 42 s this).bind fun _ =>
  (uK 42 s this).bind fun _ =>
  (uPI s this 3 (isub (s.i this 3) 1)).bind fun σ3 =>
  FX40_remove_b12 N N this p0 σ3
theorem SX40_remove {m b : Nat} {φ0 : Nat → Nat} {σo : fS} (hm : 1 ≤ m) {N : Nat} {q : Unit × fS} {φ : Nat → Nat} {h : eH} {s : fS} {this : Nat} {p0' : Int32} {p0 : Int} (R : fC m b φ0 σo φ h s) (ep0 : p0' = iI p0) (rp0 : r32 p0) (hF : FX40_remove N this p0 s = some q) : gG m b φ0 σo lU q (fX40_remove N this p0' h) := by
  subst ep0
  unfold FX40_remove at hF
  unfold fX40_remove
  refine s_K hF (fun t2 hF => ?_)
  refine s_gI R t2 (Nat.le_of_ble_eq_true rfl) rfl ?_
  refine s_K hF (fun t4 hF => ?_)
  refine s_pI R t4 (Nat.le_of_ble_eq_true rfl) rfl (c_sub rfl (c_lit 1 1 rfl)) (rr_I _) hF (fun h3 σ3 R3 T3 hF => ?_)
  exact SX40_remove_b12 (N := N) hm R3 rfl rp0 hF
def FX40_step_b161 (N : Nat) (s0 : Int) (s : fS) : Option (Int × fS) :=
  some (s0, s)
theorem SX40_step_b161 {m b : Nat} {φ0 : Nat → Nat} {σo : fS} (hm : 1 ≤ m) {N : Nat} {q : Int × fS} {φ : Nat → Nat} {h : eH} {s : fS} {s0' : Int32} {s0 : Int} (R : fC m b φ0 σo φ h s) (es0 : s0' = iI s0) (rs0 : r32 s0) (hF : FX40_step_b161 N s0 s = some q) : gG m b φ0 σo lI q (fX40_step_b161 N s0' h) := by
  subst es0
  unfold FX40_step_b161 at hF
  unfold fX40_step_b161
  exact g_ret R hF ⟨rfl, rs0⟩
def FX40_step_b133 (N : Nat) (l0 : Nat) (l1 : Int) (l4 : Int) (s : fS) : Option (Int × fS) :=
  (uK 42 s l0).bind fun _ =>
  if (s.i l0 3) ≤ (iadd l1 (idiv l4 4)) then
    (uK 42 s l0).bind fun _ =>
    FX40_step_b161 N (isub (s.i l0 3) 1) s
  else
    FX40_step_b161 N (iadd l1 (idiv l4 4)) s
theorem SX40_step_b133 {m b : Nat} {φ0 : Nat → Nat} {σo : fS} (hm : 1 ≤ m) {N : Nat} {q : Int × fS} {φ : Nat → Nat} {h : eH} {s : fS} {l0 : Nat} {l1' : Int32} {l1 : Int} {l4' : Int32} {l4 : Int} (R : fC m b φ0 σo φ h s) (el1 : l1' = iI l1) (rl1 : r32 l1) (el4 : l4' = iI l4) (rl4 : r32 l4) (hF : FX40_step_b133 N l0 l1 l4 s = some q) : gG m b φ0 σo lI q (fX40_step_b133 N l0 l1' l4' h) := by
  subst el1; subst el4
  unfold FX40_step_b133 at hF
  unfold fX40_step_b133
  refine s_K hF (fun t2 hF => ?_)
  refine s_gI R t2 (Nat.le_of_ble_eq_true rfl) rfl ?_
  refine s_if (i_le rfl (c_add rfl (c_div rfl (c_lit 4 4 rfl))) (R.ri t2 (Nat.le_of_ble_eq_true rfl) rfl) (rr_I _)) hF (fun c3 hF => ?_) (fun c3 hF => ?_)
  ·
    refine s_K hF (fun t5 hF => ?_)
    refine s_gI R t5 (Nat.le_of_ble_eq_true rfl) rfl ?_
    exact SX40_step_b161 (N := N) hm R (c_sub rfl (c_lit 1 1 rfl)) (rr_I _) hF
  ·
    exact SX40_step_b161 (N := N) hm R (c_add rfl (c_div rfl (c_lit 4 4 rfl))) (rr_I _) hF
def FX40_step_b119 (N : Nat) (l0 : Nat) (l1 : Int) (l4 : Int) (s : fS) : Option (Int × fS) :=
  if ¬ ((irem (idiv l4 2) 2) = 0) then
    FX40_step_b133 N l0 l1 l4 s
  else
    (uK 42 s l0).bind fun _ =>
    (FX40_remove N l0 l1 s).bind fun q3 =>
    FX40_step_b133 N l0 l1 l4 q3.2
theorem SX40_step_b119 {m b : Nat} {φ0 : Nat → Nat} {σo : fS} (hm : 1 ≤ m) {N : Nat} {q : Int × fS} {φ : Nat → Nat} {h : eH} {s : fS} {l0 : Nat} {l1' : Int32} {l1 : Int} {l4' : Int32} {l4 : Int} (R : fC m b φ0 σo φ h s) (el1 : l1' = iI l1) (rl1 : r32 l1) (el4 : l4' = iI l4) (rl4 : r32 l4) (hF : FX40_step_b119 N l0 l1 l4 s = some q) : gG m b φ0 σo lI q (fX40_step_b119 N l0 l1' l4' h) := by
  subst el1; subst el4
  unfold FX40_step_b119 at hF
  unfold fX40_step_b119
  refine s_if (not_congr (i_eq (c_rem (c_div rfl (c_lit 2 2 rfl)) (c_lit 2 2 rfl)) (c_lit 0 0 rfl) (rr_I _) ⟨by decide, by decide⟩)) hF (fun c1 hF => ?_) (fun c1 hF => ?_)
  ·
    exact SX40_step_b133 (N := N) hm R rfl rl1 rfl rl4 hF
  ·
    refine s_K hF (fun t3 hF => ?_)
    refine s_kok R t3 (Nat.le_of_ble_eq_true rfl) ?_
    refine s_call R (Nat.zero_le _) (fun _ hq => SX40_remove (b := 0) (N := N) hm (R.rf) rfl rl1 hq) hF (fun f4 rv4 h4 q3 R4 e4 E4 hF => ?_)
    exact SX40_step_b133 (N := N) hm R4 rfl rl1 rfl rl4 hF
def FX40_step (N : Nat) (this : Nat) (p0 : Int) (p1 : Int) (s : fS) : Option (Int × fS) :=
  (uK 42 s this).bind fun _ =>
  (s.o this 1).bind fun a1 =>
  (uKA 100 s a1).bind fun _ =>
  (uRI s a1 p0).bind fun x3 =>
  (uK 42 s this).bind fun _ =>
  (s.o this 1).bind fun a5 =>
  (uKA 100 s a5).bind fun _ =>
  (uRI s a5 (iadd p0 1)).bind fun x7 =>
  (uK 42 s this).bind fun _ =>
  (FX40_found N this x3 x7 s).bind fun q10 =>
  if 0 ≤ q10.1 then
    (uK 42 q10.2 this).bind fun _ =>
    (q10.2.o this 0).bind fun a12 =>
    (FX40_at N a12 6 q10.1 2 q10.2).bind fun q14 =>
    (uK 42 q14.2 this).bind fun _ =>
    (q14.2.o this 0).bind fun a15 =>
    (FX40_at N a15 6 q10.1 3 q14.2).bind fun q17 =>
    if q14.1 < 128 then
      (uK 42 q17.2 this).bind fun _ =>
      (FX40_insert N this (iadd p0 1) q17.1 0 q17.2).bind fun q20 =>
      if ¬ ((irem q14.1 2) = 0) then
        FX40_step_b119 N this p0 q14.1 q20.2
      else
        (uK 42 q20.2 this).bind fun _ =>
        (FX40_remove N this (iadd p0 2) q20.2).bind fun q23 =>
        FX40_step_b119 N this p0 q14.1 q23.2
    else
      (uK 42 q17.2 this).bind fun _ =>
      (FX40_scaled N this 7 (iadd (imul 256 (isub q14.1 128)) q17.1) p1 q17.2).bind fun q25 =>
      (uK 42 q25.2 this).bind fun _ =>
      (FX40_insert N this (iadd p0 1) 257 q25.1 q25.2).bind fun q27 =>
      some ((iadd p0 2), q27.2)
  else
    some ((iadd p0 1), q10.2)
theorem SX40_step {m b : Nat} {φ0 : Nat → Nat} {σo : fS} (hm : 1 ≤ m) {N : Nat} {q : Int × fS} {φ : Nat → Nat} {h : eH} {s : fS} {this : Nat} {p0' : Int32} {p0 : Int} {p1' : Int32} {p1 : Int} (R : fC m b φ0 σo φ h s) (ep0 : p0' = iI p0) (rp0 : r32 p0) (ep1 : p1' = iI p1) (rp1 : r32 p1) (hF : FX40_step N this p0 p1 s = some q) : gG m b φ0 σo lI q (fX40_step N this p0' p1' h) := by
  subst ep0; subst ep1
  unfold FX40_step at hF
  unfold fX40_step
  refine s_K hF (fun t2 hF => ?_)
  refine s_oo hF (fun a1 e1 hF => ?_)
  refine s_gA R t2 (Nat.le_of_ble_eq_true rfl) rfl e1 (fun x1_ y1_ => ?_)
  refine s_KA hF (fun y4 z4 hF => ?_)
  refine s_rI R y4 z4 (by decide) rfl rfl rp0 hF (fun x3 ra3 hF => ?_)
  refine s_K hF (fun t6 hF => ?_)
  refine s_oo hF (fun a5 e5 hF => ?_)
  refine s_gA R t6 (Nat.le_of_ble_eq_true rfl) rfl e5 (fun x5_ y5_ => ?_)
  refine s_KA hF (fun y8 z8 hF => ?_)
  refine s_rI R y8 z8 (by decide) rfl (c_add rfl (c_lit 1 1 rfl)) (rr_I _) hF (fun x7 ra7 hF => ?_)
  refine s_K hF (fun t10 hF => ?_)
  refine s_kok R t10 (Nat.le_of_ble_eq_true rfl) ?_
  refine s_call R (Nat.zero_le _) (fun _ hq => SX40_found (b := 0) (N := N) hm (R.rf) rfl ra3 rfl ra7 hq) hF (fun f11 rv11 h11 q10 R11 e11 E11 hF => ?_)
  refine s_if (i_le (c_lit 0 0 rfl) e11.1 ⟨by decide, by decide⟩ e11.2) hF (fun c12 hF => ?_) (fun c12 hF => ?_)
  ·
    refine s_K hF (fun t14 hF => ?_)
    refine s_oo hF (fun a12 e13 hF => ?_)
    refine s_gA R11 t14 (Nat.le_of_ble_eq_true rfl) rfl e13 (fun x13_ y13_ => ?_)
    refine s_call R11 (Nat.zero_le _) (fun _ hq => SX40_at (b := 0) (N := N) hm (R11.rf) rfl (Nat.lt_trans y13_ (Nat.le_of_ble_eq_true rfl)) (c_lit 6 6 rfl) ⟨by decide, by decide⟩ e11.1 e11.2 (c_lit 2 2 rfl) ⟨by decide, by decide⟩ hq) hF (fun f15 rv15 h15 q14 R15 e15 E15 hF => ?_)
    refine s_K hF (fun t17 hF => ?_)
    refine s_oo hF (fun a15 e16 hF => ?_)
    refine s_gA R15 t17 (Nat.le_of_ble_eq_true rfl) rfl e16 (fun x16_ y16_ => ?_)
    refine s_call R15 (Nat.zero_le _) (fun _ hq => SX40_at (b := 0) (N := N) hm (R15.rf) rfl (Nat.lt_trans y16_ (Nat.le_of_ble_eq_true rfl)) (c_lit 6 6 rfl) ⟨by decide, by decide⟩ e11.1 e11.2 (c_lit 3 3 rfl) ⟨by decide, by decide⟩ hq) hF (fun f18 rv18 h18 q17 R18 e18 E18 hF => ?_)
    refine s_if (i_lt e15.1 (c_lit 128 128 rfl) e15.2 ⟨by decide, by decide⟩) hF (fun c19 hF => ?_) (fun c19 hF => ?_)
    ·
      refine s_K hF (fun t21 hF => ?_)
      refine s_kok R18 t21 (Nat.le_of_ble_eq_true rfl) ?_
      refine s_call R18 (Nat.zero_le _) (fun _ hq => SX40_insert (b := 0) (N := N) hm (R18.rf) (c_add rfl (c_lit 1 1 rfl)) (rr_I _) e18.1 e18.2 (c_lit 0 0 rfl) ⟨by decide, by decide⟩ hq) hF (fun f22 rv22 h22 q20 R22 e22 E22 hF => ?_)
      refine s_if (not_congr (i_eq (c_rem e15.1 (c_lit 2 2 rfl)) (c_lit 0 0 rfl) (rr_I _) ⟨by decide, by decide⟩)) hF (fun c23 hF => ?_) (fun c23 hF => ?_)
      ·
        exact SX40_step_b119 (N := N) hm R22 rfl rp0 e15.1 e15.2 hF
      ·
        refine s_K hF (fun t25 hF => ?_)
        refine s_kok R22 t25 (Nat.le_of_ble_eq_true rfl) ?_
        refine s_call R22 (Nat.zero_le _) (fun _ hq => SX40_remove (b := 0) (N := N) hm (R22.rf) (c_add rfl (c_lit 2 2 rfl)) (rr_I _) hq) hF (fun f26 rv26 h26 q23 R26 e26 E26 hF => ?_)
        exact SX40_step_b119 (N := N) hm R26 rfl rp0 e15.1 e15.2 hF
    ·
      refine s_K hF (fun t28 hF => ?_)
      refine s_kok R18 t28 (Nat.le_of_ble_eq_true rfl) ?_
      refine s_call R18 (Nat.zero_le _) (fun _ hq => SX40_scaled (b := 0) (N := N) hm (R18.rf) (c_lit 7 7 rfl) ⟨by decide, by decide⟩ (c_add (c_mul (c_lit 256 256 rfl) (c_sub e15.1 (c_lit 128 128 rfl))) e18.1) (rr_I _) rfl rp1 hq) hF (fun f29 rv29 h29 q25 R29 e29 E29 hF => ?_)
      refine s_K hF (fun t31 hF => ?_)
      refine s_kok R29 t31 (Nat.le_of_ble_eq_true rfl) ?_
      refine s_call R29 (Nat.zero_le _) (fun _ hq => SX40_insert (b := 0) (N := N) hm (R29.rf) (c_add rfl (c_lit 1 1 rfl)) (rr_I _) (c_lit 257 257 rfl) ⟨by decide, by decide⟩ e29.1 e29.2 hq) hF (fun f32 rv32 h32 q27 R32 e32 E32 hF => ?_)
      exact g_ret R32 hF ⟨(c_add rfl (c_lit 2 2 rfl)), (rr_I _)⟩
  ·
    exact g_ret R11 hF ⟨(c_add rfl (c_lit 1 1 rfl)), (rr_I _)⟩
def FX40_set_b149 (N : Nat) (K125 : Nat → Int → fS → Option (Int × fS)) (l0 : Nat) (l7 : Int) (s : fS) : Option (Int × fS) :=
  K125 l0 (iadd l7 (-1)) s
theorem SX40_set_b149 {m b : Nat} {φ0 : Nat → Nat} {σo : fS} (hm : 1 ≤ m) {N : Nat} {k125 : Nat → Int32 → eH → Option (Int32 × eH)} {K125 : Nat → Int → fS → Option (Int × fS)} {q : Int × fS} (hk125 : ∀ {φ : Nat → Nat} {h : eH} {s : fS} {l0 : Nat} {l7' : Int32} {l7 : Int}, fC m b φ0 σo φ h s → l7' = iI l7 → r32 l7 → K125 l0 l7 s = some q → gG m b φ0 σo lI q (k125 l0 l7' h)) {φ : Nat → Nat} {h : eH} {s : fS} {l0 : Nat} {l7' : Int32} {l7 : Int} (R : fC m b φ0 σo φ h s) (el7 : l7' = iI l7) (rl7 : r32 l7) (hF : FX40_set_b149 N K125 l0 l7 s = some q) : gG m b φ0 σo lI q (fX40_set_b149 N k125 l0 l7' h) := by
  subst el7
  unfold FX40_set_b149 at hF
  unfold fX40_set_b149
  exact hk125 R (c_add rfl (c_lit (-1) (-1) rfl)) (rr_I _) hF
def FX40_set_b125 (N : Nat) : Nat → Nat → Int → fS → Option (Int × fS)
  | 0, _, _, _ => none
  | n + 1, l0, l7, s =>
    if l7 < 0 then
      some (1, s)
    else
      (uK 42 s l0).bind fun _ =>
      (s.o l0 1).bind fun a2 =>
      (uKA 100 s a2).bind fun _ =>
      (uRI s a2 l7).bind fun x4 =>
      if ¬ (x4 = 256) then
        FX40_set_b149 N (FX40_set_b125 N n) l0 l7 s
      else
        (uK 42 s l0).bind fun _ =>
        (FX40_remove N l0 l7 s).bind fun q8 =>
        FX40_set_b149 N (FX40_set_b125 N n) l0 l7 q8.2
theorem SX40_set_b125 {m b : Nat} {φ0 : Nat → Nat} {σo : fS} (hm : 1 ≤ m) {N : Nat} {q : Int × fS} : ∀ {n : Nat} {φ : Nat → Nat} {h : eH} {s : fS} {l0 : Nat} {l7' : Int32} {l7 : Int}, fC m b φ0 σo φ h s → l7' = iI l7 → r32 l7 → FX40_set_b125 N n l0 l7 s = some q → gG m b φ0 σo lI q (fX40_set_b125 N n l0 l7' h) := by
  intro n
  induction n with
 | zero => intro φ h s l0 l7' l7 R el7 rl7 hF; simp [FX40_set_b125] at hF
  | succ n ih =>
    intro φ h s l0 l7' l7 R el7 rl7 hF
    subst el7
    rw [FX40_set_b125] at hF
    rw [fX40_set_b125]
    refine s_if (i_lt rfl (c_lit 0 0 rfl) rl7 ⟨by decide, by decide⟩) hF (fun c1 hF => ?_) (fun c1 hF => ?_)
    ·
      exact g_ret R hF ⟨(c_lit 1 1 rfl), ⟨by decide, by decide⟩⟩
    ·
      refine s_K hF (fun t3 hF => ?_)
      refine s_oo hF (fun a2 e2 hF => ?_)
      refine s_gA R t3 (Nat.le_of_ble_eq_true rfl) rfl e2 (fun x2_ y2_ => ?_)
      refine s_KA hF (fun y5 z5 hF => ?_)
      refine s_rI R y5 z5 (by decide) rfl rfl rl7 hF (fun x4 ra4 hF => ?_)
      refine s_if (not_congr (i_eq rfl (c_lit 256 256 rfl) ra4 ⟨by decide, by decide⟩)) hF (fun c6 hF => ?_) (fun c6 hF => ?_)
      ·
        exact SX40_set_b149 (N := N) (k125 := fX40_set_b125 N n) (K125 := FX40_set_b125 N n) hm @ih R rfl rl7 hF
      ·
        refine s_K hF (fun t8 hF => ?_)
        refine s_kok R t8 (Nat.le_of_ble_eq_true rfl) ?_
        refine s_call R (Nat.zero_le _) (fun _ hq => SX40_remove (b := 0) (N := N) hm (R.rf) rfl rl7 hq) hF (fun f9 rv9 h9 q8 R9 e9 E9 hF => ?_)
        exact SX40_set_b149 (N := N) (k125 := fX40_set_b125 N n) (K125 := FX40_set_b125 N n) hm @ih R9 rfl rl7 hF
def FX40_set_b80 (N : Nat) : Nat → Nat → Int → Int → Int → fS → Option (Int × fS)
  | 0, _, _, _, _, _ => none
  | n + 1, l0, l4, l5, l6, s =>
    (uK 42 s l0).bind fun _ =>
    if (s.i l0 3) ≤ (iadd l5 1) then
      (uK 42 s l0).bind fun _ =>
      FX40_set_b125 N N l0 (isub (s.i l0 3) 1) s
    else
      if ¬ (l6 = 1000) then
        (uK 42 s l0).bind fun _ =>
        (FX40_step N l0 l5 l4 s).bind fun q8 =>
        FX40_set_b80 N n l0 l4 q8.1 (iadd l6 1) q8.2
      else
        some (0, s)
theorem SX40_set_b80 {m b : Nat} {φ0 : Nat → Nat} {σo : fS} (hm : 1 ≤ m) {N : Nat} {q : Int × fS} : ∀ {n : Nat} {φ : Nat → Nat} {h : eH} {s : fS} {l0 : Nat} {l4' : Int32} {l4 : Int} {l5' : Int32} {l5 : Int} {l6' : Int32} {l6 : Int}, fC m b φ0 σo φ h s → l4' = iI l4 → r32 l4 → l5' = iI l5 → r32 l5 → l6' = iI l6 → r32 l6 → FX40_set_b80 N n l0 l4 l5 l6 s = some q → gG m b φ0 σo lI q (fX40_set_b80 N n l0 l4' l5' l6' h) := by
  intro n
  induction n with
 | zero => intro φ h s l0 l4' l4 l5' l5 l6' l6 R el4 rl4 el5 rl5 el6 rl6 hF; simp [FX40_set_b80] at hF
  | succ n ih =>
    intro φ h s l0 l4' l4 l5' l5 l6' l6 R el4 rl4 el5 rl5 el6 rl6 hF
    subst el4; subst el5; subst el6
    rw [FX40_set_b80] at hF
    rw [fX40_set_b80]
    refine s_K hF (fun t2 hF => ?_)
    refine s_gI R t2 (Nat.le_of_ble_eq_true rfl) rfl ?_
    refine s_if (i_le rfl (c_add rfl (c_lit 1 1 rfl)) (R.ri t2 (Nat.le_of_ble_eq_true rfl) rfl) (rr_I _)) hF (fun c3 hF => ?_) (fun c3 hF => ?_)
    ·
      refine s_K hF (fun t5 hF => ?_)
      refine s_gI R t5 (Nat.le_of_ble_eq_true rfl) rfl ?_
      exact SX40_set_b125 (N := N) hm R (c_sub rfl (c_lit 1 1 rfl)) (rr_I _) hF
    ·
      refine s_if (not_congr (i_eq rfl (c_lit 1000 1000 rfl) rl6 ⟨by decide, by decide⟩)) hF (fun c6 hF => ?_) (fun c6 hF => ?_)
      ·
        refine s_K hF (fun t8 hF => ?_)
        refine s_kok R t8 (Nat.le_of_ble_eq_true rfl) ?_
        refine s_call R (Nat.zero_le _) (fun _ hq => SX40_step (b := 0) (N := N) hm (R.rf) rfl rl5 rfl rl4 hq) hF (fun f9 rv9 h9 q8 R9 e9 E9 hF => ?_)
        exact ih R9 rfl rl4 e9.1 e9.2 (c_add rfl (c_lit 1 1 rfl)) (rr_I _) hF
      ·
        exact g_ret R hF ⟨(c_lit 0 0 rfl), ⟨by decide, by decide⟩⟩
def FX40_set_b74 (N : Nat) (l0 : Nat) (l4 : Int) (s : fS) : Option (Int × fS) :=
  FX40_set_b80 N N l0 l4 0 0 s
theorem SX40_set_b74 {m b : Nat} {φ0 : Nat → Nat} {σo : fS} (hm : 1 ≤ m) {N : Nat} {q : Int × fS} {φ : Nat → Nat} {h : eH} {s : fS} {l0 : Nat} {l4' : Int32} {l4 : Int} (R : fC m b φ0 σo φ h s) (el4 : l4' = iI l4) (rl4 : r32 l4) (hF : FX40_set_b74 N l0 l4 s = some q) : gG m b φ0 σo lI q (fX40_set_b74 N l0 l4' h) := by
  subst el4
  unfold FX40_set_b74 at hF
  unfold fX40_set_b74
  exact SX40_set_b80 (N := N) hm R rfl rl4 (c_lit 0 0 rfl) ⟨by decide, by decide⟩ (c_lit 0 0 rfl) ⟨by decide, by decide⟩ hF
def FX40_set_b27 (N : Nat) : Nat → Nat → Int → Int → Int → fS → Option (Int × fS)
  | 0, _, _, _, _, _ => none
  | n + 1, l0, l3, l4, l5, s =>
    if l3 ≤ l5 then
      (uK 42 s l0).bind fun _ =>
      (s.o l0 0).bind fun a2 =>
      (FX40_edgeOf N a2 s).bind fun q4 =>
      if q4.1 < 0 then
        FX40_set_b74 N l0 l4 q4.2
      else
        (uK 42 q4.2 l0).bind fun _ =>
        (uK 42 q4.2 l0).bind fun _ =>
        (FX40_insert N l0 (q4.2.i l0 3) 256 0 q4.2).bind fun q9 =>
        FX40_set_b74 N l0 l4 q9.2
    else
      (uK 42 s l0).bind fun _ =>
      (uRI s 289 l5).bind fun x12 =>
      (uK 42 s l0).bind fun _ =>
      (FX40_insert N l0 (s.i l0 3) x12 0 s).bind fun q15 =>
      FX40_set_b27 N n l0 l3 l4 (iadd l5 1) q15.2
theorem SX40_set_b27 {m b : Nat} {φ0 : Nat → Nat} {σo : fS} (hm : 1 ≤ m) {N : Nat} {q : Int × fS} : ∀ {n : Nat} {φ : Nat → Nat} {h : eH} {s : fS} {l0 : Nat} {l3' : Int32} {l3 : Int} {l4' : Int32} {l4 : Int} {l5' : Int32} {l5 : Int}, fC m b φ0 σo φ h s → l3' = iI l3 → r32 l3 → l4' = iI l4 → r32 l4 → l5' = iI l5 → r32 l5 → FX40_set_b27 N n l0 l3 l4 l5 s = some q → gG m b φ0 σo lI q (fX40_set_b27 N n l0 289 l3' l4' l5' h) := by
  intro n
  induction n with
 | zero => intro φ h s l0 l3' l3 l4' l4 l5' l5 R el3 rl3 el4 rl4 el5 rl5 hF; simp [FX40_set_b27] at hF
  | succ n ih =>
    intro φ h s l0 l3' l3 l4' l4 l5' l5 R el3 rl3 el4 rl4 el5 rl5 hF
    subst el3; subst el4; subst el5
    rw [FX40_set_b27] at hF
    rw [fX40_set_b27]
    refine s_if (i_le rfl rfl rl3 rl5) hF (fun c1 hF => ?_) (fun c1 hF => ?_)
    ·
      refine s_K hF (fun t3 hF => ?_)
      refine s_oo hF (fun a2 e2 hF => ?_)
      refine s_gA R t3 (Nat.le_of_ble_eq_true rfl) rfl e2 (fun x2_ y2_ => ?_)
      refine s_call R (Nat.zero_le _) (fun _ hq => SX40_edgeOf (b := 0) (N := N) hm (R.rf) rfl (Nat.lt_trans y2_ (Nat.le_of_ble_eq_true rfl)) hq) hF (fun f4 rv4 h4 q4 R4 e4 E4 hF => ?_)
      refine s_if (i_lt e4.1 (c_lit 0 0 rfl) e4.2 ⟨by decide, by decide⟩) hF (fun c5 hF => ?_) (fun c5 hF => ?_)
      ·
        exact SX40_set_b74 (N := N) hm R4 rfl rl4 hF
      ·
        refine s_K hF (fun t7 hF => ?_)
        refine s_gI R4 t7 (Nat.le_of_ble_eq_true rfl) rfl ?_
        refine s_K hF (fun t9 hF => ?_)
        refine s_kok R4 t9 (Nat.le_of_ble_eq_true rfl) ?_
        refine s_call R4 (Nat.zero_le _) (fun _ hq => SX40_insert (b := 0) (N := N) hm (R4.rf) rfl (R4.ri t7 (Nat.le_of_ble_eq_true rfl) rfl) (c_lit 256 256 rfl) ⟨by decide, by decide⟩ (c_lit 0 0 rfl) ⟨by decide, by decide⟩ hq) hF (fun f10 rv10 h10 q9 R10 e10 E10 hF => ?_)
        exact SX40_set_b74 (N := N) hm R10 rfl rl4 hF
    ·
      refine s_K hF (fun t12 hF => ?_)
      refine s_gI R t12 (Nat.le_of_ble_eq_true rfl) rfl ?_
      refine s_rI R (u_289 hm R.S).1 (u_289 hm R.S).2 (by decide) (a_289 hm R) rfl rl5 hF (fun x12 ra13 hF => ?_)
      refine s_K hF (fun t15 hF => ?_)
      refine s_kok R t15 (Nat.le_of_ble_eq_true rfl) ?_
      refine s_call R (Nat.zero_le _) (fun _ hq => SX40_insert (b := 0) (N := N) hm (R.rf) rfl (R.ri t12 (Nat.le_of_ble_eq_true rfl) rfl) rfl ra13 (c_lit 0 0 rfl) ⟨by decide, by decide⟩ hq) hF (fun f16 rv16 h16 q15 R16 e16 E16 hF => ?_)
      exact ih R16 rfl rl3 rfl rl4 (c_add rfl (c_lit 1 1 rfl)) (rr_I _) hF
def FX40_set_b24 (N : Nat) (l0 : Nat) (l2 : Int) (l3 : Int) (l4 : Int) (s : fS) : Option (Int × fS) :=
  FX40_set_b27 N N l0 l3 l4 l2 s
theorem SX40_set_b24 {m b : Nat} {φ0 : Nat → Nat} {σo : fS} (hm : 1 ≤ m) {N : Nat} {q : Int × fS} {φ : Nat → Nat} {h : eH} {s : fS} {l0 : Nat} {l2' : Int32} {l2 : Int} {l3' : Int32} {l3 : Int} {l4' : Int32} {l4 : Int} (R : fC m b φ0 σo φ h s) (el2 : l2' = iI l2) (rl2 : r32 l2) (el3 : l3' = iI l3) (rl3 : r32 l3) (el4 : l4' = iI l4) (rl4 : r32 l4) (hF : FX40_set_b24 N l0 l2 l3 l4 s = some q) : gG m b φ0 σo lI q (fX40_set_b24 N l0 289 l2' l3' l4' h) := by
  subst el2; subst el3; subst el4
  unfold FX40_set_b24 at hF
  unfold fX40_set_b24
  exact SX40_set_b27 (N := N) hm R rfl rl3 rfl rl4 rfl rl2 hF
def FX40_set (N : Nat) (this : Nat) (p1 : Int) (p2 : Int) (p3 : Int) (s : fS) : Option (Int × fS) :=
  (uK 42 s this).bind fun _ =>
  (uPI s this 3 0).bind fun σ1 =>
  (uK 42 σ1 this).bind fun _ =>
  (σ1.o this 0).bind fun a3 =>
  (FX40_edgeProgram N a3 σ1).bind fun q5 =>
  if q5.1 < 0 then
    FX40_set_b24 N this p1 p2 p3 q5.2
  else
    (uK 42 q5.2 this).bind fun _ =>
    (FX40_insert N this 0 256 0 q5.2).bind fun q8 =>
    FX40_set_b24 N this p1 p2 p3 q8.2
theorem SX40_set {m b : Nat} {φ0 : Nat → Nat} {σo : fS} (hm : 1 ≤ m) {N : Nat} {q : Int × fS} {φ : Nat → Nat} {h : eH} {s : fS} {this : Nat} {p1' : Int32} {p1 : Int} {p2' : Int32} {p2 : Int} {p3' : Int32} {p3 : Int} (R : fC m b φ0 σo φ h s) (ep1 : p1' = iI p1) (rp1 : r32 p1) (ep2 : p2' = iI p2) (rp2 : r32 p2) (ep3 : p3' = iI p3) (rp3 : r32 p3) (hF : FX40_set N this p1 p2 p3 s = some q) : gG m b φ0 σo lI q (fX40_set N this 289 p1' p2' p3' h) := by
  subst ep1; subst ep2; subst ep3
  unfold FX40_set at hF
  unfold fX40_set
  refine s_K hF (fun t2 hF => ?_)
  refine s_pI R t2 (Nat.le_of_ble_eq_true rfl) rfl (c_lit 0 0 rfl) ⟨by decide, by decide⟩ hF (fun h1 σ1 R1 T1 hF => ?_)
  refine s_K hF (fun t4 hF => ?_)
  refine s_oo hF (fun a3 e3 hF => ?_)
  refine s_gA R1 t4 (Nat.le_of_ble_eq_true rfl) rfl e3 (fun x3_ y3_ => ?_)
  refine s_call R1 (Nat.zero_le _) (fun _ hq => SX40_edgeProgram (b := 0) (N := N) hm (R1.rf) rfl (Nat.lt_trans y3_ (Nat.le_of_ble_eq_true rfl)) hq) hF (fun f5 rv5 h5 q5 R5 e5 E5 hF => ?_)
  refine s_if (i_lt e5.1 (c_lit 0 0 rfl) e5.2 ⟨by decide, by decide⟩) hF (fun c6 hF => ?_) (fun c6 hF => ?_)
  ·
    exact SX40_set_b24 (N := N) hm R5 rfl rp1 rfl rp2 rfl rp3 hF
  ·
    refine s_K hF (fun t8 hF => ?_)
    refine s_kok R5 t8 (Nat.le_of_ble_eq_true rfl) ?_
    refine s_call R5 (Nat.zero_le _) (fun _ hq => SX40_insert (b := 0) (N := N) hm (R5.rf) (c_lit 0 0 rfl) ⟨by decide, by decide⟩ (c_lit 256 256 rfl) ⟨by decide, by decide⟩ (c_lit 0 0 rfl) ⟨by decide, by decide⟩ hq) hF (fun f9 rv9 h9 q8 R9 e9 E9 hF => ?_)
    exact SX40_set_b24 (N := N) hm R9 rfl rp1 rfl rp2 rfl rp3 hF
def FX36_toldAt_b76 (N : Nat) (K39 : Nat → Int → Int → Int → Int → fS → Option (Int × fS)) (l1 : Nat) (l2 : Int) (l3 : Int) (l5 : Int) (s0 : Int) (s : fS) : Option (Int × fS) :=
  K39 l1 l2 l3 s0 (iadd l5 1) s
theorem SX36_toldAt_b76 {m b : Nat} {φ0 : Nat → Nat} {σo : fS} (hm : 1 ≤ m) {N : Nat} {k39 : Nat → Nat → Int32 → Int32 → Int32 → Int32 → eH → Option (Int32 × eH)} {K39 : Nat → Int → Int → Int → Int → fS → Option (Int × fS)} {q : Int × fS} (hk39 : ∀ {φ : Nat → Nat} {h : eH} {s : fS} {l1' : Nat} {l1 : Nat} {l2' : Int32} {l2 : Int} {l3' : Int32} {l3 : Int} {l4' : Int32} {l4 : Int} {l5' : Int32} {l5 : Int}, fC m b φ0 σo φ h s → l1' = φ l1 → s.t l1 < 128 → l2' = iI l2 → r32 l2 → l3' = iI l3 → r32 l3 → l4' = iI l4 → r32 l4 → l5' = iI l5 → r32 l5 → K39 l1 l2 l3 l4 l5 s = some q → gG m b φ0 σo lI q (k39 195 l1' l2' l3' l4' l5' h)) {φ : Nat → Nat} {h : eH} {s : fS} {l1' : Nat} {l1 : Nat} {l2' : Int32} {l2 : Int} {l3' : Int32} {l3 : Int} {l5' : Int32} {l5 : Int} {s0' : Int32} {s0 : Int} (R : fC m b φ0 σo φ h s) (el1 : l1' = φ l1) (al1 : s.t l1 < 128) (el2 : l2' = iI l2) (rl2 : r32 l2) (el3 : l3' = iI l3) (rl3 : r32 l3) (el5 : l5' = iI l5) (rl5 : r32 l5) (es0 : s0' = iI s0) (rs0 : r32 s0) (hF : FX36_toldAt_b76 N K39 l1 l2 l3 l5 s0 s = some q) : gG m b φ0 σo lI q (fX36_toldAt_b76 N k39 195 l1' l2' l3' l5' s0' h) := by
  subst el2; subst el3; subst el5; subst es0
  unfold FX36_toldAt_b76 at hF
  unfold fX36_toldAt_b76
  exact hk39 R el1 al1 rfl rl2 rfl rl3 rfl rs0 (c_add rfl (c_lit 1 1 rfl)) (rr_I _) hF
def FX36_toldAt_b84 (N : Nat) (K2 : Nat → Int → Int → fS → Option (Int × fS)) (l1 : Nat) (l2 : Int) (l3 : Int) (l4 : Int) (s : fS) : Option (Int × fS) :=
  if l4 = 0 then
    K2 l1 l2 (iadd l3 1) s
  else
    some (l3, s)
theorem SX36_toldAt_b84 {m b : Nat} {φ0 : Nat → Nat} {σo : fS} (hm : 1 ≤ m) {N : Nat} {k2 : Nat → Nat → Int32 → Int32 → eH → Option (Int32 × eH)} {K2 : Nat → Int → Int → fS → Option (Int × fS)} {q : Int × fS} (hk2 : ∀ {φ : Nat → Nat} {h : eH} {s : fS} {l1' : Nat} {l1 : Nat} {l2' : Int32} {l2 : Int} {l3' : Int32} {l3 : Int}, fC m b φ0 σo φ h s → l1' = φ l1 → s.t l1 < 128 → l2' = iI l2 → r32 l2 → l3' = iI l3 → r32 l3 → K2 l1 l2 l3 s = some q → gG m b φ0 σo lI q (k2 195 l1' l2' l3' h)) {φ : Nat → Nat} {h : eH} {s : fS} {l1' : Nat} {l1 : Nat} {l2' : Int32} {l2 : Int} {l3' : Int32} {l3 : Int} {l4' : Int32} {l4 : Int} (R : fC m b φ0 σo φ h s) (el1 : l1' = φ l1) (al1 : s.t l1 < 128) (el2 : l2' = iI l2) (rl2 : r32 l2) (el3 : l3' = iI l3) (rl3 : r32 l3) (el4 : l4' = iI l4) (rl4 : r32 l4) (hF : FX36_toldAt_b84 N K2 l1 l2 l3 l4 s = some q) : gG m b φ0 σo lI q (fX36_toldAt_b84 N k2 195 l1' l2' l3' l4' h) := by
  subst el2; subst el3; subst el4
  unfold FX36_toldAt_b84 at hF
  unfold fX36_toldAt_b84
  refine s_if (i_eq rfl (c_lit 0 0 rfl) rl4 ⟨by decide, by decide⟩) hF (fun c1 hF => ?_) (fun c1 hF => ?_)
  ·
    exact hk2 R el1 al1 rfl rl2 (c_add rfl (c_lit 1 1 rfl)) (rr_I _) hF
  ·
    exact g_ret R hF ⟨rfl, rl3⟩
def FX36_toldAt_b39 (N : Nat) (K2 : Nat → Int → Int → fS → Option (Int × fS)) : Nat → Nat → Int → Int → Int → Int → fS → Option (Int × fS)
  | 0, _, _, _, _, _, _ => none
  | n + 1, l1, l2, l3, l4, l5, s =>
    if l2 ≤ l5 then
      FX36_toldAt_b84 N K2 l1 l2 l3 l4 s
    else
      if l4 = 0 then
        FX36_toldAt_b84 N K2 l1 l2 l3 l4 s
      else
        (uRI s 204 l3).bind fun x7 =>
        (uRI s 205 (iadd x7 l5)).bind fun x9 =>
        (uKA 100 s l1).bind fun _ =>
        (uRI s l1 l5).bind fun x11 =>
        if ¬ (x9 = x11) then
          FX36_toldAt_b76 N (FX36_toldAt_b39 N K2 n) l1 l2 l3 l5 0 s
        else
          FX36_toldAt_b76 N (FX36_toldAt_b39 N K2 n) l1 l2 l3 l5 1 s
theorem SX36_toldAt_b39 {m b : Nat} {φ0 : Nat → Nat} {σo : fS} (hm : 1 ≤ m) {N : Nat} {k2 : Nat → Nat → Int32 → Int32 → eH → Option (Int32 × eH)} {K2 : Nat → Int → Int → fS → Option (Int × fS)} {q : Int × fS} (hk2 : ∀ {φ : Nat → Nat} {h : eH} {s : fS} {l1' : Nat} {l1 : Nat} {l2' : Int32} {l2 : Int} {l3' : Int32} {l3 : Int}, fC m b φ0 σo φ h s → l1' = φ l1 → s.t l1 < 128 → l2' = iI l2 → r32 l2 → l3' = iI l3 → r32 l3 → K2 l1 l2 l3 s = some q → gG m b φ0 σo lI q (k2 195 l1' l2' l3' h)) : ∀ {n : Nat} {φ : Nat → Nat} {h : eH} {s : fS} {l1' : Nat} {l1 : Nat} {l2' : Int32} {l2 : Int} {l3' : Int32} {l3 : Int} {l4' : Int32} {l4 : Int} {l5' : Int32} {l5 : Int}, fC m b φ0 σo φ h s → l1' = φ l1 → s.t l1 < 128 → l2' = iI l2 → r32 l2 → l3' = iI l3 → r32 l3 → l4' = iI l4 → r32 l4 → l5' = iI l5 → r32 l5 → FX36_toldAt_b39 N K2 n l1 l2 l3 l4 l5 s = some q → gG m b φ0 σo lI q (fX36_toldAt_b39 N k2 n 195 l1' l2' l3' l4' l5' h) := by
  intro n
  induction n with
 | zero => intro φ h s l1' l1 l2' l2 l3' l3 l4' l4 l5' l5 R el1 al1 el2 rl2 el3 rl3 el4 rl4 el5 rl5 hF; simp [FX36_toldAt_b39] at hF
  | succ n ih =>
    intro φ h s l1' l1 l2' l2 l3' l3 l4' l4 l5' l5 R el1 al1 el2 rl2 el3 rl3 el4 rl4 el5 rl5 hF
    subst el2; subst el3; subst el4; subst el5
    rw [FX36_toldAt_b39] at hF
    rw [fX36_toldAt_b39]
    refine s_if (i_le rfl rfl rl2 rl5) hF (fun c1 hF => ?_) (fun c1 hF => ?_)
    ·
      exact SX36_toldAt_b84 (N := N) (k2 := k2) (K2 := K2) hm @hk2 R el1 al1 rfl rl2 rfl rl3 rfl rl4 hF
    ·
      refine s_if (i_eq rfl (c_lit 0 0 rfl) rl4 ⟨by decide, by decide⟩) hF (fun c2 hF => ?_) (fun c2 hF => ?_)
      ·
        exact SX36_toldAt_b84 (N := N) (k2 := k2) (K2 := K2) hm @hk2 R el1 al1 rfl rl2 rfl rl3 rfl rl4 hF
      ·
        refine s_gAs R (t_195 hm R.S) (Nat.le_of_ble_eq_true rfl) rfl (o_195_14 hm R.S) (a_205 hm R) ?_
        refine s_gAs R (t_195 hm R.S) (Nat.le_of_ble_eq_true rfl) rfl (o_195_13 hm R.S) (a_204 hm R) ?_
        refine s_rI R (u_204 hm R.S).1 (u_204 hm R.S).2 (by decide) (a_204 hm R) rfl rl3 hF (fun x7 ra5 hF => ?_)
        refine s_rI R (u_205 hm R.S).1 (u_205 hm R.S).2 (by decide) (a_205 hm R) (c_add rfl rfl) (rr_I _) hF (fun x9 ra6 hF => ?_)
        refine s_KA hF (fun y8 z8 hF => ?_)
        refine s_rI R y8 z8 (by decide) el1 rfl rl5 hF (fun x11 ra7 hF => ?_)
        refine s_if (not_congr (i_eq rfl rfl ra6 ra7)) hF (fun c9 hF => ?_) (fun c9 hF => ?_)
        ·
          exact SX36_toldAt_b76 (N := N) (k39 := fX36_toldAt_b39 N k2 n) (K39 := FX36_toldAt_b39 N K2 n) hm @ih R el1 y8 rfl rl2 rfl rl3 rfl rl5 (c_lit 0 0 rfl) ⟨by decide, by decide⟩ hF
        ·
          exact SX36_toldAt_b76 (N := N) (k39 := fX36_toldAt_b39 N k2 n) (K39 := FX36_toldAt_b39 N K2 n) hm @ih R el1 y8 rfl rl2 rfl rl3 rfl rl5 (c_lit 1 1 rfl) ⟨by decide, by decide⟩ hF
def FX36_toldAt_b34 (N : Nat) (K2 : Nat → Int → Int → fS → Option (Int × fS)) (l1 : Nat) (l2 : Int) (l3 : Int) (s0 : Int) (s : fS) : Option (Int × fS) :=
  FX36_toldAt_b39 N K2 N l1 l2 l3 s0 0 s
theorem SX36_toldAt_b34 {m b : Nat} {φ0 : Nat → Nat} {σo : fS} (hm : 1 ≤ m) {N : Nat} {k2 : Nat → Nat → Int32 → Int32 → eH → Option (Int32 × eH)} {K2 : Nat → Int → Int → fS → Option (Int × fS)} {q : Int × fS} (hk2 : ∀ {φ : Nat → Nat} {h : eH} {s : fS} {l1' : Nat} {l1 : Nat} {l2' : Int32} {l2 : Int} {l3' : Int32} {l3 : Int}, fC m b φ0 σo φ h s → l1' = φ l1 → s.t l1 < 128 → l2' = iI l2 → r32 l2 → l3' = iI l3 → r32 l3 → K2 l1 l2 l3 s = some q → gG m b φ0 σo lI q (k2 195 l1' l2' l3' h)) {φ : Nat → Nat} {h : eH} {s : fS} {l1' : Nat} {l1 : Nat} {l2' : Int32} {l2 : Int} {l3' : Int32} {l3 : Int} {s0' : Int32} {s0 : Int} (R : fC m b φ0 σo φ h s) (el1 : l1' = φ l1) (al1 : s.t l1 < 128) (el2 : l2' = iI l2) (rl2 : r32 l2) (el3 : l3' = iI l3) (rl3 : r32 l3) (es0 : s0' = iI s0) (rs0 : r32 s0) (hF : FX36_toldAt_b34 N K2 l1 l2 l3 s0 s = some q) : gG m b φ0 σo lI q (fX36_toldAt_b34 N k2 195 l1' l2' l3' s0' h) := by
  subst el2; subst el3; subst es0
  unfold FX36_toldAt_b34 at hF
  unfold fX36_toldAt_b34
  exact SX36_toldAt_b39 (N := N) (k2 := k2) (K2 := K2) hm @hk2 R el1 al1 rfl rl2 rfl rl3 rfl rs0 (c_lit 0 0 rfl) ⟨by decide, by decide⟩ hF
def FX36_toldAt_b2 (N : Nat) : Nat → Nat → Int → Int → fS → Option (Int × fS)
  | 0, _, _, _, _ => none
  | n + 1, l1, l2, l3, s =>
    if (s.i 195 12) ≤ l3 then
      some ((-1), s)
    else
      (uRI s 204 (iadd l3 1)).bind fun x6 =>
      (uRI s 204 l3).bind fun x10 =>
      if ¬ ((isub x6 x10) = l2) then
        FX36_toldAt_b34 N (FX36_toldAt_b2 N n) l1 l2 l3 0 s
      else
        FX36_toldAt_b34 N (FX36_toldAt_b2 N n) l1 l2 l3 1 s
theorem SX36_toldAt_b2 {m b : Nat} {φ0 : Nat → Nat} {σo : fS} (hm : 1 ≤ m) {N : Nat} {q : Int × fS} : ∀ {n : Nat} {φ : Nat → Nat} {h : eH} {s : fS} {l1' : Nat} {l1 : Nat} {l2' : Int32} {l2 : Int} {l3' : Int32} {l3 : Int}, fC m b φ0 σo φ h s → l1' = φ l1 → s.t l1 < 128 → l2' = iI l2 → r32 l2 → l3' = iI l3 → r32 l3 → FX36_toldAt_b2 N n l1 l2 l3 s = some q → gG m b φ0 σo lI q (fX36_toldAt_b2 N n 195 l1' l2' l3' h) := by
  intro n
  induction n with
 | zero => intro φ h s l1' l1 l2' l2 l3' l3 R el1 al1 el2 rl2 el3 rl3 hF; simp [FX36_toldAt_b2] at hF
  | succ n ih =>
    intro φ h s l1' l1 l2' l2 l3' l3 R el1 al1 el2 rl2 el3 rl3 hF
    subst el2; subst el3
    rw [FX36_toldAt_b2] at hF
    rw [fX36_toldAt_b2]
    refine s_gI R (t_195 hm R.S) (Nat.le_of_ble_eq_true rfl) rfl ?_
    refine s_if (i_le rfl rfl (R.ri (t_195 hm R.S) (Nat.le_of_ble_eq_true rfl) rfl) rl3) hF (fun c2 hF => ?_) (fun c2 hF => ?_)
    ·
      exact g_ret R hF ⟨(c_lit (-1) (-1) rfl), ⟨by decide, by decide⟩⟩
    ·
      refine s_gAs R (t_195 hm R.S) (Nat.le_of_ble_eq_true rfl) rfl (o_195_13 hm R.S) (a_204 hm R) ?_
      refine s_rI R (u_204 hm R.S).1 (u_204 hm R.S).2 (by decide) (a_204 hm R) (c_add rfl (c_lit 1 1 rfl)) (rr_I _) hF (fun x6 ra4 hF => ?_)
      refine s_gAs R (t_195 hm R.S) (Nat.le_of_ble_eq_true rfl) rfl (o_195_13 hm R.S) (a_204 hm R) ?_
      refine s_rI R (u_204 hm R.S).1 (u_204 hm R.S).2 (by decide) (a_204 hm R) rfl rl3 hF (fun x10 ra6 hF => ?_)
      refine s_if (not_congr (i_eq (c_sub rfl rfl) rfl (rr_I _) rl2)) hF (fun c7 hF => ?_) (fun c7 hF => ?_)
      ·
        exact SX36_toldAt_b34 (N := N) (k2 := fX36_toldAt_b2 N n) (K2 := FX36_toldAt_b2 N n) hm @ih R el1 al1 rfl rl2 rfl rl3 (c_lit 0 0 rfl) ⟨by decide, by decide⟩ hF
      ·
        exact SX36_toldAt_b34 (N := N) (k2 := fX36_toldAt_b2 N n) (K2 := FX36_toldAt_b2 N n) hm @ih R el1 al1 rfl rl2 rfl rl3 (c_lit 1 1 rfl) ⟨by decide, by decide⟩ hF
def FX36_toldAt (N : Nat) (p0 : Nat) (p1 : Int) (s : fS) : Option (Int × fS) :=
  FX36_toldAt_b2 N N p0 p1 0 s
theorem SX36_toldAt {m b : Nat} {φ0 : Nat → Nat} {σo : fS} (hm : 1 ≤ m) {N : Nat} {q : Int × fS} {φ : Nat → Nat} {h : eH} {s : fS} {p0' : Nat} {p0 : Nat} {p1' : Int32} {p1 : Int} (R : fC m b φ0 σo φ h s) (ep0 : p0' = φ p0) (ap0 : s.t p0 < 128) (ep1 : p1' = iI p1) (rp1 : r32 p1) (hF : FX36_toldAt N p0 p1 s = some q) : gG m b φ0 σo lI q (fX36_toldAt N 195 p0' p1' h) := by
  subst ep1
  unfold FX36_toldAt at hF
  unfold fX36_toldAt
  exact SX36_toldAt_b2 (N := N) hm R ep0 ap0 rfl rp1 (c_lit 0 0 rfl) ⟨by decide, by decide⟩ hF
def FX36_fits_b58 (N : Nat) (s : fS) : Option (Int × fS) :=
  some (0, s)
theorem SX36_fits_b58 {m b : Nat} {φ0 : Nat → Nat} {σo : fS} (hm : 1 ≤ m) {N : Nat} {q : Int × fS} {φ : Nat → Nat} {h : eH} {s : fS} (R : fC m b φ0 σo φ h s) (hF : FX36_fits_b58 N s = some q) : gG m b φ0 σo lI q (fX36_fits_b58 N h) := by
  unfold FX36_fits_b58 at hF
  unfold fX36_fits_b58
  exact g_ret R hF ⟨(c_lit 0 0 rfl), ⟨by decide, by decide⟩⟩
def FX36_fits_b108 (N : Nat) (K66 : Int → Int → Int → Int → Int → fS → Option (Int × fS)) (l1 : Int) (l2 : Int) (l3 : Int) (l5 : Int) (s0 : Int) (s : fS) : Option (Int × fS) :=
  K66 l1 l2 l3 s0 (iadd l5 1) s
theorem SX36_fits_b108 {m b : Nat} {φ0 : Nat → Nat} {σo : fS} (hm : 1 ≤ m) {N : Nat} {k66 : Nat → Int32 → Int32 → Int32 → Int32 → Int32 → eH → Option (Int32 × eH)} {K66 : Int → Int → Int → Int → Int → fS → Option (Int × fS)} {q : Int × fS} (hk66 : ∀ {φ : Nat → Nat} {h : eH} {s : fS} {l1' : Int32} {l1 : Int} {l2' : Int32} {l2 : Int} {l3' : Int32} {l3 : Int} {l4' : Int32} {l4 : Int} {l5' : Int32} {l5 : Int}, fC m b φ0 σo φ h s → l1' = iI l1 → r32 l1 → l2' = iI l2 → r32 l2 → l3' = iI l3 → r32 l3 → l4' = iI l4 → r32 l4 → l5' = iI l5 → r32 l5 → K66 l1 l2 l3 l4 l5 s = some q → gG m b φ0 σo lI q (k66 195 l1' l2' l3' l4' l5' h)) {φ : Nat → Nat} {h : eH} {s : fS} {l1' : Int32} {l1 : Int} {l2' : Int32} {l2 : Int} {l3' : Int32} {l3 : Int} {l5' : Int32} {l5 : Int} {s0' : Int32} {s0 : Int} (R : fC m b φ0 σo φ h s) (el1 : l1' = iI l1) (rl1 : r32 l1) (el2 : l2' = iI l2) (rl2 : r32 l2) (el3 : l3' = iI l3) (rl3 : r32 l3) (el5 : l5' = iI l5) (rl5 : r32 l5) (es0 : s0' = iI s0) (rs0 : r32 s0) (hF : FX36_fits_b108 N K66 l1 l2 l3 l5 s0 s = some q) : gG m b φ0 σo lI q (fX36_fits_b108 N k66 195 l1' l2' l3' l5' s0' h) := by
  subst el1; subst el2; subst el3; subst el5; subst es0
  unfold FX36_fits_b108 at hF
  unfold fX36_fits_b108
  exact hk66 R rfl rl1 rfl rl2 rfl rl3 rfl rs0 (c_add rfl (c_lit 1 1 rfl)) (rr_I _) hF
def FX36_fits_b116 (N : Nat) (l4 : Int) (s : fS) : Option (Int × fS) :=
  uZ l4 (l4, s)
theorem SX36_fits_b116 {m b : Nat} {φ0 : Nat → Nat} {σo : fS} (hm : 1 ≤ m) {N : Nat} {q : Int × fS} {φ : Nat → Nat} {h : eH} {s : fS} {l4' : Int32} {l4 : Int} (R : fC m b φ0 σo φ h s) (el4 : l4' = iI l4) (rl4 : r32 l4) (hF : FX36_fits_b116 N l4 s = some q) : gG m b φ0 σo lI q (fX36_fits_b116 N l4' h) := by
  subst el4
  unfold FX36_fits_b116 at hF
  unfold fX36_fits_b116
  exact g_z R rfl hF ⟨rfl, rl4⟩
def FX36_fits_b66 (N : Nat) : Nat → Int → Int → Int → Int → Int → fS → Option (Int × fS)
  | 0, _, _, _, _, _, _ => none
  | n + 1, l1, l2, l3, l4, l5, s =>
    if l3 ≤ l5 then
      FX36_fits_b116 N l4 s
    else
      if l4 = 0 then
        FX36_fits_b116 N l4 s
      else
        (uRI s 198 l1).bind fun x7 =>
        (uRI s 202 (iadd x7 l5)).bind fun x9 =>
        (uRI s 210 (iadd l2 l5)).bind fun x13 =>
        if ¬ (x9 = x13) then
          FX36_fits_b108 N (FX36_fits_b66 N n) l1 l2 l3 l5 0 s
        else
          FX36_fits_b108 N (FX36_fits_b66 N n) l1 l2 l3 l5 1 s
theorem SX36_fits_b66 {m b : Nat} {φ0 : Nat → Nat} {σo : fS} (hm : 1 ≤ m) {N : Nat} {q : Int × fS} : ∀ {n : Nat} {φ : Nat → Nat} {h : eH} {s : fS} {l1' : Int32} {l1 : Int} {l2' : Int32} {l2 : Int} {l3' : Int32} {l3 : Int} {l4' : Int32} {l4 : Int} {l5' : Int32} {l5 : Int}, fC m b φ0 σo φ h s → l1' = iI l1 → r32 l1 → l2' = iI l2 → r32 l2 → l3' = iI l3 → r32 l3 → l4' = iI l4 → r32 l4 → l5' = iI l5 → r32 l5 → FX36_fits_b66 N n l1 l2 l3 l4 l5 s = some q → gG m b φ0 σo lI q (fX36_fits_b66 N n 195 l1' l2' l3' l4' l5' h) := by
  intro n
  induction n with
 | zero => intro φ h s l1' l1 l2' l2 l3' l3 l4' l4 l5' l5 R el1 rl1 el2 rl2 el3 rl3 el4 rl4 el5 rl5 hF; simp [FX36_fits_b66] at hF
  | succ n ih =>
    intro φ h s l1' l1 l2' l2 l3' l3 l4' l4 l5' l5 R el1 rl1 el2 rl2 el3 rl3 el4 rl4 el5 rl5 hF
    subst el1; subst el2; subst el3; subst el4; subst el5
    rw [FX36_fits_b66] at hF
    rw [fX36_fits_b66]
    refine s_if (i_le rfl rfl rl3 rl5) hF (fun c1 hF => ?_) (fun c1 hF => ?_)
    ·
      exact SX36_fits_b116 (N := N) hm R rfl rl4 hF
    ·
      refine s_if (i_eq rfl (c_lit 0 0 rfl) rl4 ⟨by decide, by decide⟩) hF (fun c2 hF => ?_) (fun c2 hF => ?_)
      ·
        exact SX36_fits_b116 (N := N) hm R rfl rl4 hF
      ·
        refine s_gAs R (t_195 hm R.S) (Nat.le_of_ble_eq_true rfl) rfl (o_195_10 hm R.S) (a_202 hm R) ?_
        refine s_gAs R (t_195 hm R.S) (Nat.le_of_ble_eq_true rfl) rfl (o_195_6 hm R.S) (a_198 hm R) ?_
        refine s_rI R (u_198 hm R.S).1 (u_198 hm R.S).2 (by decide) (a_198 hm R) rfl rl1 hF (fun x7 ra5 hF => ?_)
        refine s_rI R (u_202 hm R.S).1 (u_202 hm R.S).2 (by decide) (a_202 hm R) (c_add rfl rfl) (rr_I _) hF (fun x9 ra6 hF => ?_)
        refine s_gAs R (t_195 hm R.S) (Nat.le_of_ble_eq_true rfl) rfl (o_195_24 hm R.S) (a_210 hm R) ?_
        refine s_rI R (u_210 hm R.S).1 (u_210 hm R.S).2 (by decide) (a_210 hm R) (c_add rfl rfl) (rr_I _) hF (fun x13 ra8 hF => ?_)
        refine s_if (not_congr (i_eq rfl rfl ra6 ra8)) hF (fun c9 hF => ?_) (fun c9 hF => ?_)
        ·
          exact SX36_fits_b108 (N := N) (k66 := fX36_fits_b66 N n) (K66 := FX36_fits_b66 N n) hm @ih R rfl rl1 rfl rl2 rfl rl3 rfl rl5 (c_lit 0 0 rfl) ⟨by decide, by decide⟩ hF
        ·
          exact SX36_fits_b108 (N := N) (k66 := fX36_fits_b66 N n) (K66 := FX36_fits_b66 N n) hm @ih R rfl rl1 rfl rl2 rfl rl3 rfl rl5 (c_lit 1 1 rfl) ⟨by decide, by decide⟩ hF
def FX36_fits_b60 (N : Nat) (l1 : Int) (l2 : Int) (l3 : Int) (s : fS) : Option (Int × fS) :=
  FX36_fits_b66 N N l1 l2 l3 1 0 s
theorem SX36_fits_b60 {m b : Nat} {φ0 : Nat → Nat} {σo : fS} (hm : 1 ≤ m) {N : Nat} {q : Int × fS} {φ : Nat → Nat} {h : eH} {s : fS} {l1' : Int32} {l1 : Int} {l2' : Int32} {l2 : Int} {l3' : Int32} {l3 : Int} (R : fC m b φ0 σo φ h s) (el1 : l1' = iI l1) (rl1 : r32 l1) (el2 : l2' = iI l2) (rl2 : r32 l2) (el3 : l3' = iI l3) (rl3 : r32 l3) (hF : FX36_fits_b60 N l1 l2 l3 s = some q) : gG m b φ0 σo lI q (fX36_fits_b60 N 195 l1' l2' l3' h) := by
  subst el1; subst el2; subst el3
  unfold FX36_fits_b60 at hF
  unfold fX36_fits_b60
  exact SX36_fits_b66 (N := N) hm R rfl rl1 rfl rl2 rfl rl3 (c_lit 1 1 rfl) ⟨by decide, by decide⟩ (c_lit 0 0 rfl) ⟨by decide, by decide⟩ hF
def FX36_fits_b39 (N : Nat) (l1 : Int) (l2 : Int) (l3 : Int) (s : fS) : Option (Int × fS) :=
  (uRI s 201 l1).bind fun x3 =>
  if x3 = 0 then
    FX36_fits_b60 N l1 l2 l3 s
  else
    if (s.i 195 23) ≤ (iadd l2 l3) then
      FX36_fits_b60 N l1 l2 l3 s
    else
      FX36_fits_b58 N s
theorem SX36_fits_b39 {m b : Nat} {φ0 : Nat → Nat} {σo : fS} (hm : 1 ≤ m) {N : Nat} {q : Int × fS} {φ : Nat → Nat} {h : eH} {s : fS} {l1' : Int32} {l1 : Int} {l2' : Int32} {l2 : Int} {l3' : Int32} {l3 : Int} (R : fC m b φ0 σo φ h s) (el1 : l1' = iI l1) (rl1 : r32 l1) (el2 : l2' = iI l2) (rl2 : r32 l2) (el3 : l3' = iI l3) (rl3 : r32 l3) (hF : FX36_fits_b39 N l1 l2 l3 s = some q) : gG m b φ0 σo lI q (fX36_fits_b39 N 195 l1' l2' l3' h) := by
  subst el1; subst el2; subst el3
  unfold FX36_fits_b39 at hF
  unfold fX36_fits_b39
  refine s_gAs R (t_195 hm R.S) (Nat.le_of_ble_eq_true rfl) rfl (o_195_9 hm R.S) (a_201 hm R) ?_
  refine s_rI R (u_201 hm R.S).1 (u_201 hm R.S).2 (by decide) (a_201 hm R) rfl rl1 hF (fun x3 ra2 hF => ?_)
  refine s_if (i_eq rfl (c_lit 0 0 rfl) ra2 ⟨by decide, by decide⟩) hF (fun c3 hF => ?_) (fun c3 hF => ?_)
  ·
    exact SX36_fits_b60 (N := N) hm R rfl rl1 rfl rl2 rfl rl3 hF
  ·
    refine s_gI R (t_195 hm R.S) (Nat.le_of_ble_eq_true rfl) rfl ?_
    refine s_if (i_le rfl (c_add rfl rfl) (R.ri (t_195 hm R.S) (Nat.le_of_ble_eq_true rfl) rfl) (rr_I _)) hF (fun c5 hF => ?_) (fun c5 hF => ?_)
    ·
      exact SX36_fits_b60 (N := N) hm R rfl rl1 rfl rl2 rfl rl3 hF
    ·
      exact SX36_fits_b58 (N := N) hm R hF
def FX36_fits (N : Nat) (p0 : Int) (p1 : Int) (s : fS) : Option (Int × fS) :=
  (uRI s 198 (iadd p0 1)).bind fun x3 =>
  (uRI s 198 p0).bind fun x7 =>
  if (s.i 195 23) < (iadd p1 (isub x3 x7)) then
    FX36_fits_b58 N s
  else
    (uRI s 200 p0).bind fun x14 =>
    if x14 = 0 then
      FX36_fits_b39 N p0 p1 (isub x3 x7) s
    else
      if 0 < p1 then
        FX36_fits_b58 N s
      else
        FX36_fits_b39 N p0 p1 (isub x3 x7) s
theorem SX36_fits {m b : Nat} {φ0 : Nat → Nat} {σo : fS} (hm : 1 ≤ m) {N : Nat} {q : Int × fS} {φ : Nat → Nat} {h : eH} {s : fS} {p0' : Int32} {p0 : Int} {p1' : Int32} {p1 : Int} (R : fC m b φ0 σo φ h s) (ep0 : p0' = iI p0) (rp0 : r32 p0) (ep1 : p1' = iI p1) (rp1 : r32 p1) (hF : FX36_fits N p0 p1 s = some q) : gG m b φ0 σo lI q (fX36_fits N 195 p0' p1' h) := by
  subst ep0; subst ep1
  unfold FX36_fits at hF
  unfold fX36_fits
  refine s_gAs R (t_195 hm R.S) (Nat.le_of_ble_eq_true rfl) rfl (o_195_6 hm R.S) (a_198 hm R) ?_
  refine s_rI R (u_198 hm R.S).1 (u_198 hm R.S).2 (by decide) (a_198 hm R) (c_add rfl (c_lit 1 1 rfl)) (rr_I _) hF (fun x3 ra2 hF => ?_)
  refine s_gAs R (t_195 hm R.S) (Nat.le_of_ble_eq_true rfl) rfl (o_195_6 hm R.S) (a_198 hm R) ?_
  refine s_rI R (u_198 hm R.S).1 (u_198 hm R.S).2 (by decide) (a_198 hm R) rfl rp0 hF (fun x7 ra4 hF => ?_)
  refine s_gI R (t_195 hm R.S) (Nat.le_of_ble_eq_true rfl) rfl ?_
  refine s_if (i_lt rfl (c_add rfl (c_sub rfl rfl)) (R.ri (t_195 hm R.S) (Nat.le_of_ble_eq_true rfl) rfl) (rr_I _)) hF (fun c6 hF => ?_) (fun c6 hF => ?_)
  ·
    exact SX36_fits_b58 (N := N) hm R hF
  ·
    refine s_gAs R (t_195 hm R.S) (Nat.le_of_ble_eq_true rfl) rfl (o_195_8 hm R.S) (a_200 hm R) ?_
    refine s_rI R (u_200 hm R.S).1 (u_200 hm R.S).2 (by decide) (a_200 hm R) rfl rp0 hF (fun x14 ra8 hF => ?_)
    refine s_if (i_eq rfl (c_lit 0 0 rfl) ra8 ⟨by decide, by decide⟩) hF (fun c9 hF => ?_) (fun c9 hF => ?_)
    ·
      exact SX36_fits_b39 (N := N) hm R rfl rp0 rfl rp1 (c_sub rfl rfl) (rr_I _) hF
    ·
      refine s_if (i_lt (c_lit 0 0 rfl) rfl ⟨by decide, by decide⟩ rp1) hF (fun c10 hF => ?_) (fun c10 hF => ?_)
      ·
        exact SX36_fits_b58 (N := N) hm R hF
      ·
        exact SX36_fits_b39 (N := N) hm R rfl rp0 rfl rp1 (c_sub rfl rfl) (rr_I _) hF
def FX36_find_b59 (N : Nat) (K15 : Int → Int → fS → Option (Unit × fS)) (l1 : Int) (l2 : Int) (s1 : Int) (s2 : Int) (s : fS) : Option (Unit × fS) :=
  (uQI s 211 s1 s2).bind fun σ1 =>
  K15 l1 (iadd l2 1) σ1
theorem SX36_find_b59 {m b : Nat} {φ0 : Nat → Nat} {σo : fS} (hm : 1 ≤ m) {N : Nat} {k15 : Nat → Int32 → Int32 → eH → Option (Unit × eH)} {K15 : Int → Int → fS → Option (Unit × fS)} {q : Unit × fS} (hk15 : ∀ {φ : Nat → Nat} {h : eH} {s : fS} {l1' : Int32} {l1 : Int} {l2' : Int32} {l2 : Int}, fC m b φ0 σo φ h s → l1' = iI l1 → r32 l1 → l2' = iI l2 → r32 l2 → K15 l1 l2 s = some q → gG m b φ0 σo lU q (k15 195 l1' l2' h)) {φ : Nat → Nat} {h : eH} {s : fS} {l1' : Int32} {l1 : Int} {l2' : Int32} {l2 : Int} {s1' : Int32} {s1 : Int} {s2' : Int32} {s2 : Int} (R : fC m b φ0 σo φ h s) (el1 : l1' = iI l1) (rl1 : r32 l1) (el2 : l2' = iI l2) (rl2 : r32 l2) (es1 : s1' = iI s1) (rs1 : r32 s1) (es2 : s2' = iI s2) (rs2 : r32 s2) (hF : FX36_find_b59 N K15 l1 l2 s1 s2 s = some q) : gG m b φ0 σo lU q (fX36_find_b59 N k15 195 l1' l2' 211 s1' s2' h) := by
  subst el1; subst el2; subst es1; subst es2
  unfold FX36_find_b59 at hF
  unfold fX36_find_b59
  refine s_qI R (u_211 hm R.S).1 (u_211 hm R.S).2 (by decide) (a_211 hm R) rfl rs1 rfl rs2 hF (fun h1 σ1 R1 T1 hF => ?_)
  exact hk15 R1 rfl rl1 (c_add rfl (c_lit 1 1 rfl)) (rr_I _) hF
def FX36_find_b183 (N : Nat) (K119 : Int → Int → Int → Int → Int → fS → Option (Unit × fS)) (l1 : Int) (l2 : Int) (l3 : Int) (l4 : Int) (l5 : Int) (s : fS) : Option (Unit × fS) :=
  K119 l1 l2 l3 l4 (iadd l5 1) s
theorem SX36_find_b183 {m b : Nat} {φ0 : Nat → Nat} {σo : fS} (hm : 1 ≤ m) {N : Nat} {k119 : Nat → Int32 → Int32 → Int32 → Int32 → Int32 → eH → Option (Unit × eH)} {K119 : Int → Int → Int → Int → Int → fS → Option (Unit × fS)} {q : Unit × fS} (hk119 : ∀ {φ : Nat → Nat} {h : eH} {s : fS} {l1' : Int32} {l1 : Int} {l2' : Int32} {l2 : Int} {l3' : Int32} {l3 : Int} {l4' : Int32} {l4 : Int} {l5' : Int32} {l5 : Int}, fC m b φ0 σo φ h s → l1' = iI l1 → r32 l1 → l2' = iI l2 → r32 l2 → l3' = iI l3 → r32 l3 → l4' = iI l4 → r32 l4 → l5' = iI l5 → r32 l5 → K119 l1 l2 l3 l4 l5 s = some q → gG m b φ0 σo lU q (k119 195 l1' l2' l3' l4' l5' h)) {φ : Nat → Nat} {h : eH} {s : fS} {l1' : Int32} {l1 : Int} {l2' : Int32} {l2 : Int} {l3' : Int32} {l3 : Int} {l4' : Int32} {l4 : Int} {l5' : Int32} {l5 : Int} (R : fC m b φ0 σo φ h s) (el1 : l1' = iI l1) (rl1 : r32 l1) (el2 : l2' = iI l2) (rl2 : r32 l2) (el3 : l3' = iI l3) (rl3 : r32 l3) (el4 : l4' = iI l4) (rl4 : r32 l4) (el5 : l5' = iI l5) (rl5 : r32 l5) (hF : FX36_find_b183 N K119 l1 l2 l3 l4 l5 s = some q) : gG m b φ0 σo lU q (fX36_find_b183 N k119 195 l1' l2' l3' l4' l5' h) := by
  subst el1; subst el2; subst el3; subst el4; subst el5
  unfold FX36_find_b183 at hF
  unfold fX36_find_b183
  exact hk119 R rfl rl1 rfl rl2 rfl rl3 rfl rl4 (c_add rfl (c_lit 1 1 rfl)) (rr_I _) hF
def FX36_find_b189 (N : Nat) (K82 : Int → Int → Int → fS → Option (Unit × fS)) (l1 : Int) (l2 : Int) (l3 : Int) (s : fS) : Option (Unit × fS) :=
  K82 l1 l2 (iadd l3 1) s
theorem SX36_find_b189 {m b : Nat} {φ0 : Nat → Nat} {σo : fS} (hm : 1 ≤ m) {N : Nat} {k82 : Nat → Int32 → Int32 → Int32 → eH → Option (Unit × eH)} {K82 : Int → Int → Int → fS → Option (Unit × fS)} {q : Unit × fS} (hk82 : ∀ {φ : Nat → Nat} {h : eH} {s : fS} {l1' : Int32} {l1 : Int} {l2' : Int32} {l2 : Int} {l3' : Int32} {l3 : Int}, fC m b φ0 σo φ h s → l1' = iI l1 → r32 l1 → l2' = iI l2 → r32 l2 → l3' = iI l3 → r32 l3 → K82 l1 l2 l3 s = some q → gG m b φ0 σo lU q (k82 195 l1' l2' l3' h)) {φ : Nat → Nat} {h : eH} {s : fS} {l1' : Int32} {l1 : Int} {l2' : Int32} {l2 : Int} {l3' : Int32} {l3 : Int} (R : fC m b φ0 σo φ h s) (el1 : l1' = iI l1) (rl1 : r32 l1) (el2 : l2' = iI l2) (rl2 : r32 l2) (el3 : l3' = iI l3) (rl3 : r32 l3) (hF : FX36_find_b189 N K82 l1 l2 l3 s = some q) : gG m b φ0 σo lU q (fX36_find_b189 N k82 195 l1' l2' l3' h) := by
  subst el1; subst el2; subst el3
  unfold FX36_find_b189 at hF
  unfold fX36_find_b189
  exact hk82 R rfl rl1 rfl rl2 (c_add rfl (c_lit 1 1 rfl)) (rr_I _) hF
def FX36_find_b119 (N : Nat) (K82 : Int → Int → Int → fS → Option (Unit × fS)) : Nat → Int → Int → Int → Int → Int → fS → Option (Unit × fS)
  | 0, _, _, _, _, _, _ => none
  | n + 1, l1, l2, l3, l4, l5, s =>
    if l4 < l5 then
      FX36_find_b189 N K82 l1 l2 l3 s
    else
      (uRI s 199 l2).bind fun x6 =>
      (uRI s 203 (iadd x6 l5)).bind fun x8 =>
      if (iadd l3 l5) ≤ 0 then
        FX36_find_b183 N (FX36_find_b119 N K82 n) l1 l2 l3 l4 l5 s
      else
        if (s.i 195 23) ≤ (iadd l3 l5) then
          FX36_find_b183 N (FX36_find_b119 N K82 n) l1 l2 l3 l4 l5 s
        else
          (uRI s 211 (iadd l3 l5)).bind fun x16 =>
          if x8 ≤ x16 then
            FX36_find_b183 N (FX36_find_b119 N K82 n) l1 l2 l3 l4 l5 s
          else
            (uQI s 211 (iadd l3 l5) x8).bind fun σ21 =>
            FX36_find_b183 N (FX36_find_b119 N K82 n) l1 l2 l3 l4 l5 σ21
theorem SX36_find_b119 {m b : Nat} {φ0 : Nat → Nat} {σo : fS} (hm : 1 ≤ m) {N : Nat} {k82 : Nat → Int32 → Int32 → Int32 → eH → Option (Unit × eH)} {K82 : Int → Int → Int → fS → Option (Unit × fS)} {q : Unit × fS} (hk82 : ∀ {φ : Nat → Nat} {h : eH} {s : fS} {l1' : Int32} {l1 : Int} {l2' : Int32} {l2 : Int} {l3' : Int32} {l3 : Int}, fC m b φ0 σo φ h s → l1' = iI l1 → r32 l1 → l2' = iI l2 → r32 l2 → l3' = iI l3 → r32 l3 → K82 l1 l2 l3 s = some q → gG m b φ0 σo lU q (k82 195 l1' l2' l3' h)) : ∀ {n : Nat} {φ : Nat → Nat} {h : eH} {s : fS} {l1' : Int32} {l1 : Int} {l2' : Int32} {l2 : Int} {l3' : Int32} {l3 : Int} {l4' : Int32} {l4 : Int} {l5' : Int32} {l5 : Int}, fC m b φ0 σo φ h s → l1' = iI l1 → r32 l1 → l2' = iI l2 → r32 l2 → l3' = iI l3 → r32 l3 → l4' = iI l4 → r32 l4 → l5' = iI l5 → r32 l5 → FX36_find_b119 N K82 n l1 l2 l3 l4 l5 s = some q → gG m b φ0 σo lU q (fX36_find_b119 N k82 n 195 l1' l2' l3' l4' l5' h) := by
  intro n
  induction n with
 | zero => intro φ h s l1' l1 l2' l2 l3' l3 l4' l4 l5' l5 R el1 rl1 el2 rl2 el3 rl3 el4 rl4 el5 rl5 hF; simp [FX36_find_b119] at hF
  | succ n ih =>
    intro φ h s l1' l1 l2' l2 l3' l3 l4' l4 l5' l5 R el1 rl1 el2 rl2 el3 rl3 el4 rl4 el5 rl5 hF
    subst el1; subst el2; subst el3; subst el4; subst el5
    rw [FX36_find_b119] at hF
    rw [fX36_find_b119]
    refine s_if (i_lt rfl rfl rl4 rl5) hF (fun c1 hF => ?_) (fun c1 hF => ?_)
    ·
      exact SX36_find_b189 (N := N) (k82 := k82) (K82 := K82) hm @hk82 R rfl rl1 rfl rl2 rfl rl3 hF
    ·
      refine s_gAs R (t_195 hm R.S) (Nat.le_of_ble_eq_true rfl) rfl (o_195_11 hm R.S) (a_203 hm R) ?_
      refine s_gAs R (t_195 hm R.S) (Nat.le_of_ble_eq_true rfl) rfl (o_195_7 hm R.S) (a_199 hm R) ?_
      refine s_rI R (u_199 hm R.S).1 (u_199 hm R.S).2 (by decide) (a_199 hm R) rfl rl2 hF (fun x6 ra4 hF => ?_)
      refine s_rI R (u_203 hm R.S).1 (u_203 hm R.S).2 (by decide) (a_203 hm R) (c_add rfl rfl) (rr_I _) hF (fun x8 ra5 hF => ?_)
      refine s_if (i_le (c_add rfl rfl) (c_lit 0 0 rfl) (rr_I _) ⟨by decide, by decide⟩) hF (fun c6 hF => ?_) (fun c6 hF => ?_)
      ·
        exact SX36_find_b183 (N := N) (k119 := fX36_find_b119 N k82 n) (K119 := FX36_find_b119 N K82 n) hm @ih R rfl rl1 rfl rl2 rfl rl3 rfl rl4 rfl rl5 hF
      ·
        refine s_gI R (t_195 hm R.S) (Nat.le_of_ble_eq_true rfl) rfl ?_
        refine s_if (i_le rfl (c_add rfl rfl) (R.ri (t_195 hm R.S) (Nat.le_of_ble_eq_true rfl) rfl) (rr_I _)) hF (fun c8 hF => ?_) (fun c8 hF => ?_)
        ·
          exact SX36_find_b183 (N := N) (k119 := fX36_find_b119 N k82 n) (K119 := FX36_find_b119 N K82 n) hm @ih R rfl rl1 rfl rl2 rfl rl3 rfl rl4 rfl rl5 hF
        ·
          refine s_gAs R (t_195 hm R.S) (Nat.le_of_ble_eq_true rfl) rfl (o_195_25 hm R.S) (a_211 hm R) ?_
          refine s_rI R (u_211 hm R.S).1 (u_211 hm R.S).2 (by decide) (a_211 hm R) (c_add rfl rfl) (rr_I _) hF (fun x16 ra10 hF => ?_)
          refine s_if (i_le rfl rfl ra5 ra10) hF (fun c11 hF => ?_) (fun c11 hF => ?_)
          ·
            exact SX36_find_b183 (N := N) (k119 := fX36_find_b119 N k82 n) (K119 := FX36_find_b119 N K82 n) hm @ih R rfl rl1 rfl rl2 rfl rl3 rfl rl4 rfl rl5 hF
          ·
            refine s_gAs R (t_195 hm R.S) (Nat.le_of_ble_eq_true rfl) rfl (o_195_25 hm R.S) (a_211 hm R) ?_
            refine s_qI R (u_211 hm R.S).1 (u_211 hm R.S).2 (by decide) (a_211 hm R) (c_add rfl rfl) (rr_I _) rfl ra5 hF (fun h13 σ21 R13 T13 hF => ?_)
            exact SX36_find_b183 (N := N) (k119 := fX36_find_b119 N k82 n) (K119 := FX36_find_b119 N K82 n) hm @ih R13 rfl rl1 rfl rl2 rfl rl3 rfl rl4 rfl rl5 hF
def FX36_find_b82 (N : Nat) (K68 : Int → Int → fS → Option (Unit × fS)) : Nat → Int → Int → Int → fS → Option (Unit × fS)
  | 0, _, _, _, _ => none
  | n + 1, l1, l2, l3, s =>
    if (s.i 195 23) ≤ l3 then
      K68 l1 (iadd l2 1) s
    else
      (FX36_fits N l2 l3 s).bind fun q5 =>
      if q5.1 = 0 then
        FX36_find_b189 N (FX36_find_b82 N K68 n) l1 l2 l3 q5.2
      else
        (uRI q5.2 198 (iadd l2 1)).bind fun x9 =>
        (uRI q5.2 198 l2).bind fun x13 =>
        FX36_find_b119 N (FX36_find_b82 N K68 n) N l1 l2 l3 (isub x9 x13) 0 q5.2
theorem SX36_find_b82 {m b : Nat} {φ0 : Nat → Nat} {σo : fS} (hm : 1 ≤ m) {N : Nat} {k68 : Nat → Int32 → Int32 → eH → Option (Unit × eH)} {K68 : Int → Int → fS → Option (Unit × fS)} {q : Unit × fS} (hk68 : ∀ {φ : Nat → Nat} {h : eH} {s : fS} {l1' : Int32} {l1 : Int} {l2' : Int32} {l2 : Int}, fC m b φ0 σo φ h s → l1' = iI l1 → r32 l1 → l2' = iI l2 → r32 l2 → K68 l1 l2 s = some q → gG m b φ0 σo lU q (k68 195 l1' l2' h)) : ∀ {n : Nat} {φ : Nat → Nat} {h : eH} {s : fS} {l1' : Int32} {l1 : Int} {l2' : Int32} {l2 : Int} {l3' : Int32} {l3 : Int}, fC m b φ0 σo φ h s → l1' = iI l1 → r32 l1 → l2' = iI l2 → r32 l2 → l3' = iI l3 → r32 l3 → FX36_find_b82 N K68 n l1 l2 l3 s = some q → gG m b φ0 σo lU q (fX36_find_b82 N k68 n 195 l1' l2' l3' h) := by
  intro n
  induction n with
 | zero => intro φ h s l1' l1 l2' l2 l3' l3 R el1 rl1 el2 rl2 el3 rl3 hF; simp [FX36_find_b82] at hF
  | succ n ih =>
    intro φ h s l1' l1 l2' l2 l3' l3 R el1 rl1 el2 rl2 el3 rl3 hF
    subst el1; subst el2; subst el3
    rw [FX36_find_b82] at hF
    rw [fX36_find_b82]
    refine s_gI R (t_195 hm R.S) (Nat.le_of_ble_eq_true rfl) rfl ?_
    refine s_if (i_le rfl rfl (R.ri (t_195 hm R.S) (Nat.le_of_ble_eq_true rfl) rfl) rl3) hF (fun c2 hF => ?_) (fun c2 hF => ?_)
    ·
      exact hk68 R rfl rl1 (c_add rfl (c_lit 1 1 rfl)) (rr_I _) hF
    ·
      refine s_kok R (t_195 hm R.S) (Nat.le_of_ble_eq_true rfl) ?_
      refine s_call R (Nat.zero_le _) (fun _ hq => SX36_fits (b := 0) (N := N) hm (R.rf) rfl rl2 rfl rl3 hq) hF (fun f4 rv4 h4 q5 R4 e4 E4 hF => ?_)
      refine s_if (i_eq e4.1 (c_lit 0 0 rfl) e4.2 ⟨by decide, by decide⟩) hF (fun c5 hF => ?_) (fun c5 hF => ?_)
      ·
        exact SX36_find_b189 (N := N) (k82 := fX36_find_b82 N k68 n) (K82 := FX36_find_b82 N K68 n) hm @ih R4 rfl rl1 rfl rl2 rfl rl3 hF
      ·
        refine s_gAs R4 (t_195 hm R4.S) (Nat.le_of_ble_eq_true rfl) rfl (o_195_6 hm R4.S) (a_198 hm R4) ?_
        refine s_rI R4 (u_198 hm R4.S).1 (u_198 hm R4.S).2 (by decide) (a_198 hm R4) (c_add rfl (c_lit 1 1 rfl)) (rr_I _) hF (fun x9 ra7 hF => ?_)
        refine s_gAs R4 (t_195 hm R4.S) (Nat.le_of_ble_eq_true rfl) rfl (o_195_6 hm R4.S) (a_198 hm R4) ?_
        refine s_rI R4 (u_198 hm R4.S).1 (u_198 hm R4.S).2 (by decide) (a_198 hm R4) rfl rl2 hF (fun x13 ra9 hF => ?_)
        exact SX36_find_b119 (N := N) (k82 := fX36_find_b82 N k68 n) (K82 := FX36_find_b82 N K68 n) hm @ih R4 rfl rl1 rfl rl2 rfl rl3 (c_sub rfl rfl) (rr_I _) (c_lit 0 0 rfl) ⟨by decide, by decide⟩ hF
def FX36_find_b269 (N : Nat) (K208 : Int → fS → Option (Unit × fS)) (l2 : Int) (s : fS) : Option (Unit × fS) :=
  K208 (iadd l2 1) s
theorem SX36_find_b269 {m b : Nat} {φ0 : Nat → Nat} {σo : fS} (hm : 1 ≤ m) {N : Nat} {k208 : Nat → Int32 → eH → Option (Unit × eH)} {K208 : Int → fS → Option (Unit × fS)} {q : Unit × fS} (hk208 : ∀ {φ : Nat → Nat} {h : eH} {s : fS} {l2' : Int32} {l2 : Int}, fC m b φ0 σo φ h s → l2' = iI l2 → r32 l2 → K208 l2 s = some q → gG m b φ0 σo lU q (k208 195 l2' h)) {φ : Nat → Nat} {h : eH} {s : fS} {l2' : Int32} {l2 : Int} (R : fC m b φ0 σo φ h s) (el2 : l2' = iI l2) (rl2 : r32 l2) (hF : FX36_find_b269 N K208 l2 s = some q) : gG m b φ0 σo lU q (fX36_find_b269 N k208 195 l2' h) := by
  subst el2
  unfold FX36_find_b269 at hF
  unfold fX36_find_b269
  exact hk208 R (c_add rfl (c_lit 1 1 rfl)) (rr_I _) hF
def FX36_find_b208 (N : Nat) : Nat → Int → fS → Option (Unit × fS)
  | 0, _, _ => none
  | n + 1, l2, s =>
    if (s.i 195 23) ≤ l2 then
      some ((), s)
    else
      (uRI s 211 l2).bind fun x6 =>
      if ¬ ((irem x6 2) = 1) then
        FX36_find_b269 N (FX36_find_b208 N n) l2 s
      else
        if l2 < (s.i 195 1) then
          FX36_find_b269 N (FX36_find_b208 N n) l2 s
        else
          if (isub (s.i 195 23) l2) < (s.i 195 2) then
            FX36_find_b269 N (FX36_find_b208 N n) l2 s
          else
            (uQI s 212 (s.i 195 26) l2).bind fun σ21 =>
            (uPI σ21 195 26 (iadd (σ21.i 195 26) 1)).bind fun σ25 =>
            FX36_find_b269 N (FX36_find_b208 N n) l2 σ25
theorem SX36_find_b208 {m b : Nat} {φ0 : Nat → Nat} {σo : fS} (hm : 1 ≤ m) {N : Nat} {q : Unit × fS} : ∀ {n : Nat} {φ : Nat → Nat} {h : eH} {s : fS} {l2' : Int32} {l2 : Int}, fC m b φ0 σo φ h s → l2' = iI l2 → r32 l2 → FX36_find_b208 N n l2 s = some q → gG m b φ0 σo lU q (fX36_find_b208 N n 195 l2' h) := by
  intro n
  induction n with
 | zero => intro φ h s l2' l2 R el2 rl2 hF; simp [FX36_find_b208] at hF
  | succ n ih =>
    intro φ h s l2' l2 R el2 rl2 hF
    subst el2
    rw [FX36_find_b208] at hF
    rw [fX36_find_b208]
    refine s_gI R (t_195 hm R.S) (Nat.le_of_ble_eq_true rfl) rfl ?_
    refine s_if (i_le rfl rfl (R.ri (t_195 hm R.S) (Nat.le_of_ble_eq_true rfl) rfl) rl2) hF (fun c2 hF => ?_) (fun c2 hF => ?_)
    ·
      exact g_ret R hF trivial
    ·
      refine s_gAs R (t_195 hm R.S) (Nat.le_of_ble_eq_true rfl) rfl (o_195_25 hm R.S) (a_211 hm R) ?_
      refine s_rI R (u_211 hm R.S).1 (u_211 hm R.S).2 (by decide) (a_211 hm R) rfl rl2 hF (fun x6 ra4 hF => ?_)
      refine s_if (not_congr (i_eq (c_rem rfl (c_lit 2 2 rfl)) (c_lit 1 1 rfl) (rr_I _) ⟨by decide, by decide⟩)) hF (fun c5 hF => ?_) (fun c5 hF => ?_)
      ·
        exact SX36_find_b269 (N := N) (k208 := fX36_find_b208 N n) (K208 := FX36_find_b208 N n) hm @ih R rfl rl2 hF
      ·
        refine s_gI R (t_195 hm R.S) (Nat.le_of_ble_eq_true rfl) rfl ?_
        refine s_if (i_lt rfl rfl rl2 (R.ri (t_195 hm R.S) (Nat.le_of_ble_eq_true rfl) rfl)) hF (fun c7 hF => ?_) (fun c7 hF => ?_)
        ·
          exact SX36_find_b269 (N := N) (k208 := fX36_find_b208 N n) (K208 := FX36_find_b208 N n) hm @ih R rfl rl2 hF
        ·
          refine s_gI R (t_195 hm R.S) (Nat.le_of_ble_eq_true rfl) rfl ?_
          refine s_gI R (t_195 hm R.S) (Nat.le_of_ble_eq_true rfl) rfl ?_
          refine s_if (i_lt (c_sub rfl rfl) rfl (rr_I _) (R.ri (t_195 hm R.S) (Nat.le_of_ble_eq_true rfl) rfl)) hF (fun c10 hF => ?_) (fun c10 hF => ?_)
          ·
            exact SX36_find_b269 (N := N) (k208 := fX36_find_b208 N n) (K208 := FX36_find_b208 N n) hm @ih R rfl rl2 hF
          ·
            refine s_gAs R (t_195 hm R.S) (Nat.le_of_ble_eq_true rfl) rfl (o_195_27 hm R.S) (a_212 hm R) ?_
            refine s_gI R (t_195 hm R.S) (Nat.le_of_ble_eq_true rfl) rfl ?_
            refine s_qI R (u_212 hm R.S).1 (u_212 hm R.S).2 (by decide) (a_212 hm R) rfl (R.ri (t_195 hm R.S) (Nat.le_of_ble_eq_true rfl) rfl) rfl rl2 hF (fun h13 σ21 R13 T13 hF => ?_)
            refine s_gI R13 (t_195 hm R13.S) (Nat.le_of_ble_eq_true rfl) rfl ?_
            refine s_pI R13 (t_195 hm R13.S) (Nat.le_of_ble_eq_true rfl) rfl (c_add rfl (c_lit 1 1 rfl)) (rr_I _) hF (fun h15 σ25 R15 T15 hF => ?_)
            exact SX36_find_b269 (N := N) (k208 := fX36_find_b208 N n) (K208 := FX36_find_b208 N n) hm @ih R15 rfl rl2 hF
def FX36_find_b201 (N : Nat) (s : fS) : Option (Unit × fS) :=
  (uPI s 195 26 0).bind fun σ1 =>
  FX36_find_b208 N N 1 σ1
theorem SX36_find_b201 {m b : Nat} {φ0 : Nat → Nat} {σo : fS} (hm : 1 ≤ m) {N : Nat} {q : Unit × fS} {φ : Nat → Nat} {h : eH} {s : fS} (R : fC m b φ0 σo φ h s) (hF : FX36_find_b201 N s = some q) : gG m b φ0 σo lU q (fX36_find_b201 N 195 h) := by
  unfold FX36_find_b201 at hF
  unfold fX36_find_b201
  refine s_pI R (t_195 hm R.S) (Nat.le_of_ble_eq_true rfl) rfl (c_lit 0 0 rfl) ⟨by decide, by decide⟩ hF (fun h1 σ1 R1 T1 hF => ?_)
  exact SX36_find_b208 (N := N) hm R1 (c_lit 1 1 rfl) ⟨by decide, by decide⟩ hF
def FX36_find_b68 (N : Nat) : Nat → Int → Int → fS → Option (Unit × fS)
  | 0, _, _, _ => none
  | n + 1, l1, l2, s =>
    if (s.i 195 5) ≤ l2 then
      FX36_find_b201 N s
    else
      if 0 ≤ l1 then
        FX36_find_b201 N s
      else
        FX36_find_b82 N (FX36_find_b68 N n) N l1 l2 0 s
theorem SX36_find_b68 {m b : Nat} {φ0 : Nat → Nat} {σo : fS} (hm : 1 ≤ m) {N : Nat} {q : Unit × fS} : ∀ {n : Nat} {φ : Nat → Nat} {h : eH} {s : fS} {l1' : Int32} {l1 : Int} {l2' : Int32} {l2 : Int}, fC m b φ0 σo φ h s → l1' = iI l1 → r32 l1 → l2' = iI l2 → r32 l2 → FX36_find_b68 N n l1 l2 s = some q → gG m b φ0 σo lU q (fX36_find_b68 N n 195 l1' l2' h) := by
  intro n
  induction n with
 | zero => intro φ h s l1' l1 l2' l2 R el1 rl1 el2 rl2 hF; simp [FX36_find_b68] at hF
  | succ n ih =>
    intro φ h s l1' l1 l2' l2 R el1 rl1 el2 rl2 hF
    subst el1; subst el2
    rw [FX36_find_b68] at hF
    rw [fX36_find_b68]
    refine s_gI R (t_195 hm R.S) (Nat.le_of_ble_eq_true rfl) rfl ?_
    refine s_if (i_le rfl rfl (R.ri (t_195 hm R.S) (Nat.le_of_ble_eq_true rfl) rfl) rl2) hF (fun c2 hF => ?_) (fun c2 hF => ?_)
    ·
      exact SX36_find_b201 (N := N) hm R hF
    ·
      refine s_if (i_le (c_lit 0 0 rfl) rfl ⟨by decide, by decide⟩ rl1) hF (fun c3 hF => ?_) (fun c3 hF => ?_)
      ·
        exact SX36_find_b201 (N := N) hm R hF
      ·
        exact SX36_find_b82 (N := N) (k68 := fX36_find_b68 N n) (K68 := FX36_find_b68 N n) hm @ih R rfl rl1 rfl rl2 (c_lit 0 0 rfl) ⟨by decide, by decide⟩ hF
def FX36_find_b15 (N : Nat) : Nat → Int → Int → fS → Option (Unit × fS)
  | 0, _, _, _ => none
  | n + 1, l1, l2, s =>
    if (s.i 195 23) ≤ l2 then
      FX36_find_b68 N N l1 0 s
    else
      if l1 < 0 then
        FX36_find_b59 N (FX36_find_b15 N n) l1 l2 l2 0 s
      else
        (uRI s 204 l1).bind fun x11 =>
        (uRI s 206 (isub (iadd x11 l2) 1)).bind fun x13 =>
        if x13 = 0 then
          FX36_find_b59 N (FX36_find_b15 N n) l1 l2 l2 0 s
        else
          FX36_find_b59 N (FX36_find_b15 N n) l1 l2 l2 1 s
theorem SX36_find_b15 {m b : Nat} {φ0 : Nat → Nat} {σo : fS} (hm : 1 ≤ m) {N : Nat} {q : Unit × fS} : ∀ {n : Nat} {φ : Nat → Nat} {h : eH} {s : fS} {l1' : Int32} {l1 : Int} {l2' : Int32} {l2 : Int}, fC m b φ0 σo φ h s → l1' = iI l1 → r32 l1 → l2' = iI l2 → r32 l2 → FX36_find_b15 N n l1 l2 s = some q → gG m b φ0 σo lU q (fX36_find_b15 N n 195 l1' l2' h) := by
  intro n
  induction n with
 | zero => intro φ h s l1' l1 l2' l2 R el1 rl1 el2 rl2 hF; simp [FX36_find_b15] at hF
  | succ n ih =>
    intro φ h s l1' l1 l2' l2 R el1 rl1 el2 rl2 hF
    subst el1; subst el2
    rw [FX36_find_b15] at hF
    rw [fX36_find_b15]
    refine s_gI R (t_195 hm R.S) (Nat.le_of_ble_eq_true rfl) rfl ?_
    refine s_if (i_le rfl rfl (R.ri (t_195 hm R.S) (Nat.le_of_ble_eq_true rfl) rfl) rl2) hF (fun c2 hF => ?_) (fun c2 hF => ?_)
    ·
      exact SX36_find_b68 (N := N) hm R rfl rl1 (c_lit 0 0 rfl) ⟨by decide, by decide⟩ hF
    ·
      refine s_gAs R (t_195 hm R.S) (Nat.le_of_ble_eq_true rfl) rfl (o_195_25 hm R.S) (a_211 hm R) ?_
      refine s_if (i_lt rfl (c_lit 0 0 rfl) rl1 ⟨by decide, by decide⟩) hF (fun c4 hF => ?_) (fun c4 hF => ?_)
      ·
        exact SX36_find_b59 (N := N) (k15 := fX36_find_b15 N n) (K15 := FX36_find_b15 N n) hm @ih R rfl rl1 rfl rl2 rfl rl2 (c_lit 0 0 rfl) ⟨by decide, by decide⟩ hF
      ·
        refine s_gAs R (t_195 hm R.S) (Nat.le_of_ble_eq_true rfl) rfl (o_195_15 hm R.S) (a_206 hm R) ?_
        refine s_gAs R (t_195 hm R.S) (Nat.le_of_ble_eq_true rfl) rfl (o_195_13 hm R.S) (a_204 hm R) ?_
        refine s_rI R (u_204 hm R.S).1 (u_204 hm R.S).2 (by decide) (a_204 hm R) rfl rl1 hF (fun x11 ra7 hF => ?_)
        refine s_rI R (u_206 hm R.S).1 (u_206 hm R.S).2 (by decide) (a_206 hm R) (c_sub (c_add rfl rfl) (c_lit 1 1 rfl)) (rr_I _) hF (fun x13 ra8 hF => ?_)
        refine s_if (i_eq rfl (c_lit 0 0 rfl) ra8 ⟨by decide, by decide⟩) hF (fun c9 hF => ?_) (fun c9 hF => ?_)
        ·
          exact SX36_find_b59 (N := N) (k15 := fX36_find_b15 N n) (K15 := FX36_find_b15 N n) hm @ih R rfl rl1 rfl rl2 rfl rl2 (c_lit 0 0 rfl) ⟨by decide, by decide⟩ hF
        ·
          exact SX36_find_b59 (N := N) (k15 := fX36_find_b15 N n) (K15 := FX36_find_b15 N n) hm @ih R rfl rl1 rfl rl2 rfl rl2 (c_lit 1 1 rfl) ⟨by decide, by decide⟩ hF
def FX36_find (N : Nat) (s : fS) : Option (Unit × fS) :=
  (FX36_toldAt N 210 (s.i 195 23) s).bind fun q6 =>
  FX36_find_b15 N N q6.1 1 q6.2
theorem SX36_find {m b : Nat} {φ0 : Nat → Nat} {σo : fS} (hm : 1 ≤ m) {N : Nat} {q : Unit × fS} {φ : Nat → Nat} {h : eH} {s : fS} (R : fC m b φ0 σo φ h s) (hF : FX36_find N s = some q) : gG m b φ0 σo lU q (fX36_find N 195 h) := by
  unfold FX36_find at hF
  unfold fX36_find
  refine s_gAs R (t_195 hm R.S) (Nat.le_of_ble_eq_true rfl) rfl (o_195_24 hm R.S) (a_210 hm R) ?_
  refine s_gI R (t_195 hm R.S) (Nat.le_of_ble_eq_true rfl) rfl ?_
  refine s_kok R (t_195 hm R.S) (Nat.le_of_ble_eq_true rfl) ?_
  refine s_call R (Nat.zero_le _) (fun _ hq => SX36_toldAt (b := 0) (N := N) hm (R.rf) (a_210 hm R) (u_210 hm R.S).1 rfl (R.ri (t_195 hm R.S) (Nat.le_of_ble_eq_true rfl) rfl) hq) hF (fun f4 rv4 h4 q6 R4 e4 E4 hF => ?_)
  exact SX36_find_b15 (N := N) hm R4 e4.1 e4.2 (c_lit 1 1 rfl) ⟨by decide, by decide⟩ hF
def FX36_take_b46 (N : Nat) (K5 : Int → Int → Int → fS → Option (Int × fS)) (l2 : Int) (l4 : Int) (s0 : Int) (s : fS) : Option (Int × fS) :=
  K5 l2 s0 (iadd l4 1) s
theorem SX36_take_b46 {m b : Nat} {φ0 : Nat → Nat} {σo : fS} (hm : 1 ≤ m) {N : Nat} {k5 : Nat → Nat → Int32 → Int32 → Int32 → eH → Option (Int32 × eH)} {K5 : Int → Int → Int → fS → Option (Int × fS)} {q : Int × fS} (hk5 : ∀ {φ : Nat → Nat} {h : eH} {s : fS} {l2' : Int32} {l2 : Int} {l3' : Int32} {l3 : Int} {l4' : Int32} {l4 : Int}, fC m b φ0 σo φ h s → l2' = iI l2 → r32 l2 → l3' = iI l3 → r32 l3 → l4' = iI l4 → r32 l4 → K5 l2 l3 l4 s = some q → gG m b φ0 σo lI q (k5 195 289 l2' l3' l4' h)) {φ : Nat → Nat} {h : eH} {s : fS} {l2' : Int32} {l2 : Int} {l4' : Int32} {l4 : Int} {s0' : Int32} {s0 : Int} (R : fC m b φ0 σo φ h s) (el2 : l2' = iI l2) (rl2 : r32 l2) (el4 : l4' = iI l4) (rl4 : r32 l4) (es0 : s0' = iI s0) (rs0 : r32 s0) (hF : FX36_take_b46 N K5 l2 l4 s0 s = some q) : gG m b φ0 σo lI q (fX36_take_b46 N k5 195 289 l2' l4' s0' h) := by
  subst el2; subst el4; subst es0
  unfold FX36_take_b46 at hF
  unfold fX36_take_b46
  exact hk5 R rfl rl2 rfl rs0 (c_add rfl (c_lit 1 1 rfl)) (rr_I _) hF
def FX36_take_b45 (N : Nat) (K5 : Int → Int → Int → fS → Option (Int × fS)) (l2 : Int) (l4 : Int) (s : fS) : Option (Int × fS) :=
  FX36_take_b46 N K5 l2 l4 0 s
theorem SX36_take_b45 {m b : Nat} {φ0 : Nat → Nat} {σo : fS} (hm : 1 ≤ m) {N : Nat} {k5 : Nat → Nat → Int32 → Int32 → Int32 → eH → Option (Int32 × eH)} {K5 : Int → Int → Int → fS → Option (Int × fS)} {q : Int × fS} (hk5 : ∀ {φ : Nat → Nat} {h : eH} {s : fS} {l2' : Int32} {l2 : Int} {l3' : Int32} {l3 : Int} {l4' : Int32} {l4 : Int}, fC m b φ0 σo φ h s → l2' = iI l2 → r32 l2 → l3' = iI l3 → r32 l3 → l4' = iI l4 → r32 l4 → K5 l2 l3 l4 s = some q → gG m b φ0 σo lI q (k5 195 289 l2' l3' l4' h)) {φ : Nat → Nat} {h : eH} {s : fS} {l2' : Int32} {l2 : Int} {l4' : Int32} {l4 : Int} (R : fC m b φ0 σo φ h s) (el2 : l2' = iI l2) (rl2 : r32 l2) (el4 : l4' = iI l4) (rl4 : r32 l4) (hF : FX36_take_b45 N K5 l2 l4 s = some q) : gG m b φ0 σo lI q (fX36_take_b45 N k5 195 289 l2' l4' h) := by
  subst el2; subst el4
  unfold FX36_take_b45 at hF
  unfold fX36_take_b45
  exact SX36_take_b46 (N := N) (k5 := k5) (K5 := K5) hm @hk5 R rfl rl2 rfl rl4 (c_lit 0 0 rfl) ⟨by decide, by decide⟩ hF
def FX36_take_b66 (N : Nat) (l3 : Int) (s : fS) : Option (Int × fS) :=
  uZ l3 (l3, s)
theorem SX36_take_b66 {m b : Nat} {φ0 : Nat → Nat} {σo : fS} (hm : 1 ≤ m) {N : Nat} {q : Int × fS} {φ : Nat → Nat} {h : eH} {s : fS} {l3' : Int32} {l3 : Int} (R : fC m b φ0 σo φ h s) (el3 : l3' = iI l3) (rl3 : r32 l3) (hF : FX36_take_b66 N l3 s = some q) : gG m b φ0 σo lI q (fX36_take_b66 N l3' h) := by
  subst el3
  unfold FX36_take_b66 at hF
  unfold fX36_take_b66
  exact g_z R rfl hF ⟨rfl, rl3⟩
def FX36_take_b5 (N : Nat) : Nat → Int → Int → Int → fS → Option (Int × fS)
  | 0, _, _, _, _ => none
  | n + 1, l2, l3, l4, s =>
    if l2 ≤ l4 then
      (uPI s 195 23 l2).bind fun σ2 =>
      if l3 = 0 then
        FX36_take_b66 N l3 σ2
      else
        (FX36_find N σ2).bind fun q6 =>
        FX36_take_b66 N l3 q6.2
    else
      (uRI s 289 l4).bind fun x11 =>
      (uRI s 196 x11).bind fun x13 =>
      (uQI s 210 l4 x13).bind fun σ15 =>
      if l3 = 0 then
        FX36_take_b45 N (FX36_take_b5 N n) l2 l4 σ15
      else
        (uRI σ15 210 l4).bind fun x20 =>
        if x20 ≤ 0 then
          FX36_take_b45 N (FX36_take_b5 N n) l2 l4 σ15
        else
          FX36_take_b46 N (FX36_take_b5 N n) l2 l4 1 σ15
theorem SX36_take_b5 {m b : Nat} {φ0 : Nat → Nat} {σo : fS} (hm : 1 ≤ m) {N : Nat} {q : Int × fS} : ∀ {n : Nat} {φ : Nat → Nat} {h : eH} {s : fS} {l2' : Int32} {l2 : Int} {l3' : Int32} {l3 : Int} {l4' : Int32} {l4 : Int}, fC m b φ0 σo φ h s → l2' = iI l2 → r32 l2 → l3' = iI l3 → r32 l3 → l4' = iI l4 → r32 l4 → FX36_take_b5 N n l2 l3 l4 s = some q → gG m b φ0 σo lI q (fX36_take_b5 N n 195 289 l2' l3' l4' h) := by
  intro n
  induction n with
 | zero => intro φ h s l2' l2 l3' l3 l4' l4 R el2 rl2 el3 rl3 el4 rl4 hF; simp [FX36_take_b5] at hF
  | succ n ih =>
    intro φ h s l2' l2 l3' l3 l4' l4 R el2 rl2 el3 rl3 el4 rl4 hF
    subst el2; subst el3; subst el4
    rw [FX36_take_b5] at hF
    rw [fX36_take_b5]
    refine s_if (i_le rfl rfl rl2 rl4) hF (fun c1 hF => ?_) (fun c1 hF => ?_)
    ·
      refine s_pI R (t_195 hm R.S) (Nat.le_of_ble_eq_true rfl) rfl rfl rl2 hF (fun h2 σ2 R2 T2 hF => ?_)
      refine s_if (i_eq rfl (c_lit 0 0 rfl) rl3 ⟨by decide, by decide⟩) hF (fun c3 hF => ?_) (fun c3 hF => ?_)
      ·
        exact SX36_take_b66 (N := N) hm R2 rfl rl3 hF
      ·
        refine s_kok R2 (t_195 hm R2.S) (Nat.le_of_ble_eq_true rfl) ?_
        refine s_call R2 (Nat.zero_le _) (fun _ hq => SX36_find (b := 0) (N := N) hm (R2.rf) hq) hF (fun f5 rv5 h5 q6 R5 e5 E5 hF => ?_)
        exact SX36_take_b66 (N := N) hm R5 rfl rl3 hF
    ·
      refine s_gAs R (t_195 hm R.S) (Nat.le_of_ble_eq_true rfl) rfl (o_195_24 hm R.S) (a_210 hm R) ?_
      refine s_gAs R (t_195 hm R.S) (Nat.le_of_ble_eq_true rfl) rfl (o_195_0 hm R.S) (a_196 hm R) ?_
      refine s_rI R (u_289 hm R.S).1 (u_289 hm R.S).2 (by decide) (a_289 hm R) rfl rl4 hF (fun x11 ra8 hF => ?_)
      refine s_rI R (u_196 hm R.S).1 (u_196 hm R.S).2 (by decide) (a_196 hm R) rfl ra8 hF (fun x13 ra9 hF => ?_)
      refine s_qI R (u_210 hm R.S).1 (u_210 hm R.S).2 (by decide) (a_210 hm R) rfl rl4 rfl ra9 hF (fun h10 σ15 R10 T10 hF => ?_)
      refine s_if (i_eq rfl (c_lit 0 0 rfl) rl3 ⟨by decide, by decide⟩) hF (fun c11 hF => ?_) (fun c11 hF => ?_)
      ·
        exact SX36_take_b45 (N := N) (k5 := fX36_take_b5 N n) (K5 := FX36_take_b5 N n) hm @ih R10 rfl rl2 rfl rl4 hF
      ·
        refine s_gAs R10 (t_195 hm R10.S) (Nat.le_of_ble_eq_true rfl) rfl (o_195_24 hm R10.S) (a_210 hm R10) ?_
        refine s_rI R10 (u_210 hm R10.S).1 (u_210 hm R10.S).2 (by decide) (a_210 hm R10) rfl rl4 hF (fun x20 ra13 hF => ?_)
        refine s_if (i_le rfl (c_lit 0 0 rfl) ra13 ⟨by decide, by decide⟩) hF (fun c14 hF => ?_) (fun c14 hF => ?_)
        ·
          exact SX36_take_b45 (N := N) (k5 := fX36_take_b5 N n) (K5 := FX36_take_b5 N n) hm @ih R10 rfl rl2 rfl rl4 hF
        ·
          exact SX36_take_b46 (N := N) (k5 := fX36_take_b5 N n) (K5 := FX36_take_b5 N n) hm @ih R10 rfl rl2 rfl rl4 (c_lit 1 1 rfl) ⟨by decide, by decide⟩ hF
def FX36_take (N : Nat) (p1 : Int) (s : fS) : Option (Int × fS) :=
  FX36_take_b5 N N p1 1 0 s
theorem SX36_take {m b : Nat} {φ0 : Nat → Nat} {σo : fS} (hm : 1 ≤ m) {N : Nat} {q : Int × fS} {φ : Nat → Nat} {h : eH} {s : fS} {p1' : Int32} {p1 : Int} (R : fC m b φ0 σo φ h s) (ep1 : p1' = iI p1) (rp1 : r32 p1) (hF : FX36_take N p1 s = some q) : gG m b φ0 σo lI q (fX36_take N 195 289 p1' h) := by
  subst ep1
  unfold FX36_take at hF
  unfold fX36_take
  exact SX36_take_b5 (N := N) hm R rfl rp1 (c_lit 1 1 rfl) ⟨by decide, by decide⟩ (c_lit 0 0 rfl) ⟨by decide, by decide⟩ hF
def FX35_isPart_b91 (N : Nat) (K22 : Nat → Int → Int → Int → fS → Option (Int × fS)) (l1 : Nat) (l2 : Int) (l4 : Int) (s0 : Int) (s : fS) : Option (Int × fS) :=
  K22 l1 l2 s0 (iadd l4 1) s
theorem SX35_isPart_b91 {m b : Nat} {φ0 : Nat → Nat} {σo : fS} (hm : 1 ≤ m) {N : Nat} {k22 : Nat → Nat → Int32 → Int32 → Int32 → eH → Option (Int32 × eH)} {K22 : Nat → Int → Int → Int → fS → Option (Int × fS)} {q : Int × fS} (hk22 : ∀ {φ : Nat → Nat} {h : eH} {s : fS} {l1 : Nat} {l2' : Int32} {l2 : Int} {l3' : Int32} {l3 : Int} {l4' : Int32} {l4 : Int}, fC m b φ0 σo φ h s → l2' = iI l2 → r32 l2 → l3' = iI l3 → r32 l3 → l4' = iI l4 → r32 l4 → K22 l1 l2 l3 l4 s = some q → gG m b φ0 σo lI q (k22 192 l1 l2' l3' l4' h)) {φ : Nat → Nat} {h : eH} {s : fS} {l1 : Nat} {l2' : Int32} {l2 : Int} {l4' : Int32} {l4 : Int} {s0' : Int32} {s0 : Int} (R : fC m b φ0 σo φ h s) (el2 : l2' = iI l2) (rl2 : r32 l2) (el4 : l4' = iI l4) (rl4 : r32 l4) (es0 : s0' = iI s0) (rs0 : r32 s0) (hF : FX35_isPart_b91 N K22 l1 l2 l4 s0 s = some q) : gG m b φ0 σo lI q (fX35_isPart_b91 N k22 192 l1 l2' l4' s0' h) := by
  subst el2; subst el4; subst es0
  unfold FX35_isPart_b91 at hF
  unfold fX35_isPart_b91
  exact hk22 R rfl rl2 rfl rs0 (c_add rfl (c_lit 1 1 rfl)) (rr_I _) hF
def FX35_isPart_b86 (N : Nat) (K22 : Nat → Int → Int → Int → fS → Option (Int × fS)) (l1 : Nat) (l2 : Int) (l4 : Int) (s : fS) : Option (Int × fS) :=
  FX35_isPart_b91 N K22 l1 l2 l4 1 s
theorem SX35_isPart_b86 {m b : Nat} {φ0 : Nat → Nat} {σo : fS} (hm : 1 ≤ m) {N : Nat} {k22 : Nat → Nat → Int32 → Int32 → Int32 → eH → Option (Int32 × eH)} {K22 : Nat → Int → Int → Int → fS → Option (Int × fS)} {q : Int × fS} (hk22 : ∀ {φ : Nat → Nat} {h : eH} {s : fS} {l1 : Nat} {l2' : Int32} {l2 : Int} {l3' : Int32} {l3 : Int} {l4' : Int32} {l4 : Int}, fC m b φ0 σo φ h s → l2' = iI l2 → r32 l2 → l3' = iI l3 → r32 l3 → l4' = iI l4 → r32 l4 → K22 l1 l2 l3 l4 s = some q → gG m b φ0 σo lI q (k22 192 l1 l2' l3' l4' h)) {φ : Nat → Nat} {h : eH} {s : fS} {l1 : Nat} {l2' : Int32} {l2 : Int} {l4' : Int32} {l4 : Int} (R : fC m b φ0 σo φ h s) (el2 : l2' = iI l2) (rl2 : r32 l2) (el4 : l4' = iI l4) (rl4 : r32 l4) (hF : FX35_isPart_b86 N K22 l1 l2 l4 s = some q) : gG m b φ0 σo lI q (fX35_isPart_b86 N k22 192 l1 l2' l4' h) := by
  subst el2; subst el4
  unfold FX35_isPart_b86 at hF
  unfold fX35_isPart_b86
  exact SX35_isPart_b91 (N := N) (k22 := k22) (K22 := K22) hm @hk22 R rfl rl2 rfl rl4 (c_lit 1 1 rfl) ⟨by decide, by decide⟩ hF
def FX35_isPart_b90 (N : Nat) (K22 : Nat → Int → Int → Int → fS → Option (Int × fS)) (l1 : Nat) (l2 : Int) (l4 : Int) (s : fS) : Option (Int × fS) :=
  FX35_isPart_b91 N K22 l1 l2 l4 0 s
theorem SX35_isPart_b90 {m b : Nat} {φ0 : Nat → Nat} {σo : fS} (hm : 1 ≤ m) {N : Nat} {k22 : Nat → Nat → Int32 → Int32 → Int32 → eH → Option (Int32 × eH)} {K22 : Nat → Int → Int → Int → fS → Option (Int × fS)} {q : Int × fS} (hk22 : ∀ {φ : Nat → Nat} {h : eH} {s : fS} {l1 : Nat} {l2' : Int32} {l2 : Int} {l3' : Int32} {l3 : Int} {l4' : Int32} {l4 : Int}, fC m b φ0 σo φ h s → l2' = iI l2 → r32 l2 → l3' = iI l3 → r32 l3 → l4' = iI l4 → r32 l4 → K22 l1 l2 l3 l4 s = some q → gG m b φ0 σo lI q (k22 192 l1 l2' l3' l4' h)) {φ : Nat → Nat} {h : eH} {s : fS} {l1 : Nat} {l2' : Int32} {l2 : Int} {l4' : Int32} {l4 : Int} (R : fC m b φ0 σo φ h s) (el2 : l2' = iI l2) (rl2 : r32 l2) (el4 : l4' = iI l4) (rl4 : r32 l4) (hF : FX35_isPart_b90 N K22 l1 l2 l4 s = some q) : gG m b φ0 σo lI q (fX35_isPart_b90 N k22 192 l1 l2' l4' h) := by
  subst el2; subst el4
  unfold FX35_isPart_b90 at hF
  unfold fX35_isPart_b90
  exact SX35_isPart_b91 (N := N) (k22 := k22) (K22 := K22) hm @hk22 R rfl rl2 rfl rl4 (c_lit 0 0 rfl) ⟨by decide, by decide⟩ hF
def FX35_isPart_b98 (N : Nat) (l3 : Int) (s : fS) : Option (Int × fS) :=
  uZ l3 (l3, s)
theorem SX35_isPart_b98 {m b : Nat} {φ0 : Nat → Nat} {σo : fS} (hm : 1 ≤ m) {N : Nat} {q : Int × fS} {φ : Nat → Nat} {h : eH} {s : fS} {l3' : Int32} {l3 : Int} (R : fC m b φ0 σo φ h s) (el3 : l3' = iI l3) (rl3 : r32 l3) (hF : FX35_isPart_b98 N l3 s = some q) : gG m b φ0 σo lI q (fX35_isPart_b98 N l3' h) := by
  subst el3
  unfold FX35_isPart_b98 at hF
  unfold fX35_isPart_b98
  exact g_z R rfl hF ⟨rfl, rl3⟩
def FX35_isPart_b22 (N : Nat) : Nat → Nat → Int → Int → Int → fS → Option (Int × fS)
  | 0, _, _, _, _, _ => none
  | n + 1, l1, l2, l3, l4, s =>
    (uK 42 s l1).bind fun _ =>
    if (s.i l1 3) ≤ l4 then
      FX35_isPart_b98 N l3 s
    else
      if l3 = 0 then
        FX35_isPart_b98 N l3 s
      else
        (uK 42 s l1).bind fun _ =>
        (s.o l1 1).bind fun a5 =>
        (uKA 100 s a5).bind fun _ =>
        (uRI s a5 l4).bind fun x7 =>
        (uRI s 290 (iadd l2 l4)).bind fun x11 =>
        if ¬ (x7 = x11) then
          FX35_isPart_b90 N (FX35_isPart_b22 N n) l1 l2 l4 s
        else
          (uK 42 s l1).bind fun _ =>
          (s.o l1 1).bind fun a14 =>
          (uKA 100 s a14).bind fun _ =>
          (uRI s a14 l4).bind fun x16 =>
          if x16 < 256 then
            FX35_isPart_b86 N (FX35_isPart_b22 N n) l1 l2 l4 s
          else
            (uK 42 s l1).bind fun _ =>
            (s.o l1 2).bind fun a19 =>
            (uKA 100 s a19).bind fun _ =>
            (uRI s a19 l4).bind fun x21 =>
            (uRI s 291 (iadd l2 l4)).bind fun x25 =>
            if ¬ (x21 = x25) then
              FX35_isPart_b90 N (FX35_isPart_b22 N n) l1 l2 l4 s
            else
              FX35_isPart_b86 N (FX35_isPart_b22 N n) l1 l2 l4 s
theorem SX35_isPart_b22 {m b : Nat} {φ0 : Nat → Nat} {σo : fS} (hm : 1 ≤ m) {N : Nat} {q : Int × fS} : ∀ {n : Nat} {φ : Nat → Nat} {h : eH} {s : fS} {l1 : Nat} {l2' : Int32} {l2 : Int} {l3' : Int32} {l3 : Int} {l4' : Int32} {l4 : Int}, fC m b φ0 σo φ h s → l2' = iI l2 → r32 l2 → l3' = iI l3 → r32 l3 → l4' = iI l4 → r32 l4 → FX35_isPart_b22 N n l1 l2 l3 l4 s = some q → gG m b φ0 σo lI q (fX35_isPart_b22 N n 192 l1 l2' l3' l4' h) := by
  intro n
  induction n with
 | zero => intro φ h s l1 l2' l2 l3' l3 l4' l4 R el2 rl2 el3 rl3 el4 rl4 hF; simp [FX35_isPart_b22] at hF
  | succ n ih =>
    intro φ h s l1 l2' l2 l3' l3 l4' l4 R el2 rl2 el3 rl3 el4 rl4 hF
    subst el2; subst el3; subst el4
    rw [FX35_isPart_b22] at hF
    rw [fX35_isPart_b22]
    refine s_K hF (fun t2 hF => ?_)
    refine s_gI R t2 (Nat.le_of_ble_eq_true rfl) rfl ?_
    refine s_if (i_le rfl rfl (R.ri t2 (Nat.le_of_ble_eq_true rfl) rfl) rl4) hF (fun c3 hF => ?_) (fun c3 hF => ?_)
    ·
      exact SX35_isPart_b98 (N := N) hm R rfl rl3 hF
    ·
      refine s_if (i_eq rfl (c_lit 0 0 rfl) rl3 ⟨by decide, by decide⟩) hF (fun c4 hF => ?_) (fun c4 hF => ?_)
      ·
        exact SX35_isPart_b98 (N := N) hm R rfl rl3 hF
      ·
        refine s_K hF (fun t6 hF => ?_)
        refine s_oo hF (fun a5 e5 hF => ?_)
        refine s_gA R t6 (Nat.le_of_ble_eq_true rfl) rfl e5 (fun x5_ y5_ => ?_)
        refine s_KA hF (fun y8 z8 hF => ?_)
        refine s_rI R y8 z8 (by decide) rfl rfl rl4 hF (fun x7 ra7 hF => ?_)
        refine s_gAs R (t_192 hm R.S) (Nat.le_of_ble_eq_true rfl) rfl (o_192_60 hm R.S) (a_290 hm R) ?_
        refine s_rI R (u_290 hm R.S).1 (u_290 hm R.S).2 (by decide) (a_290 hm R) (c_add rfl rfl) (rr_I _) hF (fun x11 ra10 hF => ?_)
        refine s_if (not_congr (i_eq rfl rfl ra7 ra10)) hF (fun c11 hF => ?_) (fun c11 hF => ?_)
        ·
          exact SX35_isPart_b90 (N := N) (k22 := fX35_isPart_b22 N n) (K22 := FX35_isPart_b22 N n) hm @ih R rfl rl2 rfl rl4 hF
        ·
          refine s_K hF (fun t13 hF => ?_)
          refine s_oo hF (fun a14 e12 hF => ?_)
          refine s_gA R t13 (Nat.le_of_ble_eq_true rfl) rfl e12 (fun x12_ y12_ => ?_)
          refine s_KA hF (fun y15 z15 hF => ?_)
          refine s_rI R y15 z15 (by decide) rfl rfl rl4 hF (fun x16 ra14 hF => ?_)
          refine s_if (i_lt rfl (c_lit 256 256 rfl) ra14 ⟨by decide, by decide⟩) hF (fun c16 hF => ?_) (fun c16 hF => ?_)
          ·
            exact SX35_isPart_b86 (N := N) (k22 := fX35_isPart_b22 N n) (K22 := FX35_isPart_b22 N n) hm @ih R rfl rl2 rfl rl4 hF
          ·
            refine s_K hF (fun t18 hF => ?_)
            refine s_oo hF (fun a19 e17 hF => ?_)
            refine s_gA R t18 (Nat.le_of_ble_eq_true rfl) rfl e17 (fun x17_ y17_ => ?_)
            refine s_KA hF (fun y20 z20 hF => ?_)
            refine s_rI R y20 z20 (by decide) rfl rfl rl4 hF (fun x21 ra19 hF => ?_)
            refine s_gAs R (t_192 hm R.S) (Nat.le_of_ble_eq_true rfl) rfl (o_192_61 hm R.S) (a_291 hm R) ?_
            refine s_rI R (u_291 hm R.S).1 (u_291 hm R.S).2 (by decide) (a_291 hm R) (c_add rfl rfl) (rr_I _) hF (fun x25 ra22 hF => ?_)
            refine s_if (not_congr (i_eq rfl rfl ra19 ra22)) hF (fun c23 hF => ?_) (fun c23 hF => ?_)
            ·
              exact SX35_isPart_b90 (N := N) (k22 := fX35_isPart_b22 N n) (K22 := FX35_isPart_b22 N n) hm @ih R rfl rl2 rfl rl4 hF
            ·
              exact SX35_isPart_b86 (N := N) (k22 := fX35_isPart_b22 N n) (K22 := FX35_isPart_b22 N n) hm @ih R rfl rl2 rfl rl4 hF
def FX35_isPart_b18 (N : Nat) (l1 : Nat) (l2 : Int) (s0 : Int) (s : fS) : Option (Int × fS) :=
  FX35_isPart_b22 N N l1 l2 s0 0 s
theorem SX35_isPart_b18 {m b : Nat} {φ0 : Nat → Nat} {σo : fS} (hm : 1 ≤ m) {N : Nat} {q : Int × fS} {φ : Nat → Nat} {h : eH} {s : fS} {l1 : Nat} {l2' : Int32} {l2 : Int} {s0' : Int32} {s0 : Int} (R : fC m b φ0 σo φ h s) (el2 : l2' = iI l2) (rl2 : r32 l2) (es0 : s0' = iI s0) (rs0 : r32 s0) (hF : FX35_isPart_b18 N l1 l2 s0 s = some q) : gG m b φ0 σo lI q (fX35_isPart_b18 N 192 l1 l2' s0' h) := by
  subst el2; subst es0
  unfold FX35_isPart_b18 at hF
  unfold fX35_isPart_b18
  exact SX35_isPart_b22 (N := N) hm R rfl rl2 rfl rs0 (c_lit 0 0 rfl) ⟨by decide, by decide⟩ hF
def FX35_isPart (N : Nat) (p0 : Nat) (p1 : Int) (s : fS) : Option (Int × fS) :=
  (uK 42 s p0).bind fun _ =>
  if (s.i 192 62) < (iadd p1 (s.i p0 3)) then
    FX35_isPart_b18 N p0 p1 0 s
  else
    FX35_isPart_b18 N p0 p1 1 s
theorem SX35_isPart {m b : Nat} {φ0 : Nat → Nat} {σo : fS} (hm : 1 ≤ m) {N : Nat} {q : Int × fS} {φ : Nat → Nat} {h : eH} {s : fS} {p0 : Nat} {p1' : Int32} {p1 : Int} (R : fC m b φ0 σo φ h s) (ep1 : p1' = iI p1) (rp1 : r32 p1) (hF : FX35_isPart N p0 p1 s = some q) : gG m b φ0 σo lI q (fX35_isPart N 192 p0 p1' h) := by
  subst ep1
  unfold FX35_isPart at hF
  unfold fX35_isPart
  refine s_K hF (fun t2 hF => ?_)
  refine s_gI R t2 (Nat.le_of_ble_eq_true rfl) rfl ?_
  refine s_gI R (t_192 hm R.S) (Nat.le_of_ble_eq_true rfl) rfl ?_
  refine s_if (i_lt rfl (c_add rfl rfl) (R.ri (t_192 hm R.S) (Nat.le_of_ble_eq_true rfl) rfl) (rr_I _)) hF (fun c4 hF => ?_) (fun c4 hF => ?_)
  ·
    exact SX35_isPart_b18 (N := N) hm R rfl rp1 (c_lit 0 0 rfl) ⟨by decide, by decide⟩ hF
  ·
    exact SX35_isPart_b18 (N := N) hm R rfl rp1 (c_lit 1 1 rfl) ⟨by decide, by decide⟩ hF
def FX35_findSofts_b180 (N : Nat) (K149 : Int → Nat → Int → Int → Int → Int → Int → Int → fS → Option (Unit × fS)) (l1 : Int) (l2 : Nat) (l3 : Int) (l6 : Int) (l7 : Int) (l8 : Int) (l10 : Int) (s0 : Int) (s : fS) : Option (Unit × fS) :=
  K149 l1 l2 l3 l6 l7 l8 s0 (iadd l10 1) s
theorem SX35_findSofts_b180 {m b : Nat} {φ0 : Nat → Nat} {σo : fS} (hm : 1 ≤ m) {N : Nat} {k149 : Nat → Int32 → Nat → Int32 → Int32 → Int32 → Int32 → Int32 → Int32 → eH → Option (Unit × eH)} {K149 : Int → Nat → Int → Int → Int → Int → Int → Int → fS → Option (Unit × fS)} {q : Unit × fS} (hk149 : ∀ {φ : Nat → Nat} {h : eH} {s : fS} {l1' : Int32} {l1 : Int} {l2 : Nat} {l3' : Int32} {l3 : Int} {l6' : Int32} {l6 : Int} {l7' : Int32} {l7 : Int} {l8' : Int32} {l8 : Int} {l9' : Int32} {l9 : Int} {l10' : Int32} {l10 : Int}, fC m b φ0 σo φ h s → l1' = iI l1 → r32 l1 → l3' = iI l3 → r32 l3 → l6' = iI l6 → r32 l6 → l7' = iI l7 → r32 l7 → l8' = iI l8 → r32 l8 → l9' = iI l9 → r32 l9 → l10' = iI l10 → r32 l10 → K149 l1 l2 l3 l6 l7 l8 l9 l10 s = some q → gG m b φ0 σo lU q (k149 192 l1' l2 l3' l6' l7' l8' l9' l10' h)) {φ : Nat → Nat} {h : eH} {s : fS} {l1' : Int32} {l1 : Int} {l2 : Nat} {l3' : Int32} {l3 : Int} {l6' : Int32} {l6 : Int} {l7' : Int32} {l7 : Int} {l8' : Int32} {l8 : Int} {l10' : Int32} {l10 : Int} {s0' : Int32} {s0 : Int} (R : fC m b φ0 σo φ h s) (el1 : l1' = iI l1) (rl1 : r32 l1) (el3 : l3' = iI l3) (rl3 : r32 l3) (el6 : l6' = iI l6) (rl6 : r32 l6) (el7 : l7' = iI l7) (rl7 : r32 l7) (el8 : l8' = iI l8) (rl8 : r32 l8) (el10 : l10' = iI l10) (rl10 : r32 l10) (es0 : s0' = iI s0) (rs0 : r32 s0) (hF : FX35_findSofts_b180 N K149 l1 l2 l3 l6 l7 l8 l10 s0 s = some q) : gG m b φ0 σo lU q (fX35_findSofts_b180 N k149 192 l1' l2 l3' l6' l7' l8' l10' s0' h) := by
  subst el1; subst el3; subst el6; subst el7; subst el8; subst el10; subst es0
  unfold FX35_findSofts_b180 at hF
  unfold fX35_findSofts_b180
  exact hk149 R rfl rl1 rfl rl3 rfl rl6 rfl rl7 rfl rl8 rfl rs0 (c_add rfl (c_lit 1 1 rfl)) (rr_I _) hF
def FX35_findSofts_b175 (N : Nat) (K149 : Int → Nat → Int → Int → Int → Int → Int → Int → fS → Option (Unit × fS)) (l1 : Int) (l2 : Nat) (l3 : Int) (l6 : Int) (l7 : Int) (l8 : Int) (l10 : Int) (s : fS) : Option (Unit × fS) :=
  FX35_findSofts_b180 N K149 l1 l2 l3 l6 l7 l8 l10 1 s
theorem SX35_findSofts_b175 {m b : Nat} {φ0 : Nat → Nat} {σo : fS} (hm : 1 ≤ m) {N : Nat} {k149 : Nat → Int32 → Nat → Int32 → Int32 → Int32 → Int32 → Int32 → Int32 → eH → Option (Unit × eH)} {K149 : Int → Nat → Int → Int → Int → Int → Int → Int → fS → Option (Unit × fS)} {q : Unit × fS} (hk149 : ∀ {φ : Nat → Nat} {h : eH} {s : fS} {l1' : Int32} {l1 : Int} {l2 : Nat} {l3' : Int32} {l3 : Int} {l6' : Int32} {l6 : Int} {l7' : Int32} {l7 : Int} {l8' : Int32} {l8 : Int} {l9' : Int32} {l9 : Int} {l10' : Int32} {l10 : Int}, fC m b φ0 σo φ h s → l1' = iI l1 → r32 l1 → l3' = iI l3 → r32 l3 → l6' = iI l6 → r32 l6 → l7' = iI l7 → r32 l7 → l8' = iI l8 → r32 l8 → l9' = iI l9 → r32 l9 → l10' = iI l10 → r32 l10 → K149 l1 l2 l3 l6 l7 l8 l9 l10 s = some q → gG m b φ0 σo lU q (k149 192 l1' l2 l3' l6' l7' l8' l9' l10' h)) {φ : Nat → Nat} {h : eH} {s : fS} {l1' : Int32} {l1 : Int} {l2 : Nat} {l3' : Int32} {l3 : Int} {l6' : Int32} {l6 : Int} {l7' : Int32} {l7 : Int} {l8' : Int32} {l8 : Int} {l10' : Int32} {l10 : Int} (R : fC m b φ0 σo φ h s) (el1 : l1' = iI l1) (rl1 : r32 l1) (el3 : l3' = iI l3) (rl3 : r32 l3) (el6 : l6' = iI l6) (rl6 : r32 l6) (el7 : l7' = iI l7) (rl7 : r32 l7) (el8 : l8' = iI l8) (rl8 : r32 l8) (el10 : l10' = iI l10) (rl10 : r32 l10) (hF : FX35_findSofts_b175 N K149 l1 l2 l3 l6 l7 l8 l10 s = some q) : gG m b φ0 σo lU q (fX35_findSofts_b175 N k149 192 l1' l2 l3' l6' l7' l8' l10' h) := by
  subst el1; subst el3; subst el6; subst el7; subst el8; subst el10
  unfold FX35_findSofts_b175 at hF
  unfold fX35_findSofts_b175
  exact SX35_findSofts_b180 (N := N) (k149 := k149) (K149 := K149) hm @hk149 R rfl rl1 rfl rl3 rfl rl6 rfl rl7 rfl rl8 rfl rl10 (c_lit 1 1 rfl) ⟨by decide, by decide⟩ hF
def FX35_findSofts_b248 (N : Nat) (K16 : Int → Nat → Int → fS → Option (Unit × fS)) (l1 : Int) (l2 : Nat) (l3 : Int) (s : fS) : Option (Unit × fS) :=
  K16 l1 l2 (iadd l3 1) s
theorem SX35_findSofts_b248 {m b : Nat} {φ0 : Nat → Nat} {σo : fS} (hm : 1 ≤ m) {N : Nat} {k16 : Nat → Int32 → Nat → Int32 → eH → Option (Unit × eH)} {K16 : Int → Nat → Int → fS → Option (Unit × fS)} {q : Unit × fS} (hk16 : ∀ {φ : Nat → Nat} {h : eH} {s : fS} {l1' : Int32} {l1 : Int} {l2 : Nat} {l3' : Int32} {l3 : Int}, fC m b φ0 σo φ h s → l1' = iI l1 → r32 l1 → l3' = iI l3 → r32 l3 → K16 l1 l2 l3 s = some q → gG m b φ0 σo lU q (k16 192 l1' l2 l3' h)) {φ : Nat → Nat} {h : eH} {s : fS} {l1' : Int32} {l1 : Int} {l2 : Nat} {l3' : Int32} {l3 : Int} (R : fC m b φ0 σo φ h s) (el1 : l1' = iI l1) (rl1 : r32 l1) (el3 : l3' = iI l3) (rl3 : r32 l3) (hF : FX35_findSofts_b248 N K16 l1 l2 l3 s = some q) : gG m b φ0 σo lU q (fX35_findSofts_b248 N k16 192 l1' l2 l3' h) := by
  subst el1; subst el3
  unfold FX35_findSofts_b248 at hF
  unfold fX35_findSofts_b248
  exact hk16 R rfl rl1 (c_add rfl (c_lit 1 1 rfl)) (rr_I _) hF
def FX35_findSofts_b198 (N : Nat) (K16 : Int → Nat → Int → fS → Option (Unit × fS)) (l1 : Int) (l2 : Nat) (l3 : Int) (l6 : Int) (l7 : Int) (l9 : Int) (s : fS) : Option (Unit × fS) :=
  (FX35_isPart N l2 (iadd l6 l7) s).bind fun q2 =>
  if q2.1 = 0 then
    FX35_findSofts_b248 N K16 l1 l2 l3 q2.2
  else
    if ¬ (l9 = 0) then
      FX35_findSofts_b248 N K16 l1 l2 l3 q2.2
    else
      (uQI q2.2 322 (q2.2.i 192 124) l6).bind fun σ9 =>
      (uQI σ9 323 (σ9.i 192 124) l7).bind fun σ15 =>
      (uPI σ15 192 124 (iadd (σ15.i 192 124) 1)).bind fun σ19 =>
      FX35_findSofts_b248 N K16 l1 l2 l3 σ19
theorem SX35_findSofts_b198 {m b : Nat} {φ0 : Nat → Nat} {σo : fS} (hm : 1 ≤ m) {N : Nat} {k16 : Nat → Int32 → Nat → Int32 → eH → Option (Unit × eH)} {K16 : Int → Nat → Int → fS → Option (Unit × fS)} {q : Unit × fS} (hk16 : ∀ {φ : Nat → Nat} {h : eH} {s : fS} {l1' : Int32} {l1 : Int} {l2 : Nat} {l3' : Int32} {l3 : Int}, fC m b φ0 σo φ h s → l1' = iI l1 → r32 l1 → l3' = iI l3 → r32 l3 → K16 l1 l2 l3 s = some q → gG m b φ0 σo lU q (k16 192 l1' l2 l3' h)) {φ : Nat → Nat} {h : eH} {s : fS} {l1' : Int32} {l1 : Int} {l2 : Nat} {l3' : Int32} {l3 : Int} {l6' : Int32} {l6 : Int} {l7' : Int32} {l7 : Int} {l9' : Int32} {l9 : Int} (R : fC m b φ0 σo φ h s) (el1 : l1' = iI l1) (rl1 : r32 l1) (el3 : l3' = iI l3) (rl3 : r32 l3) (el6 : l6' = iI l6) (rl6 : r32 l6) (el7 : l7' = iI l7) (rl7 : r32 l7) (el9 : l9' = iI l9) (rl9 : r32 l9) (hF : FX35_findSofts_b198 N K16 l1 l2 l3 l6 l7 l9 s = some q) : gG m b φ0 σo lU q (fX35_findSofts_b198 N k16 192 l1' l2 l3' l6' l7' l9' h) := by
  subst el1; subst el3; subst el6; subst el7; subst el9
  unfold FX35_findSofts_b198 at hF
  unfold fX35_findSofts_b198
  refine s_kok R (t_192 hm R.S) (Nat.le_of_ble_eq_true rfl) ?_
  refine s_call R (Nat.zero_le _) (fun _ hq => SX35_isPart (b := 0) (N := N) hm (R.rf) (c_add rfl rfl) (rr_I _) hq) hF (fun f2 rv2 h2 q2 R2 e2 E2 hF => ?_)
  refine s_if (i_eq e2.1 (c_lit 0 0 rfl) e2.2 ⟨by decide, by decide⟩) hF (fun c3 hF => ?_) (fun c3 hF => ?_)
  ·
    exact SX35_findSofts_b248 (N := N) (k16 := k16) (K16 := K16) hm @hk16 R2 rfl rl1 rfl rl3 hF
  ·
    refine s_if (not_congr (i_eq rfl (c_lit 0 0 rfl) rl9 ⟨by decide, by decide⟩)) hF (fun c4 hF => ?_) (fun c4 hF => ?_)
    ·
      exact SX35_findSofts_b248 (N := N) (k16 := k16) (K16 := K16) hm @hk16 R2 rfl rl1 rfl rl3 hF
    ·
      refine s_gAs R2 (t_192 hm R2.S) (Nat.le_of_ble_eq_true rfl) rfl (o_192_125 hm R2.S) (a_322 hm R2) ?_
      refine s_gI R2 (t_192 hm R2.S) (Nat.le_of_ble_eq_true rfl) rfl ?_
      refine s_qI R2 (u_322 hm R2.S).1 (u_322 hm R2.S).2 (by decide) (a_322 hm R2) rfl (R2.ri (t_192 hm R2.S) (Nat.le_of_ble_eq_true rfl) rfl) rfl rl6 hF (fun h7 σ9 R7 T7 hF => ?_)
      refine s_gAs R7 (t_192 hm R7.S) (Nat.le_of_ble_eq_true rfl) rfl (o_192_126 hm R7.S) (a_323 hm R7) ?_
      refine s_gI R7 (t_192 hm R7.S) (Nat.le_of_ble_eq_true rfl) rfl ?_
      refine s_qI R7 (u_323 hm R7.S).1 (u_323 hm R7.S).2 (by decide) (a_323 hm R7) rfl (R7.ri (t_192 hm R7.S) (Nat.le_of_ble_eq_true rfl) rfl) rfl rl7 hF (fun h10 σ15 R10 T10 hF => ?_)
      refine s_gI R10 (t_192 hm R10.S) (Nat.le_of_ble_eq_true rfl) rfl ?_
      refine s_pI R10 (t_192 hm R10.S) (Nat.le_of_ble_eq_true rfl) rfl (c_add rfl (c_lit 1 1 rfl)) (rr_I _) hF (fun h12 σ19 R12 T12 hF => ?_)
      exact SX35_findSofts_b248 (N := N) (k16 := k16) (K16 := K16) hm @hk16 R12 rfl rl1 rfl rl3 hF
def FX35_findSofts_b149 (N : Nat) (K16 : Int → Nat → Int → fS → Option (Unit × fS)) : Nat → Int → Nat → Int → Int → Int → Int → Int → Int → fS → Option (Unit × fS)
  | 0, _, _, _, _, _, _, _, _, _ => none
  | n + 1, l1, l2, l3, l6, l7, l8, l9, l10, s =>
    if (s.i 192 124) ≤ l10 then
      if l7 = 0 then
        FX35_findSofts_b198 N K16 l1 l2 l3 l6 l7 l9 s
      else
        if l8 = 0 then
          FX35_findSofts_b248 N K16 l1 l2 l3 s
        else
          FX35_findSofts_b198 N K16 l1 l2 l3 l6 l7 l9 s
    else
      if ¬ (l9 = 0) then
        FX35_findSofts_b175 N (FX35_findSofts_b149 N K16 n) l1 l2 l3 l6 l7 l8 l10 s
      else
        (uRI s 322 l10).bind fun x9 =>
        if ¬ (x9 = l6) then
          FX35_findSofts_b180 N (FX35_findSofts_b149 N K16 n) l1 l2 l3 l6 l7 l8 l10 0 s
        else
          FX35_findSofts_b175 N (FX35_findSofts_b149 N K16 n) l1 l2 l3 l6 l7 l8 l10 s
theorem SX35_findSofts_b149 {m b : Nat} {φ0 : Nat → Nat} {σo : fS} (hm : 1 ≤ m) {N : Nat} {k16 : Nat → Int32 → Nat → Int32 → eH → Option (Unit × eH)} {K16 : Int → Nat → Int → fS → Option (Unit × fS)} {q : Unit × fS} (hk16 : ∀ {φ : Nat → Nat} {h : eH} {s : fS} {l1' : Int32} {l1 : Int} {l2 : Nat} {l3' : Int32} {l3 : Int}, fC m b φ0 σo φ h s → l1' = iI l1 → r32 l1 → l3' = iI l3 → r32 l3 → K16 l1 l2 l3 s = some q → gG m b φ0 σo lU q (k16 192 l1' l2 l3' h)) : ∀ {n : Nat} {φ : Nat → Nat} {h : eH} {s : fS} {l1' : Int32} {l1 : Int} {l2 : Nat} {l3' : Int32} {l3 : Int} {l6' : Int32} {l6 : Int} {l7' : Int32} {l7 : Int} {l8' : Int32} {l8 : Int} {l9' : Int32} {l9 : Int} {l10' : Int32} {l10 : Int}, fC m b φ0 σo φ h s → l1' = iI l1 → r32 l1 → l3' = iI l3 → r32 l3 → l6' = iI l6 → r32 l6 → l7' = iI l7 → r32 l7 → l8' = iI l8 → r32 l8 → l9' = iI l9 → r32 l9 → l10' = iI l10 → r32 l10 → FX35_findSofts_b149 N K16 n l1 l2 l3 l6 l7 l8 l9 l10 s = some q → gG m b φ0 σo lU q (fX35_findSofts_b149 N k16 n 192 l1' l2 l3' l6' l7' l8' l9' l10' h) := by
  intro n
  induction n with
 | zero => intro φ h s l1' l1 l2 l3' l3 l6' l6 l7' l7 l8' l8 l9' l9 l10' l10 R el1 rl1 el3 rl3 el6 rl6 el7 rl7 el8 rl8 el9 rl9 el10 rl10 hF; simp [FX35_findSofts_b149] at hF
  | succ n ih =>
    intro φ h s l1' l1 l2 l3' l3 l6' l6 l7' l7 l8' l8 l9' l9 l10' l10 R el1 rl1 el3 rl3 el6 rl6 el7 rl7 el8 rl8 el9 rl9 el10 rl10 hF
    subst el1; subst el3; subst el6; subst el7; subst el8; subst el9; subst el10
    rw [FX35_findSofts_b149] at hF
    rw [fX35_findSofts_b149]
    refine s_gI R (t_192 hm R.S) (Nat.le_of_ble_eq_true rfl) rfl ?_
    refine s_if (i_le rfl rfl (R.ri (t_192 hm R.S) (Nat.le_of_ble_eq_true rfl) rfl) rl10) hF (fun c2 hF => ?_) (fun c2 hF => ?_)
    ·
      refine s_if (i_eq rfl (c_lit 0 0 rfl) rl7 ⟨by decide, by decide⟩) hF (fun c3 hF => ?_) (fun c3 hF => ?_)
      ·
        exact SX35_findSofts_b198 (N := N) (k16 := k16) (K16 := K16) hm @hk16 R rfl rl1 rfl rl3 rfl rl6 rfl rl7 rfl rl9 hF
      ·
        refine s_if (i_eq rfl (c_lit 0 0 rfl) rl8 ⟨by decide, by decide⟩) hF (fun c4 hF => ?_) (fun c4 hF => ?_)
        ·
          exact SX35_findSofts_b248 (N := N) (k16 := k16) (K16 := K16) hm @hk16 R rfl rl1 rfl rl3 hF
        ·
          exact SX35_findSofts_b198 (N := N) (k16 := k16) (K16 := K16) hm @hk16 R rfl rl1 rfl rl3 rfl rl6 rfl rl7 rfl rl9 hF
    ·
      refine s_if (not_congr (i_eq rfl (c_lit 0 0 rfl) rl9 ⟨by decide, by decide⟩)) hF (fun c5 hF => ?_) (fun c5 hF => ?_)
      ·
        exact SX35_findSofts_b175 (N := N) (k149 := fX35_findSofts_b149 N k16 n) (K149 := FX35_findSofts_b149 N K16 n) hm @ih R rfl rl1 rfl rl3 rfl rl6 rfl rl7 rfl rl8 rfl rl10 hF
      ·
        refine s_gAs R (t_192 hm R.S) (Nat.le_of_ble_eq_true rfl) rfl (o_192_125 hm R.S) (a_322 hm R) ?_
        refine s_rI R (u_322 hm R.S).1 (u_322 hm R.S).2 (by decide) (a_322 hm R) rfl rl10 hF (fun x9 ra7 hF => ?_)
        refine s_if (not_congr (i_eq rfl rfl ra7 rl6)) hF (fun c8 hF => ?_) (fun c8 hF => ?_)
        ·
          exact SX35_findSofts_b180 (N := N) (k149 := fX35_findSofts_b149 N k16 n) (K149 := FX35_findSofts_b149 N K16 n) hm @ih R rfl rl1 rfl rl3 rfl rl6 rfl rl7 rfl rl8 rfl rl10 (c_lit 0 0 rfl) ⟨by decide, by decide⟩ hF
        ·
          exact SX35_findSofts_b175 (N := N) (k149 := fX35_findSofts_b149 N k16 n) (K149 := FX35_findSofts_b149 N K16 n) hm @ih R rfl rl1 rfl rl3 rfl rl6 rfl rl7 rfl rl8 rfl rl10 hF
def FX35_findSofts_b141 (N : Nat) (K16 : Int → Nat → Int → fS → Option (Unit × fS)) (l1 : Int) (l2 : Nat) (l3 : Int) (l6 : Int) (l7 : Int) (s0 : Int) (s : fS) : Option (Unit × fS) :=
  FX35_findSofts_b149 N K16 N l1 l2 l3 l6 l7 s0 0 0 s
theorem SX35_findSofts_b141 {m b : Nat} {φ0 : Nat → Nat} {σo : fS} (hm : 1 ≤ m) {N : Nat} {k16 : Nat → Int32 → Nat → Int32 → eH → Option (Unit × eH)} {K16 : Int → Nat → Int → fS → Option (Unit × fS)} {q : Unit × fS} (hk16 : ∀ {φ : Nat → Nat} {h : eH} {s : fS} {l1' : Int32} {l1 : Int} {l2 : Nat} {l3' : Int32} {l3 : Int}, fC m b φ0 σo φ h s → l1' = iI l1 → r32 l1 → l3' = iI l3 → r32 l3 → K16 l1 l2 l3 s = some q → gG m b φ0 σo lU q (k16 192 l1' l2 l3' h)) {φ : Nat → Nat} {h : eH} {s : fS} {l1' : Int32} {l1 : Int} {l2 : Nat} {l3' : Int32} {l3 : Int} {l6' : Int32} {l6 : Int} {l7' : Int32} {l7 : Int} {s0' : Int32} {s0 : Int} (R : fC m b φ0 σo φ h s) (el1 : l1' = iI l1) (rl1 : r32 l1) (el3 : l3' = iI l3) (rl3 : r32 l3) (el6 : l6' = iI l6) (rl6 : r32 l6) (el7 : l7' = iI l7) (rl7 : r32 l7) (es0 : s0' = iI s0) (rs0 : r32 s0) (hF : FX35_findSofts_b141 N K16 l1 l2 l3 l6 l7 s0 s = some q) : gG m b φ0 σo lU q (fX35_findSofts_b141 N k16 192 l1' l2 l3' l6' l7' s0' h) := by
  subst el1; subst el3; subst el6; subst el7; subst es0
  unfold FX35_findSofts_b141 at hF
  unfold fX35_findSofts_b141
  exact SX35_findSofts_b149 (N := N) (k16 := k16) (K16 := K16) hm @hk16 R rfl rl1 rfl rl3 rfl rl6 rfl rl7 rfl rs0 (c_lit 0 0 rfl) ⟨by decide, by decide⟩ (c_lit 0 0 rfl) ⟨by decide, by decide⟩ hF
def FX35_findSofts_b140 (N : Nat) (K16 : Int → Nat → Int → fS → Option (Unit × fS)) (l1 : Int) (l2 : Nat) (l3 : Int) (l6 : Int) (l7 : Int) (s : fS) : Option (Unit × fS) :=
  FX35_findSofts_b141 N K16 l1 l2 l3 l6 l7 0 s
theorem SX35_findSofts_b140 {m b : Nat} {φ0 : Nat → Nat} {σo : fS} (hm : 1 ≤ m) {N : Nat} {k16 : Nat → Int32 → Nat → Int32 → eH → Option (Unit × eH)} {K16 : Int → Nat → Int → fS → Option (Unit × fS)} {q : Unit × fS} (hk16 : ∀ {φ : Nat → Nat} {h : eH} {s : fS} {l1' : Int32} {l1 : Int} {l2 : Nat} {l3' : Int32} {l3 : Int}, fC m b φ0 σo φ h s → l1' = iI l1 → r32 l1 → l3' = iI l3 → r32 l3 → K16 l1 l2 l3 s = some q → gG m b φ0 σo lU q (k16 192 l1' l2 l3' h)) {φ : Nat → Nat} {h : eH} {s : fS} {l1' : Int32} {l1 : Int} {l2 : Nat} {l3' : Int32} {l3 : Int} {l6' : Int32} {l6 : Int} {l7' : Int32} {l7 : Int} (R : fC m b φ0 σo φ h s) (el1 : l1' = iI l1) (rl1 : r32 l1) (el3 : l3' = iI l3) (rl3 : r32 l3) (el6 : l6' = iI l6) (rl6 : r32 l6) (el7 : l7' = iI l7) (rl7 : r32 l7) (hF : FX35_findSofts_b140 N K16 l1 l2 l3 l6 l7 s = some q) : gG m b φ0 σo lU q (fX35_findSofts_b140 N k16 192 l1' l2 l3' l6' l7' h) := by
  subst el1; subst el3; subst el6; subst el7
  unfold FX35_findSofts_b140 at hF
  unfold fX35_findSofts_b140
  exact SX35_findSofts_b141 (N := N) (k16 := k16) (K16 := K16) hm @hk16 R rfl rl1 rfl rl3 rfl rl6 rfl rl7 (c_lit 0 0 rfl) ⟨by decide, by decide⟩ hF
def FX35_findSofts_b16 (N : Nat) : Nat → Int → Nat → Int → fS → Option (Unit × fS)
  | 0, _, _, _, _ => none
  | n + 1, l1, l2, l3, s =>
    if (s.i 195 26) ≤ l3 then
      some ((), s)
    else
      (uRI s 212 l3).bind fun x10 =>
      (uRI s 284 (s.i 192 57)).bind fun x18 =>
      (uK 42 s l2).bind fun _ =>
      (FX40_set N l2 0 x10 x18 s).bind fun q21 =>
      (uK 42 q21.2 l2).bind fun _ =>
      if q21.1 = 0 then
        FX35_findSofts_b248 N (FX35_findSofts_b16 N n) l1 l2 l3 q21.2
      else
        (FX35_isPart N l2 0 q21.2).bind fun q26 =>
        if q26.1 = 0 then
          FX35_findSofts_b248 N (FX35_findSofts_b16 N n) l1 l2 l3 q26.2
        else
          (uRI q26.2 284 (q26.2.i 192 57)).bind fun x34 =>
          (uK 42 q26.2 l2).bind fun _ =>
          (FX40_set N l2 x10 l1 x34 q26.2).bind fun q37 =>
          if q37.1 = 0 then
            FX35_findSofts_b248 N (FX35_findSofts_b16 N n) l1 l2 l3 q37.2
          else
            (uK 42 q37.2 l2).bind fun _ =>
            if ¬ ((isub (isub (q37.2.i 192 62) (q21.2.i l2 3)) (q37.2.i l2 3)) = 1) then
              FX35_findSofts_b140 N (FX35_findSofts_b16 N n) l1 l2 l3 (q21.2.i l2 3) (isub (isub (q37.2.i 192 62) (q21.2.i l2 3)) (q37.2.i l2 3)) q37.2
            else
              (uRI q37.2 290 (q21.2.i l2 3)).bind fun x46 =>
              if x46 ≤ 255 then
                FX35_findSofts_b140 N (FX35_findSofts_b16 N n) l1 l2 l3 (q21.2.i l2 3) (isub (isub (q37.2.i 192 62) (q21.2.i l2 3)) (q37.2.i l2 3)) q37.2
              else
                FX35_findSofts_b141 N (FX35_findSofts_b16 N n) l1 l2 l3 (q21.2.i l2 3) (isub (isub (q37.2.i 192 62) (q21.2.i l2 3)) (q37.2.i l2 3)) 1 q37.2
theorem SX35_findSofts_b16 {m b : Nat} {φ0 : Nat → Nat} {σo : fS} (hm : 1 ≤ m) {N : Nat} {q : Unit × fS} : ∀ {n : Nat} {φ : Nat → Nat} {h : eH} {s : fS} {l1' : Int32} {l1 : Int} {l2 : Nat} {l3' : Int32} {l3 : Int}, fC m b φ0 σo φ h s → l1' = iI l1 → r32 l1 → l3' = iI l3 → r32 l3 → FX35_findSofts_b16 N n l1 l2 l3 s = some q → gG m b φ0 σo lU q (fX35_findSofts_b16 N n 192 l1' l2 l3' h) := by
  intro n
  induction n with
 | zero => intro φ h s l1' l1 l2 l3' l3 R el1 rl1 el3 rl3 hF; simp [FX35_findSofts_b16] at hF
  | succ n ih =>
    intro φ h s l1' l1 l2 l3' l3 R el1 rl1 el3 rl3 hF
    subst el1; subst el3
    rw [FX35_findSofts_b16] at hF
    rw [fX35_findSofts_b16]
    refine s_gO R (t_192 hm R.S) (Nat.le_of_ble_eq_true rfl) rfl (o_192_5 hm R.S) ?_
    refine s_gI R (t_195 hm R.S) (Nat.le_of_ble_eq_true rfl) rfl ?_
    refine s_if (i_le rfl rfl (R.ri (t_195 hm R.S) (Nat.le_of_ble_eq_true rfl) rfl) rl3) hF (fun c3 hF => ?_) (fun c3 hF => ?_)
    ·
      exact g_ret R hF trivial
    ·
      refine s_gO R (t_192 hm R.S) (Nat.le_of_ble_eq_true rfl) rfl (o_192_5 hm R.S) ?_
      refine s_gAs R (t_195 hm R.S) (Nat.le_of_ble_eq_true rfl) rfl (o_195_27 hm R.S) (a_212 hm R) ?_
      refine s_rI R (u_212 hm R.S).1 (u_212 hm R.S).2 (by decide) (a_212 hm R) rfl rl3 hF (fun x10 ra6 hF => ?_)
      refine s_gAs R (t_192 hm R.S) (Nat.le_of_ble_eq_true rfl) rfl (o_192_59 hm R.S) (a_289 hm R) ?_
      refine s_gAs R (t_192 hm R.S) (Nat.le_of_ble_eq_true rfl) rfl (o_192_50 hm R.S) (a_284 hm R) ?_
      refine s_gI R (t_192 hm R.S) (Nat.le_of_ble_eq_true rfl) rfl ?_
      refine s_rI R (u_284 hm R.S).1 (u_284 hm R.S).2 (by decide) (a_284 hm R) rfl (R.ri (t_192 hm R.S) (Nat.le_of_ble_eq_true rfl) rfl) hF (fun x18 ra10 hF => ?_)
      refine s_K hF (fun t12 hF => ?_)
      refine s_kok R t12 (Nat.le_of_ble_eq_true rfl) ?_
      refine s_call R (Nat.zero_le _) (fun _ hq => SX40_set (b := 0) (N := N) hm (R.rf) (c_lit 0 0 rfl) ⟨by decide, by decide⟩ rfl ra6 rfl ra10 hq) hF (fun f13 rv13 h13 q21 R13 e13 E13 hF => ?_)
      refine s_K hF (fun t15 hF => ?_)
      refine s_gI R13 t15 (Nat.le_of_ble_eq_true rfl) rfl ?_
      refine s_if (i_eq e13.1 (c_lit 0 0 rfl) e13.2 ⟨by decide, by decide⟩) hF (fun c16 hF => ?_) (fun c16 hF => ?_)
      ·
        exact SX35_findSofts_b248 (N := N) (k16 := fX35_findSofts_b16 N n) (K16 := FX35_findSofts_b16 N n) hm @ih R13 rfl rl1 rfl rl3 hF
      ·
        refine s_kok R13 (t_192 hm R13.S) (Nat.le_of_ble_eq_true rfl) ?_
        refine s_call R13 (Nat.zero_le _) (fun _ hq => SX35_isPart (b := 0) (N := N) hm (R13.rf) (c_lit 0 0 rfl) ⟨by decide, by decide⟩ hq) hF (fun f18 rv18 h18 q26 R18 e18 E18 hF => ?_)
        refine s_if (i_eq e18.1 (c_lit 0 0 rfl) e18.2 ⟨by decide, by decide⟩) hF (fun c19 hF => ?_) (fun c19 hF => ?_)
        ·
          exact SX35_findSofts_b248 (N := N) (k16 := fX35_findSofts_b16 N n) (K16 := FX35_findSofts_b16 N n) hm @ih R18 rfl rl1 rfl rl3 hF
        ·
          refine s_gAs R18 (t_192 hm R18.S) (Nat.le_of_ble_eq_true rfl) rfl (o_192_59 hm R18.S) (a_289 hm R18) ?_
          refine s_gAs R18 (t_192 hm R18.S) (Nat.le_of_ble_eq_true rfl) rfl (o_192_50 hm R18.S) (a_284 hm R18) ?_
          refine s_gI R18 (t_192 hm R18.S) (Nat.le_of_ble_eq_true rfl) rfl ?_
          refine s_rI R18 (u_284 hm R18.S).1 (u_284 hm R18.S).2 (by decide) (a_284 hm R18) rfl (R18.ri (t_192 hm R18.S) (Nat.le_of_ble_eq_true rfl) rfl) hF (fun x34 ra23 hF => ?_)
          refine s_K hF (fun t25 hF => ?_)
          refine s_kok R18 t25 (Nat.le_of_ble_eq_true rfl) ?_
          refine s_call R18 (Nat.zero_le _) (fun _ hq => SX40_set (b := 0) (N := N) hm (R18.rf) rfl ra6 rfl rl1 rfl ra23 hq) hF (fun f26 rv26 h26 q37 R26 e26 E26 hF => ?_)
          refine s_if (i_eq e26.1 (c_lit 0 0 rfl) e26.2 ⟨by decide, by decide⟩) hF (fun c27 hF => ?_) (fun c27 hF => ?_)
          ·
            exact SX35_findSofts_b248 (N := N) (k16 := fX35_findSofts_b16 N n) (K16 := FX35_findSofts_b16 N n) hm @ih R26 rfl rl1 rfl rl3 hF
          ·
            refine s_gI R26 (t_192 hm R26.S) (Nat.le_of_ble_eq_true rfl) rfl ?_
            refine s_K hF (fun t30 hF => ?_)
            refine s_gI R26 t30 (Nat.le_of_ble_eq_true rfl) rfl ?_
            refine s_if (not_congr (i_eq (c_sub (c_sub rfl rfl) rfl) (c_lit 1 1 rfl) (rr_I _) ⟨by decide, by decide⟩)) hF (fun c31 hF => ?_) (fun c31 hF => ?_)
            ·
              exact SX35_findSofts_b140 (N := N) (k16 := fX35_findSofts_b16 N n) (K16 := FX35_findSofts_b16 N n) hm @ih R26 rfl rl1 rfl rl3 rfl (R13.ri t15 (Nat.le_of_ble_eq_true rfl) rfl) (c_sub (c_sub rfl rfl) rfl) (rr_I _) hF
            ·
              refine s_gAs R26 (t_192 hm R26.S) (Nat.le_of_ble_eq_true rfl) rfl (o_192_60 hm R26.S) (a_290 hm R26) ?_
              refine s_rI R26 (u_290 hm R26.S).1 (u_290 hm R26.S).2 (by decide) (a_290 hm R26) rfl (R13.ri t15 (Nat.le_of_ble_eq_true rfl) rfl) hF (fun x46 ra33 hF => ?_)
              refine s_if (i_le rfl (c_lit 255 255 rfl) ra33 ⟨by decide, by decide⟩) hF (fun c34 hF => ?_) (fun c34 hF => ?_)
              ·
                exact SX35_findSofts_b140 (N := N) (k16 := fX35_findSofts_b16 N n) (K16 := FX35_findSofts_b16 N n) hm @ih R26 rfl rl1 rfl rl3 rfl (R13.ri t15 (Nat.le_of_ble_eq_true rfl) rfl) (c_sub (c_sub rfl rfl) rfl) (rr_I _) hF
              ·
                exact SX35_findSofts_b141 (N := N) (k16 := fX35_findSofts_b16 N n) (K16 := FX35_findSofts_b16 N n) hm @ih R26 rfl rl1 rfl rl3 rfl (R13.ri t15 (Nat.le_of_ble_eq_true rfl) rfl) (c_sub (c_sub rfl rfl) rfl) (rr_I _) (c_lit 1 1 rfl) ⟨by decide, by decide⟩ hF
def FX35_findSofts (N : Nat) (p0 : Int) (s : fS) : Option (Unit × fS) :=
  (FX35_metrics (s.i 192 57) s).bind fun q4 =>
  (uPI q4.2 192 124 0).bind fun σ5 =>
  FX35_findSofts_b16 N N p0 q4.1 0 σ5
theorem SX35_findSofts {m b : Nat} {φ0 : Nat → Nat} {σo : fS} (hm : 1 ≤ m) {N : Nat} {q : Unit × fS} {φ : Nat → Nat} {h : eH} {s : fS} {p0' : Int32} {p0 : Int} (R : fC m b φ0 σo φ h s) (ep0 : p0' = iI p0) (rp0 : r32 p0) (hF : FX35_findSofts N p0 s = some q) : gG m b φ0 σo lU q (fX35_findSofts N 192 p0' h) := by
  subst ep0
  unfold FX35_findSofts at hF
  unfold fX35_findSofts
  refine s_gI R (t_192 hm R.S) (Nat.le_of_ble_eq_true rfl) rfl ?_
  refine s_kok R (t_192 hm R.S) (Nat.le_of_ble_eq_true rfl) ?_
  refine s_call R (Nat.zero_le _) (fun _ hq => SX35_metrics (b := 0) hm (R.rf) rfl (R.ri (t_192 hm R.S) (Nat.le_of_ble_eq_true rfl) rfl) hq) hF (fun f3 rv3 h3 q4 R3 e3 E3 hF => ?_)
  obtain rfl : rv3 = _ := e3
  refine s_pI R3 (t_192 hm R3.S) (Nat.le_of_ble_eq_true rfl) rfl (c_lit 0 0 rfl) ⟨by decide, by decide⟩ hF (fun h4 σ5 R4 T4 hF => ?_)
  exact SX35_findSofts_b16 (N := N) hm R4 rfl rp0 (c_lit 0 0 rfl) ⟨by decide, by decide⟩ hF
def FX40_of_b66 (N : Nat) (l0 : Nat) (l2 : Int) (l3 : Int) (s0 : Int) (s : fS) : Option (Int × fS) :=
  (uK 42 s l0).bind fun _ =>
  (FX40_scaled N l0 (iadd 2 l2) s0 l3 s).bind fun q2 =>
  some (q2.1, q2.2)
theorem SX40_of_b66 {m b : Nat} {φ0 : Nat → Nat} {σo : fS} (hm : 1 ≤ m) {N : Nat} {q : Int × fS} {φ : Nat → Nat} {h : eH} {s : fS} {l0 : Nat} {l2' : Int32} {l2 : Int} {l3' : Int32} {l3 : Int} {s0' : Int32} {s0 : Int} (R : fC m b φ0 σo φ h s) (el2 : l2' = iI l2) (rl2 : r32 l2) (el3 : l3' = iI l3) (rl3 : r32 l3) (es0 : s0' = iI s0) (rs0 : r32 s0) (hF : FX40_of_b66 N l0 l2 l3 s0 s = some q) : gG m b φ0 σo lI q (fX40_of_b66 N l0 l2' l3' s0' h) := by
  subst el2; subst el3; subst es0
  unfold FX40_of_b66 at hF
  unfold fX40_of_b66
  refine s_K hF (fun t2 hF => ?_)
  refine s_kok R t2 (Nat.le_of_ble_eq_true rfl) ?_
  refine s_call R (Nat.zero_le _) (fun _ hq => SX40_scaled (b := 0) (N := N) hm (R.rf) (c_add (c_lit 2 2 rfl) rfl) (rr_I _) rfl rs0 rfl rl3 hq) hF (fun f3 rv3 h3 q2 R3 e3 E3 hF => ?_)
  exact g_ret R3 hF ⟨e3.1, e3.2⟩
def FX40_of (N : Nat) (this : Nat) (p0 : Int) (p1 : Int) (p2 : Int) (s : fS) : Option (Int × fS) :=
  (uK 42 s this).bind fun _ =>
  (s.o this 0).bind fun a1 =>
  (FX40_half a1 2 s).bind fun q3 =>
  if ¬ (p1 = 0) then
    if ¬ (p1 = 1) then
      (uK 42 q3.2 this).bind fun _ =>
      (q3.2.o this 0).bind fun a6 =>
      (FX40_at N a6 1 (isub p0 q3.1) 1 q3.2).bind fun q8 =>
      FX40_of_b66 N this p1 p2 (irem q8.1 16) q8.2
    else
      (uK 42 q3.2 this).bind fun _ =>
      (q3.2.o this 0).bind fun a9 =>
      (FX40_at N a9 1 (isub p0 q3.1) 1 q3.2).bind fun q11 =>
      FX40_of_b66 N this p1 p2 (idiv q11.1 16) q11.2
  else
    (uK 42 q3.2 this).bind fun _ =>
    (q3.2.o this 0).bind fun a12 =>
    (FX40_at N a12 1 (isub p0 q3.1) 0 q3.2).bind fun q14 =>
    FX40_of_b66 N this p1 p2 q14.1 q14.2
theorem SX40_of {m b : Nat} {φ0 : Nat → Nat} {σo : fS} (hm : 1 ≤ m) {N : Nat} {q : Int × fS} {φ : Nat → Nat} {h : eH} {s : fS} {this : Nat} {p0' : Int32} {p0 : Int} {p1' : Int32} {p1 : Int} {p2' : Int32} {p2 : Int} (R : fC m b φ0 σo φ h s) (ep0 : p0' = iI p0) (rp0 : r32 p0) (ep1 : p1' = iI p1) (rp1 : r32 p1) (ep2 : p2' = iI p2) (rp2 : r32 p2) (hF : FX40_of N this p0 p1 p2 s = some q) : gG m b φ0 σo lI q (fX40_of N this p0' p1' p2' h) := by
  subst ep0; subst ep1; subst ep2
  unfold FX40_of at hF
  unfold fX40_of
  refine s_K hF (fun t2 hF => ?_)
  refine s_oo hF (fun a1 e1 hF => ?_)
  refine s_gA R t2 (Nat.le_of_ble_eq_true rfl) rfl e1 (fun x1_ y1_ => ?_)
  refine s_call R (Nat.zero_le _) (fun _ hq => SX40_half (b := 0) hm (R.rf) rfl (Nat.lt_trans y1_ (Nat.le_of_ble_eq_true rfl)) (c_lit 2 2 rfl) ⟨by decide, by decide⟩ hq) hF (fun f3 rv3 h3 q3 R3 e3 E3 hF => ?_)
  refine s_if (not_congr (i_eq rfl (c_lit 0 0 rfl) rp1 ⟨by decide, by decide⟩)) hF (fun c4 hF => ?_) (fun c4 hF => ?_)
  ·
    refine s_if (not_congr (i_eq rfl (c_lit 1 1 rfl) rp1 ⟨by decide, by decide⟩)) hF (fun c5 hF => ?_) (fun c5 hF => ?_)
    ·
      refine s_K hF (fun t7 hF => ?_)
      refine s_oo hF (fun a6 e6 hF => ?_)
      refine s_gA R3 t7 (Nat.le_of_ble_eq_true rfl) rfl e6 (fun x6_ y6_ => ?_)
      refine s_call R3 (Nat.zero_le _) (fun _ hq => SX40_at (b := 0) (N := N) hm (R3.rf) rfl (Nat.lt_trans y6_ (Nat.le_of_ble_eq_true rfl)) (c_lit 1 1 rfl) ⟨by decide, by decide⟩ (c_sub rfl e3.1) (rr_I _) (c_lit 1 1 rfl) ⟨by decide, by decide⟩ hq) hF (fun f8 rv8 h8 q8 R8 e8 E8 hF => ?_)
      exact SX40_of_b66 (N := N) hm R8 rfl rp1 rfl rp2 (c_rem e8.1 (c_lit 16 16 rfl)) (rr_I _) hF
    ·
      refine s_K hF (fun t10 hF => ?_)
      refine s_oo hF (fun a9 e9 hF => ?_)
      refine s_gA R3 t10 (Nat.le_of_ble_eq_true rfl) rfl e9 (fun x9_ y9_ => ?_)
      refine s_call R3 (Nat.zero_le _) (fun _ hq => SX40_at (b := 0) (N := N) hm (R3.rf) rfl (Nat.lt_trans y9_ (Nat.le_of_ble_eq_true rfl)) (c_lit 1 1 rfl) ⟨by decide, by decide⟩ (c_sub rfl e3.1) (rr_I _) (c_lit 1 1 rfl) ⟨by decide, by decide⟩ hq) hF (fun f11 rv11 h11 q11 R11 e11 E11 hF => ?_)
      exact SX40_of_b66 (N := N) hm R11 rfl rp1 rfl rp2 (c_div e11.1 (c_lit 16 16 rfl)) (rr_I _) hF
  ·
    refine s_K hF (fun t13 hF => ?_)
    refine s_oo hF (fun a12 e12 hF => ?_)
    refine s_gA R3 t13 (Nat.le_of_ble_eq_true rfl) rfl e12 (fun x12_ y12_ => ?_)
    refine s_call R3 (Nat.zero_le _) (fun _ hq => SX40_at (b := 0) (N := N) hm (R3.rf) rfl (Nat.lt_trans y12_ (Nat.le_of_ble_eq_true rfl)) (c_lit 1 1 rfl) ⟨by decide, by decide⟩ (c_sub rfl e3.1) (rr_I _) (c_lit 0 0 rfl) ⟨by decide, by decide⟩ hq) hF (fun f14 rv14 h14 q14 R14 e14 E14 hF => ?_)
    exact SX40_of_b66 (N := N) hm R14 rfl rp1 rfl rp2 e14.1 e14.2 hF
def FX35_leaf (N : Nat) (p0 : Int) (p1 : Int) (s : fS) : Option (Unit × fS) :=
  (FX35_metrics p0 s).bind fun q2 =>
  (uRI q2.2 284 p0).bind fun x5 =>
  (uK 42 q2.2 q2.1).bind fun _ =>
  (FX40_of N q2.1 p1 0 x5 q2.2).bind fun q8 =>
  (uK 42 q8.2 q2.1).bind fun _ =>
  (FX40_of N q2.1 p1 1 x5 q8.2).bind fun q10 =>
  (uK 42 q10.2 q2.1).bind fun _ =>
  (FX40_of N q2.1 p1 2 x5 q10.2).bind fun q12 =>
  (FX35_item N 0 p0 p1 q8.1 q10.1 q12.1 q12.2).bind fun q14 =>
  some ((), q14.2)
theorem SX35_leaf {m b : Nat} {φ0 : Nat → Nat} {σo : fS} (hm : 1 ≤ m) (hb : 1 ≤ b) {N : Nat} {q : Unit × fS} {φ : Nat → Nat} {h : eH} {s : fS} {p0' : Int32} {p0 : Int} {p1' : Int32} {p1 : Int} (R : fC m b φ0 σo φ h s) (ep0 : p0' = iI p0) (rp0 : r32 p0) (ep1 : p1' = iI p1) (rp1 : r32 p1) (hF : FX35_leaf N p0 p1 s = some q) : gG m b φ0 σo lU q (fX35_leaf N 192 p0' p1' h) := by
  subst ep0; subst ep1
  unfold FX35_leaf at hF
  unfold fX35_leaf
  refine s_kok R (t_192 hm R.S) (Nat.le_of_ble_eq_true rfl) ?_
  refine s_call R (Nat.zero_le _) (fun _ hq => SX35_metrics (b := 0) hm (R.rf) rfl rp0 hq) hF (fun f2 rv2 h2 q2 R2 e2 E2 hF => ?_)
  obtain rfl : rv2 = _ := e2
  refine s_gAs R2 (t_192 hm R2.S) (Nat.le_of_ble_eq_true rfl) rfl (o_192_50 hm R2.S) (a_284 hm R2) ?_
  refine s_rI R2 (u_284 hm R2.S).1 (u_284 hm R2.S).2 (by decide) (a_284 hm R2) rfl rp0 hF (fun x5 ra4 hF => ?_)
  refine s_K hF (fun t6 hF => ?_)
  refine s_kok R2 t6 (Nat.le_of_ble_eq_true rfl) ?_
  refine s_call R2 (Nat.zero_le _) (fun _ hq => SX40_of (b := 0) (N := N) hm (R2.rf) rfl rp1 (c_lit 0 0 rfl) ⟨by decide, by decide⟩ rfl ra4 hq) hF (fun f7 rv7 h7 q8 R7 e7 E7 hF => ?_)
  refine s_K hF (fun t9 hF => ?_)
  refine s_kok R7 t9 (Nat.le_of_ble_eq_true rfl) ?_
  refine s_call R7 (Nat.zero_le _) (fun _ hq => SX40_of (b := 0) (N := N) hm (R7.rf) rfl rp1 (c_lit 1 1 rfl) ⟨by decide, by decide⟩ rfl ra4 hq) hF (fun f10 rv10 h10 q10 R10 e10 E10 hF => ?_)
  refine s_K hF (fun t12 hF => ?_)
  refine s_kok R10 t12 (Nat.le_of_ble_eq_true rfl) ?_
  refine s_call R10 (Nat.zero_le _) (fun _ hq => SX40_of (b := 0) (N := N) hm (R10.rf) rfl rp1 (c_lit 2 2 rfl) ⟨by decide, by decide⟩ rfl ra4 hq) hF (fun f13 rv13 h13 q12 R13 e13 E13 hF => ?_)
  refine s_kok R13 (t_192 hm R13.S) (Nat.le_of_ble_eq_true rfl) ?_
  refine s_call R13 hb (fun _ hq => SX35_item (b := 1) (N := N) hm (Nat.le_of_ble_eq_true rfl) (R13.rf) (c_lit 0 0 rfl) ⟨by decide, by decide⟩ rfl rp0 rfl rp1 e7.1 e7.2 e10.1 e10.2 e13.1 e13.2 hq) hF (fun f15 rv15 h15 q14 R15 e15 E15 hF => ?_)
  exact g_ret R15 hF trivial
def FX35_endWord_b21 (N : Nat) (s : fS) : Option (Unit × fS) :=
  some ((), s)
theorem SX35_endWord_b21 {m b : Nat} {φ0 : Nat → Nat} {σo : fS} (hm : 1 ≤ m) {N : Nat} {q : Unit × fS} {φ : Nat → Nat} {h : eH} {s : fS} (R : fC m b φ0 σo φ h s) (hF : FX35_endWord_b21 N s = some q) : gG m b φ0 σo lU q (fX35_endWord_b21 N h) := by
  unfold FX35_endWord_b21 at hF
  unfold fX35_endWord_b21
  exact g_ret R hF trivial
def FX35_endWord_b223 (N : Nat) (K168 : Int → Nat → Int → Int → fS → Option (Unit × fS)) (l1 : Int) (l2 : Nat) (l3 : Int) (l4 : Int) (s : fS) : Option (Unit × fS) :=
  K168 l1 l2 l3 (iadd l4 1) s
theorem SX35_endWord_b223 {m b : Nat} {φ0 : Nat → Nat} {σo : fS} (hm : 1 ≤ m) (hb : 1 ≤ b) {N : Nat} {k168 : Nat → Int32 → Nat → Int32 → Int32 → eH → Option (Unit × eH)} {K168 : Int → Nat → Int → Int → fS → Option (Unit × fS)} {q : Unit × fS} (hk168 : ∀ {φ : Nat → Nat} {h : eH} {s : fS} {l1' : Int32} {l1 : Int} {l2 : Nat} {l3' : Int32} {l3 : Int} {l4' : Int32} {l4 : Int}, fC m b φ0 σo φ h s → l1' = iI l1 → r32 l1 → l3' = iI l3 → r32 l3 → l4' = iI l4 → r32 l4 → K168 l1 l2 l3 l4 s = some q → gG m b φ0 σo lU q (k168 192 l1' l2 l3' l4' h)) {φ : Nat → Nat} {h : eH} {s : fS} {l1' : Int32} {l1 : Int} {l2 : Nat} {l3' : Int32} {l3 : Int} {l4' : Int32} {l4 : Int} (R : fC m b φ0 σo φ h s) (el1 : l1' = iI l1) (rl1 : r32 l1) (el3 : l3' = iI l3) (rl3 : r32 l3) (el4 : l4' = iI l4) (rl4 : r32 l4) (hF : FX35_endWord_b223 N K168 l1 l2 l3 l4 s = some q) : gG m b φ0 σo lU q (fX35_endWord_b223 N k168 192 l1' l2 l3' l4' h) := by
  subst el1; subst el3; subst el4
  unfold FX35_endWord_b223 at hF
  unfold fX35_endWord_b223
  exact hk168 R rfl rl1 rfl rl3 (c_add rfl (c_lit 1 1 rfl)) (rr_I _) hF
def FX35_endWord_b289 (N : Nat) (K157 : Int → Nat → Int → fS → Option (Unit × fS)) (l1 : Int) (l2 : Nat) (l3 : Int) (s : fS) : Option (Unit × fS) :=
  K157 l1 l2 (iadd l3 1) s
theorem SX35_endWord_b289 {m b : Nat} {φ0 : Nat → Nat} {σo : fS} (hm : 1 ≤ m) (hb : 1 ≤ b) {N : Nat} {k157 : Nat → Int32 → Nat → Int32 → eH → Option (Unit × eH)} {K157 : Int → Nat → Int → fS → Option (Unit × fS)} {q : Unit × fS} (hk157 : ∀ {φ : Nat → Nat} {h : eH} {s : fS} {l1' : Int32} {l1 : Int} {l2 : Nat} {l3' : Int32} {l3 : Int}, fC m b φ0 σo φ h s → l1' = iI l1 → r32 l1 → l3' = iI l3 → r32 l3 → K157 l1 l2 l3 s = some q → gG m b φ0 σo lU q (k157 192 l1' l2 l3' h)) {φ : Nat → Nat} {h : eH} {s : fS} {l1' : Int32} {l1 : Int} {l2 : Nat} {l3' : Int32} {l3 : Int} (R : fC m b φ0 σo φ h s) (el1 : l1' = iI l1) (rl1 : r32 l1) (el3 : l3' = iI l3) (rl3 : r32 l3) (hF : FX35_endWord_b289 N K157 l1 l2 l3 s = some q) : gG m b φ0 σo lU q (fX35_endWord_b289 N k157 192 l1' l2 l3' h) := by
  subst el1; subst el3
  unfold FX35_endWord_b289 at hF
  unfold fX35_endWord_b289
  exact hk157 R rfl rl1 (c_add rfl (c_lit 1 1 rfl)) (rr_I _) hF
def FX35_endWord_b267 (N : Nat) (K157 : Int → Nat → Int → fS → Option (Unit × fS)) (l1 : Int) (l2 : Nat) (l3 : Int) (s : fS) : Option (Unit × fS) :=
  if (s.i 192 62) ≤ l3 then
    FX35_endWord_b289 N K157 l1 l2 l3 s
  else
    (uRI s 290 l3).bind fun x8 =>
    (FX35_leaf N (s.i 192 57) x8 s).bind fun q11 =>
    FX35_endWord_b289 N K157 l1 l2 l3 q11.2
theorem SX35_endWord_b267 {m b : Nat} {φ0 : Nat → Nat} {σo : fS} (hm : 1 ≤ m) (hb : 1 ≤ b) {N : Nat} {k157 : Nat → Int32 → Nat → Int32 → eH → Option (Unit × eH)} {K157 : Int → Nat → Int → fS → Option (Unit × fS)} {q : Unit × fS} (hk157 : ∀ {φ : Nat → Nat} {h : eH} {s : fS} {l1' : Int32} {l1 : Int} {l2 : Nat} {l3' : Int32} {l3 : Int}, fC m b φ0 σo φ h s → l1' = iI l1 → r32 l1 → l3' = iI l3 → r32 l3 → K157 l1 l2 l3 s = some q → gG m b φ0 σo lU q (k157 192 l1' l2 l3' h)) {φ : Nat → Nat} {h : eH} {s : fS} {l1' : Int32} {l1 : Int} {l2 : Nat} {l3' : Int32} {l3 : Int} (R : fC m b φ0 σo φ h s) (el1 : l1' = iI l1) (rl1 : r32 l1) (el3 : l3' = iI l3) (rl3 : r32 l3) (hF : FX35_endWord_b267 N K157 l1 l2 l3 s = some q) : gG m b φ0 σo lU q (fX35_endWord_b267 N k157 192 l1' l2 l3' h) := by
  subst el1; subst el3
  unfold FX35_endWord_b267 at hF
  unfold fX35_endWord_b267
  refine s_gI R (t_192 hm R.S) (Nat.le_of_ble_eq_true rfl) rfl ?_
  refine s_if (i_le rfl rfl (R.ri (t_192 hm R.S) (Nat.le_of_ble_eq_true rfl) rfl) rl3) hF (fun c2 hF => ?_) (fun c2 hF => ?_)
  ·
    exact SX35_endWord_b289 (N := N) (k157 := k157) (K157 := K157) hm hb @hk157 R rfl rl1 rfl rl3 hF
  ·
    refine s_gI R (t_192 hm R.S) (Nat.le_of_ble_eq_true rfl) rfl ?_
    refine s_gAs R (t_192 hm R.S) (Nat.le_of_ble_eq_true rfl) rfl (o_192_60 hm R.S) (a_290 hm R) ?_
    refine s_rI R (u_290 hm R.S).1 (u_290 hm R.S).2 (by decide) (a_290 hm R) rfl rl3 hF (fun x8 ra5 hF => ?_)
    refine s_kok R (t_192 hm R.S) (Nat.le_of_ble_eq_true rfl) ?_
    refine s_call R hb (fun _ hq => SX35_leaf (b := 1) (N := N) hm (Nat.le_of_ble_eq_true rfl) (R.rf) rfl (R.ri (t_192 hm R.S) (Nat.le_of_ble_eq_true rfl) rfl) rfl ra5 hq) hF (fun f7 rv7 h7 q11 R7 e7 E7 hF => ?_)
    exact SX35_endWord_b289 (N := N) (k157 := k157) (K157 := K157) hm hb @hk157 R7 rfl rl1 rfl rl3 hF
def FX35_endWord_b168 (N : Nat) (K157 : Int → Nat → Int → fS → Option (Unit × fS)) : Nat → Int → Nat → Int → Int → fS → Option (Unit × fS)
  | 0, _, _, _, _, _ => none
  | n + 1, l1, l2, l3, l4, s =>
    if (s.i 192 124) ≤ l4 then
      if (s.i 192 62) ≤ l3 then
        FX35_endWord_b267 N K157 l1 l2 l3 s
      else
        (uRI s 290 l3).bind fun x9 =>
        if x9 ≤ 255 then
          FX35_endWord_b267 N K157 l1 l2 l3 s
        else
          (uRI s 291 l3).bind fun x14 =>
          (FX35_item N 3 x14 0 0 0 0 s).bind fun q17 =>
          FX35_endWord_b289 N K157 l1 l2 l3 q17.2
    else
      (uRI s 322 l4).bind fun x20 =>
      if ¬ (x20 = l3) then
        FX35_endWord_b223 N (FX35_endWord_b168 N K157 n) l1 l2 l3 l4 s
      else
        (uRI s 323 l4).bind fun x27 =>
        (uRI s 284 (s.i 192 57)).bind fun x33 =>
        (uK 42 s l2).bind fun _ =>
        (FX40_of N l2 45 0 x33 s).bind fun q36 =>
        (FX35_item N 6 (s.i 192 57) x27 q36.1 0 0 q36.2).bind fun q38 =>
        FX35_endWord_b223 N (FX35_endWord_b168 N K157 n) l1 l2 l3 l4 q38.2
theorem SX35_endWord_b168 {m b : Nat} {φ0 : Nat → Nat} {σo : fS} (hm : 1 ≤ m) (hb : 1 ≤ b) {N : Nat} {k157 : Nat → Int32 → Nat → Int32 → eH → Option (Unit × eH)} {K157 : Int → Nat → Int → fS → Option (Unit × fS)} {q : Unit × fS} (hk157 : ∀ {φ : Nat → Nat} {h : eH} {s : fS} {l1' : Int32} {l1 : Int} {l2 : Nat} {l3' : Int32} {l3 : Int}, fC m b φ0 σo φ h s → l1' = iI l1 → r32 l1 → l3' = iI l3 → r32 l3 → K157 l1 l2 l3 s = some q → gG m b φ0 σo lU q (k157 192 l1' l2 l3' h)) : ∀ {n : Nat} {φ : Nat → Nat} {h : eH} {s : fS} {l1' : Int32} {l1 : Int} {l2 : Nat} {l3' : Int32} {l3 : Int} {l4' : Int32} {l4 : Int}, fC m b φ0 σo φ h s → l1' = iI l1 → r32 l1 → l3' = iI l3 → r32 l3 → l4' = iI l4 → r32 l4 → FX35_endWord_b168 N K157 n l1 l2 l3 l4 s = some q → gG m b φ0 σo lU q (fX35_endWord_b168 N k157 n 192 l1' l2 l3' l4' h) := by
  intro n
  induction n with
 | zero => intro φ h s l1' l1 l2 l3' l3 l4' l4 R el1 rl1 el3 rl3 el4 rl4 hF; simp [FX35_endWord_b168] at hF
  | succ n ih =>
    intro φ h s l1' l1 l2 l3' l3 l4' l4 R el1 rl1 el3 rl3 el4 rl4 hF
    subst el1; subst el3; subst el4
    rw [FX35_endWord_b168] at hF
    rw [fX35_endWord_b168]
    refine s_gI R (t_192 hm R.S) (Nat.le_of_ble_eq_true rfl) rfl ?_
    refine s_if (i_le rfl rfl (R.ri (t_192 hm R.S) (Nat.le_of_ble_eq_true rfl) rfl) rl4) hF (fun c2 hF => ?_) (fun c2 hF => ?_)
    ·
      refine s_gI R (t_192 hm R.S) (Nat.le_of_ble_eq_true rfl) rfl ?_
      refine s_if (i_le rfl rfl (R.ri (t_192 hm R.S) (Nat.le_of_ble_eq_true rfl) rfl) rl3) hF (fun c4 hF => ?_) (fun c4 hF => ?_)
      ·
        exact SX35_endWord_b267 (N := N) (k157 := k157) (K157 := K157) hm hb @hk157 R rfl rl1 rfl rl3 hF
      ·
        refine s_gAs R (t_192 hm R.S) (Nat.le_of_ble_eq_true rfl) rfl (o_192_60 hm R.S) (a_290 hm R) ?_
        refine s_rI R (u_290 hm R.S).1 (u_290 hm R.S).2 (by decide) (a_290 hm R) rfl rl3 hF (fun x9 ra6 hF => ?_)
        refine s_if (i_le rfl (c_lit 255 255 rfl) ra6 ⟨by decide, by decide⟩) hF (fun c7 hF => ?_) (fun c7 hF => ?_)
        ·
          exact SX35_endWord_b267 (N := N) (k157 := k157) (K157 := K157) hm hb @hk157 R rfl rl1 rfl rl3 hF
        ·
          refine s_gAs R (t_192 hm R.S) (Nat.le_of_ble_eq_true rfl) rfl (o_192_61 hm R.S) (a_291 hm R) ?_
          refine s_rI R (u_291 hm R.S).1 (u_291 hm R.S).2 (by decide) (a_291 hm R) rfl rl3 hF (fun x14 ra9 hF => ?_)
          refine s_kok R (t_192 hm R.S) (Nat.le_of_ble_eq_true rfl) ?_
          refine s_call R hb (fun _ hq => SX35_item (b := 1) (N := N) hm (Nat.le_of_ble_eq_true rfl) (R.rf) (c_lit 3 3 rfl) ⟨by decide, by decide⟩ rfl ra9 (c_lit 0 0 rfl) ⟨by decide, by decide⟩ (c_lit 0 0 rfl) ⟨by decide, by decide⟩ (c_lit 0 0 rfl) ⟨by decide, by decide⟩ (c_lit 0 0 rfl) ⟨by decide, by decide⟩ hq) hF (fun f11 rv11 h11 q17 R11 e11 E11 hF => ?_)
          exact SX35_endWord_b289 (N := N) (k157 := k157) (K157 := K157) hm hb @hk157 R11 rfl rl1 rfl rl3 hF
    ·
      refine s_gAs R (t_192 hm R.S) (Nat.le_of_ble_eq_true rfl) rfl (o_192_125 hm R.S) (a_322 hm R) ?_
      refine s_rI R (u_322 hm R.S).1 (u_322 hm R.S).2 (by decide) (a_322 hm R) rfl rl4 hF (fun x20 ra13 hF => ?_)
      refine s_if (not_congr (i_eq rfl rfl ra13 rl3)) hF (fun c14 hF => ?_) (fun c14 hF => ?_)
      ·
        exact SX35_endWord_b223 (N := N) (k168 := fX35_endWord_b168 N k157 n) (K168 := FX35_endWord_b168 N K157 n) hm hb @ih R rfl rl1 rfl rl3 rfl rl4 hF
      ·
        refine s_gI R (t_192 hm R.S) (Nat.le_of_ble_eq_true rfl) rfl ?_
        refine s_gAs R (t_192 hm R.S) (Nat.le_of_ble_eq_true rfl) rfl (o_192_126 hm R.S) (a_323 hm R) ?_
        refine s_rI R (u_323 hm R.S).1 (u_323 hm R.S).2 (by decide) (a_323 hm R) rfl rl4 hF (fun x27 ra17 hF => ?_)
        refine s_gAs R (t_192 hm R.S) (Nat.le_of_ble_eq_true rfl) rfl (o_192_50 hm R.S) (a_284 hm R) ?_
        refine s_gI R (t_192 hm R.S) (Nat.le_of_ble_eq_true rfl) rfl ?_
        refine s_rI R (u_284 hm R.S).1 (u_284 hm R.S).2 (by decide) (a_284 hm R) rfl (R.ri (t_192 hm R.S) (Nat.le_of_ble_eq_true rfl) rfl) hF (fun x33 ra20 hF => ?_)
        refine s_K hF (fun t22 hF => ?_)
        refine s_kok R t22 (Nat.le_of_ble_eq_true rfl) ?_
        refine s_call R (Nat.zero_le _) (fun _ hq => SX40_of (b := 0) (N := N) hm (R.rf) (c_lit 45 45 rfl) ⟨by decide, by decide⟩ (c_lit 0 0 rfl) ⟨by decide, by decide⟩ rfl ra20 hq) hF (fun f23 rv23 h23 q36 R23 e23 E23 hF => ?_)
        refine s_kok R23 (t_192 hm R23.S) (Nat.le_of_ble_eq_true rfl) ?_
        refine s_call R23 hb (fun _ hq => SX35_item (b := 1) (N := N) hm (Nat.le_of_ble_eq_true rfl) (R23.rf) (c_lit 6 6 rfl) ⟨by decide, by decide⟩ rfl (R.ri (t_192 hm R.S) (Nat.le_of_ble_eq_true rfl) rfl) rfl ra17 e23.1 e23.2 (c_lit 0 0 rfl) ⟨by decide, by decide⟩ (c_lit 0 0 rfl) ⟨by decide, by decide⟩ hq) hF (fun f25 rv25 h25 q38 R25 e25 E25 hF => ?_)
        exact SX35_endWord_b223 (N := N) (k168 := fX35_endWord_b168 N k157 n) (K168 := FX35_endWord_b168 N K157 n) hm hb @ih R25 rfl rl1 rfl rl3 rfl rl4 hF
def FX35_endWord_b327 (N : Nat) (s : fS) : Option (Unit × fS) :=
  some ((), s)
theorem SX35_endWord_b327 {m b : Nat} {φ0 : Nat → Nat} {σo : fS} (hm : 1 ≤ m) {N : Nat} {q : Unit × fS} {φ : Nat → Nat} {h : eH} {s : fS} (R : fC m b φ0 σo φ h s) (hF : FX35_endWord_b327 N s = some q) : gG m b φ0 σo lU q (fX35_endWord_b327 N h) := by
  unfold FX35_endWord_b327 at hF
  unfold fX35_endWord_b327
  exact g_ret R hF trivial
def FX35_endWord_b157 (N : Nat) : Nat → Int → Nat → Int → fS → Option (Unit × fS)
  | 0, _, _, _, _ => none
  | n + 1, l1, l2, l3, s =>
    if (s.i 192 62) < l3 then
      (FX35_mode s).bind fun q5 =>
      if ¬ (q5.1 = 2) then
        FX35_endWord_b327 N q5.2
      else
        (uRI q5.2 289 (isub l1 1)).bind fun x9 =>
        if ¬ (x9 = 45) then
          FX35_endWord_b327 N q5.2
        else
          (FX35_item N 6 (-1) 0 0 0 0 q5.2).bind fun q13 =>
          FX35_endWord_b327 N q13.2
    else
      FX35_endWord_b168 N (FX35_endWord_b157 N n) N l1 l2 l3 0 s
theorem SX35_endWord_b157 {m b : Nat} {φ0 : Nat → Nat} {σo : fS} (hm : 1 ≤ m) (hb : 1 ≤ b) {N : Nat} {q : Unit × fS} : ∀ {n : Nat} {φ : Nat → Nat} {h : eH} {s : fS} {l1' : Int32} {l1 : Int} {l2 : Nat} {l3' : Int32} {l3 : Int}, fC m b φ0 σo φ h s → l1' = iI l1 → r32 l1 → l3' = iI l3 → r32 l3 → FX35_endWord_b157 N n l1 l2 l3 s = some q → gG m b φ0 σo lU q (fX35_endWord_b157 N n 192 l1' l2 l3' h) := by
  intro n
  induction n with
 | zero => intro φ h s l1' l1 l2 l3' l3 R el1 rl1 el3 rl3 hF; simp [FX35_endWord_b157] at hF
  | succ n ih =>
    intro φ h s l1' l1 l2 l3' l3 R el1 rl1 el3 rl3 hF
    subst el1; subst el3
    rw [FX35_endWord_b157] at hF
    rw [fX35_endWord_b157]
    refine s_gI R (t_192 hm R.S) (Nat.le_of_ble_eq_true rfl) rfl ?_
    refine s_if (i_lt rfl rfl (R.ri (t_192 hm R.S) (Nat.le_of_ble_eq_true rfl) rfl) rl3) hF (fun c2 hF => ?_) (fun c2 hF => ?_)
    ·
      refine s_kok R (t_192 hm R.S) (Nat.le_of_ble_eq_true rfl) ?_
      refine s_call R (Nat.zero_le _) (fun _ hq => SX35_mode (b := 0) hm (R.rf) hq) hF (fun f4 rv4 h4 q5 R4 e4 E4 hF => ?_)
      refine s_if (not_congr (i_eq e4.1 (c_lit 2 2 rfl) e4.2 ⟨by decide, by decide⟩)) hF (fun c5 hF => ?_) (fun c5 hF => ?_)
      ·
        exact SX35_endWord_b327 (N := N) hm R4 hF
      ·
        refine s_gAs R4 (t_192 hm R4.S) (Nat.le_of_ble_eq_true rfl) rfl (o_192_59 hm R4.S) (a_289 hm R4) ?_
        refine s_rI R4 (u_289 hm R4.S).1 (u_289 hm R4.S).2 (by decide) (a_289 hm R4) (c_sub rfl (c_lit 1 1 rfl)) (rr_I _) hF (fun x9 ra7 hF => ?_)
        refine s_if (not_congr (i_eq rfl (c_lit 45 45 rfl) ra7 ⟨by decide, by decide⟩)) hF (fun c8 hF => ?_) (fun c8 hF => ?_)
        ·
          exact SX35_endWord_b327 (N := N) hm R4 hF
        ·
          refine s_kok R4 (t_192 hm R4.S) (Nat.le_of_ble_eq_true rfl) ?_
          refine s_call R4 hb (fun _ hq => SX35_item (b := 1) (N := N) hm (Nat.le_of_ble_eq_true rfl) (R4.rf) (c_lit 6 6 rfl) ⟨by decide, by decide⟩ (c_lit (-1) (-1) rfl) ⟨by decide, by decide⟩ (c_lit 0 0 rfl) ⟨by decide, by decide⟩ (c_lit 0 0 rfl) ⟨by decide, by decide⟩ (c_lit 0 0 rfl) ⟨by decide, by decide⟩ (c_lit 0 0 rfl) ⟨by decide, by decide⟩ hq) hF (fun f10 rv10 h10 q13 R10 e10 E10 hF => ?_)
          exact SX35_endWord_b327 (N := N) hm R10 hF
    ·
      exact SX35_endWord_b168 (N := N) (k157 := fX35_endWord_b157 N n) (K157 := FX35_endWord_b157 N n) hm hb @ih R rfl rl1 rfl rl3 (c_lit 0 0 rfl) ⟨by decide, by decide⟩ hF
def FX35_endWord_b155 (N : Nat) (l1 : Int) (l2 : Nat) (s : fS) : Option (Unit × fS) :=
  FX35_endWord_b157 N N l1 l2 0 s
theorem SX35_endWord_b155 {m b : Nat} {φ0 : Nat → Nat} {σo : fS} (hm : 1 ≤ m) (hb : 1 ≤ b) {N : Nat} {q : Unit × fS} {φ : Nat → Nat} {h : eH} {s : fS} {l1' : Int32} {l1 : Int} {l2 : Nat} (R : fC m b φ0 σo φ h s) (el1 : l1' = iI l1) (rl1 : r32 l1) (hF : FX35_endWord_b155 N l1 l2 s = some q) : gG m b φ0 σo lU q (fX35_endWord_b155 N 192 l1' l2 h) := by
  subst el1
  unfold FX35_endWord_b155 at hF
  unfold fX35_endWord_b155
  exact SX35_endWord_b157 (N := N) hm hb R rfl rl1 (c_lit 0 0 rfl) ⟨by decide, by decide⟩ hF
def FX35_endWord_b69 (N : Nat) : Nat → Int → Nat → Int → fS → Option (Unit × fS)
  | 0, _, _, _, _ => none
  | n + 1, l1, l2, l3, s =>
    if (s.i 192 62) ≤ l3 then
      (uPI s 192 124 0).bind fun σ4 =>
      (FX35_mode σ4).bind fun q7 =>
      if ¬ (q7.1 = 2) then
        FX35_endWord_b155 N l1 l2 q7.2
      else
        if 64 ≤ l1 then
          FX35_endWord_b155 N l1 l2 q7.2
        else
          (uK 42 q7.2 l2).bind fun _ =>
          (FX40_isThere_2 N l2 45 q7.2).bind fun q11 =>
          if q11.1 = 0 then
            FX35_endWord_b155 N l1 l2 q11.2
          else
            (FX36_take N l1 q11.2).bind fun q18 =>
            if q18.1 = 0 then
              FX35_endWord_b155 N l1 l2 q18.2
            else
              (FX35_findSofts N l1 q18.2).bind fun q21 =>
              FX35_endWord_b155 N l1 l2 q21.2
    else
      (uK 42 s l2).bind fun _ =>
      (s.o l2 1).bind fun a24 =>
      (uKA 100 s a24).bind fun _ =>
      (uRI s a24 l3).bind fun x26 =>
      (uQI s 290 l3 x26).bind fun σ28 =>
      (uK 42 σ28 l2).bind fun _ =>
      (σ28.o l2 2).bind fun a32 =>
      (uKA 100 σ28 a32).bind fun _ =>
      (uRI σ28 a32 l3).bind fun x34 =>
      (uQI σ28 291 l3 x34).bind fun σ36 =>
      FX35_endWord_b69 N n l1 l2 (iadd l3 1) σ36
theorem SX35_endWord_b69 {m b : Nat} {φ0 : Nat → Nat} {σo : fS} (hm : 1 ≤ m) (hb : 1 ≤ b) {N : Nat} {q : Unit × fS} : ∀ {n : Nat} {φ : Nat → Nat} {h : eH} {s : fS} {l1' : Int32} {l1 : Int} {l2 : Nat} {l3' : Int32} {l3 : Int}, fC m b φ0 σo φ h s → l1' = iI l1 → r32 l1 → l3' = iI l3 → r32 l3 → FX35_endWord_b69 N n l1 l2 l3 s = some q → gG m b φ0 σo lU q (fX35_endWord_b69 N n 192 l1' l2 l3' h) := by
  intro n
  induction n with
 | zero => intro φ h s l1' l1 l2 l3' l3 R el1 rl1 el3 rl3 hF; simp [FX35_endWord_b69] at hF
  | succ n ih =>
    intro φ h s l1' l1 l2 l3' l3 R el1 rl1 el3 rl3 hF
    subst el1; subst el3
    rw [FX35_endWord_b69] at hF
    rw [fX35_endWord_b69]
    refine s_gI R (t_192 hm R.S) (Nat.le_of_ble_eq_true rfl) rfl ?_
    refine s_if (i_le rfl rfl (R.ri (t_192 hm R.S) (Nat.le_of_ble_eq_true rfl) rfl) rl3) hF (fun c2 hF => ?_) (fun c2 hF => ?_)
    ·
      refine s_pI R (t_192 hm R.S) (Nat.le_of_ble_eq_true rfl) rfl (c_lit 0 0 rfl) ⟨by decide, by decide⟩ hF (fun h3 σ4 R3 T3 hF => ?_)
      refine s_kok R3 (t_192 hm R3.S) (Nat.le_of_ble_eq_true rfl) ?_
      refine s_call R3 (Nat.zero_le _) (fun _ hq => SX35_mode (b := 0) hm (R3.rf) hq) hF (fun f5 rv5 h5 q7 R5 e5 E5 hF => ?_)
      refine s_if (not_congr (i_eq e5.1 (c_lit 2 2 rfl) e5.2 ⟨by decide, by decide⟩)) hF (fun c6 hF => ?_) (fun c6 hF => ?_)
      ·
        exact SX35_endWord_b155 (N := N) hm hb R5 rfl rl1 hF
      ·
        refine s_if (i_le (c_lit 64 64 rfl) rfl ⟨by decide, by decide⟩ rl1) hF (fun c7 hF => ?_) (fun c7 hF => ?_)
        ·
          exact SX35_endWord_b155 (N := N) hm hb R5 rfl rl1 hF
        ·
          refine s_K hF (fun t9 hF => ?_)
          refine s_kok R5 t9 (Nat.le_of_ble_eq_true rfl) ?_
          refine s_call R5 (Nat.zero_le _) (fun _ hq => SX40_isThere_2 (b := 0) (N := N) hm (R5.rf) (c_lit 45 45 rfl) ⟨by decide, by decide⟩ hq) hF (fun f10 rv10 h10 q11 R10 e10 E10 hF => ?_)
          refine s_if (i_eq e10.1 (c_lit 0 0 rfl) e10.2 ⟨by decide, by decide⟩) hF (fun c11 hF => ?_) (fun c11 hF => ?_)
          ·
            exact SX35_endWord_b155 (N := N) hm hb R10 rfl rl1 hF
          ·
            refine s_gO R10 (t_192 hm R10.S) (Nat.le_of_ble_eq_true rfl) rfl (o_192_5 hm R10.S) ?_
            refine s_gAs R10 (t_192 hm R10.S) (Nat.le_of_ble_eq_true rfl) rfl (o_192_59 hm R10.S) (a_289 hm R10) ?_
            refine s_kok R10 (t_195 hm R10.S) (Nat.le_of_ble_eq_true rfl) ?_
            refine s_call R10 (Nat.zero_le _) (fun _ hq => SX36_take (b := 0) (N := N) hm (R10.rf) rfl rl1 hq) hF (fun f15 rv15 h15 q18 R15 e15 E15 hF => ?_)
            refine s_if (i_eq e15.1 (c_lit 0 0 rfl) e15.2 ⟨by decide, by decide⟩) hF (fun c16 hF => ?_) (fun c16 hF => ?_)
            ·
              exact SX35_endWord_b155 (N := N) hm hb R15 rfl rl1 hF
            ·
              refine s_kok R15 (t_192 hm R15.S) (Nat.le_of_ble_eq_true rfl) ?_
              refine s_call R15 (Nat.zero_le _) (fun _ hq => SX35_findSofts (b := 0) (N := N) hm (R15.rf) rfl rl1 hq) hF (fun f18 rv18 h18 q21 R18 e18 E18 hF => ?_)
              exact SX35_endWord_b155 (N := N) hm hb R18 rfl rl1 hF
    ·
      refine s_gAs R (t_192 hm R.S) (Nat.le_of_ble_eq_true rfl) rfl (o_192_60 hm R.S) (a_290 hm R) ?_
      refine s_K hF (fun t21 hF => ?_)
      refine s_oo hF (fun a24 e20 hF => ?_)
      refine s_gA R t21 (Nat.le_of_ble_eq_true rfl) rfl e20 (fun x20_ y20_ => ?_)
      refine s_KA hF (fun y23 z23 hF => ?_)
      refine s_rI R y23 z23 (by decide) rfl rfl rl3 hF (fun x26 ra22 hF => ?_)
      refine s_qI R (u_290 hm R.S).1 (u_290 hm R.S).2 (by decide) (a_290 hm R) rfl rl3 rfl ra22 hF (fun h24 σ28 R24 T24 hF => ?_)
      refine s_gAs R24 (t_192 hm R24.S) (Nat.le_of_ble_eq_true rfl) rfl (o_192_61 hm R24.S) (a_291 hm R24) ?_
      refine s_K hF (fun t27 hF => ?_)
      refine s_oo hF (fun a32 e26 hF => ?_)
      refine s_gA R24 t27 (Nat.le_of_ble_eq_true rfl) rfl e26 (fun x26_ y26_ => ?_)
      refine s_KA hF (fun y29 z29 hF => ?_)
      refine s_rI R24 y29 z29 (by decide) rfl rfl rl3 hF (fun x34 ra28 hF => ?_)
      refine s_qI R24 (u_291 hm R24.S).1 (u_291 hm R24.S).2 (by decide) (a_291 hm R24) rfl rl3 rfl ra28 hF (fun h30 σ36 R30 T30 hF => ?_)
      exact ih R30 rfl rl1 (c_add rfl (c_lit 1 1 rfl)) (rr_I _) hF
def FX35_endWord (N : Nat) (s : fS) : Option (Unit × fS) :=
  (uPI s 192 58 0).bind fun σ3 =>
  if (s.i 192 58) = 0 then
    FX35_endWord_b21 N σ3
  else
    if (σ3.i 192 46) ≤ 0 then
      (FX35_metrics (σ3.i 192 57) σ3).bind fun q12 =>
      (uRI q12.2 284 (q12.2.i 192 57)).bind fun x19 =>
      (uK 42 q12.2 q12.1).bind fun _ =>
      (FX40_set N q12.1 0 (s.i 192 58) x19 q12.2).bind fun q22 =>
      if ¬ (q22.1 = 0) then
        (uK 42 q22.2 q12.1).bind fun _ =>
        (uPI q22.2 192 62 (q22.2.i q12.1 3)).bind fun σ26 =>
        FX35_endWord_b69 N N (s.i 192 58) q12.1 0 σ26
      else
        (FX35_fail 2 q22.2).bind fun q29 =>
        some ((), q29.2)
    else
      FX35_endWord_b21 N σ3
theorem SX35_endWord {m b : Nat} {φ0 : Nat → Nat} {σo : fS} (hm : 1 ≤ m) (hb : 1 ≤ b) {N : Nat} {q : Unit × fS} {φ : Nat → Nat} {h : eH} {s : fS} (R : fC m b φ0 σo φ h s) (hF : FX35_endWord N s = some q) : gG m b φ0 σo lU q (fX35_endWord N 192 h) := by
  unfold FX35_endWord at hF
  unfold fX35_endWord
  refine s_gI R (t_192 hm R.S) (Nat.le_of_ble_eq_true rfl) rfl ?_
  refine s_pI R (t_192 hm R.S) (Nat.le_of_ble_eq_true rfl) rfl (c_lit 0 0 rfl) ⟨by decide, by decide⟩ hF (fun h2 σ3 R2 T2 hF => ?_)
  refine s_if (i_eq rfl (c_lit 0 0 rfl) (R.ri (t_192 hm R.S) (Nat.le_of_ble_eq_true rfl) rfl) ⟨by decide, by decide⟩) hF (fun c3 hF => ?_) (fun c3 hF => ?_)
  ·
    exact SX35_endWord_b21 (N := N) hm R2 hF
  ·
    refine s_gI R2 (t_192 hm R2.S) (Nat.le_of_ble_eq_true rfl) rfl ?_
    refine s_if (i_le rfl (c_lit 0 0 rfl) (R2.ri (t_192 hm R2.S) (Nat.le_of_ble_eq_true rfl) rfl) ⟨by decide, by decide⟩) hF (fun c5 hF => ?_) (fun c5 hF => ?_)
    ·
      refine s_gI R2 (t_192 hm R2.S) (Nat.le_of_ble_eq_true rfl) rfl ?_
      refine s_kok R2 (t_192 hm R2.S) (Nat.le_of_ble_eq_true rfl) ?_
      refine s_call R2 (Nat.zero_le _) (fun _ hq => SX35_metrics (b := 0) hm (R2.rf) rfl (R2.ri (t_192 hm R2.S) (Nat.le_of_ble_eq_true rfl) rfl) hq) hF (fun f8 rv8 h8 q12 R8 e8 E8 hF => ?_)
      obtain rfl : rv8 = _ := e8
      refine s_gAs R8 (t_192 hm R8.S) (Nat.le_of_ble_eq_true rfl) rfl (o_192_59 hm R8.S) (a_289 hm R8) ?_
      refine s_gAs R8 (t_192 hm R8.S) (Nat.le_of_ble_eq_true rfl) rfl (o_192_50 hm R8.S) (a_284 hm R8) ?_
      refine s_gI R8 (t_192 hm R8.S) (Nat.le_of_ble_eq_true rfl) rfl ?_
      refine s_rI R8 (u_284 hm R8.S).1 (u_284 hm R8.S).2 (by decide) (a_284 hm R8) rfl (R8.ri (t_192 hm R8.S) (Nat.le_of_ble_eq_true rfl) rfl) hF (fun x19 ra12 hF => ?_)
      refine s_K hF (fun t14 hF => ?_)
      refine s_kok R8 t14 (Nat.le_of_ble_eq_true rfl) ?_
      refine s_call R8 (Nat.zero_le _) (fun _ hq => SX40_set (b := 0) (N := N) hm (R8.rf) (c_lit 0 0 rfl) ⟨by decide, by decide⟩ rfl (R.ri (t_192 hm R.S) (Nat.le_of_ble_eq_true rfl) rfl) rfl ra12 hq) hF (fun f15 rv15 h15 q22 R15 e15 E15 hF => ?_)
      refine s_if (not_congr (i_eq e15.1 (c_lit 0 0 rfl) e15.2 ⟨by decide, by decide⟩)) hF (fun c16 hF => ?_) (fun c16 hF => ?_)
      ·
        refine s_K hF (fun t18 hF => ?_)
        refine s_gI R15 t18 (Nat.le_of_ble_eq_true rfl) rfl ?_
        refine s_pI R15 (t_192 hm R15.S) (Nat.le_of_ble_eq_true rfl) rfl rfl (R15.ri t18 (Nat.le_of_ble_eq_true rfl) rfl) hF (fun h19 σ26 R19 T19 hF => ?_)
        exact SX35_endWord_b69 (N := N) hm hb R19 rfl (R.ri (t_192 hm R.S) (Nat.le_of_ble_eq_true rfl) rfl) (c_lit 0 0 rfl) ⟨by decide, by decide⟩ hF
      ·
        refine s_kok R15 (t_192 hm R15.S) (Nat.le_of_ble_eq_true rfl) ?_
        refine s_call R15 (Nat.zero_le _) (fun _ hq => SX35_fail (b := 0) hm (R15.rf) (c_lit 2 2 rfl) ⟨by decide, by decide⟩ hq) hF (fun f21 rv21 h21 q29 R21 e21 E21 hF => ?_)
        exact g_ret R21 hF trivial
    ·
      exact SX35_endWord_b21 (N := N) hm R2 hF
def FX35_character_b120 (N : Nat) (SL : Int → Int → Int → fS → Option (Int × fS)) (s : fS) : Option (Unit × fS) :=
  some ((), s)
theorem SX35_character_b120 {m b : Nat} {φ0 : Nat → Nat} {σo : fS} (hm : 1 ≤ m) {N : Nat} {sL : Nat → Int32 → Int64 → Int64 → eH → Option (Int32 × eH)} {SL : Int → Int → Int → fS → Option (Int × fS)} {q : Unit × fS} (hsL : ∀ {φ : Nat → Nat} {h : eH} {s : fS} {x1' : Int32} {x1 : Int} {x2' : Int64} {x2 : Int} {x3' : Int64} {x3 : Int} {q}, fC m 1 φ s φ h s → x1' = iI x1 → r32 x1 → x2' = iJ x2 → r64 x2 → x3' = iJ x3 → r64 x3 → SL x1 x2 x3 s = some q → gG m 1 φ s lI q (sL 192 x1' x2' x3' h)) {φ : Nat → Nat} {h : eH} {s : fS} (R : fC m b φ0 σo φ h s) (hF : FX35_character_b120 N SL s = some q) : gG m b φ0 σo lU q (fX35_character_b120 N sL h) := by
  unfold FX35_character_b120 at hF
  unfold fX35_character_b120
  exact g_ret R hF trivial
def FX35_character_b116 (N : Nat) (SL : Int → Int → Int → fS → Option (Int × fS)) (s : fS) : Option (Unit × fS) :=
  (FX35_endWord N s).bind fun q2 =>
  FX35_character_b120 N SL q2.2
theorem SX35_character_b116 {m b : Nat} {φ0 : Nat → Nat} {σo : fS} (hm : 1 ≤ m) (hb : 1 ≤ b) {N : Nat} {sL : Nat → Int32 → Int64 → Int64 → eH → Option (Int32 × eH)} {SL : Int → Int → Int → fS → Option (Int × fS)} {q : Unit × fS} (hsL : ∀ {φ : Nat → Nat} {h : eH} {s : fS} {x1' : Int32} {x1 : Int} {x2' : Int64} {x2 : Int} {x3' : Int64} {x3 : Int} {q}, fC m 1 φ s φ h s → x1' = iI x1 → r32 x1 → x2' = iJ x2 → r64 x2 → x3' = iJ x3 → r64 x3 → SL x1 x2 x3 s = some q → gG m 1 φ s lI q (sL 192 x1' x2' x3' h)) {φ : Nat → Nat} {h : eH} {s : fS} (R : fC m b φ0 σo φ h s) (hF : FX35_character_b116 N SL s = some q) : gG m b φ0 σo lU q (fX35_character_b116 N sL 192 h) := by
  unfold FX35_character_b116 at hF
  unfold fX35_character_b116
  refine s_kok R (t_192 hm R.S) (Nat.le_of_ble_eq_true rfl) ?_
  refine s_call R hb (fun _ hq => SX35_endWord (b := 1) (N := N) hm (Nat.le_of_ble_eq_true rfl) (R.rf) hq) hF (fun f2 rv2 h2 q2 R2 e2 E2 hF => ?_)
  exact SX35_character_b120 (N := N) (sL := sL) (SL := SL) hm @hsL R2 hF
def FX35_character_b76 (N : Nat) (SL : Int → Int → Int → fS → Option (Int × fS)) (l1 : Int) (l2 : Int) (s : fS) : Option (Unit × fS) :=
  (uPI s 192 57 l2).bind fun σ1 =>
  (uQI σ1 289 (σ1.i 192 58) l1).bind fun σ7 =>
  (uPI σ7 192 58 (iadd (σ7.i 192 58) 1)).bind fun σ11 =>
  if l1 = 45 then
    FX35_character_b116 N SL σ11
  else
    if ¬ ((σ11.i 192 58) = 64) then
      FX35_character_b120 N SL σ11
    else
      FX35_character_b116 N SL σ11
theorem SX35_character_b76 {m b : Nat} {φ0 : Nat → Nat} {σo : fS} (hm : 1 ≤ m) (hb : 1 ≤ b) {N : Nat} {sL : Nat → Int32 → Int64 → Int64 → eH → Option (Int32 × eH)} {SL : Int → Int → Int → fS → Option (Int × fS)} {q : Unit × fS} (hsL : ∀ {φ : Nat → Nat} {h : eH} {s : fS} {x1' : Int32} {x1 : Int} {x2' : Int64} {x2 : Int} {x3' : Int64} {x3 : Int} {q}, fC m 1 φ s φ h s → x1' = iI x1 → r32 x1 → x2' = iJ x2 → r64 x2 → x3' = iJ x3 → r64 x3 → SL x1 x2 x3 s = some q → gG m 1 φ s lI q (sL 192 x1' x2' x3' h)) {φ : Nat → Nat} {h : eH} {s : fS} {l1' : Int32} {l1 : Int} {l2' : Int32} {l2 : Int} (R : fC m b φ0 σo φ h s) (el1 : l1' = iI l1) (rl1 : r32 l1) (el2 : l2' = iI l2) (rl2 : r32 l2) (hF : FX35_character_b76 N SL l1 l2 s = some q) : gG m b φ0 σo lU q (fX35_character_b76 N sL 192 l1' l2' h) := by
  subst el1; subst el2
  unfold FX35_character_b76 at hF
  unfold fX35_character_b76
  refine s_pI R (t_192 hm R.S) (Nat.le_of_ble_eq_true rfl) rfl rfl rl2 hF (fun h1 σ1 R1 T1 hF => ?_)
  refine s_gAs R1 (t_192 hm R1.S) (Nat.le_of_ble_eq_true rfl) rfl (o_192_59 hm R1.S) (a_289 hm R1) ?_
  refine s_gI R1 (t_192 hm R1.S) (Nat.le_of_ble_eq_true rfl) rfl ?_
  refine s_qI R1 (u_289 hm R1.S).1 (u_289 hm R1.S).2 (by decide) (a_289 hm R1) rfl (R1.ri (t_192 hm R1.S) (Nat.le_of_ble_eq_true rfl) rfl) rfl rl1 hF (fun h4 σ7 R4 T4 hF => ?_)
  refine s_gI R4 (t_192 hm R4.S) (Nat.le_of_ble_eq_true rfl) rfl ?_
  refine s_pI R4 (t_192 hm R4.S) (Nat.le_of_ble_eq_true rfl) rfl (c_add rfl (c_lit 1 1 rfl)) (rr_I _) hF (fun h6 σ11 R6 T6 hF => ?_)
  refine s_if (i_eq rfl (c_lit 45 45 rfl) rl1 ⟨by decide, by decide⟩) hF (fun c7 hF => ?_) (fun c7 hF => ?_)
  ·
    exact SX35_character_b116 (N := N) (sL := sL) (SL := SL) hm hb @hsL R6 hF
  ·
    refine s_gI R6 (t_192 hm R6.S) (Nat.le_of_ble_eq_true rfl) rfl ?_
    refine s_if (not_congr (i_eq rfl (c_lit 64 64 rfl) (R6.ri (t_192 hm R6.S) (Nat.le_of_ble_eq_true rfl) rfl) ⟨by decide, by decide⟩)) hF (fun c9 hF => ?_) (fun c9 hF => ?_)
    ·
      exact SX35_character_b120 (N := N) (sL := sL) (SL := SL) hm @hsL R6 hF
    ·
      exact SX35_character_b116 (N := N) (sL := sL) (SL := SL) hm hb @hsL R6 hF
def FX35_character_b49 (N : Nat) (SL : Int → Int → Int → fS → Option (Int × fS)) (l1 : Int) (l2 : Int) (s : fS) : Option (Unit × fS) :=
  if (s.i 192 46) ≤ 0 then
    if (s.i 192 58) ≤ 0 then
      FX35_character_b76 N SL l1 l2 s
    else
      if (s.i 192 57) = l2 then
        FX35_character_b76 N SL l1 l2 s
      else
        (FX35_endWord N s).bind fun q11 =>
        FX35_character_b76 N SL l1 l2 q11.2
  else
    some ((), s)
theorem SX35_character_b49 {m b : Nat} {φ0 : Nat → Nat} {σo : fS} (hm : 1 ≤ m) (hb : 1 ≤ b) {N : Nat} {sL : Nat → Int32 → Int64 → Int64 → eH → Option (Int32 × eH)} {SL : Int → Int → Int → fS → Option (Int × fS)} {q : Unit × fS} (hsL : ∀ {φ : Nat → Nat} {h : eH} {s : fS} {x1' : Int32} {x1 : Int} {x2' : Int64} {x2 : Int} {x3' : Int64} {x3 : Int} {q}, fC m 1 φ s φ h s → x1' = iI x1 → r32 x1 → x2' = iJ x2 → r64 x2 → x3' = iJ x3 → r64 x3 → SL x1 x2 x3 s = some q → gG m 1 φ s lI q (sL 192 x1' x2' x3' h)) {φ : Nat → Nat} {h : eH} {s : fS} {l1' : Int32} {l1 : Int} {l2' : Int32} {l2 : Int} (R : fC m b φ0 σo φ h s) (el1 : l1' = iI l1) (rl1 : r32 l1) (el2 : l2' = iI l2) (rl2 : r32 l2) (hF : FX35_character_b49 N SL l1 l2 s = some q) : gG m b φ0 σo lU q (fX35_character_b49 N sL 192 l1' l2' h) := by
  subst el1; subst el2
  unfold FX35_character_b49 at hF
  unfold fX35_character_b49
  refine s_gI R (t_192 hm R.S) (Nat.le_of_ble_eq_true rfl) rfl ?_
  refine s_if (i_le rfl (c_lit 0 0 rfl) (R.ri (t_192 hm R.S) (Nat.le_of_ble_eq_true rfl) rfl) ⟨by decide, by decide⟩) hF (fun c2 hF => ?_) (fun c2 hF => ?_)
  ·
    refine s_gI R (t_192 hm R.S) (Nat.le_of_ble_eq_true rfl) rfl ?_
    refine s_if (i_le rfl (c_lit 0 0 rfl) (R.ri (t_192 hm R.S) (Nat.le_of_ble_eq_true rfl) rfl) ⟨by decide, by decide⟩) hF (fun c4 hF => ?_) (fun c4 hF => ?_)
    ·
      exact SX35_character_b76 (N := N) (sL := sL) (SL := SL) hm hb @hsL R rfl rl1 rfl rl2 hF
    ·
      refine s_gI R (t_192 hm R.S) (Nat.le_of_ble_eq_true rfl) rfl ?_
      refine s_if (i_eq rfl rfl (R.ri (t_192 hm R.S) (Nat.le_of_ble_eq_true rfl) rfl) rl2) hF (fun c6 hF => ?_) (fun c6 hF => ?_)
      ·
        exact SX35_character_b76 (N := N) (sL := sL) (SL := SL) hm hb @hsL R rfl rl1 rfl rl2 hF
      ·
        refine s_kok R (t_192 hm R.S) (Nat.le_of_ble_eq_true rfl) ?_
        refine s_call R hb (fun _ hq => SX35_endWord (b := 1) (N := N) hm (Nat.le_of_ble_eq_true rfl) (R.rf) hq) hF (fun f8 rv8 h8 q11 R8 e8 E8 hF => ?_)
        exact SX35_character_b76 (N := N) (sL := sL) (SL := SL) hm hb @hsL R8 rfl rl1 rfl rl2 hF
  ·
    exact g_ret R hF trivial
def FX35_character_b43 (N : Nat) (SL : Int → Int → Int → fS → Option (Int × fS)) (l1 : Int) (l2 : Int) (s : fS) : Option (Unit × fS) :=
  (FX35_fail 14 s).bind fun q2 =>
  FX35_character_b49 N SL l1 l2 q2.2
theorem SX35_character_b43 {m b : Nat} {φ0 : Nat → Nat} {σo : fS} (hm : 1 ≤ m) (hb : 1 ≤ b) {N : Nat} {sL : Nat → Int32 → Int64 → Int64 → eH → Option (Int32 × eH)} {SL : Int → Int → Int → fS → Option (Int × fS)} {q : Unit × fS} (hsL : ∀ {φ : Nat → Nat} {h : eH} {s : fS} {x1' : Int32} {x1 : Int} {x2' : Int64} {x2 : Int} {x3' : Int64} {x3 : Int} {q}, fC m 1 φ s φ h s → x1' = iI x1 → r32 x1 → x2' = iJ x2 → r64 x2 → x3' = iJ x3 → r64 x3 → SL x1 x2 x3 s = some q → gG m 1 φ s lI q (sL 192 x1' x2' x3' h)) {φ : Nat → Nat} {h : eH} {s : fS} {l1' : Int32} {l1 : Int} {l2' : Int32} {l2 : Int} (R : fC m b φ0 σo φ h s) (el1 : l1' = iI l1) (rl1 : r32 l1) (el2 : l2' = iI l2) (rl2 : r32 l2) (hF : FX35_character_b43 N SL l1 l2 s = some q) : gG m b φ0 σo lU q (fX35_character_b43 N sL 192 l1' l2' h) := by
  subst el1; subst el2
  unfold FX35_character_b43 at hF
  unfold fX35_character_b43
  refine s_kok R (t_192 hm R.S) (Nat.le_of_ble_eq_true rfl) ?_
  refine s_call R (Nat.zero_le _) (fun _ hq => SX35_fail (b := 0) hm (R.rf) (c_lit 14 14 rfl) ⟨by decide, by decide⟩ hq) hF (fun f2 rv2 h2 q2 R2 e2 E2 hF => ?_)
  exact SX35_character_b49 (N := N) (sL := sL) (SL := SL) hm hb @hsL R2 rfl rl1 rfl rl2 hF
def FX35_character_b12 (N : Nat) (SL : Int → Int → Int → fS → Option (Int × fS)) (l1 : Int) (s : fS) : Option (Unit × fS) :=
  (FX35_now 3811 s).bind fun q2 =>
  if ¬ ((q2.2.i 192 46) = 0) then
    FX35_character_b49 N SL l1 q2.1 q2.2
  else
    if q2.1 < 0 then
      FX35_character_b43 N SL l1 q2.1 q2.2
    else
      (FX35_metrics q2.1 q2.2).bind fun q8 =>
      (uK 42 q8.2 q8.1).bind fun _ =>
      (FX40_isThere_2 N q8.1 l1 q8.2).bind fun q10 =>
      if ¬ (q10.1 = 0) then
        FX35_character_b49 N SL l1 q2.1 q10.2
      else
        FX35_character_b43 N SL l1 q2.1 q10.2
theorem SX35_character_b12 {m b : Nat} {φ0 : Nat → Nat} {σo : fS} (hm : 1 ≤ m) (hb : 1 ≤ b) {N : Nat} {sL : Nat → Int32 → Int64 → Int64 → eH → Option (Int32 × eH)} {SL : Int → Int → Int → fS → Option (Int × fS)} {q : Unit × fS} (hsL : ∀ {φ : Nat → Nat} {h : eH} {s : fS} {x1' : Int32} {x1 : Int} {x2' : Int64} {x2 : Int} {x3' : Int64} {x3 : Int} {q}, fC m 1 φ s φ h s → x1' = iI x1 → r32 x1 → x2' = iJ x2 → r64 x2 → x3' = iJ x3 → r64 x3 → SL x1 x2 x3 s = some q → gG m 1 φ s lI q (sL 192 x1' x2' x3' h)) {φ : Nat → Nat} {h : eH} {s : fS} {l1' : Int32} {l1 : Int} (R : fC m b φ0 σo φ h s) (el1 : l1' = iI l1) (rl1 : r32 l1) (hF : FX35_character_b12 N SL l1 s = some q) : gG m b φ0 σo lU q (fX35_character_b12 N sL 192 l1' h) := by
  subst el1
  unfold FX35_character_b12 at hF
  unfold fX35_character_b12
  refine s_kok R (t_192 hm R.S) (Nat.le_of_ble_eq_true rfl) ?_
  refine s_call R (Nat.zero_le _) (fun _ hq => SX35_now (b := 0) hm (R.rf) (c_lit 3811 3811 rfl) ⟨by decide, by decide⟩ hq) hF (fun f2 rv2 h2 q2 R2 e2 E2 hF => ?_)
  refine s_gI R2 (t_192 hm R2.S) (Nat.le_of_ble_eq_true rfl) rfl ?_
  refine s_if (not_congr (i_eq rfl (c_lit 0 0 rfl) (R2.ri (t_192 hm R2.S) (Nat.le_of_ble_eq_true rfl) rfl) ⟨by decide, by decide⟩)) hF (fun c4 hF => ?_) (fun c4 hF => ?_)
  ·
    exact SX35_character_b49 (N := N) (sL := sL) (SL := SL) hm hb @hsL R2 rfl rl1 e2.1 e2.2 hF
  ·
    refine s_if (i_lt e2.1 (c_lit 0 0 rfl) e2.2 ⟨by decide, by decide⟩) hF (fun c5 hF => ?_) (fun c5 hF => ?_)
    ·
      exact SX35_character_b43 (N := N) (sL := sL) (SL := SL) hm hb @hsL R2 rfl rl1 e2.1 e2.2 hF
    ·
      refine s_kok R2 (t_192 hm R2.S) (Nat.le_of_ble_eq_true rfl) ?_
      refine s_call R2 (Nat.zero_le _) (fun _ hq => SX35_metrics (b := 0) hm (R2.rf) e2.1 e2.2 hq) hF (fun f7 rv7 h7 q8 R7 e7 E7 hF => ?_)
      obtain rfl : rv7 = _ := e7
      refine s_K hF (fun t9 hF => ?_)
      refine s_kok R7 t9 (Nat.le_of_ble_eq_true rfl) ?_
      refine s_call R7 (Nat.zero_le _) (fun _ hq => SX40_isThere_2 (b := 0) (N := N) hm (R7.rf) rfl rl1 hq) hF (fun f10 rv10 h10 q10 R10 e10 E10 hF => ?_)
      refine s_if (not_congr (i_eq e10.1 (c_lit 0 0 rfl) e10.2 ⟨by decide, by decide⟩)) hF (fun c11 hF => ?_) (fun c11 hF => ?_)
      ·
        exact SX35_character_b49 (N := N) (sL := sL) (SL := SL) hm hb @hsL R10 rfl rl1 e2.1 e2.2 hF
      ·
        exact SX35_character_b43 (N := N) (sL := sL) (SL := SL) hm hb @hsL R10 rfl rl1 e2.1 e2.2 hF
def FX35_character (N : Nat) (SL : Int → Int → Int → fS → Option (Int × fS)) (p0 : Int) (s : fS) : Option (Unit × fS) :=
  (FX35_isVertical s).bind fun q2 =>
  if q2.1 = 0 then
    FX35_character_b12 N SL p0 q2.2
  else
    (FX35_beginParagraph N SL 1 q2.2).bind fun q5 =>
    FX35_character_b12 N SL p0 q5.2
theorem SX35_character {m b : Nat} {φ0 : Nat → Nat} {σo : fS} (hm : 1 ≤ m) (hb : 1 ≤ b) {N : Nat} {sL : Nat → Int32 → Int64 → Int64 → eH → Option (Int32 × eH)} {SL : Int → Int → Int → fS → Option (Int × fS)} {q : Unit × fS} (hsL : ∀ {φ : Nat → Nat} {h : eH} {s : fS} {x1' : Int32} {x1 : Int} {x2' : Int64} {x2 : Int} {x3' : Int64} {x3 : Int} {q}, fC m 1 φ s φ h s → x1' = iI x1 → r32 x1 → x2' = iJ x2 → r64 x2 → x3' = iJ x3 → r64 x3 → SL x1 x2 x3 s = some q → gG m 1 φ s lI q (sL 192 x1' x2' x3' h)) {φ : Nat → Nat} {h : eH} {s : fS} {p0' : Int32} {p0 : Int} (R : fC m b φ0 σo φ h s) (ep0 : p0' = iI p0) (rp0 : r32 p0) (hF : FX35_character N SL p0 s = some q) : gG m b φ0 σo lU q (fX35_character N sL 192 p0' h) := by
  subst ep0
  unfold FX35_character at hF
  unfold fX35_character
  refine s_kok R (t_192 hm R.S) (Nat.le_of_ble_eq_true rfl) ?_
  refine s_call R (Nat.zero_le _) (fun _ hq => SX35_isVertical (b := 0) hm (R.rf) hq) hF (fun f2 rv2 h2 q2 R2 e2 E2 hF => ?_)
  refine s_if (i_eq e2.1 (c_lit 0 0 rfl) e2.2 ⟨by decide, by decide⟩) hF (fun c3 hF => ?_) (fun c3 hF => ?_)
  ·
    exact SX35_character_b12 (N := N) (sL := sL) (SL := SL) hm hb @hsL R2 rfl rp0 hF
  ·
    refine s_kok R2 (t_192 hm R2.S) (Nat.le_of_ble_eq_true rfl) ?_
    refine s_call R2 hb (fun _ hq => SX35_beginParagraph (b := 1) (N := N) (sL := sL) (SL := SL) hm (Nat.le_of_ble_eq_true rfl) @hsL (R2.rf) (c_lit 1 1 rfl) ⟨by decide, by decide⟩ hq) hF (fun f5 rv5 h5 q5 R5 e5 E5 hF => ?_)
    exact SX35_character_b12 (N := N) (sL := sL) (SL := SL) hm hb @hsL R5 rfl rp0 hF
def FX36_clear_b45 (l2 : Int) (s1 : Int) (s : fS) : Option (Int × fS) :=
  (uPI s 195 5 s1).bind fun σ1 =>
  some (l2, σ1)
theorem SX36_clear_b45 {m b : Nat} {φ0 : Nat → Nat} {σo : fS} (hm : 1 ≤ m) {q : Int × fS} {φ : Nat → Nat} {h : eH} {s : fS} {l2' : Int32} {l2 : Int} {s1' : Int32} {s1 : Int} (R : fC m b φ0 σo φ h s) (el2 : l2' = iI l2) (rl2 : r32 l2) (es1 : s1' = iI s1) (rs1 : r32 s1) (hF : FX36_clear_b45 l2 s1 s = some q) : gG m b φ0 σo lI q (fX36_clear_b45 l2' 195 s1' h) := by
  subst el2; subst es1
  unfold FX36_clear_b45 at hF
  unfold fX36_clear_b45
  refine s_pI R (t_195 hm R.S) (Nat.le_of_ble_eq_true rfl) rfl rfl rs1 hF (fun h1 σ1 R1 T1 hF => ?_)
  exact g_ret R1 hF ⟨rfl, rl2⟩
def FX36_clear_b29 (l1 : Int) (l2 : Int) (s1 : Int) (s : fS) : Option (Int × fS) :=
  (uPI s 195 12 s1).bind fun σ1 =>
  if l1 = 0 then
    FX36_clear_b45 l2 0 σ1
  else
    FX36_clear_b45 l2 (σ1.i 195 5) σ1
theorem SX36_clear_b29 {m b : Nat} {φ0 : Nat → Nat} {σo : fS} (hm : 1 ≤ m) {q : Int × fS} {φ : Nat → Nat} {h : eH} {s : fS} {l1' : Int32} {l1 : Int} {l2' : Int32} {l2 : Int} {s1' : Int32} {s1 : Int} (R : fC m b φ0 σo φ h s) (el1 : l1' = iI l1) (rl1 : r32 l1) (el2 : l2' = iI l2) (rl2 : r32 l2) (es1 : s1' = iI s1) (rs1 : r32 s1) (hF : FX36_clear_b29 l1 l2 s1 s = some q) : gG m b φ0 σo lI q (fX36_clear_b29 195 l1' l2' 195 s1' h) := by
  subst el1; subst el2; subst es1
  unfold FX36_clear_b29 at hF
  unfold fX36_clear_b29
  refine s_pI R (t_195 hm R.S) (Nat.le_of_ble_eq_true rfl) rfl rfl rs1 hF (fun h1 σ1 R1 T1 hF => ?_)
  refine s_if (i_eq rfl (c_lit 0 0 rfl) rl1 ⟨by decide, by decide⟩) hF (fun c2 hF => ?_) (fun c2 hF => ?_)
  ·
    exact SX36_clear_b45 hm R1 rfl rl2 (c_lit 0 0 rfl) ⟨by decide, by decide⟩ hF
  ·
    refine s_gI R1 (t_195 hm R1.S) (Nat.le_of_ble_eq_true rfl) rfl ?_
    exact SX36_clear_b45 hm R1 rfl rl2 rfl (R1.ri (t_195 hm R1.S) (Nat.le_of_ble_eq_true rfl) rfl) hF
def FX36_clear_b15 (l1 : Int) (s0 : Int) (s : fS) : Option (Int × fS) :=
  if l1 = 0 then
    FX36_clear_b29 l1 s0 (s.i 195 12) s
  else
    FX36_clear_b29 l1 s0 0 s
theorem SX36_clear_b15 {m b : Nat} {φ0 : Nat → Nat} {σo : fS} (hm : 1 ≤ m) {q : Int × fS} {φ : Nat → Nat} {h : eH} {s : fS} {l1' : Int32} {l1 : Int} {s0' : Int32} {s0 : Int} (R : fC m b φ0 σo φ h s) (el1 : l1' = iI l1) (rl1 : r32 l1) (es0 : s0' = iI s0) (rs0 : r32 s0) (hF : FX36_clear_b15 l1 s0 s = some q) : gG m b φ0 σo lI q (fX36_clear_b15 195 l1' s0' h) := by
  subst el1; subst es0
  unfold FX36_clear_b15 at hF
  unfold fX36_clear_b15
  refine s_if (i_eq rfl (c_lit 0 0 rfl) rl1 ⟨by decide, by decide⟩) hF (fun c1 hF => ?_) (fun c1 hF => ?_)
  ·
    refine s_gI R (t_195 hm R.S) (Nat.le_of_ble_eq_true rfl) rfl ?_
    exact SX36_clear_b29 hm R rfl rl1 rfl rs0 rfl (R.ri (t_195 hm R.S) (Nat.le_of_ble_eq_true rfl) rfl) hF
  ·
    exact SX36_clear_b29 hm R rfl rl1 rfl rs0 (c_lit 0 0 rfl) ⟨by decide, by decide⟩ hF
def FX36_clear (p0 : Int) (s : fS) : Option (Int × fS) :=
  if p0 = 0 then
    FX36_clear_b15 p0 (s.i 195 5) s
  else
    FX36_clear_b15 p0 (s.i 195 12) s
theorem SX36_clear {m b : Nat} {φ0 : Nat → Nat} {σo : fS} (hm : 1 ≤ m) {q : Int × fS} {φ : Nat → Nat} {h : eH} {s : fS} {p0' : Int32} {p0 : Int} (R : fC m b φ0 σo φ h s) (ep0 : p0' = iI p0) (rp0 : r32 p0) (hF : FX36_clear p0 s = some q) : gG m b φ0 σo lI q (fX36_clear 195 p0' h) := by
  subst ep0
  unfold FX36_clear at hF
  unfold fX36_clear
  refine s_if (i_eq rfl (c_lit 0 0 rfl) rp0 ⟨by decide, by decide⟩) hF (fun c1 hF => ?_) (fun c1 hF => ?_)
  ·
    refine s_gI R (t_195 hm R.S) (Nat.le_of_ble_eq_true rfl) rfl ?_
    exact SX36_clear_b15 hm R rfl rp0 rfl (R.ri (t_195 hm R.S) (Nat.le_of_ble_eq_true rfl) rfl) hF
  ·
    refine s_gI R (t_195 hm R.S) (Nat.le_of_ble_eq_true rfl) rfl ?_
    exact SX36_clear_b15 hm R rfl rp0 rfl (R.ri (t_195 hm R.S) (Nat.le_of_ble_eq_true rfl) rfl) hF
def FX35_clear_2 (p0 : Int) (s : fS) : Option (Int × fS) :=
  (uPI s 192 0 0).bind fun σ1 =>
  (FX36_clear p0 σ1).bind fun q6 =>
  some (q6.1, q6.2)
theorem SX35_clear_2 {m b : Nat} {φ0 : Nat → Nat} {σo : fS} (hm : 1 ≤ m) {q : Int × fS} {φ : Nat → Nat} {h : eH} {s : fS} {p0' : Int32} {p0 : Int} (R : fC m b φ0 σo φ h s) (ep0 : p0' = iI p0) (rp0 : r32 p0) (hF : FX35_clear_2 p0 s = some q) : gG m b φ0 σo lI q (fX35_clear_2 192 p0' h) := by
  subst ep0
  unfold FX35_clear_2 at hF
  unfold fX35_clear_2
  refine s_pI R (t_192 hm R.S) (Nat.le_of_ble_eq_true rfl) rfl (c_lit 0 0 rfl) ⟨by decide, by decide⟩ hF (fun h1 σ1 R1 T1 hF => ?_)
  refine s_gO R1 (t_192 hm R1.S) (Nat.le_of_ble_eq_true rfl) rfl (o_192_5 hm R1.S) ?_
  refine s_kok R1 (t_195 hm R1.S) (Nat.le_of_ble_eq_true rfl) ?_
  refine s_call R1 (Nat.zero_le _) (fun _ hq => SX36_clear (b := 0) hm (R1.rf) rfl rp0 hq) hF (fun f4 rv4 h4 q6 R4 e4 E4 hF => ?_)
  exact g_ret R4 hF ⟨e4.1, e4.2⟩
def FX37_append (p0 : Int) (p1 : Int) (p2 : Int) (p3 : Int) (p4 : Int) (p5 : Int) (p6 : Int) (s : fS) : Option (Int × fS) :=
  (uQI s 214 (s.i 213 1) p0).bind fun σ5 =>
  (uQI σ5 215 (s.i 213 1) p1).bind fun σ9 =>
  (uQI σ9 216 (s.i 213 1) p2).bind fun σ13 =>
  (uQI σ13 217 (s.i 213 1) p3).bind fun σ17 =>
  (uQI σ17 218 (s.i 213 1) p4).bind fun σ21 =>
  (uQI σ21 219 (s.i 213 1) p1).bind fun σ25 =>
  (uQI σ25 220 (s.i 213 1) p5).bind fun σ29 =>
  (uQI σ29 221 (s.i 213 1) p6).bind fun σ33 =>
  (uPI σ33 213 1 (iadd (σ33.i 213 1) 1)).bind fun σ37 =>
  (uPI σ37 213 36 0).bind fun σ39 =>
  some ((s.i 213 1), σ39)
theorem SX37_append {m b : Nat} {φ0 : Nat → Nat} {σo : fS} (hm : 1 ≤ m) {q : Int × fS} {φ : Nat → Nat} {h : eH} {s : fS} {p0' : Int32} {p0 : Int} {p1' : Int32} {p1 : Int} {p2' : Int32} {p2 : Int} {p3' : Int32} {p3 : Int} {p4' : Int32} {p4 : Int} {p5' : Int32} {p5 : Int} {p6' : Int32} {p6 : Int} (R : fC m b φ0 σo φ h s) (ep0 : p0' = iI p0) (rp0 : r32 p0) (ep1 : p1' = iI p1) (rp1 : r32 p1) (ep2 : p2' = iI p2) (rp2 : r32 p2) (ep3 : p3' = iI p3) (rp3 : r32 p3) (ep4 : p4' = iI p4) (rp4 : r32 p4) (ep5 : p5' = iI p5) (rp5 : r32 p5) (ep6 : p6' = iI p6) (rp6 : r32 p6) (hF : FX37_append p0 p1 p2 p3 p4 p5 p6 s = some q) : gG m b φ0 σo lI q (fX37_append 213 p0' p1' p2' p3' p4' p5' p6' h) := by
  subst ep0; subst ep1; subst ep2; subst ep3; subst ep4; subst ep5; subst ep6
  unfold FX37_append at hF
  unfold fX37_append
  refine s_gI R (t_213 hm R.S) (Nat.le_of_ble_eq_true rfl) rfl ?_
  refine s_gAs R (t_213 hm R.S) (Nat.le_of_ble_eq_true rfl) rfl (o_213_2 hm R.S) (a_214 hm R) ?_
  refine s_qI R (u_214 hm R.S).1 (u_214 hm R.S).2 (by decide) (a_214 hm R) rfl (R.ri (t_213 hm R.S) (Nat.le_of_ble_eq_true rfl) rfl) rfl rp0 hF (fun h3 σ5 R3 T3 hF => ?_)
  refine s_gAs R3 (t_213 hm R3.S) (Nat.le_of_ble_eq_true rfl) rfl (o_213_3 hm R3.S) (a_215 hm R3) ?_
  refine s_qI R3 (u_215 hm R3.S).1 (u_215 hm R3.S).2 (by decide) (a_215 hm R3) rfl (R.ri (t_213 hm R.S) (Nat.le_of_ble_eq_true rfl) rfl) rfl rp1 hF (fun h5 σ9 R5 T5 hF => ?_)
  refine s_gAs R5 (t_213 hm R5.S) (Nat.le_of_ble_eq_true rfl) rfl (o_213_4 hm R5.S) (a_216 hm R5) ?_
  refine s_qI R5 (u_216 hm R5.S).1 (u_216 hm R5.S).2 (by decide) (a_216 hm R5) rfl (R.ri (t_213 hm R.S) (Nat.le_of_ble_eq_true rfl) rfl) rfl rp2 hF (fun h7 σ13 R7 T7 hF => ?_)
  refine s_gAs R7 (t_213 hm R7.S) (Nat.le_of_ble_eq_true rfl) rfl (o_213_5 hm R7.S) (a_217 hm R7) ?_
  refine s_qI R7 (u_217 hm R7.S).1 (u_217 hm R7.S).2 (by decide) (a_217 hm R7) rfl (R.ri (t_213 hm R.S) (Nat.le_of_ble_eq_true rfl) rfl) rfl rp3 hF (fun h9 σ17 R9 T9 hF => ?_)
  refine s_gAs R9 (t_213 hm R9.S) (Nat.le_of_ble_eq_true rfl) rfl (o_213_6 hm R9.S) (a_218 hm R9) ?_
  refine s_qI R9 (u_218 hm R9.S).1 (u_218 hm R9.S).2 (by decide) (a_218 hm R9) rfl (R.ri (t_213 hm R.S) (Nat.le_of_ble_eq_true rfl) rfl) rfl rp4 hF (fun h11 σ21 R11 T11 hF => ?_)
  refine s_gAs R11 (t_213 hm R11.S) (Nat.le_of_ble_eq_true rfl) rfl (o_213_7 hm R11.S) (a_219 hm R11) ?_
  refine s_qI R11 (u_219 hm R11.S).1 (u_219 hm R11.S).2 (by decide) (a_219 hm R11) rfl (R.ri (t_213 hm R.S) (Nat.le_of_ble_eq_true rfl) rfl) rfl rp1 hF (fun h13 σ25 R13 T13 hF => ?_)
  refine s_gAs R13 (t_213 hm R13.S) (Nat.le_of_ble_eq_true rfl) rfl (o_213_8 hm R13.S) (a_220 hm R13) ?_
  refine s_qI R13 (u_220 hm R13.S).1 (u_220 hm R13.S).2 (by decide) (a_220 hm R13) rfl (R.ri (t_213 hm R.S) (Nat.le_of_ble_eq_true rfl) rfl) rfl rp5 hF (fun h15 σ29 R15 T15 hF => ?_)
  refine s_gAs R15 (t_213 hm R15.S) (Nat.le_of_ble_eq_true rfl) rfl (o_213_9 hm R15.S) (a_221 hm R15) ?_
  refine s_qI R15 (u_221 hm R15.S).1 (u_221 hm R15.S).2 (by decide) (a_221 hm R15) rfl (R.ri (t_213 hm R.S) (Nat.le_of_ble_eq_true rfl) rfl) rfl rp6 hF (fun h17 σ33 R17 T17 hF => ?_)
  refine s_gI R17 (t_213 hm R17.S) (Nat.le_of_ble_eq_true rfl) rfl ?_
  refine s_pI R17 (t_213 hm R17.S) (Nat.le_of_ble_eq_true rfl) rfl (c_add rfl (c_lit 1 1 rfl)) (rr_I _) hF (fun h19 σ37 R19 T19 hF => ?_)
  refine s_pI R19 (t_213 hm R19.S) (Nat.le_of_ble_eq_true rfl) rfl (c_lit 0 0 rfl) ⟨by decide, by decide⟩ hF (fun h20 σ39 R20 T20 hF => ?_)
  exact g_ret R20 hF ⟨rfl, (R.ri (t_213 hm R.S) (Nat.le_of_ble_eq_true rfl) rfl)⟩
def FX35_within_b19 (s0 : Int) (s : fS) : Option (Int × fS) :=
  some (s0, s)
theorem SX35_within_b19 {m b : Nat} {φ0 : Nat → Nat} {σo : fS} (hm : 1 ≤ m) {q : Int × fS} {φ : Nat → Nat} {h : eH} {s : fS} {s0' : Int32} {s0 : Int} (R : fC m b φ0 σo φ h s) (es0 : s0' = iI s0) (rs0 : r32 s0) (hF : FX35_within_b19 s0 s = some q) : gG m b φ0 σo lI q (fX35_within_b19 s0' h) := by
  subst es0
  unfold FX35_within_b19 at hF
  unfold fX35_within_b19
  exact g_ret R hF ⟨rfl, rs0⟩
def FX35_within (p0 : Int) (p1 : Int) (p2 : Int) (s : fS) : Option (Int × fS) :=
  if p1 ≤ p0 then
    if p0 ≤ p2 then
      FX35_within_b19 p0 s
    else
      FX35_within_b19 p2 s
  else
    FX35_within_b19 p1 s
theorem SX35_within {m b : Nat} {φ0 : Nat → Nat} {σo : fS} (hm : 1 ≤ m) {q : Int × fS} {φ : Nat → Nat} {h : eH} {s : fS} {p0' : Int32} {p0 : Int} {p1' : Int32} {p1 : Int} {p2' : Int32} {p2 : Int} (R : fC m b φ0 σo φ h s) (ep0 : p0' = iI p0) (rp0 : r32 p0) (ep1 : p1' = iI p1) (rp1 : r32 p1) (ep2 : p2' = iI p2) (rp2 : r32 p2) (hF : FX35_within p0 p1 p2 s = some q) : gG m b φ0 σo lI q (fX35_within p0' p1' p2' h) := by
  subst ep0; subst ep1; subst ep2
  unfold FX35_within at hF
  unfold fX35_within
  refine s_if (i_le rfl rfl rp1 rp0) hF (fun c1 hF => ?_) (fun c1 hF => ?_)
  ·
    refine s_if (i_le rfl rfl rp0 rp2) hF (fun c2 hF => ?_) (fun c2 hF => ?_)
    ·
      exact SX35_within_b19 hm R rfl rp0 hF
    ·
      exact SX35_within_b19 hm R rfl rp2 hF
  ·
    exact SX35_within_b19 hm R rfl rp1 hF
def FX35_tell_b321 (N : Nat) (K10 : Int → Int → fS → Option (Unit × fS)) (l1 : Int) (l2 : Int) (s : fS) : Option (Unit × fS) :=
  K10 l1 (iadd l2 1) s
theorem SX35_tell_b321 {m b : Nat} {φ0 : Nat → Nat} {σo : fS} (hm : 1 ≤ m) {N : Nat} {k10 : Nat → Int32 → Int32 → eH → Option (Unit × eH)} {K10 : Int → Int → fS → Option (Unit × fS)} {q : Unit × fS} (hk10 : ∀ {φ : Nat → Nat} {h : eH} {s : fS} {l1' : Int32} {l1 : Int} {l2' : Int32} {l2 : Int}, fC m b φ0 σo φ h s → l1' = iI l1 → r32 l1 → l2' = iI l2 → r32 l2 → K10 l1 l2 s = some q → gG m b φ0 σo lU q (k10 192 l1' l2' h)) {φ : Nat → Nat} {h : eH} {s : fS} {l1' : Int32} {l1 : Int} {l2' : Int32} {l2 : Int} (R : fC m b φ0 σo φ h s) (el1 : l1' = iI l1) (rl1 : r32 l1) (el2 : l2' = iI l2) (rl2 : r32 l2) (hF : FX35_tell_b321 N K10 l1 l2 s = some q) : gG m b φ0 σo lU q (fX35_tell_b321 N k10 192 l1' l2' h) := by
  subst el1; subst el2
  unfold FX35_tell_b321 at hF
  unfold fX35_tell_b321
  exact hk10 R rfl rl1 (c_add rfl (c_lit 1 1 rfl)) (rr_I _) hF
def FX35_tell_b95 (N : Nat) (K10 : Int → Int → fS → Option (Unit × fS)) (l1 : Int) (l2 : Int) (s1 : Int) (s2 : Int) (s : fS) : Option (Unit × fS) :=
  (FX37_append s1 s2 0 0 0 0 0 s).bind fun q2 =>
  FX35_tell_b321 N K10 l1 l2 q2.2
theorem SX35_tell_b95 {m b : Nat} {φ0 : Nat → Nat} {σo : fS} (hm : 1 ≤ m) {N : Nat} {k10 : Nat → Int32 → Int32 → eH → Option (Unit × eH)} {K10 : Int → Int → fS → Option (Unit × fS)} {q : Unit × fS} (hk10 : ∀ {φ : Nat → Nat} {h : eH} {s : fS} {l1' : Int32} {l1 : Int} {l2' : Int32} {l2 : Int}, fC m b φ0 σo φ h s → l1' = iI l1 → r32 l1 → l2' = iI l2 → r32 l2 → K10 l1 l2 s = some q → gG m b φ0 σo lU q (k10 192 l1' l2' h)) {φ : Nat → Nat} {h : eH} {s : fS} {l1' : Int32} {l1 : Int} {l2' : Int32} {l2 : Int} {s1' : Int32} {s1 : Int} {s2' : Int32} {s2 : Int} (R : fC m b φ0 σo φ h s) (el1 : l1' = iI l1) (rl1 : r32 l1) (el2 : l2' = iI l2) (rl2 : r32 l2) (es1 : s1' = iI s1) (rs1 : r32 s1) (es2 : s2' = iI s2) (rs2 : r32 s2) (hF : FX35_tell_b95 N K10 l1 l2 s1 s2 s = some q) : gG m b φ0 σo lU q (fX35_tell_b95 N k10 192 l1' l2' 213 s1' s2' h) := by
  subst el1; subst el2; subst es1; subst es2
  unfold FX35_tell_b95 at hF
  unfold fX35_tell_b95
  refine s_kok R (t_213 hm R.S) (Nat.le_of_ble_eq_true rfl) ?_
  refine s_call R (Nat.zero_le _) (fun _ hq => SX37_append (b := 0) hm (R.rf) rfl rs1 rfl rs2 (c_lit 0 0 rfl) ⟨by decide, by decide⟩ (c_lit 0 0 rfl) ⟨by decide, by decide⟩ (c_lit 0 0 rfl) ⟨by decide, by decide⟩ (c_lit 0 0 rfl) ⟨by decide, by decide⟩ (c_lit 0 0 rfl) ⟨by decide, by decide⟩ hq) hF (fun f2 rv2 h2 q2 R2 e2 E2 hF => ?_)
  exact SX35_tell_b321 (N := N) (k10 := k10) (K10 := K10) hm @hk10 R2 rfl rl1 rfl rl2 hF
def FX35_tell_b222 (N : Nat) (K10 : Int → Int → fS → Option (Unit × fS)) (l1 : Int) (l2 : Int) (l3 : Int) (s1 : Int) (s : fS) : Option (Unit × fS) :=
  (uRI s 292 (iadd l3 1)).bind fun x3 =>
  (FX37_append s1 x3 0 0 0 0 0 s).bind fun q6 =>
  FX35_tell_b321 N K10 l1 l2 q6.2
theorem SX35_tell_b222 {m b : Nat} {φ0 : Nat → Nat} {σo : fS} (hm : 1 ≤ m) {N : Nat} {k10 : Nat → Int32 → Int32 → eH → Option (Unit × eH)} {K10 : Int → Int → fS → Option (Unit × fS)} {q : Unit × fS} (hk10 : ∀ {φ : Nat → Nat} {h : eH} {s : fS} {l1' : Int32} {l1 : Int} {l2' : Int32} {l2 : Int}, fC m b φ0 σo φ h s → l1' = iI l1 → r32 l1 → l2' = iI l2 → r32 l2 → K10 l1 l2 s = some q → gG m b φ0 σo lU q (k10 192 l1' l2' h)) {φ : Nat → Nat} {h : eH} {s : fS} {l1' : Int32} {l1 : Int} {l2' : Int32} {l2 : Int} {l3' : Int32} {l3 : Int} {s1' : Int32} {s1 : Int} (R : fC m b φ0 σo φ h s) (el1 : l1' = iI l1) (rl1 : r32 l1) (el2 : l2' = iI l2) (rl2 : r32 l2) (el3 : l3' = iI l3) (rl3 : r32 l3) (es1 : s1' = iI s1) (rs1 : r32 s1) (hF : FX35_tell_b222 N K10 l1 l2 l3 s1 s = some q) : gG m b φ0 σo lU q (fX35_tell_b222 N k10 192 l1' l2' l3' 213 s1' h) := by
  subst el1; subst el2; subst el3; subst es1
  unfold FX35_tell_b222 at hF
  unfold fX35_tell_b222
  refine s_gAs R (t_192 hm R.S) (Nat.le_of_ble_eq_true rfl) rfl (o_192_63 hm R.S) (a_292 hm R) ?_
  refine s_rI R (u_292 hm R.S).1 (u_292 hm R.S).2 (by decide) (a_292 hm R) (c_add rfl (c_lit 1 1 rfl)) (rr_I _) hF (fun x3 ra2 hF => ?_)
  refine s_kok R (t_213 hm R.S) (Nat.le_of_ble_eq_true rfl) ?_
  refine s_call R (Nat.zero_le _) (fun _ hq => SX37_append (b := 0) hm (R.rf) rfl rs1 rfl ra2 (c_lit 0 0 rfl) ⟨by decide, by decide⟩ (c_lit 0 0 rfl) ⟨by decide, by decide⟩ (c_lit 0 0 rfl) ⟨by decide, by decide⟩ (c_lit 0 0 rfl) ⟨by decide, by decide⟩ (c_lit 0 0 rfl) ⟨by decide, by decide⟩ hq) hF (fun f4 rv4 h4 q6 R4 e4 E4 hF => ?_)
  exact SX35_tell_b321 (N := N) (k10 := k10) (K10 := K10) hm @hk10 R4 rfl rl1 rfl rl2 hF
def FX35_tell_b303 (N : Nat) (K10 : Int → Int → fS → Option (Unit × fS)) (l1 : Int) (l2 : Int) (l3 : Int) (s1 : Int) (s2 : Int) (s : fS) : Option (Unit × fS) :=
  (uRI s 292 (iadd l3 2)).bind fun x3 =>
  (FX37_append s1 s2 0 0 0 (-2147483648) x3 s).bind fun q6 =>
  FX35_tell_b321 N K10 l1 l2 q6.2
theorem SX35_tell_b303 {m b : Nat} {φ0 : Nat → Nat} {σo : fS} (hm : 1 ≤ m) {N : Nat} {k10 : Nat → Int32 → Int32 → eH → Option (Unit × eH)} {K10 : Int → Int → fS → Option (Unit × fS)} {q : Unit × fS} (hk10 : ∀ {φ : Nat → Nat} {h : eH} {s : fS} {l1' : Int32} {l1 : Int} {l2' : Int32} {l2 : Int}, fC m b φ0 σo φ h s → l1' = iI l1 → r32 l1 → l2' = iI l2 → r32 l2 → K10 l1 l2 s = some q → gG m b φ0 σo lU q (k10 192 l1' l2' h)) {φ : Nat → Nat} {h : eH} {s : fS} {l1' : Int32} {l1 : Int} {l2' : Int32} {l2 : Int} {l3' : Int32} {l3 : Int} {s1' : Int32} {s1 : Int} {s2' : Int32} {s2 : Int} (R : fC m b φ0 σo φ h s) (el1 : l1' = iI l1) (rl1 : r32 l1) (el2 : l2' = iI l2) (rl2 : r32 l2) (el3 : l3' = iI l3) (rl3 : r32 l3) (es1 : s1' = iI s1) (rs1 : r32 s1) (es2 : s2' = iI s2) (rs2 : r32 s2) (hF : FX35_tell_b303 N K10 l1 l2 l3 s1 s2 s = some q) : gG m b φ0 σo lU q (fX35_tell_b303 N k10 192 l1' l2' l3' 213 s1' s2' h) := by
  subst el1; subst el2; subst el3; subst es1; subst es2
  unfold FX35_tell_b303 at hF
  unfold fX35_tell_b303
  refine s_gAs R (t_192 hm R.S) (Nat.le_of_ble_eq_true rfl) rfl (o_192_63 hm R.S) (a_292 hm R) ?_
  refine s_rI R (u_292 hm R.S).1 (u_292 hm R.S).2 (by decide) (a_292 hm R) (c_add rfl (c_lit 2 2 rfl)) (rr_I _) hF (fun x3 ra2 hF => ?_)
  refine s_kok R (t_213 hm R.S) (Nat.le_of_ble_eq_true rfl) ?_
  refine s_call R (Nat.zero_le _) (fun _ hq => SX37_append (b := 0) hm (R.rf) rfl rs1 rfl rs2 (c_lit 0 0 rfl) ⟨by decide, by decide⟩ (c_lit 0 0 rfl) ⟨by decide, by decide⟩ (c_lit 0 0 rfl) ⟨by decide, by decide⟩ (c_lit (-2147483648) (-2147483648) rfl) ⟨by decide, by decide⟩ rfl ra2 hq) hF (fun f4 rv4 h4 q6 R4 e4 E4 hF => ?_)
  exact SX35_tell_b321 (N := N) (k10 := k10) (K10 := K10) hm @hk10 R4 rfl rl1 rfl rl2 hF
def FX35_tell_b10 (N : Nat) : Nat → Int → Int → fS → Option (Unit × fS)
  | 0, _, _, _ => none
  | n + 1, l1, l2, s =>
    if l1 ≤ l2 then
      (FX35_counter 256 s).bind fun q7 =>
      (FX35_within q7.1 (-1) 10000 q7.2).bind fun q8 =>
      (uQI q8.2 222 0 q8.1).bind fun σ9 =>
      (FX35_counter 257 σ9).bind fun q16 =>
      (FX35_within q16.1 0 10000 q16.2).bind fun q17 =>
      (uQI q17.2 222 1 q17.1).bind fun σ18 =>
      (FX35_counter 258 σ18).bind fun q25 =>
      (FX35_within q25.1 (-10000) 10000 q25.2).bind fun q26 =>
      (uQI q26.2 222 2 q26.1).bind fun σ27 =>
      (FX35_counter 259 σ27).bind fun q34 =>
      (FX35_within q34.1 (-10000) 10000 q34.2).bind fun q35 =>
      (uQI q35.2 222 3 q35.1).bind fun σ36 =>
      (FX35_counter 260 σ36).bind fun q43 =>
      (FX35_within q43.1 (-10000) 10000 q43.2).bind fun q44 =>
      (uQI q44.2 222 4 q44.1).bind fun σ45 =>
      (FX35_counter 266 σ45).bind fun q52 =>
      (FX35_within q52.1 (-1000000) 1000000 q52.2).bind fun q53 =>
      (uQI q53.2 222 5 q53.1).bind fun σ54 =>
      (FX35_counter 267 σ54).bind fun q61 =>
      (FX35_within q61.1 (-1000000) 1000000 q61.2).bind fun q62 =>
      (uQI q62.2 222 6 q62.1).bind fun σ63 =>
      (FX35_counter 265 σ63).bind fun q70 =>
      (FX35_within q70.1 (-1000000) 1000000 q70.2).bind fun q71 =>
      (uQI q71.2 222 7 q71.1).bind fun σ72 =>
      (FX35_now 2246 σ72).bind fun q79 =>
      (FX35_within q79.1 0 1073741823 q79.2).bind fun q80 =>
      (uQI q80.2 222 8 q80.1).bind fun σ81 =>
      (FX35_counter 268 σ81).bind fun q88 =>
      (FX35_within q88.1 (-100) 100 q88.2).bind fun q89 =>
      (uQI q89.2 222 9 q89.1).bind fun σ90 =>
      (FX35_around 0 260 σ90).bind fun q93 =>
      (FX35_around 1 261 q93.2).bind fun q95 =>
      (FX35_around 2 262 q95.2).bind fun q97 =>
      (FX35_now 2241 q97.2).bind fun q101 =>
      (uPI q101.2 213 11 q101.1).bind fun σ102 =>
      some ((), σ102)
    else
      (uRI s 292 (imul 6 l2)).bind fun x106 =>
      if ¬ (x106 = 0) then
        if ¬ (x106 = 1) then
          if ¬ (x106 = 5) then
            if ¬ (x106 = 2) then
              if ¬ (x106 = 3) then
                if ¬ (x106 = 4) then
                  (uRI s 292 (iadd (imul 6 l2) 1)).bind fun x118 =>
                  if 0 ≤ x118 then
                    (uRI s 292 (iadd (imul 6 l2) 3)).bind fun x123 =>
                    FX35_tell_b303 N (FX35_tell_b10 N n) l1 l2 (imul 6 l2) 5 x123 s
                  else
                    FX35_tell_b303 N (FX35_tell_b10 N n) l1 l2 (imul 6 l2) 5 (-2147483648) s
                else
                  (uRI s 292 (iadd (imul 6 l2) 1)).bind fun x129 =>
                  (FX37_append 4 x129 0 0 0 0 0 s).bind fun q132 =>
                  FX35_tell_b321 N (FX35_tell_b10 N n) l1 l2 q132.2
              else
                (uRI s 292 (iadd (imul 6 l2) 2)).bind fun x137 =>
                if ¬ (x137 = 1) then
                  FX35_tell_b222 N (FX35_tell_b10 N n) l1 l2 (imul 6 l2) 2 s
                else
                  FX35_tell_b222 N (FX35_tell_b10 N n) l1 l2 (imul 6 l2) 3 s
            else
              (uRI s 292 (iadd (imul 6 l2) 1)).bind fun x144 =>
              (uRI s 292 (iadd (imul 6 l2) 2)).bind fun x148 =>
              (uRI s 292 (iadd (imul 6 l2) 3)).bind fun x152 =>
              (uRI s 292 (iadd (imul 6 l2) 4)).bind fun x156 =>
              (FX37_append 1 x144 x148 x152 x156 0 0 s).bind fun q159 =>
              FX35_tell_b321 N (FX35_tell_b10 N n) l1 l2 q159.2
          else
            (uRI s 292 (iadd (imul 6 l2) 1)).bind fun x166 =>
            (uRI s 295 x166).bind fun x168 =>
            (FX37_append 0 x168 0 0 0 0 0 s).bind fun q171 =>
            FX35_tell_b321 N (FX35_tell_b10 N n) l1 l2 q171.2
        else
          (uRI s 292 (iadd (imul 6 l2) 1)).bind fun x176 =>
          if ¬ (x176 = (-1073741824)) then
            (uRI s 292 (iadd (imul 6 l2) 1)).bind fun x181 =>
            FX35_tell_b95 N (FX35_tell_b10 N n) l1 l2 0 x181 s
          else
            FX35_tell_b95 N (FX35_tell_b10 N n) l1 l2 0 0 s
      else
        (uRI s 292 (iadd (imul 6 l2) 3)).bind fun x187 =>
        (FX37_append 0 x187 0 0 0 0 0 s).bind fun q190 =>
        FX35_tell_b321 N (FX35_tell_b10 N n) l1 l2 q190.2
theorem SX35_tell_b10 {m b : Nat} {φ0 : Nat → Nat} {σo : fS} (hm : 1 ≤ m) {N : Nat} {q : Unit × fS} : ∀ {n : Nat} {φ : Nat → Nat} {h : eH} {s : fS} {l1' : Int32} {l1 : Int} {l2' : Int32} {l2 : Int}, fC m b φ0 σo φ h s → l1' = iI l1 → r32 l1 → l2' = iI l2 → r32 l2 → FX35_tell_b10 N n l1 l2 s = some q → gG m b φ0 σo lU q (fX35_tell_b10 N n 192 l1' l2' h) := by
  intro n
  induction n with
 | zero => intro φ h s l1' l1 l2' l2 R el1 rl1 el2 rl2 hF; simp [FX35_tell_b10] at hF
  | succ n ih =>
    intro φ h s l1' l1 l2' l2 R el1 rl1 el2 rl2 hF
    subst el1; subst el2
    rw [FX35_tell_b10] at hF
    rw [fX35_tell_b10]
    refine s_if (i_le rfl rfl rl1 rl2) hF (fun c1 hF => ?_) (fun c1 hF => ?_)
    ·
      refine s_gO R (t_192 hm R.S) (Nat.le_of_ble_eq_true rfl) rfl (o_192_6 hm R.S) ?_
      refine s_gAs R (t_213 hm R.S) (Nat.le_of_ble_eq_true rfl) rfl (o_213_10 hm R.S) (a_222 hm R) ?_
      refine s_kok R (t_192 hm R.S) (Nat.le_of_ble_eq_true rfl) ?_
      refine s_call R (Nat.zero_le _) (fun _ hq => SX35_counter (b := 0) hm (R.rf) (c_lit 256 256 rfl) ⟨by decide, by decide⟩ hq) hF (fun f5 rv5 h5 q7 R5 e5 E5 hF => ?_)
      refine s_call R5 (Nat.zero_le _) (fun _ hq => SX35_within (b := 0) hm (R5.rf) e5.1 e5.2 (c_lit (-1) (-1) rfl) ⟨by decide, by decide⟩ (c_lit 10000 10000 rfl) ⟨by decide, by decide⟩ hq) hF (fun f6 rv6 h6 q8 R6 e6 E6 hF => ?_)
      refine s_qI R6 (u_222 hm R6.S).1 (u_222 hm R6.S).2 (by decide) (a_222 hm R6) (c_lit 0 0 rfl) ⟨by decide, by decide⟩ e6.1 e6.2 hF (fun h7 σ9 R7 T7 hF => ?_)
      refine s_gO R7 (t_192 hm R7.S) (Nat.le_of_ble_eq_true rfl) rfl (o_192_6 hm R7.S) ?_
      refine s_gAs R7 (t_213 hm R7.S) (Nat.le_of_ble_eq_true rfl) rfl (o_213_10 hm R7.S) (a_222 hm R7) ?_
      refine s_kok R7 (t_192 hm R7.S) (Nat.le_of_ble_eq_true rfl) ?_
      refine s_call R7 (Nat.zero_le _) (fun _ hq => SX35_counter (b := 0) hm (R7.rf) (c_lit 257 257 rfl) ⟨by decide, by decide⟩ hq) hF (fun f11 rv11 h11 q16 R11 e11 E11 hF => ?_)
      refine s_call R11 (Nat.zero_le _) (fun _ hq => SX35_within (b := 0) hm (R11.rf) e11.1 e11.2 (c_lit 0 0 rfl) ⟨by decide, by decide⟩ (c_lit 10000 10000 rfl) ⟨by decide, by decide⟩ hq) hF (fun f12 rv12 h12 q17 R12 e12 E12 hF => ?_)
      refine s_qI R12 (u_222 hm R12.S).1 (u_222 hm R12.S).2 (by decide) (a_222 hm R12) (c_lit 1 1 rfl) ⟨by decide, by decide⟩ e12.1 e12.2 hF (fun h13 σ18 R13 T13 hF => ?_)
      refine s_gO R13 (t_192 hm R13.S) (Nat.le_of_ble_eq_true rfl) rfl (o_192_6 hm R13.S) ?_
      refine s_gAs R13 (t_213 hm R13.S) (Nat.le_of_ble_eq_true rfl) rfl (o_213_10 hm R13.S) (a_222 hm R13) ?_
      refine s_kok R13 (t_192 hm R13.S) (Nat.le_of_ble_eq_true rfl) ?_
      refine s_call R13 (Nat.zero_le _) (fun _ hq => SX35_counter (b := 0) hm (R13.rf) (c_lit 258 258 rfl) ⟨by decide, by decide⟩ hq) hF (fun f17 rv17 h17 q25 R17 e17 E17 hF => ?_)
      refine s_call R17 (Nat.zero_le _) (fun _ hq => SX35_within (b := 0) hm (R17.rf) e17.1 e17.2 (c_lit (-10000) (-10000) rfl) ⟨by decide, by decide⟩ (c_lit 10000 10000 rfl) ⟨by decide, by decide⟩ hq) hF (fun f18 rv18 h18 q26 R18 e18 E18 hF => ?_)
      refine s_qI R18 (u_222 hm R18.S).1 (u_222 hm R18.S).2 (by decide) (a_222 hm R18) (c_lit 2 2 rfl) ⟨by decide, by decide⟩ e18.1 e18.2 hF (fun h19 σ27 R19 T19 hF => ?_)
      refine s_gO R19 (t_192 hm R19.S) (Nat.le_of_ble_eq_true rfl) rfl (o_192_6 hm R19.S) ?_
      refine s_gAs R19 (t_213 hm R19.S) (Nat.le_of_ble_eq_true rfl) rfl (o_213_10 hm R19.S) (a_222 hm R19) ?_
      refine s_kok R19 (t_192 hm R19.S) (Nat.le_of_ble_eq_true rfl) ?_
      refine s_call R19 (Nat.zero_le _) (fun _ hq => SX35_counter (b := 0) hm (R19.rf) (c_lit 259 259 rfl) ⟨by decide, by decide⟩ hq) hF (fun f23 rv23 h23 q34 R23 e23 E23 hF => ?_)
      refine s_call R23 (Nat.zero_le _) (fun _ hq => SX35_within (b := 0) hm (R23.rf) e23.1 e23.2 (c_lit (-10000) (-10000) rfl) ⟨by decide, by decide⟩ (c_lit 10000 10000 rfl) ⟨by decide, by decide⟩ hq) hF (fun f24 rv24 h24 q35 R24 e24 E24 hF => ?_)
      refine s_qI R24 (u_222 hm R24.S).1 (u_222 hm R24.S).2 (by decide) (a_222 hm R24) (c_lit 3 3 rfl) ⟨by decide, by decide⟩ e24.1 e24.2 hF (fun h25 σ36 R25 T25 hF => ?_)
      refine s_gO R25 (t_192 hm R25.S) (Nat.le_of_ble_eq_true rfl) rfl (o_192_6 hm R25.S) ?_
      refine s_gAs R25 (t_213 hm R25.S) (Nat.le_of_ble_eq_true rfl) rfl (o_213_10 hm R25.S) (a_222 hm R25) ?_
      refine s_kok R25 (t_192 hm R25.S) (Nat.le_of_ble_eq_true rfl) ?_
      refine s_call R25 (Nat.zero_le _) (fun _ hq => SX35_counter (b := 0) hm (R25.rf) (c_lit 260 260 rfl) ⟨by decide, by decide⟩ hq) hF (fun f29 rv29 h29 q43 R29 e29 E29 hF => ?_)
      refine s_call R29 (Nat.zero_le _) (fun _ hq => SX35_within (b := 0) hm (R29.rf) e29.1 e29.2 (c_lit (-10000) (-10000) rfl) ⟨by decide, by decide⟩ (c_lit 10000 10000 rfl) ⟨by decide, by decide⟩ hq) hF (fun f30 rv30 h30 q44 R30 e30 E30 hF => ?_)
      refine s_qI R30 (u_222 hm R30.S).1 (u_222 hm R30.S).2 (by decide) (a_222 hm R30) (c_lit 4 4 rfl) ⟨by decide, by decide⟩ e30.1 e30.2 hF (fun h31 σ45 R31 T31 hF => ?_)
      refine s_gO R31 (t_192 hm R31.S) (Nat.le_of_ble_eq_true rfl) rfl (o_192_6 hm R31.S) ?_
      refine s_gAs R31 (t_213 hm R31.S) (Nat.le_of_ble_eq_true rfl) rfl (o_213_10 hm R31.S) (a_222 hm R31) ?_
      refine s_kok R31 (t_192 hm R31.S) (Nat.le_of_ble_eq_true rfl) ?_
      refine s_call R31 (Nat.zero_le _) (fun _ hq => SX35_counter (b := 0) hm (R31.rf) (c_lit 266 266 rfl) ⟨by decide, by decide⟩ hq) hF (fun f35 rv35 h35 q52 R35 e35 E35 hF => ?_)
      refine s_call R35 (Nat.zero_le _) (fun _ hq => SX35_within (b := 0) hm (R35.rf) e35.1 e35.2 (c_lit (-1000000) (-1000000) rfl) ⟨by decide, by decide⟩ (c_lit 1000000 1000000 rfl) ⟨by decide, by decide⟩ hq) hF (fun f36 rv36 h36 q53 R36 e36 E36 hF => ?_)
      refine s_qI R36 (u_222 hm R36.S).1 (u_222 hm R36.S).2 (by decide) (a_222 hm R36) (c_lit 5 5 rfl) ⟨by decide, by decide⟩ e36.1 e36.2 hF (fun h37 σ54 R37 T37 hF => ?_)
      refine s_gO R37 (t_192 hm R37.S) (Nat.le_of_ble_eq_true rfl) rfl (o_192_6 hm R37.S) ?_
      refine s_gAs R37 (t_213 hm R37.S) (Nat.le_of_ble_eq_true rfl) rfl (o_213_10 hm R37.S) (a_222 hm R37) ?_
      refine s_kok R37 (t_192 hm R37.S) (Nat.le_of_ble_eq_true rfl) ?_
      refine s_call R37 (Nat.zero_le _) (fun _ hq => SX35_counter (b := 0) hm (R37.rf) (c_lit 267 267 rfl) ⟨by decide, by decide⟩ hq) hF (fun f41 rv41 h41 q61 R41 e41 E41 hF => ?_)
      refine s_call R41 (Nat.zero_le _) (fun _ hq => SX35_within (b := 0) hm (R41.rf) e41.1 e41.2 (c_lit (-1000000) (-1000000) rfl) ⟨by decide, by decide⟩ (c_lit 1000000 1000000 rfl) ⟨by decide, by decide⟩ hq) hF (fun f42 rv42 h42 q62 R42 e42 E42 hF => ?_)
      refine s_qI R42 (u_222 hm R42.S).1 (u_222 hm R42.S).2 (by decide) (a_222 hm R42) (c_lit 6 6 rfl) ⟨by decide, by decide⟩ e42.1 e42.2 hF (fun h43 σ63 R43 T43 hF => ?_)
      refine s_gO R43 (t_192 hm R43.S) (Nat.le_of_ble_eq_true rfl) rfl (o_192_6 hm R43.S) ?_
      refine s_gAs R43 (t_213 hm R43.S) (Nat.le_of_ble_eq_true rfl) rfl (o_213_10 hm R43.S) (a_222 hm R43) ?_
      refine s_kok R43 (t_192 hm R43.S) (Nat.le_of_ble_eq_true rfl) ?_
      refine s_call R43 (Nat.zero_le _) (fun _ hq => SX35_counter (b := 0) hm (R43.rf) (c_lit 265 265 rfl) ⟨by decide, by decide⟩ hq) hF (fun f47 rv47 h47 q70 R47 e47 E47 hF => ?_)
      refine s_call R47 (Nat.zero_le _) (fun _ hq => SX35_within (b := 0) hm (R47.rf) e47.1 e47.2 (c_lit (-1000000) (-1000000) rfl) ⟨by decide, by decide⟩ (c_lit 1000000 1000000 rfl) ⟨by decide, by decide⟩ hq) hF (fun f48 rv48 h48 q71 R48 e48 E48 hF => ?_)
      refine s_qI R48 (u_222 hm R48.S).1 (u_222 hm R48.S).2 (by decide) (a_222 hm R48) (c_lit 7 7 rfl) ⟨by decide, by decide⟩ e48.1 e48.2 hF (fun h49 σ72 R49 T49 hF => ?_)
      refine s_gO R49 (t_192 hm R49.S) (Nat.le_of_ble_eq_true rfl) rfl (o_192_6 hm R49.S) ?_
      refine s_gAs R49 (t_213 hm R49.S) (Nat.le_of_ble_eq_true rfl) rfl (o_213_10 hm R49.S) (a_222 hm R49) ?_
      refine s_kok R49 (t_192 hm R49.S) (Nat.le_of_ble_eq_true rfl) ?_
      refine s_call R49 (Nat.zero_le _) (fun _ hq => SX35_now (b := 0) hm (R49.rf) (c_lit 2246 2246 rfl) ⟨by decide, by decide⟩ hq) hF (fun f53 rv53 h53 q79 R53 e53 E53 hF => ?_)
      refine s_call R53 (Nat.zero_le _) (fun _ hq => SX35_within (b := 0) hm (R53.rf) e53.1 e53.2 (c_lit 0 0 rfl) ⟨by decide, by decide⟩ (c_lit 1073741823 1073741823 rfl) ⟨by decide, by decide⟩ hq) hF (fun f54 rv54 h54 q80 R54 e54 E54 hF => ?_)
      refine s_qI R54 (u_222 hm R54.S).1 (u_222 hm R54.S).2 (by decide) (a_222 hm R54) (c_lit 8 8 rfl) ⟨by decide, by decide⟩ e54.1 e54.2 hF (fun h55 σ81 R55 T55 hF => ?_)
      refine s_gO R55 (t_192 hm R55.S) (Nat.le_of_ble_eq_true rfl) rfl (o_192_6 hm R55.S) ?_
      refine s_gAs R55 (t_213 hm R55.S) (Nat.le_of_ble_eq_true rfl) rfl (o_213_10 hm R55.S) (a_222 hm R55) ?_
      refine s_kok R55 (t_192 hm R55.S) (Nat.le_of_ble_eq_true rfl) ?_
      refine s_call R55 (Nat.zero_le _) (fun _ hq => SX35_counter (b := 0) hm (R55.rf) (c_lit 268 268 rfl) ⟨by decide, by decide⟩ hq) hF (fun f59 rv59 h59 q88 R59 e59 E59 hF => ?_)
      refine s_call R59 (Nat.zero_le _) (fun _ hq => SX35_within (b := 0) hm (R59.rf) e59.1 e59.2 (c_lit (-100) (-100) rfl) ⟨by decide, by decide⟩ (c_lit 100 100 rfl) ⟨by decide, by decide⟩ hq) hF (fun f60 rv60 h60 q89 R60 e60 E60 hF => ?_)
      refine s_qI R60 (u_222 hm R60.S).1 (u_222 hm R60.S).2 (by decide) (a_222 hm R60) (c_lit 9 9 rfl) ⟨by decide, by decide⟩ e60.1 e60.2 hF (fun h61 σ90 R61 T61 hF => ?_)
      refine s_kok R61 (t_192 hm R61.S) (Nat.le_of_ble_eq_true rfl) ?_
      refine s_call R61 (Nat.zero_le _) (fun _ hq => SX35_around (b := 0) hm (R61.rf) (c_lit 0 0 rfl) ⟨by decide, by decide⟩ (c_lit 260 260 rfl) ⟨by decide, by decide⟩ hq) hF (fun f63 rv63 h63 q93 R63 e63 E63 hF => ?_)
      refine s_kok R63 (t_192 hm R63.S) (Nat.le_of_ble_eq_true rfl) ?_
      refine s_call R63 (Nat.zero_le _) (fun _ hq => SX35_around (b := 0) hm (R63.rf) (c_lit 1 1 rfl) ⟨by decide, by decide⟩ (c_lit 261 261 rfl) ⟨by decide, by decide⟩ hq) hF (fun f65 rv65 h65 q95 R65 e65 E65 hF => ?_)
      refine s_kok R65 (t_192 hm R65.S) (Nat.le_of_ble_eq_true rfl) ?_
      refine s_call R65 (Nat.zero_le _) (fun _ hq => SX35_around (b := 0) hm (R65.rf) (c_lit 2 2 rfl) ⟨by decide, by decide⟩ (c_lit 262 262 rfl) ⟨by decide, by decide⟩ hq) hF (fun f67 rv67 h67 q97 R67 e67 E67 hF => ?_)
      refine s_gO R67 (t_192 hm R67.S) (Nat.le_of_ble_eq_true rfl) rfl (o_192_6 hm R67.S) ?_
      refine s_kok R67 (t_192 hm R67.S) (Nat.le_of_ble_eq_true rfl) ?_
      refine s_call R67 (Nat.zero_le _) (fun _ hq => SX35_now (b := 0) hm (R67.rf) (c_lit 2241 2241 rfl) ⟨by decide, by decide⟩ hq) hF (fun f70 rv70 h70 q101 R70 e70 E70 hF => ?_)
      refine s_pI R70 (t_213 hm R70.S) (Nat.le_of_ble_eq_true rfl) rfl e70.1 e70.2 hF (fun h71 σ102 R71 T71 hF => ?_)
      exact g_ret R71 hF trivial
    ·
      refine s_gAs R (t_192 hm R.S) (Nat.le_of_ble_eq_true rfl) rfl (o_192_63 hm R.S) (a_292 hm R) ?_
      refine s_rI R (u_292 hm R.S).1 (u_292 hm R.S).2 (by decide) (a_292 hm R) (c_mul (c_lit 6 6 rfl) rfl) (rr_I _) hF (fun x106 ra73 hF => ?_)
      refine s_if (not_congr (i_eq rfl (c_lit 0 0 rfl) ra73 ⟨by decide, by decide⟩)) hF (fun c74 hF => ?_) (fun c74 hF => ?_)
      ·
        refine s_if (not_congr (i_eq rfl (c_lit 1 1 rfl) ra73 ⟨by decide, by decide⟩)) hF (fun c75 hF => ?_) (fun c75 hF => ?_)
        ·
          refine s_if (not_congr (i_eq rfl (c_lit 5 5 rfl) ra73 ⟨by decide, by decide⟩)) hF (fun c76 hF => ?_) (fun c76 hF => ?_)
          ·
            refine s_if (not_congr (i_eq rfl (c_lit 2 2 rfl) ra73 ⟨by decide, by decide⟩)) hF (fun c77 hF => ?_) (fun c77 hF => ?_)
            ·
              refine s_if (not_congr (i_eq rfl (c_lit 3 3 rfl) ra73 ⟨by decide, by decide⟩)) hF (fun c78 hF => ?_) (fun c78 hF => ?_)
              ·
                refine s_if (not_congr (i_eq rfl (c_lit 4 4 rfl) ra73 ⟨by decide, by decide⟩)) hF (fun c79 hF => ?_) (fun c79 hF => ?_)
                ·
                  refine s_gO R (t_192 hm R.S) (Nat.le_of_ble_eq_true rfl) rfl (o_192_6 hm R.S) ?_
                  refine s_gAs R (t_192 hm R.S) (Nat.le_of_ble_eq_true rfl) rfl (o_192_63 hm R.S) (a_292 hm R) ?_
                  refine s_rI R (u_292 hm R.S).1 (u_292 hm R.S).2 (by decide) (a_292 hm R) (c_add (c_mul (c_lit 6 6 rfl) rfl) (c_lit 1 1 rfl)) (rr_I _) hF (fun x118 ra82 hF => ?_)
                  refine s_if (i_le (c_lit 0 0 rfl) rfl ⟨by decide, by decide⟩ ra82) hF (fun c83 hF => ?_) (fun c83 hF => ?_)
                  ·
                    refine s_gAs R (t_192 hm R.S) (Nat.le_of_ble_eq_true rfl) rfl (o_192_63 hm R.S) (a_292 hm R) ?_
                    refine s_rI R (u_292 hm R.S).1 (u_292 hm R.S).2 (by decide) (a_292 hm R) (c_add (c_mul (c_lit 6 6 rfl) rfl) (c_lit 3 3 rfl)) (rr_I _) hF (fun x123 ra85 hF => ?_)
                    exact SX35_tell_b303 (N := N) (k10 := fX35_tell_b10 N n) (K10 := FX35_tell_b10 N n) hm @ih R rfl rl1 rfl rl2 (c_mul (c_lit 6 6 rfl) rfl) (rr_I _) (c_lit 5 5 rfl) ⟨by decide, by decide⟩ rfl ra85 hF
                  ·
                    exact SX35_tell_b303 (N := N) (k10 := fX35_tell_b10 N n) (K10 := FX35_tell_b10 N n) hm @ih R rfl rl1 rfl rl2 (c_mul (c_lit 6 6 rfl) rfl) (rr_I _) (c_lit 5 5 rfl) ⟨by decide, by decide⟩ (c_lit (-2147483648) (-2147483648) rfl) ⟨by decide, by decide⟩ hF
                ·
                  refine s_gO R (t_192 hm R.S) (Nat.le_of_ble_eq_true rfl) rfl (o_192_6 hm R.S) ?_
                  refine s_gAs R (t_192 hm R.S) (Nat.le_of_ble_eq_true rfl) rfl (o_192_63 hm R.S) (a_292 hm R) ?_
                  refine s_rI R (u_292 hm R.S).1 (u_292 hm R.S).2 (by decide) (a_292 hm R) (c_add (c_mul (c_lit 6 6 rfl) rfl) (c_lit 1 1 rfl)) (rr_I _) hF (fun x129 ra88 hF => ?_)
                  refine s_kok R (t_213 hm R.S) (Nat.le_of_ble_eq_true rfl) ?_
                  refine s_call R (Nat.zero_le _) (fun _ hq => SX37_append (b := 0) hm (R.rf) (c_lit 4 4 rfl) ⟨by decide, by decide⟩ rfl ra88 (c_lit 0 0 rfl) ⟨by decide, by decide⟩ (c_lit 0 0 rfl) ⟨by decide, by decide⟩ (c_lit 0 0 rfl) ⟨by decide, by decide⟩ (c_lit 0 0 rfl) ⟨by decide, by decide⟩ (c_lit 0 0 rfl) ⟨by decide, by decide⟩ hq) hF (fun f90 rv90 h90 q132 R90 e90 E90 hF => ?_)
                  exact SX35_tell_b321 (N := N) (k10 := fX35_tell_b10 N n) (K10 := FX35_tell_b10 N n) hm @ih R90 rfl rl1 rfl rl2 hF
              ·
                refine s_gO R (t_192 hm R.S) (Nat.le_of_ble_eq_true rfl) rfl (o_192_6 hm R.S) ?_
                refine s_gAs R (t_192 hm R.S) (Nat.le_of_ble_eq_true rfl) rfl (o_192_63 hm R.S) (a_292 hm R) ?_
                refine s_rI R (u_292 hm R.S).1 (u_292 hm R.S).2 (by decide) (a_292 hm R) (c_add (c_mul (c_lit 6 6 rfl) rfl) (c_lit 2 2 rfl)) (rr_I _) hF (fun x137 ra93 hF => ?_)
                refine s_if (not_congr (i_eq rfl (c_lit 1 1 rfl) ra93 ⟨by decide, by decide⟩)) hF (fun c94 hF => ?_) (fun c94 hF => ?_)
                ·
                  exact SX35_tell_b222 (N := N) (k10 := fX35_tell_b10 N n) (K10 := FX35_tell_b10 N n) hm @ih R rfl rl1 rfl rl2 (c_mul (c_lit 6 6 rfl) rfl) (rr_I _) (c_lit 2 2 rfl) ⟨by decide, by decide⟩ hF
                ·
                  exact SX35_tell_b222 (N := N) (k10 := fX35_tell_b10 N n) (K10 := FX35_tell_b10 N n) hm @ih R rfl rl1 rfl rl2 (c_mul (c_lit 6 6 rfl) rfl) (rr_I _) (c_lit 3 3 rfl) ⟨by decide, by decide⟩ hF
            ·
              refine s_gO R (t_192 hm R.S) (Nat.le_of_ble_eq_true rfl) rfl (o_192_6 hm R.S) ?_
              refine s_gAs R (t_192 hm R.S) (Nat.le_of_ble_eq_true rfl) rfl (o_192_63 hm R.S) (a_292 hm R) ?_
              refine s_rI R (u_292 hm R.S).1 (u_292 hm R.S).2 (by decide) (a_292 hm R) (c_add (c_mul (c_lit 6 6 rfl) rfl) (c_lit 1 1 rfl)) (rr_I _) hF (fun x144 ra97 hF => ?_)
              refine s_gAs R (t_192 hm R.S) (Nat.le_of_ble_eq_true rfl) rfl (o_192_63 hm R.S) (a_292 hm R) ?_
              refine s_rI R (u_292 hm R.S).1 (u_292 hm R.S).2 (by decide) (a_292 hm R) (c_add (c_mul (c_lit 6 6 rfl) rfl) (c_lit 2 2 rfl)) (rr_I _) hF (fun x148 ra99 hF => ?_)
              refine s_gAs R (t_192 hm R.S) (Nat.le_of_ble_eq_true rfl) rfl (o_192_63 hm R.S) (a_292 hm R) ?_
              refine s_rI R (u_292 hm R.S).1 (u_292 hm R.S).2 (by decide) (a_292 hm R) (c_add (c_mul (c_lit 6 6 rfl) rfl) (c_lit 3 3 rfl)) (rr_I _) hF (fun x152 ra101 hF => ?_)
              refine s_gAs R (t_192 hm R.S) (Nat.le_of_ble_eq_true rfl) rfl (o_192_63 hm R.S) (a_292 hm R) ?_
              refine s_rI R (u_292 hm R.S).1 (u_292 hm R.S).2 (by decide) (a_292 hm R) (c_add (c_mul (c_lit 6 6 rfl) rfl) (c_lit 4 4 rfl)) (rr_I _) hF (fun x156 ra103 hF => ?_)
              refine s_kok R (t_213 hm R.S) (Nat.le_of_ble_eq_true rfl) ?_
              refine s_call R (Nat.zero_le _) (fun _ hq => SX37_append (b := 0) hm (R.rf) (c_lit 1 1 rfl) ⟨by decide, by decide⟩ rfl ra97 rfl ra99 rfl ra101 rfl ra103 (c_lit 0 0 rfl) ⟨by decide, by decide⟩ (c_lit 0 0 rfl) ⟨by decide, by decide⟩ hq) hF (fun f105 rv105 h105 q159 R105 e105 E105 hF => ?_)
              exact SX35_tell_b321 (N := N) (k10 := fX35_tell_b10 N n) (K10 := FX35_tell_b10 N n) hm @ih R105 rfl rl1 rfl rl2 hF
          ·
            refine s_gO R (t_192 hm R.S) (Nat.le_of_ble_eq_true rfl) rfl (o_192_6 hm R.S) ?_
            refine s_gAs R (t_192 hm R.S) (Nat.le_of_ble_eq_true rfl) rfl (o_192_68 hm R.S) (a_295 hm R) ?_
            refine s_gAs R (t_192 hm R.S) (Nat.le_of_ble_eq_true rfl) rfl (o_192_63 hm R.S) (a_292 hm R) ?_
            refine s_rI R (u_292 hm R.S).1 (u_292 hm R.S).2 (by decide) (a_292 hm R) (c_add (c_mul (c_lit 6 6 rfl) rfl) (c_lit 1 1 rfl)) (rr_I _) hF (fun x166 ra109 hF => ?_)
            refine s_rI R (u_295 hm R.S).1 (u_295 hm R.S).2 (by decide) (a_295 hm R) rfl ra109 hF (fun x168 ra110 hF => ?_)
            refine s_kok R (t_213 hm R.S) (Nat.le_of_ble_eq_true rfl) ?_
            refine s_call R (Nat.zero_le _) (fun _ hq => SX37_append (b := 0) hm (R.rf) (c_lit 0 0 rfl) ⟨by decide, by decide⟩ rfl ra110 (c_lit 0 0 rfl) ⟨by decide, by decide⟩ (c_lit 0 0 rfl) ⟨by decide, by decide⟩ (c_lit 0 0 rfl) ⟨by decide, by decide⟩ (c_lit 0 0 rfl) ⟨by decide, by decide⟩ (c_lit 0 0 rfl) ⟨by decide, by decide⟩ hq) hF (fun f112 rv112 h112 q171 R112 e112 E112 hF => ?_)
            exact SX35_tell_b321 (N := N) (k10 := fX35_tell_b10 N n) (K10 := FX35_tell_b10 N n) hm @ih R112 rfl rl1 rfl rl2 hF
        ·
          refine s_gO R (t_192 hm R.S) (Nat.le_of_ble_eq_true rfl) rfl (o_192_6 hm R.S) ?_
          refine s_gAs R (t_192 hm R.S) (Nat.le_of_ble_eq_true rfl) rfl (o_192_63 hm R.S) (a_292 hm R) ?_
          refine s_rI R (u_292 hm R.S).1 (u_292 hm R.S).2 (by decide) (a_292 hm R) (c_add (c_mul (c_lit 6 6 rfl) rfl) (c_lit 1 1 rfl)) (rr_I _) hF (fun x176 ra115 hF => ?_)
          refine s_if (not_congr (i_eq rfl (c_lit (-1073741824) (-1073741824) rfl) ra115 ⟨by decide, by decide⟩)) hF (fun c116 hF => ?_) (fun c116 hF => ?_)
          ·
            refine s_gAs R (t_192 hm R.S) (Nat.le_of_ble_eq_true rfl) rfl (o_192_63 hm R.S) (a_292 hm R) ?_
            refine s_rI R (u_292 hm R.S).1 (u_292 hm R.S).2 (by decide) (a_292 hm R) (c_add (c_mul (c_lit 6 6 rfl) rfl) (c_lit 1 1 rfl)) (rr_I _) hF (fun x181 ra118 hF => ?_)
            exact SX35_tell_b95 (N := N) (k10 := fX35_tell_b10 N n) (K10 := FX35_tell_b10 N n) hm @ih R rfl rl1 rfl rl2 (c_lit 0 0 rfl) ⟨by decide, by decide⟩ rfl ra118 hF
          ·
            exact SX35_tell_b95 (N := N) (k10 := fX35_tell_b10 N n) (K10 := FX35_tell_b10 N n) hm @ih R rfl rl1 rfl rl2 (c_lit 0 0 rfl) ⟨by decide, by decide⟩ (c_lit 0 0 rfl) ⟨by decide, by decide⟩ hF
      ·
        refine s_gO R (t_192 hm R.S) (Nat.le_of_ble_eq_true rfl) rfl (o_192_6 hm R.S) ?_
        refine s_gAs R (t_192 hm R.S) (Nat.le_of_ble_eq_true rfl) rfl (o_192_63 hm R.S) (a_292 hm R) ?_
        refine s_rI R (u_292 hm R.S).1 (u_292 hm R.S).2 (by decide) (a_292 hm R) (c_add (c_mul (c_lit 6 6 rfl) rfl) (c_lit 3 3 rfl)) (rr_I _) hF (fun x187 ra121 hF => ?_)
        refine s_kok R (t_213 hm R.S) (Nat.le_of_ble_eq_true rfl) ?_
        refine s_call R (Nat.zero_le _) (fun _ hq => SX37_append (b := 0) hm (R.rf) (c_lit 0 0 rfl) ⟨by decide, by decide⟩ rfl ra121 (c_lit 0 0 rfl) ⟨by decide, by decide⟩ (c_lit 0 0 rfl) ⟨by decide, by decide⟩ (c_lit 0 0 rfl) ⟨by decide, by decide⟩ (c_lit 0 0 rfl) ⟨by decide, by decide⟩ (c_lit 0 0 rfl) ⟨by decide, by decide⟩ hq) hF (fun f123 rv123 h123 q190 R123 e123 E123 hF => ?_)
        exact SX35_tell_b321 (N := N) (k10 := fX35_tell_b10 N n) (K10 := FX35_tell_b10 N n) hm @ih R123 rfl rl1 rfl rl2 hF
def FX35_tell (N : Nat) (p0 : Int) (s : fS) : Option (Unit × fS) :=
  (uPI s 213 1 0).bind fun σ3 =>
  FX35_tell_b10 N N p0 0 σ3
theorem SX35_tell {m b : Nat} {φ0 : Nat → Nat} {σo : fS} (hm : 1 ≤ m) {N : Nat} {q : Unit × fS} {φ : Nat → Nat} {h : eH} {s : fS} {p0' : Int32} {p0 : Int} (R : fC m b φ0 σo φ h s) (ep0 : p0' = iI p0) (rp0 : r32 p0) (hF : FX35_tell N p0 s = some q) : gG m b φ0 σo lU q (fX35_tell N 192 p0' h) := by
  subst ep0
  unfold FX35_tell at hF
  unfold fX35_tell
  refine s_gO R (t_192 hm R.S) (Nat.le_of_ble_eq_true rfl) rfl (o_192_6 hm R.S) ?_
  refine s_pI R (t_213 hm R.S) (Nat.le_of_ble_eq_true rfl) rfl (c_lit 0 0 rfl) ⟨by decide, by decide⟩ hF (fun h2 σ3 R2 T2 hF => ?_)
  exact SX35_tell_b10 (N := N) hm R2 rfl rp0 (c_lit 0 0 rfl) ⟨by decide, by decide⟩ hF
def FX37_without_b22 (s0 : Int) (s : fS) : Option (Int × fS) :=
  some (s0, s)
theorem SX37_without_b22 {m b : Nat} {φ0 : Nat → Nat} {σo : fS} (hm : 1 ≤ m) {q : Int × fS} {φ : Nat → Nat} {h : eH} {s : fS} {s0' : Int64} {s0 : Int} (R : fC m b φ0 σo φ h s) (es0 : s0' = iJ s0) (rs0 : r64 s0) (hF : FX37_without_b22 s0 s = some q) : gG m b φ0 σo lJ q (fX37_without_b22 s0' h) := by
  subst es0
  unfold FX37_without_b22 at hF
  unfold fX37_without_b22
  exact g_ret R hF ⟨rfl, rs0⟩
def FX37_without (p0 : Int) (s : fS) : Option (Int × fS) :=
  if ¬ (p0 = (-2147483648)) then
    if 0 ≤ p0 then
      FX37_without_b22 p0 s
    else
      FX37_without_b22 (lneg p0) s
  else
    FX37_without_b22 0 s
theorem SX37_without {m b : Nat} {φ0 : Nat → Nat} {σo : fS} (hm : 1 ≤ m) {q : Int × fS} {φ : Nat → Nat} {h : eH} {s : fS} {p0' : Int32} {p0 : Int} (R : fC m b φ0 σo φ h s) (ep0 : p0' = iI p0) (rp0 : r32 p0) (hF : FX37_without p0 s = some q) : gG m b φ0 σo lJ q (fX37_without p0' h) := by
  subst ep0
  unfold FX37_without at hF
  unfold fX37_without
  refine s_if (not_congr (i_eq rfl (c_lit (-2147483648) (-2147483648) rfl) rp0 ⟨by decide, by decide⟩)) hF (fun c1 hF => ?_) (fun c1 hF => ?_)
  ·
    refine s_if (i_le (c_lit 0 0 rfl) rfl ⟨by decide, by decide⟩ rp0) hF (fun c2 hF => ?_) (fun c2 hF => ?_)
    ·
      exact SX37_without_b22 hm R (c_2l rfl rp0) (r32.w rp0) hF
    ·
      exact SX37_without_b22 hm R (d_neg (c_2l rfl rp0)) (rr_J _) hF
  ·
    exact SX37_without_b22 hm R (d_lit 0 0 rfl) ⟨by decide, by decide⟩ hF
