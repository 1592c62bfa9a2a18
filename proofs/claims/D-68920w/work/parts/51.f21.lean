set_option maxRecDepth 100000
set_option maxHeartbeats 4000000
def FX2_init (this : Nat) (s : fS) : Option (Unit × fS) :=
  (uNA 102 0 s 8192).bind fun q1 =>
  (uK 1 q1.2 this).bind fun _ =>
  (uPF q1.2 this 0 q1.1).bind fun σ3 =>
  some ((), σ3)
theorem SX2_init {m b : Nat} {φ0 : Nat → Nat} {σo : fS} {q : Unit × fS} {this : Nat} (hl : f_lim m ≤ this) {φ : Nat → Nat} {h : eH} {s : fS} (R : fC m b φ0 σo φ h s) (hF : FX2_init this s = some q) : gG m b φ0 σo lU q (fX2_init this h) := by
  unfold FX2_init at hF
  unfold fX2_init
  refine s_nA (tmp := 0) R (Or.inl ⟨by decide, rfl⟩) (by decide) (c_lit 8192 8192 rfl) ⟨by decide, by decide⟩ hF (fun h1 s1_ R1 E1 y1 z1 w1 hF => ?_)
  refine s_K hF (fun t3 hF => ?_)
  refine s_pF R1 t3 (Nat.le_of_ble_eq_true rfl) rfl y1 (by rw [z1]; decide) (by rw [z1]; decide) hl w1 hF (fun h2 σ3 R2 T2 hF => ?_)
  exact g_ret R2 hF trivial
def FX6_init (this : Nat) (s : fS) : Option (Unit × fS) :=
  (uNA 100 0 s 2048).bind fun q1 =>
  (uK 5 q1.2 this).bind fun _ =>
  (uPF q1.2 this 0 q1.1).bind fun σ3 =>
  (uNA 100 0 σ3 2048).bind fun q5 =>
  (uK 5 q5.2 this).bind fun _ =>
  (uPF q5.2 this 1 q5.1).bind fun σ7 =>
  (uNA 100 0 σ7 10).bind fun q9 =>
  (uK 5 q9.2 this).bind fun _ =>
  (uPF q9.2 this 2 q9.1).bind fun σ11 =>
  (uNA 100 0 σ11 10).bind fun q13 =>
  (uK 5 q13.2 this).bind fun _ =>
  (uPF q13.2 this 3 q13.1).bind fun σ15 =>
  some ((), σ15)
theorem SX6_init {m b : Nat} {φ0 : Nat → Nat} {σo : fS} {q : Unit × fS} {this : Nat} (hl : f_lim m ≤ this) {φ : Nat → Nat} {h : eH} {s : fS} (R : fC m b φ0 σo φ h s) (hF : FX6_init this s = some q) : gG m b φ0 σo lU q (fX6_init this h) := by
  unfold FX6_init at hF
  unfold fX6_init
  refine s_nA (tmp := 0) R (Or.inl ⟨by decide, rfl⟩) (by decide) (c_lit 2048 2048 rfl) ⟨by decide, by decide⟩ hF (fun h1 s1_ R1 E1 y1 z1 w1 hF => ?_)
  refine s_K hF (fun t3 hF => ?_)
  refine s_pF R1 t3 (Nat.le_of_ble_eq_true rfl) rfl y1 (by rw [z1]; decide) (by rw [z1]; decide) hl w1 hF (fun h2 σ3 R2 T2 hF => ?_)
  refine s_nA (tmp := 0) R2 (Or.inl ⟨by decide, rfl⟩) (by decide) (c_lit 2048 2048 rfl) ⟨by decide, by decide⟩ hF (fun h4 s4_ R4 E4 y4 z4 w4 hF => ?_)
  refine s_K hF (fun t6 hF => ?_)
  refine s_pF R4 t6 (Nat.le_of_ble_eq_true rfl) rfl y4 (by rw [z4]; decide) (by rw [z4]; decide) hl w4 hF (fun h5 σ7 R5 T5 hF => ?_)
  refine s_nA (tmp := 0) R5 (Or.inl ⟨by decide, rfl⟩) (by decide) (c_lit 10 10 rfl) ⟨by decide, by decide⟩ hF (fun h7 s7_ R7 E7 y7 z7 w7 hF => ?_)
  refine s_K hF (fun t9 hF => ?_)
  refine s_pF R7 t9 (Nat.le_of_ble_eq_true rfl) rfl y7 (by rw [z7]; decide) (by rw [z7]; decide) hl w7 hF (fun h8 σ11 R8 T8 hF => ?_)
  refine s_nA (tmp := 0) R8 (Or.inl ⟨by decide, rfl⟩) (by decide) (c_lit 10 10 rfl) ⟨by decide, by decide⟩ hF (fun h10 s10_ R10 E10 y10 z10 w10 hF => ?_)
  refine s_K hF (fun t12 hF => ?_)
  refine s_pF R10 t12 (Nat.le_of_ble_eq_true rfl) rfl y10 (by rw [z10]; decide) (by rw [z10]; decide) hl w10 hF (fun h11 σ15 R11 T11 hF => ?_)
  exact g_ret R11 hF trivial
def FX1_grown (p0 : Nat) (p1 : Int) (s : fS) : Option (Nat × fS) :=
  (uKL s p0).bind fun _ =>
  if (s.n p0 : Int) < p1 then
    (uNA 110 0 s (imul 2 p1)).bind fun q4 =>
    (uKL q4.2 p0).bind fun _ =>
    (uKA 100 q4.2 p0).bind fun _ =>
    (uKA 100 q4.2 q4.1).bind fun _ =>
    (uCP q4.2 p0 0 q4.1 0 (q4.2.n p0 : Int)).bind fun σ8 =>
    some (q4.1, σ8)
  else
    some (p0, s)
theorem SX1_grown {m b : Nat} {φ0 : Nat → Nat} {σo : fS} {q : Nat × fS} {φ : Nat → Nat} {h : eH} {s : fS} {p0' : Nat} {p0 : Nat} {p1' : Int32} {p1 : Int} (R : fC m b φ0 σo φ h s) (ep0 : p0' = φ p0) (ap0 : s.t p0 < 128) (ep1 : p1' = iI p1) (rp1 : r32 p1) (hF : FX1_grown p0 p1 s = some q) : gG m b φ0 σo lA q (fX1_grown p0' p1' h) := by
  subst ep1
  unfold FX1_grown at hF
  unfold fX1_grown
  refine s_KL hF (fun y1 z1 hF => ?_)
  refine s_len R z1 y1 ep0 ?_
  refine s_if (i_lt rfl rfl (R.rn z1 y1) rp1) hF (fun c2 hF => ?_) (fun c2 hF => ?_)
  ·
    refine s_nA (tmp := 10) R (Or.inl ⟨by decide, rfl⟩) (by decide) (c_mul (c_lit 2 2 rfl) rfl) (rr_I _) hF (fun h3 s3_ R3 E3 y3 z3 w3 hF => ?_)
    refine s_KL hF (fun y4 z4 hF => ?_)
    refine s_len R3 z4 y4 (ep0.trans (E3.k0 rfl _ y1).1.symm) ?_
    refine s_KA hF (fun y6 z6 hF => ?_)
    refine s_KA hF (fun y7 z7 hF => ?_)
    refine s_cp R3 y6 y7 (by rw [z7]; decide) (ep0.trans (E3.k0 rfl _ y1).1.symm) y3 (c_lit 0 0 rfl) ⟨by decide, by decide⟩ (c_lit 0 0 rfl) ⟨by decide, by decide⟩ rfl (R3.rn z4 y4) hF (fun h5 σ8 R5 T5 hF => ?_)
    exact g_ret R5 hF y3
  ·
    exact g_ret R hF ep0
def FX15_fresh_b125 (l1 : Int) (s : fS) : Option (Int × fS) :=
  (uQI s 62 (s.i 61 5) (-1)).bind fun σ5 =>
  (uQI σ5 63 (σ5.i 61 5) (-1)).bind fun σ11 =>
  (uQI σ11 64 (σ11.i 61 5) (i2b (i2b l1))).bind fun σ17 =>
  (uQI σ17 65 (σ17.i 61 5) 0).bind fun σ23 =>
  (uPI σ23 61 5 (iadd (σ23.i 61 5) 1)).bind fun σ27 =>
  some ((σ23.i 61 5), σ27)
theorem SX15_fresh_b125 {m b : Nat} {φ0 : Nat → Nat} {σo : fS} {q : Int × fS} {φ : Nat → Nat} {h : eH} {s : fS} {l1' : Int32} {l1 : Int} (R : fC m b φ0 σo φ h s) (el1 : l1' = iI l1) (rl1 : r32 l1) (hF : FX15_fresh_b125 l1 s = some q) : gG m b φ0 σo lI q (fX15_fresh_b125 61 l1' h) := by
  subst el1
  unfold FX15_fresh_b125 at hF
  unfold fX15_fresh_b125
  refine s_gA R (t_61 R.S) (Nat.le_of_ble_eq_true rfl) rfl (o_61_0 R.S) (fun _ _ => ?_)
  refine s_gI R (t_61 R.S) (Nat.le_of_ble_eq_true rfl) rfl ?_
  refine s_qI R (u_62 R.S).1 (u_62 R.S).2 (by decide) rfl rfl (R.ri (t_61 R.S) (Nat.le_of_ble_eq_true rfl) rfl) (c_lit (-1) (-1) rfl) ⟨by decide, by decide⟩ hF (fun h3 σ5 R3 T3 hF => ?_)
  refine s_gA R3 (t_61 R3.S) (Nat.le_of_ble_eq_true rfl) rfl (o_61_1 R3.S) (fun _ _ => ?_)
  refine s_gI R3 (t_61 R3.S) (Nat.le_of_ble_eq_true rfl) rfl ?_
  refine s_qI R3 (u_63 R3.S).1 (u_63 R3.S).2 (by decide) rfl rfl (R3.ri (t_61 R3.S) (Nat.le_of_ble_eq_true rfl) rfl) (c_lit (-1) (-1) rfl) ⟨by decide, by decide⟩ hF (fun h6 σ11 R6 T6 hF => ?_)
  refine s_gA R6 (t_61 R6.S) (Nat.le_of_ble_eq_true rfl) rfl (o_61_2 R6.S) (fun _ _ => ?_)
  refine s_gI R6 (t_61 R6.S) (Nat.le_of_ble_eq_true rfl) rfl ?_
  refine s_qI R6 (u_64 R6.S).1 (u_64 R6.S).2 (by decide) rfl rfl (R6.ri (t_61 R6.S) (Nat.le_of_ble_eq_true rfl) rfl) (c_2b (c_2b rfl)) (rr_I _) hF (fun h9 σ17 R9 T9 hF => ?_)
  refine s_gA R9 (t_61 R9.S) (Nat.le_of_ble_eq_true rfl) rfl (o_61_3 R9.S) (fun _ _ => ?_)
  refine s_gI R9 (t_61 R9.S) (Nat.le_of_ble_eq_true rfl) rfl ?_
  refine s_qI R9 (u_65 R9.S).1 (u_65 R9.S).2 (by decide) rfl rfl (R9.ri (t_61 R9.S) (Nat.le_of_ble_eq_true rfl) rfl) (c_lit 0 0 rfl) ⟨by decide, by decide⟩ hF (fun h12 σ23 R12 T12 hF => ?_)
  refine s_gI R12 (t_61 R12.S) (Nat.le_of_ble_eq_true rfl) rfl ?_
  refine s_pI R12 (t_61 R12.S) (Nat.le_of_ble_eq_true rfl) rfl (c_add rfl (c_lit 1 1 rfl)) (rr_I _) hF (fun h14 σ27 R14 T14 hF => ?_)
  exact g_ret R14 hF ⟨rfl, (R12.ri (t_61 R12.S) (Nat.le_of_ble_eq_true rfl) rfl)⟩
def FX15_fresh (p0 : Int) (s : fS) : Option (Int × fS) :=
  (FX1_grown 62 (iadd (s.i 61 5) 1) s).bind fun q5 =>
  (uMV q5.2 62 q5.1).bind fun σ6 =>
  (FX1_grown 63 (iadd (σ6.i 61 5) 1) σ6).bind fun q12 =>
  (uMV q12.2 63 q12.1).bind fun σ13 =>
  (FX1_grown 65 (iadd (σ13.i 61 5) 1) σ13).bind fun q19 =>
  (uMV q19.2 65 q19.1).bind fun σ20 =>
  (FX1_grown 66 (iadd (σ20.i 61 5) 1) σ20).bind fun q26 =>
  (uMV q26.2 66 q26.1).bind fun σ27 =>
  (FX1_grown 72 (iadd (σ27.i 61 5) 1) σ27).bind fun q33 =>
  (uMV q33.2 72 q33.1).bind fun σ34 =>
  if ¬ ((σ34.i 61 5) = (σ34.n 64 : Int)) then
    FX15_fresh_b125 p0 σ34
  else
    (uNA 112 0 σ34 (imul 2 (σ34.i 61 5))).bind fun q45 =>
    (uKA 102 q45.2 q45.1).bind fun _ =>
    (uCP q45.2 64 0 q45.1 0 (q45.2.i 61 5)).bind fun σ51 =>
    (uMV σ51 64 q45.1).bind fun σ53 =>
    FX15_fresh_b125 p0 σ53
theorem SX15_fresh {m b : Nat} {φ0 : Nat → Nat} {σo : fS} (hb : 1 ≤ b) {q : Int × fS} {φ : Nat → Nat} {h : eH} {s : fS} {p0' : Int32} {p0 : Int} (R : fC m b φ0 σo φ h s) (ep0 : p0' = iI p0) (rp0 : r32 p0) (hF : FX15_fresh p0 s = some q) : gG m b φ0 σo lI q (fX15_fresh 61 p0' h) := by
  subst ep0
  unfold FX15_fresh at hF
  unfold fX15_fresh
  refine s_gA R (t_61 R.S) (Nat.le_of_ble_eq_true rfl) rfl (o_61_0 R.S) (fun _ _ => ?_)
  refine s_gI R (t_61 R.S) (Nat.le_of_ble_eq_true rfl) rfl ?_
  refine s_call R (Nat.zero_le _) (fun _ hq => SX1_grown (b := 0) (R.rf) rfl (u_62 R.S).1 (c_add rfl (c_lit 1 1 rfl)) (rr_I _) hq) hF (fun f3 rv3 h3 q5 R3 e3 E3 hF => ?_)
  refine s_mv R3 (t_61 R3.S) (Nat.le_of_ble_eq_true rfl) rfl (o_61_0 R3.S) (by decide) (f_mv_1 hb (by decide) (by decide)) e3 hF (fun f4 h4 σ6 R4 E4 K4 hF => ?_)
  refine s_gA R4 (t_61 R4.S) (Nat.le_of_ble_eq_true rfl) rfl (o_61_1 R4.S) (fun _ _ => ?_)
  refine s_gI R4 (t_61 R4.S) (Nat.le_of_ble_eq_true rfl) rfl ?_
  refine s_call R4 (Nat.zero_le _) (fun _ hq => SX1_grown (b := 0) (R4.rf) rfl (u_63 R4.S).1 (c_add rfl (c_lit 1 1 rfl)) (rr_I _) hq) hF (fun f7 rv7 h7 q12 R7 e7 E7 hF => ?_)
  refine s_mv R7 (t_61 R7.S) (Nat.le_of_ble_eq_true rfl) rfl (o_61_1 R7.S) (by decide) (f_mv_1 hb (by decide) (by decide)) e7 hF (fun f8 h8 σ13 R8 E8 K8 hF => ?_)
  refine s_gA R8 (t_61 R8.S) (Nat.le_of_ble_eq_true rfl) rfl (o_61_3 R8.S) (fun _ _ => ?_)
  refine s_gI R8 (t_61 R8.S) (Nat.le_of_ble_eq_true rfl) rfl ?_
  refine s_call R8 (Nat.zero_le _) (fun _ hq => SX1_grown (b := 0) (R8.rf) rfl (u_65 R8.S).1 (c_add rfl (c_lit 1 1 rfl)) (rr_I _) hq) hF (fun f11 rv11 h11 q19 R11 e11 E11 hF => ?_)
  refine s_mv R11 (t_61 R11.S) (Nat.le_of_ble_eq_true rfl) rfl (o_61_3 R11.S) (by decide) (f_mv_1 hb (by decide) (by decide)) e11 hF (fun f12 h12 σ20 R12 E12 K12 hF => ?_)
  refine s_gA R12 (t_61 R12.S) (Nat.le_of_ble_eq_true rfl) rfl (o_61_4 R12.S) (fun _ _ => ?_)
  refine s_gI R12 (t_61 R12.S) (Nat.le_of_ble_eq_true rfl) rfl ?_
  refine s_call R12 (Nat.zero_le _) (fun _ hq => SX1_grown (b := 0) (R12.rf) rfl (u_66 R12.S).1 (c_add rfl (c_lit 1 1 rfl)) (rr_I _) hq) hF (fun f15 rv15 h15 q26 R15 e15 E15 hF => ?_)
  refine s_mv R15 (t_61 R15.S) (Nat.le_of_ble_eq_true rfl) rfl (o_61_4 R15.S) (by decide) (f_mv_1 hb (by decide) (by decide)) e15 hF (fun f16 h16 σ27 R16 E16 K16 hF => ?_)
  refine s_gA R16 (t_61 R16.S) (Nat.le_of_ble_eq_true rfl) rfl (o_61_12 R16.S) (fun _ _ => ?_)
  refine s_gI R16 (t_61 R16.S) (Nat.le_of_ble_eq_true rfl) rfl ?_
  refine s_call R16 (Nat.zero_le _) (fun _ hq => SX1_grown (b := 0) (R16.rf) rfl (u_72 R16.S).1 (c_add rfl (c_lit 1 1 rfl)) (rr_I _) hq) hF (fun f19 rv19 h19 q33 R19 e19 E19 hF => ?_)
  refine s_mv R19 (t_61 R19.S) (Nat.le_of_ble_eq_true rfl) rfl (o_61_12 R19.S) (by decide) (f_mv_1 hb (by decide) (by decide)) e19 hF (fun f20 h20 σ34 R20 E20 K20 hF => ?_)
  refine s_gI R20 (t_61 R20.S) (Nat.le_of_ble_eq_true rfl) rfl ?_
  refine s_gA R20 (t_61 R20.S) (Nat.le_of_ble_eq_true rfl) rfl (o_61_2 R20.S) (fun _ _ => ?_)
  refine s_len R20 (by rw [(t_64 R20.S)]; decide) (by rw [(t_64 R20.S)]; decide) rfl ?_
  refine s_if (not_congr (i_eq rfl rfl (R20.ri (t_61 R20.S) (Nat.le_of_ble_eq_true rfl) rfl) (R20.rn (by rw [(t_64 R20.S)]; decide) (by rw [(t_64 R20.S)]; decide)))) hF (fun c24 hF => ?_) (fun c24 hF => ?_)
  ·
    exact SX15_fresh_b125 R20 rfl rp0 hF
  ·
    refine s_gI R20 (t_61 R20.S) (Nat.le_of_ble_eq_true rfl) rfl ?_
    refine s_nA (tmp := 10) R20 (Or.inl ⟨by decide, rfl⟩) (by decide) (c_mul (c_lit 2 2 rfl) rfl) (rr_I _) hF (fun h26 s26_ R26 E26 y26 z26 w26 hF => ?_)
    refine s_gA R26 (t_61 R26.S) (Nat.le_of_ble_eq_true rfl) rfl (o_61_2 R26.S) (fun _ _ => ?_)
    refine s_gI R26 (t_61 R26.S) (Nat.le_of_ble_eq_true rfl) rfl ?_
    refine s_KA hF (fun y30 z30 hF => ?_)
    refine s_cp R26 (u_64 R26.S).1 y30 (by rw [z30]; decide) rfl y26 (c_lit 0 0 rfl) ⟨by decide, by decide⟩ (c_lit 0 0 rfl) ⟨by decide, by decide⟩ rfl (R26.ri (t_61 R26.S) (Nat.le_of_ble_eq_true rfl) rfl) hF (fun h29 σ51 R29 T29 hF => ?_)
    refine s_mv R29 (t_61 R29.S) (Nat.le_of_ble_eq_true rfl) rfl (o_61_2 R29.S) (by decide) (f_mv_1 hb (by decide) (by decide)) y26 hF (fun f31 h31 σ53 R31 E31 K31 hF => ?_)
    exact SX15_fresh_b125 R31 rfl rp0 hF
def FX15_clear (s : fS) : Option (Unit × fS) :=
  (uPI s 61 5 0).bind fun σ1 =>
  (uPI σ1 61 9 1).bind fun σ3 =>
  (uPI σ3 61 16 0).bind fun σ5 =>
  (uPI σ5 61 17 0).bind fun σ7 =>
  (FX15_fresh 0 σ7).bind fun q10 =>
  (uPZ q10.2 61 15 0).bind fun σ11 =>
  some ((), σ11)
theorem SX15_clear {m b : Nat} {φ0 : Nat → Nat} {σo : fS} (hb : 1 ≤ b) {q : Unit × fS} {φ : Nat → Nat} {h : eH} {s : fS} (R : fC m b φ0 σo φ h s) (hF : FX15_clear s = some q) : gG m b φ0 σo lU q (fX15_clear 61 h) := by
  unfold FX15_clear at hF
  unfold fX15_clear
  refine s_pI R (t_61 R.S) (Nat.le_of_ble_eq_true rfl) rfl (c_lit 0 0 rfl) ⟨by decide, by decide⟩ hF (fun h1 σ1 R1 T1 hF => ?_)
  refine s_pI R1 (t_61 R1.S) (Nat.le_of_ble_eq_true rfl) rfl (c_lit 1 1 rfl) ⟨by decide, by decide⟩ hF (fun h2 σ3 R2 T2 hF => ?_)
  refine s_pI R2 (t_61 R2.S) (Nat.le_of_ble_eq_true rfl) rfl (c_lit 0 0 rfl) ⟨by decide, by decide⟩ hF (fun h3 σ5 R3 T3 hF => ?_)
  refine s_pI R3 (t_61 R3.S) (Nat.le_of_ble_eq_true rfl) rfl (c_lit 0 0 rfl) ⟨by decide, by decide⟩ hF (fun h4 σ7 R4 T4 hF => ?_)
  refine s_kok R4 (t_61 R4.S) (Nat.le_of_ble_eq_true rfl) ?_
  refine s_call R4 hb (fun _ hq => SX15_fresh (b := 1) (Nat.le_of_ble_eq_true rfl) (R4.rf) (c_lit 0 0 rfl) ⟨by decide, by decide⟩ hq) hF (fun f6 rv6 h6 q10 R6 e6 E6 hF => ?_)
  refine s_pZ R6 (t_61 R6.S) (Nat.le_of_ble_eq_true rfl) rfl (c_lit 0 0 rfl) ⟨by decide, by decide⟩ hF (fun h7 σ11 R7 T7 hF => ?_)
  exact g_ret R7 hF trivial
def FX29_clear_b2 (N : Nat) : Nat → Nat → Int → fS → Option (Unit × fS)
  | 0, _, _, _ => none
  | n + 1, l0, l1, s =>
    if 4 ≤ l1 then
      (uK 28 s l0).bind fun _ =>
      (uPJ s l0 1 0).bind fun σ2 =>
      (uK 28 σ2 l0).bind fun _ =>
      (uPJ σ2 l0 2 0).bind fun σ4 =>
      (uK 28 σ4 l0).bind fun _ =>
      (uPJ σ4 l0 3 0).bind fun σ6 =>
      some ((), σ6)
    else
      (uK 28 s l0).bind fun _ =>
      (s.o l0 0).bind fun a8 =>
      (uKA 101 s a8).bind fun _ =>
      (uQJ s a8 l1 0).bind fun σ10 =>
      FX29_clear_b2 N n l0 (iadd l1 1) σ10
theorem SX29_clear_b2 {m b : Nat} {φ0 : Nat → Nat} {σo : fS} {N : Nat} {q : Unit × fS} : ∀ {n : Nat} {φ : Nat → Nat} {h : eH} {s : fS} {l0 : Nat} {l1' : Int32} {l1 : Int}, fC m b φ0 σo φ h s → l1' = iI l1 → r32 l1 → FX29_clear_b2 N n l0 l1 s = some q → gG m b φ0 σo lU q (fX29_clear_b2 N n l0 l1' h) := by
  intro n
  induction n with
 | zero => intro φ h s l0 l1' l1 R el1 rl1 hF; simp [FX29_clear_b2] at hF
  | succ n ih =>
    intro φ h s l0 l1' l1 R el1 rl1 hF
    subst el1
    rw [FX29_clear_b2] at hF
    rw [fX29_clear_b2]
    refine s_if (i_le (c_lit 4 4 rfl) rfl ⟨by decide, by decide⟩ rl1) hF (fun c1 hF => ?_) (fun c1 hF => ?_)
    ·
      refine s_K hF (fun t3 hF => ?_)
      refine s_pJ R t3 (Nat.le_of_ble_eq_true rfl) rfl (d_lit 0 0 rfl) ⟨by decide, by decide⟩ hF (fun h2 σ2 R2 T2 hF => ?_)
      refine s_K hF (fun t5 hF => ?_)
      refine s_pJ R2 t5 (Nat.le_of_ble_eq_true rfl) rfl (d_lit 0 0 rfl) ⟨by decide, by decide⟩ hF (fun h4 σ4 R4 T4 hF => ?_)
      refine s_K hF (fun t7 hF => ?_)
      refine s_pJ R4 t7 (Nat.le_of_ble_eq_true rfl) rfl (d_lit 0 0 rfl) ⟨by decide, by decide⟩ hF (fun h6 σ6 R6 T6 hF => ?_)
      exact g_ret R6 hF trivial
    ·
      refine s_K hF (fun t9 hF => ?_)
      refine s_oo hF (fun a8 e8 hF => ?_)
      refine s_gA R t9 (Nat.le_of_ble_eq_true rfl) rfl e8 (fun x8_ y8_ => ?_)
      refine s_KA hF (fun y11 z11 hF => ?_)
      refine s_qJ R y11 z11 rfl rfl rl1 (d_lit 0 0 rfl) ⟨by decide, by decide⟩ hF (fun h10 σ10 R10 T10 hF => ?_)
      exact ih R10 (c_add rfl (c_lit 1 1 rfl)) (rr_I _) hF
def FX29_clear (N : Nat) (this : Nat) (s : fS) : Option (Unit × fS) :=
  FX29_clear_b2 N N this 0 s
theorem SX29_clear {m b : Nat} {φ0 : Nat → Nat} {σo : fS} {N : Nat} {q : Unit × fS} {φ : Nat → Nat} {h : eH} {s : fS} {this : Nat} (R : fC m b φ0 σo φ h s) (hF : FX29_clear N this s = some q) : gG m b φ0 σo lU q (fX29_clear N this h) := by
  unfold FX29_clear at hF
  unfold fX29_clear
  exact SX29_clear_b2 (N := N) R (c_lit 0 0 rfl) ⟨by decide, by decide⟩ hF
def FX28_begin (N : Nat) (s : fS) : Option (Unit × fS) :=
  (s.o 140 6).bind fun a1 =>
  (uK 29 s a1).bind fun _ =>
  (uPI s a1 4 (-1)).bind fun σ3 =>
  (uPI σ3 140 8 (-1)).bind fun σ5 =>
  (uPI σ5 140 9 1073741823).bind fun σ7 =>
  (FX29_clear N 141 σ7).bind fun q12 =>
  some ((), q12.2)
theorem SX28_begin {m b : Nat} {φ0 : Nat → Nat} {σo : fS} {N : Nat} {q : Unit × fS} {φ : Nat → Nat} {h : eH} {s : fS} (R : fC m b φ0 σo φ h s) (hF : FX28_begin N s = some q) : gG m b φ0 σo lU q (fX28_begin N 140 h) := by
  unfold FX28_begin at hF
  unfold fX28_begin
  refine s_oo hF (fun a1 e1 hF => ?_)
  refine s_gO R (t_140 R.S) (Nat.le_of_ble_eq_true rfl) rfl e1 ?_
  refine s_K hF (fun t3 hF => ?_)
  refine s_pI R t3 (Nat.le_of_ble_eq_true rfl) rfl (c_lit (-1) (-1) rfl) ⟨by decide, by decide⟩ hF (fun h2 σ3 R2 T2 hF => ?_)
  refine s_pI R2 (t_140 R2.S) (Nat.le_of_ble_eq_true rfl) rfl (c_lit (-1) (-1) rfl) ⟨by decide, by decide⟩ hF (fun h4 σ5 R4 T4 hF => ?_)
  refine s_pI R4 (t_140 R4.S) (Nat.le_of_ble_eq_true rfl) rfl (c_lit 1073741823 1073741823 rfl) ⟨by decide, by decide⟩ hF (fun h5 σ7 R5 T5 hF => ?_)
  refine s_gO R5 (t_140 R5.S) (Nat.le_of_ble_eq_true rfl) rfl (o_140_1 R5.S) ?_
  refine s_kok R5 (t_141 R5.S) (Nat.le_of_ble_eq_true rfl) ?_
  refine s_call R5 (Nat.zero_le _) (fun _ hq => SX29_clear (b := 0) (N := N) (R5.rf) hq) hF (fun f8 rv8 h8 q12 R8 e8 E8 hF => ?_)
  exact g_ret R8 hF trivial
def FX10_clear_b2 (N : Nat) : Nat → Int → fS → Option (Unit × fS)
  | 0, _, _ => none
  | n + 1, l1, s =>
    if 4096 ≤ l1 then
      (uPI s 44 6 256).bind fun σ2 =>
      (uPI σ2 44 5 0).bind fun σ4 =>
      some ((), σ4)
    else
      (uQI s 45 l1 0).bind fun σ8 =>
      FX10_clear_b2 N n (iadd l1 1) σ8
theorem SX10_clear_b2 {m b : Nat} {φ0 : Nat → Nat} {σo : fS} {N : Nat} {q : Unit × fS} : ∀ {n : Nat} {φ : Nat → Nat} {h : eH} {s : fS} {l1' : Int32} {l1 : Int}, fC m b φ0 σo φ h s → l1' = iI l1 → r32 l1 → FX10_clear_b2 N n l1 s = some q → gG m b φ0 σo lU q (fX10_clear_b2 N n 44 l1' h) := by
  intro n
  induction n with
 | zero => intro φ h s l1' l1 R el1 rl1 hF; simp [FX10_clear_b2] at hF
  | succ n ih =>
    intro φ h s l1' l1 R el1 rl1 hF
    subst el1
    rw [FX10_clear_b2] at hF
    rw [fX10_clear_b2]
    refine s_if (i_le (c_lit 4096 4096 rfl) rfl ⟨by decide, by decide⟩ rl1) hF (fun c1 hF => ?_) (fun c1 hF => ?_)
    ·
      refine s_pI R (t_44 R.S) (Nat.le_of_ble_eq_true rfl) rfl (c_lit 256 256 rfl) ⟨by decide, by decide⟩ hF (fun h2 σ2 R2 T2 hF => ?_)
      refine s_pI R2 (t_44 R2.S) (Nat.le_of_ble_eq_true rfl) rfl (c_lit 0 0 rfl) ⟨by decide, by decide⟩ hF (fun h3 σ4 R3 T3 hF => ?_)
      exact g_ret R3 hF trivial
    ·
      refine s_gAs R (t_44 R.S) (Nat.le_of_ble_eq_true rfl) rfl (o_44_1 R.S) (a_45 R) ?_
      refine s_qI R (u_45 R.S).1 (u_45 R.S).2 (by decide) (a_45 R) rfl rl1 (c_lit 0 0 rfl) ⟨by decide, by decide⟩ hF (fun h5 σ8 R5 T5 hF => ?_)
      exact ih R5 (c_add rfl (c_lit 1 1 rfl)) (rr_I _) hF
def FX10_clear (N : Nat) (s : fS) : Option (Unit × fS) :=
  FX10_clear_b2 N N 0 s
theorem SX10_clear {m b : Nat} {φ0 : Nat → Nat} {σo : fS} {N : Nat} {q : Unit × fS} {φ : Nat → Nat} {h : eH} {s : fS} (R : fC m b φ0 σo φ h s) (hF : FX10_clear N s = some q) : gG m b φ0 σo lU q (fX10_clear N 44 h) := by
  unfold FX10_clear at hF
  unfold fX10_clear
  exact SX10_clear_b2 (N := N) R (c_lit 0 0 rfl) ⟨by decide, by decide⟩ hF
def FX9_clearCategories (s : fS) : Option (Unit × fS) :=
  (uQI s 27 1931 0).bind fun σ3 =>
  (uQI σ3 27 1962 1).bind fun σ7 =>
  (uQI σ7 27 1964 2).bind fun σ11 =>
  (uQI σ11 27 1875 3).bind fun σ15 =>
  (uQI σ15 27 1877 4).bind fun σ19 =>
  (uQI σ19 27 1852 5).bind fun σ23 =>
  (uQI σ23 27 1874 6).bind fun σ27 =>
  (uQI σ27 27 1933 7).bind fun σ31 =>
  (uQI σ31 27 1934 8).bind fun σ35 =>
  (uQI σ35 27 1839 9).bind fun σ39 =>
  (uQI σ39 27 1871 10).bind fun σ43 =>
  (uQI σ43 27 1848 10).bind fun σ47 =>
  (uQI σ47 27 1965 13).bind fun σ51 =>
  (uQI σ51 27 1876 14).bind fun σ55 =>
  (uQI σ55 27 1966 15).bind fun σ59 =>
  some ((), σ59)
theorem SX9_clearCategories {m b : Nat} {φ0 : Nat → Nat} {σo : fS} {q : Unit × fS} {φ : Nat → Nat} {h : eH} {s : fS} (R : fC m b φ0 σo φ h s) (hF : FX9_clearCategories s = some q) : gG m b φ0 σo lU q (fX9_clearCategories 23 h) := by
  unfold FX9_clearCategories at hF
  unfold fX9_clearCategories
  refine s_gAs R (t_23 R.S) (Nat.le_of_ble_eq_true rfl) rfl (o_23_3 R.S) (a_27 R) ?_
  refine s_qI R (u_27 R.S).1 (u_27 R.S).2 (by decide) (a_27 R) (c_lit 1931 1931 rfl) ⟨by decide, by decide⟩ (c_lit 0 0 rfl) ⟨by decide, by decide⟩ hF (fun h2 σ3 R2 T2 hF => ?_)
  refine s_gAs R2 (t_23 R2.S) (Nat.le_of_ble_eq_true rfl) rfl (o_23_3 R2.S) (a_27 R2) ?_
  refine s_qI R2 (u_27 R2.S).1 (u_27 R2.S).2 (by decide) (a_27 R2) (c_lit 1962 1962 rfl) ⟨by decide, by decide⟩ (c_lit 1 1 rfl) ⟨by decide, by decide⟩ hF (fun h4 σ7 R4 T4 hF => ?_)
  refine s_gAs R4 (t_23 R4.S) (Nat.le_of_ble_eq_true rfl) rfl (o_23_3 R4.S) (a_27 R4) ?_
  refine s_qI R4 (u_27 R4.S).1 (u_27 R4.S).2 (by decide) (a_27 R4) (c_lit 1964 1964 rfl) ⟨by decide, by decide⟩ (c_lit 2 2 rfl) ⟨by decide, by decide⟩ hF (fun h6 σ11 R6 T6 hF => ?_)
  refine s_gAs R6 (t_23 R6.S) (Nat.le_of_ble_eq_true rfl) rfl (o_23_3 R6.S) (a_27 R6) ?_
  refine s_qI R6 (u_27 R6.S).1 (u_27 R6.S).2 (by decide) (a_27 R6) (c_lit 1875 1875 rfl) ⟨by decide, by decide⟩ (c_lit 3 3 rfl) ⟨by decide, by decide⟩ hF (fun h8 σ15 R8 T8 hF => ?_)
  refine s_gAs R8 (t_23 R8.S) (Nat.le_of_ble_eq_true rfl) rfl (o_23_3 R8.S) (a_27 R8) ?_
  refine s_qI R8 (u_27 R8.S).1 (u_27 R8.S).2 (by decide) (a_27 R8) (c_lit 1877 1877 rfl) ⟨by decide, by decide⟩ (c_lit 4 4 rfl) ⟨by decide, by decide⟩ hF (fun h10 σ19 R10 T10 hF => ?_)
  refine s_gAs R10 (t_23 R10.S) (Nat.le_of_ble_eq_true rfl) rfl (o_23_3 R10.S) (a_27 R10) ?_
  refine s_qI R10 (u_27 R10.S).1 (u_27 R10.S).2 (by decide) (a_27 R10) (c_lit 1852 1852 rfl) ⟨by decide, by decide⟩ (c_lit 5 5 rfl) ⟨by decide, by decide⟩ hF (fun h12 σ23 R12 T12 hF => ?_)
  refine s_gAs R12 (t_23 R12.S) (Nat.le_of_ble_eq_true rfl) rfl (o_23_3 R12.S) (a_27 R12) ?_
  refine s_qI R12 (u_27 R12.S).1 (u_27 R12.S).2 (by decide) (a_27 R12) (c_lit 1874 1874 rfl) ⟨by decide, by decide⟩ (c_lit 6 6 rfl) ⟨by decide, by decide⟩ hF (fun h14 σ27 R14 T14 hF => ?_)
  refine s_gAs R14 (t_23 R14.S) (Nat.le_of_ble_eq_true rfl) rfl (o_23_3 R14.S) (a_27 R14) ?_
  refine s_qI R14 (u_27 R14.S).1 (u_27 R14.S).2 (by decide) (a_27 R14) (c_lit 1933 1933 rfl) ⟨by decide, by decide⟩ (c_lit 7 7 rfl) ⟨by decide, by decide⟩ hF (fun h16 σ31 R16 T16 hF => ?_)
  refine s_gAs R16 (t_23 R16.S) (Nat.le_of_ble_eq_true rfl) rfl (o_23_3 R16.S) (a_27 R16) ?_
  refine s_qI R16 (u_27 R16.S).1 (u_27 R16.S).2 (by decide) (a_27 R16) (c_lit 1934 1934 rfl) ⟨by decide, by decide⟩ (c_lit 8 8 rfl) ⟨by decide, by decide⟩ hF (fun h18 σ35 R18 T18 hF => ?_)
  refine s_gAs R18 (t_23 R18.S) (Nat.le_of_ble_eq_true rfl) rfl (o_23_3 R18.S) (a_27 R18) ?_
  refine s_qI R18 (u_27 R18.S).1 (u_27 R18.S).2 (by decide) (a_27 R18) (c_lit 1839 1839 rfl) ⟨by decide, by decide⟩ (c_lit 9 9 rfl) ⟨by decide, by decide⟩ hF (fun h20 σ39 R20 T20 hF => ?_)
  refine s_gAs R20 (t_23 R20.S) (Nat.le_of_ble_eq_true rfl) rfl (o_23_3 R20.S) (a_27 R20) ?_
  refine s_qI R20 (u_27 R20.S).1 (u_27 R20.S).2 (by decide) (a_27 R20) (c_lit 1871 1871 rfl) ⟨by decide, by decide⟩ (c_lit 10 10 rfl) ⟨by decide, by decide⟩ hF (fun h22 σ43 R22 T22 hF => ?_)
  refine s_gAs R22 (t_23 R22.S) (Nat.le_of_ble_eq_true rfl) rfl (o_23_3 R22.S) (a_27 R22) ?_
  refine s_qI R22 (u_27 R22.S).1 (u_27 R22.S).2 (by decide) (a_27 R22) (c_lit 1848 1848 rfl) ⟨by decide, by decide⟩ (c_lit 10 10 rfl) ⟨by decide, by decide⟩ hF (fun h24 σ47 R24 T24 hF => ?_)
  refine s_gAs R24 (t_23 R24.S) (Nat.le_of_ble_eq_true rfl) rfl (o_23_3 R24.S) (a_27 R24) ?_
  refine s_qI R24 (u_27 R24.S).1 (u_27 R24.S).2 (by decide) (a_27 R24) (c_lit 1965 1965 rfl) ⟨by decide, by decide⟩ (c_lit 13 13 rfl) ⟨by decide, by decide⟩ hF (fun h26 σ51 R26 T26 hF => ?_)
  refine s_gAs R26 (t_23 R26.S) (Nat.le_of_ble_eq_true rfl) rfl (o_23_3 R26.S) (a_27 R26) ?_
  refine s_qI R26 (u_27 R26.S).1 (u_27 R26.S).2 (by decide) (a_27 R26) (c_lit 1876 1876 rfl) ⟨by decide, by decide⟩ (c_lit 14 14 rfl) ⟨by decide, by decide⟩ hF (fun h28 σ55 R28 T28 hF => ?_)
  refine s_gAs R28 (t_23 R28.S) (Nat.le_of_ble_eq_true rfl) rfl (o_23_3 R28.S) (a_27 R28) ?_
  refine s_qI R28 (u_27 R28.S).1 (u_27 R28.S).2 (by decide) (a_27 R28) (c_lit 1966 1966 rfl) ⟨by decide, by decide⟩ (c_lit 15 15 rfl) ⟨by decide, by decide⟩ hF (fun h30 σ59 R30 T30 hF => ?_)
  exact g_ret R30 hF trivial
def FX9_clearNamed (s : fS) : Option (Unit × fS) :=
  (uQI s 27 256 100).bind fun σ3 =>
  (uQI σ3 27 257 200).bind fun σ7 =>
  (uQI σ7 27 258 10).bind fun σ11 =>
  (uQI σ11 27 259 50).bind fun σ15 =>
  (uQI σ15 27 260 50).bind fun σ19 =>
  (uQI σ19 27 261 150).bind fun σ23 =>
  (uQI σ23 27 262 150).bind fun σ27 =>
  (uQI σ27 27 263 100).bind fun σ31 =>
  (uQI σ31 27 265 10000).bind fun σ35 =>
  (uQI σ35 27 266 10000).bind fun σ39 =>
  (uQI σ39 27 267 5000).bind fun σ43 =>
  (uQI σ43 27 525 26214400).bind fun σ47 =>
  (uQI σ47 27 526 39321600).bind fun σ51 =>
  (uQI σ51 27 527 1310720).bind fun σ55 =>
  (uQI σ55 27 529 262144).bind fun σ59 =>
  (uQI σ59 27 1556 65536).bind fun σ63 =>
  (uQI σ63 27 1559 786432).bind fun σ67 =>
  (uQI σ67 27 1563 65536).bind fun σ71 =>
  (uQI σ71 27 1567 655360).bind fun σ75 =>
  (uQI σ75 27 1580 65536).bind fun σ79 =>
  (uQI σ79 27 1581 1).bind fun σ83 =>
  some ((), σ83)
theorem SX9_clearNamed {m b : Nat} {φ0 : Nat → Nat} {σo : fS} {q : Unit × fS} {φ : Nat → Nat} {h : eH} {s : fS} (R : fC m b φ0 σo φ h s) (hF : FX9_clearNamed s = some q) : gG m b φ0 σo lU q (fX9_clearNamed 23 h) := by
  unfold FX9_clearNamed at hF
  unfold fX9_clearNamed
  refine s_gAs R (t_23 R.S) (Nat.le_of_ble_eq_true rfl) rfl (o_23_3 R.S) (a_27 R) ?_
  refine s_qI R (u_27 R.S).1 (u_27 R.S).2 (by decide) (a_27 R) (c_lit 256 256 rfl) ⟨by decide, by decide⟩ (c_lit 100 100 rfl) ⟨by decide, by decide⟩ hF (fun h2 σ3 R2 T2 hF => ?_)
  refine s_gAs R2 (t_23 R2.S) (Nat.le_of_ble_eq_true rfl) rfl (o_23_3 R2.S) (a_27 R2) ?_
  refine s_qI R2 (u_27 R2.S).1 (u_27 R2.S).2 (by decide) (a_27 R2) (c_lit 257 257 rfl) ⟨by decide, by decide⟩ (c_lit 200 200 rfl) ⟨by decide, by decide⟩ hF (fun h4 σ7 R4 T4 hF => ?_)
  refine s_gAs R4 (t_23 R4.S) (Nat.le_of_ble_eq_true rfl) rfl (o_23_3 R4.S) (a_27 R4) ?_
  refine s_qI R4 (u_27 R4.S).1 (u_27 R4.S).2 (by decide) (a_27 R4) (c_lit 258 258 rfl) ⟨by decide, by decide⟩ (c_lit 10 10 rfl) ⟨by decide, by decide⟩ hF (fun h6 σ11 R6 T6 hF => ?_)
  refine s_gAs R6 (t_23 R6.S) (Nat.le_of_ble_eq_true rfl) rfl (o_23_3 R6.S) (a_27 R6) ?_
  refine s_qI R6 (u_27 R6.S).1 (u_27 R6.S).2 (by decide) (a_27 R6) (c_lit 259 259 rfl) ⟨by decide, by decide⟩ (c_lit 50 50 rfl) ⟨by decide, by decide⟩ hF (fun h8 σ15 R8 T8 hF => ?_)
  refine s_gAs R8 (t_23 R8.S) (Nat.le_of_ble_eq_true rfl) rfl (o_23_3 R8.S) (a_27 R8) ?_
  refine s_qI R8 (u_27 R8.S).1 (u_27 R8.S).2 (by decide) (a_27 R8) (c_lit 260 260 rfl) ⟨by decide, by decide⟩ (c_lit 50 50 rfl) ⟨by decide, by decide⟩ hF (fun h10 σ19 R10 T10 hF => ?_)
  refine s_gAs R10 (t_23 R10.S) (Nat.le_of_ble_eq_true rfl) rfl (o_23_3 R10.S) (a_27 R10) ?_
  refine s_qI R10 (u_27 R10.S).1 (u_27 R10.S).2 (by decide) (a_27 R10) (c_lit 261 261 rfl) ⟨by decide, by decide⟩ (c_lit 150 150 rfl) ⟨by decide, by decide⟩ hF (fun h12 σ23 R12 T12 hF => ?_)
  refine s_gAs R12 (t_23 R12.S) (Nat.le_of_ble_eq_true rfl) rfl (o_23_3 R12.S) (a_27 R12) ?_
  refine s_qI R12 (u_27 R12.S).1 (u_27 R12.S).2 (by decide) (a_27 R12) (c_lit 262 262 rfl) ⟨by decide, by decide⟩ (c_lit 150 150 rfl) ⟨by decide, by decide⟩ hF (fun h14 σ27 R14 T14 hF => ?_)
  refine s_gAs R14 (t_23 R14.S) (Nat.le_of_ble_eq_true rfl) rfl (o_23_3 R14.S) (a_27 R14) ?_
  refine s_qI R14 (u_27 R14.S).1 (u_27 R14.S).2 (by decide) (a_27 R14) (c_lit 263 263 rfl) ⟨by decide, by decide⟩ (c_lit 100 100 rfl) ⟨by decide, by decide⟩ hF (fun h16 σ31 R16 T16 hF => ?_)
  refine s_gAs R16 (t_23 R16.S) (Nat.le_of_ble_eq_true rfl) rfl (o_23_3 R16.S) (a_27 R16) ?_
  refine s_qI R16 (u_27 R16.S).1 (u_27 R16.S).2 (by decide) (a_27 R16) (c_lit 265 265 rfl) ⟨by decide, by decide⟩ (c_lit 10000 10000 rfl) ⟨by decide, by decide⟩ hF (fun h18 σ35 R18 T18 hF => ?_)
  refine s_gAs R18 (t_23 R18.S) (Nat.le_of_ble_eq_true rfl) rfl (o_23_3 R18.S) (a_27 R18) ?_
  refine s_qI R18 (u_27 R18.S).1 (u_27 R18.S).2 (by decide) (a_27 R18) (c_lit 266 266 rfl) ⟨by decide, by decide⟩ (c_lit 10000 10000 rfl) ⟨by decide, by decide⟩ hF (fun h20 σ39 R20 T20 hF => ?_)
  refine s_gAs R20 (t_23 R20.S) (Nat.le_of_ble_eq_true rfl) rfl (o_23_3 R20.S) (a_27 R20) ?_
  refine s_qI R20 (u_27 R20.S).1 (u_27 R20.S).2 (by decide) (a_27 R20) (c_lit 267 267 rfl) ⟨by decide, by decide⟩ (c_lit 5000 5000 rfl) ⟨by decide, by decide⟩ hF (fun h22 σ43 R22 T22 hF => ?_)
  refine s_gAs R22 (t_23 R22.S) (Nat.le_of_ble_eq_true rfl) rfl (o_23_3 R22.S) (a_27 R22) ?_
  refine s_qI R22 (u_27 R22.S).1 (u_27 R22.S).2 (by decide) (a_27 R22) (c_lit 525 525 rfl) ⟨by decide, by decide⟩ (c_lit 26214400 26214400 rfl) ⟨by decide, by decide⟩ hF (fun h24 σ47 R24 T24 hF => ?_)
  refine s_gAs R24 (t_23 R24.S) (Nat.le_of_ble_eq_true rfl) rfl (o_23_3 R24.S) (a_27 R24) ?_
  refine s_qI R24 (u_27 R24.S).1 (u_27 R24.S).2 (by decide) (a_27 R24) (c_lit 526 526 rfl) ⟨by decide, by decide⟩ (c_lit 39321600 39321600 rfl) ⟨by decide, by decide⟩ hF (fun h26 σ51 R26 T26 hF => ?_)
  refine s_gAs R26 (t_23 R26.S) (Nat.le_of_ble_eq_true rfl) rfl (o_23_3 R26.S) (a_27 R26) ?_
  refine s_qI R26 (u_27 R26.S).1 (u_27 R26.S).2 (by decide) (a_27 R26) (c_lit 527 527 rfl) ⟨by decide, by decide⟩ (c_lit 1310720 1310720 rfl) ⟨by decide, by decide⟩ hF (fun h28 σ55 R28 T28 hF => ?_)
  refine s_gAs R28 (t_23 R28.S) (Nat.le_of_ble_eq_true rfl) rfl (o_23_3 R28.S) (a_27 R28) ?_
  refine s_qI R28 (u_27 R28.S).1 (u_27 R28.S).2 (by decide) (a_27 R28) (c_lit 529 529 rfl) ⟨by decide, by decide⟩ (c_lit 262144 262144 rfl) ⟨by decide, by decide⟩ hF (fun h30 σ59 R30 T30 hF => ?_)
  refine s_gAs R30 (t_23 R30.S) (Nat.le_of_ble_eq_true rfl) rfl (o_23_3 R30.S) (a_27 R30) ?_
  refine s_qI R30 (u_27 R30.S).1 (u_27 R30.S).2 (by decide) (a_27 R30) (c_lit 1556 1556 rfl) ⟨by decide, by decide⟩ (c_lit 65536 65536 rfl) ⟨by decide, by decide⟩ hF (fun h32 σ63 R32 T32 hF => ?_)
  refine s_gAs R32 (t_23 R32.S) (Nat.le_of_ble_eq_true rfl) rfl (o_23_3 R32.S) (a_27 R32) ?_
  refine s_qI R32 (u_27 R32.S).1 (u_27 R32.S).2 (by decide) (a_27 R32) (c_lit 1559 1559 rfl) ⟨by decide, by decide⟩ (c_lit 786432 786432 rfl) ⟨by decide, by decide⟩ hF (fun h34 σ67 R34 T34 hF => ?_)
  refine s_gAs R34 (t_23 R34.S) (Nat.le_of_ble_eq_true rfl) rfl (o_23_3 R34.S) (a_27 R34) ?_
  refine s_qI R34 (u_27 R34.S).1 (u_27 R34.S).2 (by decide) (a_27 R34) (c_lit 1563 1563 rfl) ⟨by decide, by decide⟩ (c_lit 65536 65536 rfl) ⟨by decide, by decide⟩ hF (fun h36 σ71 R36 T36 hF => ?_)
  refine s_gAs R36 (t_23 R36.S) (Nat.le_of_ble_eq_true rfl) rfl (o_23_3 R36.S) (a_27 R36) ?_
  refine s_qI R36 (u_27 R36.S).1 (u_27 R36.S).2 (by decide) (a_27 R36) (c_lit 1567 1567 rfl) ⟨by decide, by decide⟩ (c_lit 655360 655360 rfl) ⟨by decide, by decide⟩ hF (fun h38 σ75 R38 T38 hF => ?_)
  refine s_gAs R38 (t_23 R38.S) (Nat.le_of_ble_eq_true rfl) rfl (o_23_3 R38.S) (a_27 R38) ?_
  refine s_qI R38 (u_27 R38.S).1 (u_27 R38.S).2 (by decide) (a_27 R38) (c_lit 1580 1580 rfl) ⟨by decide, by decide⟩ (c_lit 65536 65536 rfl) ⟨by decide, by decide⟩ hF (fun h40 σ79 R40 T40 hF => ?_)
  refine s_gAs R40 (t_23 R40.S) (Nat.le_of_ble_eq_true rfl) rfl (o_23_3 R40.S) (a_27 R40) ?_
  refine s_qI R40 (u_27 R40.S).1 (u_27 R40.S).2 (by decide) (a_27 R40) (c_lit 1581 1581 rfl) ⟨by decide, by decide⟩ (c_lit 1 1 rfl) ⟨by decide, by decide⟩ hF (fun h42 σ83 R42 T42 hF => ?_)
  exact g_ret R42 hF trivial
def FX9_clear_b92 (N : Nat) (K34 : Int → fS → Option (Unit × fS)) (l1 : Int) (s1 : Int) (s2 : Int) (s : fS) : Option (Unit × fS) :=
  (uQI s 27 s1 s2).bind fun σ1 =>
  K34 (iadd l1 1) σ1
theorem SX9_clear_b92 {m b : Nat} {φ0 : Nat → Nat} {σo : fS} {N : Nat} {k34 : Nat → Int32 → eH → Option (Unit × eH)} {K34 : Int → fS → Option (Unit × fS)} {q : Unit × fS} (hk34 : ∀ {φ : Nat → Nat} {h : eH} {s : fS} {l1' : Int32} {l1 : Int}, fC m b φ0 σo φ h s → l1' = iI l1 → r32 l1 → K34 l1 s = some q → gG m b φ0 σo lU q (k34 23 l1' h)) {φ : Nat → Nat} {h : eH} {s : fS} {l1' : Int32} {l1 : Int} {s1' : Int32} {s1 : Int} {s2' : Int32} {s2 : Int} (R : fC m b φ0 σo φ h s) (el1 : l1' = iI l1) (rl1 : r32 l1) (es1 : s1' = iI s1) (rs1 : r32 s1) (es2 : s2' = iI s2) (rs2 : r32 s2) (hF : FX9_clear_b92 N K34 l1 s1 s2 s = some q) : gG m b φ0 σo lU q (fX9_clear_b92 N k34 23 l1' 27 s1' s2' h) := by
  subst el1; subst es1; subst es2
  unfold FX9_clear_b92 at hF
  unfold fX9_clear_b92
  refine s_qI R (u_27 R.S).1 (u_27 R.S).2 (by decide) (a_27 R) rfl rs1 rfl rs2 hF (fun h1 σ1 R1 T1 hF => ?_)
  exact hk34 R1 (c_add rfl (c_lit 1 1 rfl)) (rr_I _) hF
def FX9_clear_b85 (N : Nat) (K34 : Int → fS → Option (Unit × fS)) (l1 : Int) (s1 : Int) (s : fS) : Option (Unit × fS) :=
  FX9_clear_b92 N K34 l1 s1 11 s
theorem SX9_clear_b85 {m b : Nat} {φ0 : Nat → Nat} {σo : fS} {N : Nat} {k34 : Nat → Int32 → eH → Option (Unit × eH)} {K34 : Int → fS → Option (Unit × fS)} {q : Unit × fS} (hk34 : ∀ {φ : Nat → Nat} {h : eH} {s : fS} {l1' : Int32} {l1 : Int}, fC m b φ0 σo φ h s → l1' = iI l1 → r32 l1 → K34 l1 s = some q → gG m b φ0 σo lU q (k34 23 l1' h)) {φ : Nat → Nat} {h : eH} {s : fS} {l1' : Int32} {l1 : Int} {s1' : Int32} {s1 : Int} (R : fC m b φ0 σo φ h s) (el1 : l1' = iI l1) (rl1 : r32 l1) (es1 : s1' = iI s1) (rs1 : r32 s1) (hF : FX9_clear_b85 N K34 l1 s1 s = some q) : gG m b φ0 σo lU q (fX9_clear_b85 N k34 23 l1' 27 s1' h) := by
  subst el1; subst es1
  unfold FX9_clear_b85 at hF
  unfold fX9_clear_b85
  exact SX9_clear_b92 (N := N) (k34 := k34) (K34 := K34) @hk34 R rfl rl1 rfl rs1 (c_lit 11 11 rfl) ⟨by decide, by decide⟩ hF
def FX9_clear_b90 (N : Nat) (K34 : Int → fS → Option (Unit × fS)) (l1 : Int) (s1 : Int) (s : fS) : Option (Unit × fS) :=
  FX9_clear_b92 N K34 l1 s1 12 s
theorem SX9_clear_b90 {m b : Nat} {φ0 : Nat → Nat} {σo : fS} {N : Nat} {k34 : Nat → Int32 → eH → Option (Unit × eH)} {K34 : Int → fS → Option (Unit × fS)} {q : Unit × fS} (hk34 : ∀ {φ : Nat → Nat} {h : eH} {s : fS} {l1' : Int32} {l1 : Int}, fC m b φ0 σo φ h s → l1' = iI l1 → r32 l1 → K34 l1 s = some q → gG m b φ0 σo lU q (k34 23 l1' h)) {φ : Nat → Nat} {h : eH} {s : fS} {l1' : Int32} {l1 : Int} {s1' : Int32} {s1 : Int} (R : fC m b φ0 σo φ h s) (el1 : l1' = iI l1) (rl1 : r32 l1) (es1 : s1' = iI s1) (rs1 : r32 s1) (hF : FX9_clear_b90 N K34 l1 s1 s = some q) : gG m b φ0 σo lU q (fX9_clear_b90 N k34 23 l1' 27 s1' h) := by
  subst el1; subst es1
  unfold FX9_clear_b90 at hF
  unfold fX9_clear_b90
  exact SX9_clear_b92 (N := N) (k34 := k34) (K34 := K34) @hk34 R rfl rl1 rfl rs1 (c_lit 12 12 rfl) ⟨by decide, by decide⟩ hF
def FX9_clear_b73 (N : Nat) (K34 : Int → fS → Option (Unit × fS)) (l1 : Int) (s1 : Int) (s : fS) : Option (Unit × fS) :=
  if l1 < 65 then
    FX9_clear_b90 N K34 l1 s1 s
  else
    if 90 < l1 then
      FX9_clear_b90 N K34 l1 s1 s
    else
      FX9_clear_b85 N K34 l1 s1 s
theorem SX9_clear_b73 {m b : Nat} {φ0 : Nat → Nat} {σo : fS} {N : Nat} {k34 : Nat → Int32 → eH → Option (Unit × eH)} {K34 : Int → fS → Option (Unit × fS)} {q : Unit × fS} (hk34 : ∀ {φ : Nat → Nat} {h : eH} {s : fS} {l1' : Int32} {l1 : Int}, fC m b φ0 σo φ h s → l1' = iI l1 → r32 l1 → K34 l1 s = some q → gG m b φ0 σo lU q (k34 23 l1' h)) {φ : Nat → Nat} {h : eH} {s : fS} {l1' : Int32} {l1 : Int} {s1' : Int32} {s1 : Int} (R : fC m b φ0 σo φ h s) (el1 : l1' = iI l1) (rl1 : r32 l1) (es1 : s1' = iI s1) (rs1 : r32 s1) (hF : FX9_clear_b73 N K34 l1 s1 s = some q) : gG m b φ0 σo lU q (fX9_clear_b73 N k34 23 l1' 27 s1' h) := by
  subst el1; subst es1
  unfold FX9_clear_b73 at hF
  unfold fX9_clear_b73
  refine s_if (i_lt rfl (c_lit 65 65 rfl) rl1 ⟨by decide, by decide⟩) hF (fun c1 hF => ?_) (fun c1 hF => ?_)
  ·
    exact SX9_clear_b90 (N := N) (k34 := k34) (K34 := K34) @hk34 R rfl rl1 rfl rs1 hF
  ·
    refine s_if (i_lt (c_lit 90 90 rfl) rfl ⟨by decide, by decide⟩ rl1) hF (fun c2 hF => ?_) (fun c2 hF => ?_)
    ·
      exact SX9_clear_b90 (N := N) (k34 := k34) (K34 := K34) @hk34 R rfl rl1 rfl rs1 hF
    ·
      exact SX9_clear_b85 (N := N) (k34 := k34) (K34 := K34) @hk34 R rfl rl1 rfl rs1 hF
def FX9_clear_b34 (N : Nat) : Nat → Int → fS → Option (Unit × fS)
  | 0, _, _ => none
  | n + 1, l1, s =>
    if 256 ≤ l1 then
      (FX9_clearCategories s).bind fun q3 =>
      (FX9_clearNamed q3.2).bind fun q5 =>
      (uQI q5.2 27 2095 (-1)).bind fun σ8 =>
      (uPI σ8 23 6 0).bind fun σ10 =>
      (uPI σ10 23 11 0).bind fun σ12 =>
      some ((), σ12)
    else
      (uQI s 27 (iadd 1583 l1) (-1)).bind fun σ16 =>
      if l1 < 97 then
        FX9_clear_b73 N (FX9_clear_b34 N n) l1 (iadd 1839 l1) σ16
      else
        if l1 ≤ 122 then
          FX9_clear_b85 N (FX9_clear_b34 N n) l1 (iadd 1839 l1) σ16
        else
          FX9_clear_b73 N (FX9_clear_b34 N n) l1 (iadd 1839 l1) σ16
theorem SX9_clear_b34 {m b : Nat} {φ0 : Nat → Nat} {σo : fS} {N : Nat} {q : Unit × fS} : ∀ {n : Nat} {φ : Nat → Nat} {h : eH} {s : fS} {l1' : Int32} {l1 : Int}, fC m b φ0 σo φ h s → l1' = iI l1 → r32 l1 → FX9_clear_b34 N n l1 s = some q → gG m b φ0 σo lU q (fX9_clear_b34 N n 23 l1' h) := by
  intro n
  induction n with
 | zero => intro φ h s l1' l1 R el1 rl1 hF; simp [FX9_clear_b34] at hF
  | succ n ih =>
    intro φ h s l1' l1 R el1 rl1 hF
    subst el1
    rw [FX9_clear_b34] at hF
    rw [fX9_clear_b34]
    refine s_if (i_le (c_lit 256 256 rfl) rfl ⟨by decide, by decide⟩ rl1) hF (fun c1 hF => ?_) (fun c1 hF => ?_)
    ·
      refine s_kok R (t_23 R.S) (Nat.le_of_ble_eq_true rfl) ?_
      refine s_call R (Nat.zero_le _) (fun _ hq => SX9_clearCategories (b := 0) (R.rf) hq) hF (fun f3 rv3 h3 q3 R3 e3 E3 hF => ?_)
      refine s_kok R3 (t_23 R3.S) (Nat.le_of_ble_eq_true rfl) ?_
      refine s_call R3 (Nat.zero_le _) (fun _ hq => SX9_clearNamed (b := 0) (R3.rf) hq) hF (fun f5 rv5 h5 q5 R5 e5 E5 hF => ?_)
      refine s_gAs R5 (t_23 R5.S) (Nat.le_of_ble_eq_true rfl) rfl (o_23_3 R5.S) (a_27 R5) ?_
      refine s_qI R5 (u_27 R5.S).1 (u_27 R5.S).2 (by decide) (a_27 R5) (c_lit 2095 2095 rfl) ⟨by decide, by decide⟩ (c_lit (-1) (-1) rfl) ⟨by decide, by decide⟩ hF (fun h7 σ8 R7 T7 hF => ?_)
      refine s_pI R7 (t_23 R7.S) (Nat.le_of_ble_eq_true rfl) rfl (c_lit 0 0 rfl) ⟨by decide, by decide⟩ hF (fun h8 σ10 R8 T8 hF => ?_)
      refine s_pI R8 (t_23 R8.S) (Nat.le_of_ble_eq_true rfl) rfl (c_lit 0 0 rfl) ⟨by decide, by decide⟩ hF (fun h9 σ12 R9 T9 hF => ?_)
      exact g_ret R9 hF trivial
    ·
      refine s_gAs R (t_23 R.S) (Nat.le_of_ble_eq_true rfl) rfl (o_23_3 R.S) (a_27 R) ?_
      refine s_qI R (u_27 R.S).1 (u_27 R.S).2 (by decide) (a_27 R) (c_add (c_lit 1583 1583 rfl) rfl) (rr_I _) (c_lit (-1) (-1) rfl) ⟨by decide, by decide⟩ hF (fun h11 σ16 R11 T11 hF => ?_)
      refine s_gAs R11 (t_23 R11.S) (Nat.le_of_ble_eq_true rfl) rfl (o_23_3 R11.S) (a_27 R11) ?_
      refine s_if (i_lt rfl (c_lit 97 97 rfl) rl1 ⟨by decide, by decide⟩) hF (fun c13 hF => ?_) (fun c13 hF => ?_)
      ·
        exact SX9_clear_b73 (N := N) (k34 := fX9_clear_b34 N n) (K34 := FX9_clear_b34 N n) @ih R11 rfl rl1 (c_add (c_lit 1839 1839 rfl) rfl) (rr_I _) hF
      ·
        refine s_if (i_le rfl (c_lit 122 122 rfl) rl1 ⟨by decide, by decide⟩) hF (fun c14 hF => ?_) (fun c14 hF => ?_)
        ·
          exact SX9_clear_b85 (N := N) (k34 := fX9_clear_b34 N n) (K34 := FX9_clear_b34 N n) @ih R11 rfl rl1 (c_add (c_lit 1839 1839 rfl) rfl) (rr_I _) hF
        ·
          exact SX9_clear_b73 (N := N) (k34 := fX9_clear_b34 N n) (K34 := FX9_clear_b34 N n) @ih R11 rfl rl1 (c_add (c_lit 1839 1839 rfl) rfl) (rr_I _) hF
def FX9_clear (N : Nat) (s : fS) : Option (Unit × fS) :=
  (FJ0_fill N 24 0 s).bind fun q3 =>
  (FJ0_fill N 26 0 q3.2).bind fun q6 =>
  (FJ0_fill N 27 0 q6.2).bind fun q9 =>
  (FJ0_fill N 28 0 q9.2).bind fun q12 =>
  FX9_clear_b34 N N 0 q12.2
theorem SX9_clear {m b : Nat} {φ0 : Nat → Nat} {σo : fS} {N : Nat} {q : Unit × fS} {φ : Nat → Nat} {h : eH} {s : fS} (R : fC m b φ0 σo φ h s) (hF : FX9_clear N s = some q) : gG m b φ0 σo lU q (fX9_clear N 23 h) := by
  unfold FX9_clear at hF
  unfold fX9_clear
  refine s_gA R (t_23 R.S) (Nat.le_of_ble_eq_true rfl) rfl (o_23_0 R.S) (fun _ _ => ?_)
  refine s_call R (Nat.zero_le _) (fun _ hq => SJ0_fill (b := 0) (N := N) (R.rf) rfl (u_24 R.S).1 (c_lit 0 0 rfl) ⟨by decide, by decide⟩ hq) hF (fun f2 rv2 h2 q3 R2 e2 E2 hF => ?_)
  refine s_gA R2 (t_23 R2.S) (Nat.le_of_ble_eq_true rfl) rfl (o_23_2 R2.S) (fun _ _ => ?_)
  refine s_call R2 (Nat.zero_le _) (fun _ hq => SJ0_fill (b := 0) (N := N) (R2.rf) rfl (u_26 R2.S).1 (c_lit 0 0 rfl) ⟨by decide, by decide⟩ hq) hF (fun f4 rv4 h4 q6 R4 e4 E4 hF => ?_)
  refine s_gAs R4 (t_23 R4.S) (Nat.le_of_ble_eq_true rfl) rfl (o_23_3 R4.S) (a_27 R4) ?_
  refine s_call R4 (Nat.zero_le _) (fun _ hq => SJ0_fill (b := 0) (N := N) (R4.rf) (a_27 R4) (u_27 R4.S).1 (c_lit 0 0 rfl) ⟨by decide, by decide⟩ hq) hF (fun f6 rv6 h6 q9 R6 e6 E6 hF => ?_)
  refine s_gAs R6 (t_23 R6.S) (Nat.le_of_ble_eq_true rfl) rfl (o_23_4 R6.S) (a_28 R6) ?_
  refine s_call R6 (Nat.zero_le _) (fun _ hq => SJ0_fill (b := 0) (N := N) (R6.rf) (a_28 R6) (u_28 R6.S).1 (c_lit 0 0 rfl) ⟨by decide, by decide⟩ hq) hF (fun f8 rv8 h8 q12 R8 e8 E8 hF => ?_)
  exact SX9_clear_b34 (N := N) R8 (c_lit 0 0 rfl) ⟨by decide, by decide⟩ hF
def FX10_open (s : fS) : Option (Unit × fS) :=
  (uPI s 44 8 0).bind fun σ1 =>
  some ((), σ1)
theorem SX10_open {m b : Nat} {φ0 : Nat → Nat} {σo : fS} {q : Unit × fS} {φ : Nat → Nat} {h : eH} {s : fS} (R : fC m b φ0 σo φ h s) (hF : FX10_open s = some q) : gG m b φ0 σo lU q (fX10_open 44 h) := by
  unfold FX10_open at hF
  unfold fX10_open
  refine s_pI R (t_44 R.S) (Nat.le_of_ble_eq_true rfl) rfl (c_lit 0 0 rfl) ⟨by decide, by decide⟩ hF (fun h1 σ1 R1 T1 hF => ?_)
  exact g_ret R1 hF trivial
