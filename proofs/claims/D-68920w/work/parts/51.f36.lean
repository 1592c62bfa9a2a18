set_option maxRecDepth 100000
set_option maxHeartbeats 4000000
def FX38_move_b222 (N : Nat) (s : fS) : Option (Unit × fS) :=
  some ((), s)
theorem SX38_move_b222 {m b : Nat} {φ0 : Nat → Nat} {σo : fS} (hm : 1 ≤ m) {N : Nat} {q : Unit × fS} {φ : Nat → Nat} {h : eH} {s : fS} (R : fC m b φ0 σo φ h s) (hF : FX38_move_b222 N s = some q) : gG m b φ0 σo lU q (fX38_move_b222 N h) := by
  unfold FX38_move_b222 at hF
  unfold fX38_move_b222
  exact g_ret R hF trivial
def FX38_move_b106 (N : Nat) (l3 : Int) (l4 : Int) (l5 : Int) (l7 : Int) (s : fS) : Option (Unit × fS) :=
  (FX38_lay (iadd (iadd l3 4) l7) s).bind fun q2 =>
  (FX38_layNumber N l5 l7 q2.2).bind fun q4 =>
  (uQI q4.2 259 l4 l5).bind fun σ7 =>
  FX38_move_b222 N σ7
theorem SX38_move_b106 {m b : Nat} {φ0 : Nat → Nat} {σo : fS} (hm : 1 ≤ m) {N : Nat} {q : Unit × fS} {φ : Nat → Nat} {h : eH} {s : fS} {l3' : Int32} {l3 : Int} {l4' : Int32} {l4 : Int} {l5' : Int32} {l5 : Int} {l7' : Int32} {l7 : Int} (R : fC m b φ0 σo φ h s) (el3 : l3' = iI l3) (rl3 : r32 l3) (el4 : l4' = iI l4) (rl4 : r32 l4) (el5 : l5' = iI l5) (rl5 : r32 l5) (el7 : l7' = iI l7) (rl7 : r32 l7) (hF : FX38_move_b106 N l3 l4 l5 l7 s = some q) : gG m b φ0 σo lU q (fX38_move_b106 N 243 l3' l4' l5' l7' h) := by
  subst el3; subst el4; subst el5; subst el7
  unfold FX38_move_b106 at hF
  unfold fX38_move_b106
  refine s_kok R (t_243 hm R.S) (Nat.le_of_ble_eq_true rfl) ?_
  refine s_call R (Nat.zero_le _) (fun _ hq => SX38_lay (b := 0) hm (R.rf) (c_add (c_add rfl (c_lit 4 4 rfl)) rfl) (rr_I _) hq) hF (fun f2 rv2 h2 q2 R2 e2 E2 hF => ?_)
  refine s_kok R2 (t_243 hm R2.S) (Nat.le_of_ble_eq_true rfl) ?_
  refine s_call R2 (Nat.zero_le _) (fun _ hq => SX38_layNumber (b := 0) (N := N) hm (R2.rf) rfl rl5 rfl rl7 hq) hF (fun f4 rv4 h4 q4 R4 e4 E4 hF => ?_)
  refine s_gAs R4 (t_243 hm R4.S) (Nat.le_of_ble_eq_true rfl) rfl (o_243_22 hm R4.S) (a_259 hm R4) ?_
  refine s_qI R4 (u_259 hm R4.S).1 (u_259 hm R4.S).2 (by decide) (a_259 hm R4) rfl rl4 rfl rl5 hF (fun h6 σ7 R6 T6 hF => ?_)
  exact SX38_move_b222 (N := N) hm R6 hF
def FX38_move_b173 (N : Nat) (l3 : Int) (l5 : Int) (l6 : Int) (l7 : Int) (s : fS) : Option (Unit × fS) :=
  (FX38_lay (iadd (iadd l3 9) l7) s).bind fun q2 =>
  (FX38_layNumber N l5 l7 q2.2).bind fun q4 =>
  (uQI q4.2 259 l6 l5).bind fun σ7 =>
  FX38_move_b222 N σ7
theorem SX38_move_b173 {m b : Nat} {φ0 : Nat → Nat} {σo : fS} (hm : 1 ≤ m) {N : Nat} {q : Unit × fS} {φ : Nat → Nat} {h : eH} {s : fS} {l3' : Int32} {l3 : Int} {l5' : Int32} {l5 : Int} {l6' : Int32} {l6 : Int} {l7' : Int32} {l7 : Int} (R : fC m b φ0 σo φ h s) (el3 : l3' = iI l3) (rl3 : r32 l3) (el5 : l5' = iI l5) (rl5 : r32 l5) (el6 : l6' = iI l6) (rl6 : r32 l6) (el7 : l7' = iI l7) (rl7 : r32 l7) (hF : FX38_move_b173 N l3 l5 l6 l7 s = some q) : gG m b φ0 σo lU q (fX38_move_b173 N 243 l3' l5' l6' l7' h) := by
  subst el3; subst el5; subst el6; subst el7
  unfold FX38_move_b173 at hF
  unfold fX38_move_b173
  refine s_kok R (t_243 hm R.S) (Nat.le_of_ble_eq_true rfl) ?_
  refine s_call R (Nat.zero_le _) (fun _ hq => SX38_lay (b := 0) hm (R.rf) (c_add (c_add rfl (c_lit 9 9 rfl)) rfl) (rr_I _) hq) hF (fun f2 rv2 h2 q2 R2 e2 E2 hF => ?_)
  refine s_kok R2 (t_243 hm R2.S) (Nat.le_of_ble_eq_true rfl) ?_
  refine s_call R2 (Nat.zero_le _) (fun _ hq => SX38_layNumber (b := 0) (N := N) hm (R2.rf) rfl rl5 rfl rl7 hq) hF (fun f4 rv4 h4 q4 R4 e4 E4 hF => ?_)
  refine s_gAs R4 (t_243 hm R4.S) (Nat.le_of_ble_eq_true rfl) rfl (o_243_22 hm R4.S) (a_259 hm R4) ?_
  refine s_qI R4 (u_259 hm R4.S).1 (u_259 hm R4.S).2 (by decide) (a_259 hm R4) rfl rl6 rfl rl5 hF (fun h6 σ7 R6 T6 hF => ?_)
  exact SX38_move_b222 (N := N) hm R6 hF
def FX38_move_b204 (N : Nat) (l3 : Int) (l5 : Int) (l7 : Int) (s : fS) : Option (Unit × fS) :=
  (FX38_lay (isub (iadd l3 l7) 1) s).bind fun q2 =>
  (FX38_layNumber N l5 l7 q2.2).bind fun q4 =>
  FX38_move_b222 N q4.2
theorem SX38_move_b204 {m b : Nat} {φ0 : Nat → Nat} {σo : fS} (hm : 1 ≤ m) {N : Nat} {q : Unit × fS} {φ : Nat → Nat} {h : eH} {s : fS} {l3' : Int32} {l3 : Int} {l5' : Int32} {l5 : Int} {l7' : Int32} {l7 : Int} (R : fC m b φ0 σo φ h s) (el3 : l3' = iI l3) (rl3 : r32 l3) (el5 : l5' = iI l5) (rl5 : r32 l5) (el7 : l7' = iI l7) (rl7 : r32 l7) (hF : FX38_move_b204 N l3 l5 l7 s = some q) : gG m b φ0 σo lU q (fX38_move_b204 N 243 l3' l5' l7' h) := by
  subst el3; subst el5; subst el7
  unfold FX38_move_b204 at hF
  unfold fX38_move_b204
  refine s_kok R (t_243 hm R.S) (Nat.le_of_ble_eq_true rfl) ?_
  refine s_call R (Nat.zero_le _) (fun _ hq => SX38_lay (b := 0) hm (R.rf) (c_sub (c_add rfl rfl) (c_lit 1 1 rfl)) (rr_I _) hq) hF (fun f2 rv2 h2 q2 R2 e2 E2 hF => ?_)
  refine s_kok R2 (t_243 hm R2.S) (Nat.le_of_ble_eq_true rfl) ?_
  refine s_call R2 (Nat.zero_le _) (fun _ hq => SX38_layNumber (b := 0) (N := N) hm (R2.rf) rfl rl5 rfl rl7 hq) hF (fun f4 rv4 h4 q4 R4 e4 E4 hF => ?_)
  exact SX38_move_b222 (N := N) hm R4 hF
def FX38_move_b136 (N : Nat) (l1 : Nat) (l2 : Int) (l3 : Int) (l5 : Int) (l6 : Int) (l7 : Int) (s : fS) : Option (Unit × fS) :=
  (FX38_comes N l1 l2 l5 s).bind fun q2 =>
  if q2.1 = 0 then
    FX38_move_b204 N l3 l5 l7 q2.2
  else
    (uRI q2.2 259 l6).bind fun x6 =>
    if x6 = 0 then
      FX38_move_b173 N l3 l5 l6 l7 q2.2
    else
      (uRI q2.2 259 l6).bind fun x11 =>
      (FX38_comes N l1 l2 x11 q2.2).bind fun q14 =>
      if ¬ (q14.1 = 0) then
        FX38_move_b204 N l3 l5 l7 q14.2
      else
        FX38_move_b173 N l3 l5 l6 l7 q14.2
theorem SX38_move_b136 {m b : Nat} {φ0 : Nat → Nat} {σo : fS} (hm : 1 ≤ m) {N : Nat} {q : Unit × fS} {φ : Nat → Nat} {h : eH} {s : fS} {l1' : Nat} {l1 : Nat} {l2' : Int32} {l2 : Int} {l3' : Int32} {l3 : Int} {l5' : Int32} {l5 : Int} {l6' : Int32} {l6 : Int} {l7' : Int32} {l7 : Int} (R : fC m b φ0 σo φ h s) (el1 : l1' = φ l1) (al1 : s.t l1 < 128) (el2 : l2' = iI l2) (rl2 : r32 l2) (el3 : l3' = iI l3) (rl3 : r32 l3) (el5 : l5' = iI l5) (rl5 : r32 l5) (el6 : l6' = iI l6) (rl6 : r32 l6) (el7 : l7' = iI l7) (rl7 : r32 l7) (hF : FX38_move_b136 N l1 l2 l3 l5 l6 l7 s = some q) : gG m b φ0 σo lU q (fX38_move_b136 N 243 l1' l2' l3' l5' l6' l7' h) := by
  subst el2; subst el3; subst el5; subst el6; subst el7
  unfold FX38_move_b136 at hF
  unfold fX38_move_b136
  refine s_kok R (t_243 hm R.S) (Nat.le_of_ble_eq_true rfl) ?_
  refine s_call R (Nat.zero_le _) (fun _ hq => SX38_comes (b := 0) (N := N) hm (R.rf) el1 al1 rfl rl2 rfl rl5 hq) hF (fun f2 rv2 h2 q2 R2 e2 E2 hF => ?_)
  refine s_if (i_eq e2.1 (c_lit 0 0 rfl) e2.2 ⟨by decide, by decide⟩) hF (fun c3 hF => ?_) (fun c3 hF => ?_)
  ·
    exact SX38_move_b204 (N := N) hm R2 rfl rl3 rfl rl5 rfl rl7 hF
  ·
    refine s_gAs R2 (t_243 hm R2.S) (Nat.le_of_ble_eq_true rfl) rfl (o_243_22 hm R2.S) (a_259 hm R2) ?_
    refine s_rI R2 (u_259 hm R2.S).1 (u_259 hm R2.S).2 (by decide) (a_259 hm R2) rfl rl6 hF (fun x6 ra5 hF => ?_)
    refine s_if (i_eq rfl (c_lit 0 0 rfl) ra5 ⟨by decide, by decide⟩) hF (fun c6 hF => ?_) (fun c6 hF => ?_)
    ·
      exact SX38_move_b173 (N := N) hm R2 rfl rl3 rfl rl5 rfl rl6 rfl rl7 hF
    ·
      refine s_gAs R2 (t_243 hm R2.S) (Nat.le_of_ble_eq_true rfl) rfl (o_243_22 hm R2.S) (a_259 hm R2) ?_
      refine s_rI R2 (u_259 hm R2.S).1 (u_259 hm R2.S).2 (by decide) (a_259 hm R2) rfl rl6 hF (fun x11 ra8 hF => ?_)
      refine s_kok R2 (t_243 hm R2.S) (Nat.le_of_ble_eq_true rfl) ?_
      refine s_call R2 (Nat.zero_le _) (fun _ hq => SX38_comes (b := 0) (N := N) hm (R2.rf) (el1.trans (E2.k0 rfl _ al1).1.symm) (by rw [(E2.k0 rfl _ al1).2]; exact al1) rfl rl2 rfl ra8 hq) hF (fun f10 rv10 h10 q14 R10 e10 E10 hF => ?_)
      refine s_if (not_congr (i_eq e10.1 (c_lit 0 0 rfl) e10.2 ⟨by decide, by decide⟩)) hF (fun c11 hF => ?_) (fun c11 hF => ?_)
      ·
        exact SX38_move_b204 (N := N) hm R10 rfl rl3 rfl rl5 rfl rl7 hF
      ·
        exact SX38_move_b173 (N := N) hm R10 rfl rl3 rfl rl5 rfl rl6 rfl rl7 hF
def FX38_move (N : Nat) (p0 : Nat) (p1 : Int) (p2 : Int) (p3 : Int) (s : fS) : Option (Unit × fS) :=
  (uKA 100 s p0).bind fun _ =>
  (uRI s p0 p1).bind fun x1 =>
  (FX38_bytesOf x1 s).bind fun q3 =>
  if ¬ (x1 = 0) then
    (uRI q3.2 259 p3).bind fun x7 =>
    if ¬ (x7 = x1) then
      (uRI q3.2 259 (iadd p3 1)).bind fun x12 =>
      if ¬ (x12 = x1) then
        (FX38_comes N p0 p1 x1 q3.2).bind fun q16 =>
        if q16.1 = 0 then
          FX38_move_b136 N p0 p1 p2 x1 (iadd p3 1) q3.1 q16.2
        else
          (uRI q16.2 259 p3).bind fun x20 =>
          if x20 = 0 then
            FX38_move_b106 N p2 p3 x1 q3.1 q16.2
          else
            (uRI q16.2 259 p3).bind fun x25 =>
            (FX38_comes N p0 p1 x25 q16.2).bind fun q28 =>
            if ¬ (q28.1 = 0) then
              FX38_move_b136 N p0 p1 p2 x1 (iadd p3 1) q3.1 q28.2
            else
              FX38_move_b106 N p2 p3 x1 q3.1 q28.2
      else
        (FX38_lay (iadd p2 9) q3.2).bind fun q31 =>
        FX38_move_b222 N q31.2
    else
      (FX38_lay (iadd p2 4) q3.2).bind fun q33 =>
      FX38_move_b222 N q33.2
  else
    some ((), q3.2)
theorem SX38_move {m b : Nat} {φ0 : Nat → Nat} {σo : fS} (hm : 1 ≤ m) {N : Nat} {q : Unit × fS} {φ : Nat → Nat} {h : eH} {s : fS} {p0' : Nat} {p0 : Nat} {p1' : Int32} {p1 : Int} {p2' : Int32} {p2 : Int} {p3' : Int32} {p3 : Int} (R : fC m b φ0 σo φ h s) (ep0 : p0' = φ p0) (ap0 : s.t p0 < 128) (ep1 : p1' = iI p1) (rp1 : r32 p1) (ep2 : p2' = iI p2) (rp2 : r32 p2) (ep3 : p3' = iI p3) (rp3 : r32 p3) (hF : FX38_move N p0 p1 p2 p3 s = some q) : gG m b φ0 σo lU q (fX38_move N 243 p0' p1' p2' p3' h) := by
  subst ep1; subst ep2; subst ep3
  unfold FX38_move at hF
  unfold fX38_move
  refine s_KA hF (fun y2 z2 hF => ?_)
  refine s_rI R y2 z2 (by decide) ep0 rfl rp1 hF (fun x1 ra1 hF => ?_)
  refine s_call R (Nat.zero_le _) (fun _ hq => SX38_bytesOf (b := 0) hm (R.rf) rfl ra1 hq) hF (fun f3 rv3 h3 q3 R3 e3 E3 hF => ?_)
  refine s_if (not_congr (i_eq rfl (c_lit 0 0 rfl) ra1 ⟨by decide, by decide⟩)) hF (fun c4 hF => ?_) (fun c4 hF => ?_)
  ·
    refine s_gAs R3 (t_243 hm R3.S) (Nat.le_of_ble_eq_true rfl) rfl (o_243_22 hm R3.S) (a_259 hm R3) ?_
    refine s_rI R3 (u_259 hm R3.S).1 (u_259 hm R3.S).2 (by decide) (a_259 hm R3) rfl rp3 hF (fun x7 ra6 hF => ?_)
    refine s_if (not_congr (i_eq rfl rfl ra6 ra1)) hF (fun c7 hF => ?_) (fun c7 hF => ?_)
    ·
      refine s_gAs R3 (t_243 hm R3.S) (Nat.le_of_ble_eq_true rfl) rfl (o_243_22 hm R3.S) (a_259 hm R3) ?_
      refine s_rI R3 (u_259 hm R3.S).1 (u_259 hm R3.S).2 (by decide) (a_259 hm R3) (c_add rfl (c_lit 1 1 rfl)) (rr_I _) hF (fun x12 ra9 hF => ?_)
      refine s_if (not_congr (i_eq rfl rfl ra9 ra1)) hF (fun c10 hF => ?_) (fun c10 hF => ?_)
      ·
        refine s_kok R3 (t_243 hm R3.S) (Nat.le_of_ble_eq_true rfl) ?_
        refine s_call R3 (Nat.zero_le _) (fun _ hq => SX38_comes (b := 0) (N := N) hm (R3.rf) (ep0.trans (E3.k0 rfl _ y2).1.symm) (by rw [(E3.k0 rfl _ y2).2]; exact y2) rfl rp1 rfl ra1 hq) hF (fun f12 rv12 h12 q16 R12 e12 E12 hF => ?_)
        refine s_if (i_eq e12.1 (c_lit 0 0 rfl) e12.2 ⟨by decide, by decide⟩) hF (fun c13 hF => ?_) (fun c13 hF => ?_)
        ·
          exact SX38_move_b136 (N := N) hm R12 ((ep0.trans (E3.k0 rfl _ y2).1.symm).trans (E12.k0 rfl _ (by rw [(E3.k0 rfl _ y2).2]; exact y2)).1.symm) (by rw [(E12.k0 rfl _ (by rw [(E3.k0 rfl _ y2).2]; exact y2)).2]; exact (by rw [(E3.k0 rfl _ y2).2]; exact y2)) rfl rp1 rfl rp2 rfl ra1 (c_add rfl (c_lit 1 1 rfl)) (rr_I _) e3.1 e3.2 hF
        ·
          refine s_gAs R12 (t_243 hm R12.S) (Nat.le_of_ble_eq_true rfl) rfl (o_243_22 hm R12.S) (a_259 hm R12) ?_
          refine s_rI R12 (u_259 hm R12.S).1 (u_259 hm R12.S).2 (by decide) (a_259 hm R12) rfl rp3 hF (fun x20 ra15 hF => ?_)
          refine s_if (i_eq rfl (c_lit 0 0 rfl) ra15 ⟨by decide, by decide⟩) hF (fun c16 hF => ?_) (fun c16 hF => ?_)
          ·
            exact SX38_move_b106 (N := N) hm R12 rfl rp2 rfl rp3 rfl ra1 e3.1 e3.2 hF
          ·
            refine s_gAs R12 (t_243 hm R12.S) (Nat.le_of_ble_eq_true rfl) rfl (o_243_22 hm R12.S) (a_259 hm R12) ?_
            refine s_rI R12 (u_259 hm R12.S).1 (u_259 hm R12.S).2 (by decide) (a_259 hm R12) rfl rp3 hF (fun x25 ra18 hF => ?_)
            refine s_kok R12 (t_243 hm R12.S) (Nat.le_of_ble_eq_true rfl) ?_
            refine s_call R12 (Nat.zero_le _) (fun _ hq => SX38_comes (b := 0) (N := N) hm (R12.rf) ((ep0.trans (E3.k0 rfl _ y2).1.symm).trans (E12.k0 rfl _ (by rw [(E3.k0 rfl _ y2).2]; exact y2)).1.symm) (by rw [(E12.k0 rfl _ (by rw [(E3.k0 rfl _ y2).2]; exact y2)).2]; exact (by rw [(E3.k0 rfl _ y2).2]; exact y2)) rfl rp1 rfl ra18 hq) hF (fun f20 rv20 h20 q28 R20 e20 E20 hF => ?_)
            refine s_if (not_congr (i_eq e20.1 (c_lit 0 0 rfl) e20.2 ⟨by decide, by decide⟩)) hF (fun c21 hF => ?_) (fun c21 hF => ?_)
            ·
              exact SX38_move_b136 (N := N) hm R20 (((ep0.trans (E3.k0 rfl _ y2).1.symm).trans (E12.k0 rfl _ (by rw [(E3.k0 rfl _ y2).2]; exact y2)).1.symm).trans (E20.k0 rfl _ (by rw [(E12.k0 rfl _ (by rw [(E3.k0 rfl _ y2).2]; exact y2)).2]; exact (by rw [(E3.k0 rfl _ y2).2]; exact y2))).1.symm) (by rw [(E20.k0 rfl _ (by rw [(E12.k0 rfl _ (by rw [(E3.k0 rfl _ y2).2]; exact y2)).2]; exact (by rw [(E3.k0 rfl _ y2).2]; exact y2))).2]; exact (by rw [(E12.k0 rfl _ (by rw [(E3.k0 rfl _ y2).2]; exact y2)).2]; exact (by rw [(E3.k0 rfl _ y2).2]; exact y2))) rfl rp1 rfl rp2 rfl ra1 (c_add rfl (c_lit 1 1 rfl)) (rr_I _) e3.1 e3.2 hF
            ·
              exact SX38_move_b106 (N := N) hm R20 rfl rp2 rfl rp3 rfl ra1 e3.1 e3.2 hF
      ·
        refine s_kok R3 (t_243 hm R3.S) (Nat.le_of_ble_eq_true rfl) ?_
        refine s_call R3 (Nat.zero_le _) (fun _ hq => SX38_lay (b := 0) hm (R3.rf) (c_add rfl (c_lit 9 9 rfl)) (rr_I _) hq) hF (fun f23 rv23 h23 q31 R23 e23 E23 hF => ?_)
        exact SX38_move_b222 (N := N) hm R23 hF
    ·
      refine s_kok R3 (t_243 hm R3.S) (Nat.le_of_ble_eq_true rfl) ?_
      refine s_call R3 (Nat.zero_le _) (fun _ hq => SX38_lay (b := 0) hm (R3.rf) (c_add rfl (c_lit 4 4 rfl)) (rr_I _) hq) hF (fun f25 rv25 h25 q33 R25 e25 E25 hF => ?_)
      exact SX38_move_b222 (N := N) hm R25 hF
  ·
    exact g_ret R3 hF trivial
def FX38_isTold_b31 (N : Nat) (K4 : Int → Int → Int → fS → Option (Int × fS)) (l1 : Int) (l3 : Int) (s0 : Int) (s : fS) : Option (Int × fS) :=
  K4 l1 s0 (iadd l3 1) s
theorem SX38_isTold_b31 {m b : Nat} {φ0 : Nat → Nat} {σo : fS} (hm : 1 ≤ m) {N : Nat} {k4 : Nat → Int32 → Int32 → Int32 → eH → Option (Int32 × eH)} {K4 : Int → Int → Int → fS → Option (Int × fS)} {q : Int × fS} (hk4 : ∀ {φ : Nat → Nat} {h : eH} {s : fS} {l1' : Int32} {l1 : Int} {l2' : Int32} {l2 : Int} {l3' : Int32} {l3 : Int}, fC m b φ0 σo φ h s → l1' = iI l1 → r32 l1 → l2' = iI l2 → r32 l2 → l3' = iI l3 → r32 l3 → K4 l1 l2 l3 s = some q → gG m b φ0 σo lI q (k4 243 l1' l2' l3' h)) {φ : Nat → Nat} {h : eH} {s : fS} {l1' : Int32} {l1 : Int} {l3' : Int32} {l3 : Int} {s0' : Int32} {s0 : Int} (R : fC m b φ0 σo φ h s) (el1 : l1' = iI l1) (rl1 : r32 l1) (el3 : l3' = iI l3) (rl3 : r32 l3) (es0 : s0' = iI s0) (rs0 : r32 s0) (hF : FX38_isTold_b31 N K4 l1 l3 s0 s = some q) : gG m b φ0 σo lI q (fX38_isTold_b31 N k4 243 l1' l3' s0' h) := by
  subst el1; subst el3; subst es0
  unfold FX38_isTold_b31 at hF
  unfold fX38_isTold_b31
  exact hk4 R rfl rl1 rfl rs0 (c_add rfl (c_lit 1 1 rfl)) (rr_I _) hF
def FX38_isTold_b26 (N : Nat) (K4 : Int → Int → Int → fS → Option (Int × fS)) (l1 : Int) (l3 : Int) (s : fS) : Option (Int × fS) :=
  FX38_isTold_b31 N K4 l1 l3 1 s
theorem SX38_isTold_b26 {m b : Nat} {φ0 : Nat → Nat} {σo : fS} (hm : 1 ≤ m) {N : Nat} {k4 : Nat → Int32 → Int32 → Int32 → eH → Option (Int32 × eH)} {K4 : Int → Int → Int → fS → Option (Int × fS)} {q : Int × fS} (hk4 : ∀ {φ : Nat → Nat} {h : eH} {s : fS} {l1' : Int32} {l1 : Int} {l2' : Int32} {l2 : Int} {l3' : Int32} {l3 : Int}, fC m b φ0 σo φ h s → l1' = iI l1 → r32 l1 → l2' = iI l2 → r32 l2 → l3' = iI l3 → r32 l3 → K4 l1 l2 l3 s = some q → gG m b φ0 σo lI q (k4 243 l1' l2' l3' h)) {φ : Nat → Nat} {h : eH} {s : fS} {l1' : Int32} {l1 : Int} {l3' : Int32} {l3 : Int} (R : fC m b φ0 σo φ h s) (el1 : l1' = iI l1) (rl1 : r32 l1) (el3 : l3' = iI l3) (rl3 : r32 l3) (hF : FX38_isTold_b26 N K4 l1 l3 s = some q) : gG m b φ0 σo lI q (fX38_isTold_b26 N k4 243 l1' l3' h) := by
  subst el1; subst el3
  unfold FX38_isTold_b26 at hF
  unfold fX38_isTold_b26
  exact SX38_isTold_b31 (N := N) (k4 := k4) (K4 := K4) hm @hk4 R rfl rl1 rfl rl3 (c_lit 1 1 rfl) ⟨by decide, by decide⟩ hF
def FX38_isTold_b4 (N : Nat) : Nat → Int → Int → Int → fS → Option (Int × fS)
  | 0, _, _, _, _ => none
  | n + 1, l1, l2, l3, s =>
    if (s.i 243 11) ≤ l3 then
      uZ l2 (l2, s)
    else
      if ¬ (l2 = 0) then
        FX38_isTold_b26 N (FX38_isTold_b4 N n) l1 l3 s
      else
        (uRI s 250 l3).bind fun x8 =>
        if ¬ (x8 = l1) then
          FX38_isTold_b31 N (FX38_isTold_b4 N n) l1 l3 0 s
        else
          FX38_isTold_b26 N (FX38_isTold_b4 N n) l1 l3 s
theorem SX38_isTold_b4 {m b : Nat} {φ0 : Nat → Nat} {σo : fS} (hm : 1 ≤ m) {N : Nat} {q : Int × fS} : ∀ {n : Nat} {φ : Nat → Nat} {h : eH} {s : fS} {l1' : Int32} {l1 : Int} {l2' : Int32} {l2 : Int} {l3' : Int32} {l3 : Int}, fC m b φ0 σo φ h s → l1' = iI l1 → r32 l1 → l2' = iI l2 → r32 l2 → l3' = iI l3 → r32 l3 → FX38_isTold_b4 N n l1 l2 l3 s = some q → gG m b φ0 σo lI q (fX38_isTold_b4 N n 243 l1' l2' l3' h) := by
  intro n
  induction n with
 | zero => intro φ h s l1' l1 l2' l2 l3' l3 R el1 rl1 el2 rl2 el3 rl3 hF; simp [FX38_isTold_b4] at hF
  | succ n ih =>
    intro φ h s l1' l1 l2' l2 l3' l3 R el1 rl1 el2 rl2 el3 rl3 hF
    subst el1; subst el2; subst el3
    rw [FX38_isTold_b4] at hF
    rw [fX38_isTold_b4]
    refine s_gI R (t_243 hm R.S) (Nat.le_of_ble_eq_true rfl) rfl ?_
    refine s_if (i_le rfl rfl (R.ri (t_243 hm R.S) (Nat.le_of_ble_eq_true rfl) rfl) rl3) hF (fun c2 hF => ?_) (fun c2 hF => ?_)
    ·
      exact g_z R rfl hF ⟨rfl, rl2⟩
    ·
      refine s_if (not_congr (i_eq rfl (c_lit 0 0 rfl) rl2 ⟨by decide, by decide⟩)) hF (fun c3 hF => ?_) (fun c3 hF => ?_)
      ·
        exact SX38_isTold_b26 (N := N) (k4 := fX38_isTold_b4 N n) (K4 := FX38_isTold_b4 N n) hm @ih R rfl rl1 rfl rl3 hF
      ·
        refine s_gAs R (t_243 hm R.S) (Nat.le_of_ble_eq_true rfl) rfl (o_243_12 hm R.S) (a_250 hm R) ?_
        refine s_rI R (u_250 hm R.S).1 (u_250 hm R.S).2 (by decide) (a_250 hm R) rfl rl3 hF (fun x8 ra5 hF => ?_)
        refine s_if (not_congr (i_eq rfl rfl ra5 rl1)) hF (fun c6 hF => ?_) (fun c6 hF => ?_)
        ·
          exact SX38_isTold_b31 (N := N) (k4 := fX38_isTold_b4 N n) (K4 := FX38_isTold_b4 N n) hm @ih R rfl rl1 rfl rl3 (c_lit 0 0 rfl) ⟨by decide, by decide⟩ hF
        ·
          exact SX38_isTold_b26 (N := N) (k4 := fX38_isTold_b4 N n) (K4 := FX38_isTold_b4 N n) hm @ih R rfl rl1 rfl rl3 hF
def FX38_isTold (N : Nat) (p0 : Int) (s : fS) : Option (Int × fS) :=
  FX38_isTold_b4 N N p0 0 0 s
theorem SX38_isTold {m b : Nat} {φ0 : Nat → Nat} {σo : fS} (hm : 1 ≤ m) {N : Nat} {q : Int × fS} {φ : Nat → Nat} {h : eH} {s : fS} {p0' : Int32} {p0 : Int} (R : fC m b φ0 σo φ h s) (ep0 : p0' = iI p0) (rp0 : r32 p0) (hF : FX38_isTold N p0 s = some q) : gG m b φ0 σo lI q (fX38_isTold N 243 p0' h) := by
  subst ep0
  unfold FX38_isTold at hF
  unfold fX38_isTold
  exact SX38_isTold_b4 (N := N) hm R rfl rp0 (c_lit 0 0 rfl) ⟨by decide, by decide⟩ (c_lit 0 0 rfl) ⟨by decide, by decide⟩ hF
def FX38_define_b115 (N : Nat) (l1 : Int) (s : fS) : Option (Unit × fS) :=
  (uRI s 247 l1).bind fun x3 =>
  (FX38_lay (iadd 48 (irem x3 10)) s).bind fun q6 =>
  some ((), q6.2)
theorem SX38_define_b115 {m b : Nat} {φ0 : Nat → Nat} {σo : fS} (hm : 1 ≤ m) {N : Nat} {q : Unit × fS} {φ : Nat → Nat} {h : eH} {s : fS} {l1' : Int32} {l1 : Int} (R : fC m b φ0 σo φ h s) (el1 : l1' = iI l1) (rl1 : r32 l1) (hF : FX38_define_b115 N l1 s = some q) : gG m b φ0 σo lU q (fX38_define_b115 N 243 l1' h) := by
  subst el1
  unfold FX38_define_b115 at hF
  unfold fX38_define_b115
  refine s_gAs R (t_243 hm R.S) (Nat.le_of_ble_eq_true rfl) rfl (o_243_3 hm R.S) (a_247 hm R) ?_
  refine s_rI R (u_247 hm R.S).1 (u_247 hm R.S).2 (by decide) (a_247 hm R) rfl rl1 hF (fun x3 ra2 hF => ?_)
  refine s_kok R (t_243 hm R.S) (Nat.le_of_ble_eq_true rfl) ?_
  refine s_call R (Nat.zero_le _) (fun _ hq => SX38_lay (b := 0) hm (R.rf) (c_add (c_lit 48 48 rfl) (c_rem rfl (c_lit 10 10 rfl))) (rr_I _) hq) hF (fun f4 rv4 h4 q6 R4 e4 E4 hF => ?_)
  exact g_ret R4 hF trivial
def FX38_define_b78 (N : Nat) (l1 : Int) (l2 : Int) (s1 : Int) (s : fS) : Option (Unit × fS) :=
  (FX38_lay s1 s).bind fun q2 =>
  (FX38_lay 102 q2.2).bind fun q4 =>
  (FX38_lay 111 q4.2).bind fun q6 =>
  (FX38_lay 110 q6.2).bind fun q8 =>
  (FX38_lay 116 q8.2).bind fun q10 =>
  if l2 = 0 then
    FX38_define_b115 N l1 q10.2
  else
    (FX38_lay 49 q10.2).bind fun q13 =>
    FX38_define_b115 N l1 q13.2
theorem SX38_define_b78 {m b : Nat} {φ0 : Nat → Nat} {σo : fS} (hm : 1 ≤ m) {N : Nat} {q : Unit × fS} {φ : Nat → Nat} {h : eH} {s : fS} {l1' : Int32} {l1 : Int} {l2' : Int32} {l2 : Int} {s1' : Int32} {s1 : Int} (R : fC m b φ0 σo φ h s) (el1 : l1' = iI l1) (rl1 : r32 l1) (el2 : l2' = iI l2) (rl2 : r32 l2) (es1 : s1' = iI s1) (rs1 : r32 s1) (hF : FX38_define_b78 N l1 l2 s1 s = some q) : gG m b φ0 σo lU q (fX38_define_b78 N 243 l1' l2' 243 s1' h) := by
  subst el1; subst el2; subst es1
  unfold FX38_define_b78 at hF
  unfold fX38_define_b78
  refine s_kok R (t_243 hm R.S) (Nat.le_of_ble_eq_true rfl) ?_
  refine s_call R (Nat.zero_le _) (fun _ hq => SX38_lay (b := 0) hm (R.rf) rfl rs1 hq) hF (fun f2 rv2 h2 q2 R2 e2 E2 hF => ?_)
  refine s_kok R2 (t_243 hm R2.S) (Nat.le_of_ble_eq_true rfl) ?_
  refine s_call R2 (Nat.zero_le _) (fun _ hq => SX38_lay (b := 0) hm (R2.rf) (c_lit 102 102 rfl) ⟨by decide, by decide⟩ hq) hF (fun f4 rv4 h4 q4 R4 e4 E4 hF => ?_)
  refine s_kok R4 (t_243 hm R4.S) (Nat.le_of_ble_eq_true rfl) ?_
  refine s_call R4 (Nat.zero_le _) (fun _ hq => SX38_lay (b := 0) hm (R4.rf) (c_lit 111 111 rfl) ⟨by decide, by decide⟩ hq) hF (fun f6 rv6 h6 q6 R6 e6 E6 hF => ?_)
  refine s_kok R6 (t_243 hm R6.S) (Nat.le_of_ble_eq_true rfl) ?_
  refine s_call R6 (Nat.zero_le _) (fun _ hq => SX38_lay (b := 0) hm (R6.rf) (c_lit 110 110 rfl) ⟨by decide, by decide⟩ hq) hF (fun f8 rv8 h8 q8 R8 e8 E8 hF => ?_)
  refine s_kok R8 (t_243 hm R8.S) (Nat.le_of_ble_eq_true rfl) ?_
  refine s_call R8 (Nat.zero_le _) (fun _ hq => SX38_lay (b := 0) hm (R8.rf) (c_lit 116 116 rfl) ⟨by decide, by decide⟩ hq) hF (fun f10 rv10 h10 q10 R10 e10 E10 hF => ?_)
  refine s_if (i_eq rfl (c_lit 0 0 rfl) rl2 ⟨by decide, by decide⟩) hF (fun c11 hF => ?_) (fun c11 hF => ?_)
  ·
    exact SX38_define_b115 (N := N) hm R10 rfl rl1 hF
  ·
    refine s_kok R10 (t_243 hm R10.S) (Nat.le_of_ble_eq_true rfl) ?_
    refine s_call R10 (Nat.zero_le _) (fun _ hq => SX38_lay (b := 0) hm (R10.rf) (c_lit 49 49 rfl) ⟨by decide, by decide⟩ hq) hF (fun f13 rv13 h13 q13 R13 e13 E13 hF => ?_)
    exact SX38_define_b115 (N := N) hm R13 rfl rl1 hF
def FX38_define_b66 (N : Nat) (l1 : Int) (s0 : Int) (s : fS) : Option (Unit × fS) :=
  if s0 = 0 then
    FX38_define_b78 N l1 s0 5 s
  else
    FX38_define_b78 N l1 s0 6 s
theorem SX38_define_b66 {m b : Nat} {φ0 : Nat → Nat} {σo : fS} (hm : 1 ≤ m) {N : Nat} {q : Unit × fS} {φ : Nat → Nat} {h : eH} {s : fS} {l1' : Int32} {l1 : Int} {s0' : Int32} {s0 : Int} (R : fC m b φ0 σo φ h s) (el1 : l1' = iI l1) (rl1 : r32 l1) (es0 : s0' = iI s0) (rs0 : r32 s0) (hF : FX38_define_b66 N l1 s0 s = some q) : gG m b φ0 σo lU q (fX38_define_b66 N 243 l1' s0' h) := by
  subst el1; subst es0
  unfold FX38_define_b66 at hF
  unfold fX38_define_b66
  refine s_if (i_eq rfl (c_lit 0 0 rfl) rs0 ⟨by decide, by decide⟩) hF (fun c1 hF => ?_) (fun c1 hF => ?_)
  ·
    exact SX38_define_b78 (N := N) hm R rfl rl1 rfl rs0 (c_lit 5 5 rfl) ⟨by decide, by decide⟩ hF
  ·
    exact SX38_define_b78 (N := N) hm R rfl rl1 rfl rs0 (c_lit 6 6 rfl) ⟨by decide, by decide⟩ hF
def FX38_define (N : Nat) (p0 : Int) (s : fS) : Option (Unit × fS) :=
  (FX38_lay 243 s).bind fun q2 =>
  (FX38_lay p0 q2.2).bind fun q4 =>
  (uRI q4.2 244 p0).bind fun x7 =>
  (FX38_layNumber N x7 4 q4.2).bind fun q10 =>
  (uRI q10.2 245 p0).bind fun x13 =>
  (FX38_layNumber N x13 4 q10.2).bind fun q16 =>
  (uRI q16.2 246 p0).bind fun x19 =>
  (FX38_layNumber N x19 4 q16.2).bind fun q22 =>
  (FX38_lay 0 q22.2).bind fun q24 =>
  (uRI q24.2 247 p0).bind fun x27 =>
  if x27 ≤ 9 then
    FX38_define_b66 N p0 0 q24.2
  else
    FX38_define_b66 N p0 1 q24.2
theorem SX38_define {m b : Nat} {φ0 : Nat → Nat} {σo : fS} (hm : 1 ≤ m) {N : Nat} {q : Unit × fS} {φ : Nat → Nat} {h : eH} {s : fS} {p0' : Int32} {p0 : Int} (R : fC m b φ0 σo φ h s) (ep0 : p0' = iI p0) (rp0 : r32 p0) (hF : FX38_define N p0 s = some q) : gG m b φ0 σo lU q (fX38_define N 243 p0' h) := by
  subst ep0
  unfold FX38_define at hF
  unfold fX38_define
  refine s_kok R (t_243 hm R.S) (Nat.le_of_ble_eq_true rfl) ?_
  refine s_call R (Nat.zero_le _) (fun _ hq => SX38_lay (b := 0) hm (R.rf) (c_lit 243 243 rfl) ⟨by decide, by decide⟩ hq) hF (fun f2 rv2 h2 q2 R2 e2 E2 hF => ?_)
  refine s_kok R2 (t_243 hm R2.S) (Nat.le_of_ble_eq_true rfl) ?_
  refine s_call R2 (Nat.zero_le _) (fun _ hq => SX38_lay (b := 0) hm (R2.rf) rfl rp0 hq) hF (fun f4 rv4 h4 q4 R4 e4 E4 hF => ?_)
  refine s_gAs R4 (t_243 hm R4.S) (Nat.le_of_ble_eq_true rfl) rfl (o_243_0 hm R4.S) (a_244 hm R4) ?_
  refine s_rI R4 (u_244 hm R4.S).1 (u_244 hm R4.S).2 (by decide) (a_244 hm R4) rfl rp0 hF (fun x7 ra6 hF => ?_)
  refine s_kok R4 (t_243 hm R4.S) (Nat.le_of_ble_eq_true rfl) ?_
  refine s_call R4 (Nat.zero_le _) (fun _ hq => SX38_layNumber (b := 0) (N := N) hm (R4.rf) rfl ra6 (c_lit 4 4 rfl) ⟨by decide, by decide⟩ hq) hF (fun f8 rv8 h8 q10 R8 e8 E8 hF => ?_)
  refine s_gAs R8 (t_243 hm R8.S) (Nat.le_of_ble_eq_true rfl) rfl (o_243_1 hm R8.S) (a_245 hm R8) ?_
  refine s_rI R8 (u_245 hm R8.S).1 (u_245 hm R8.S).2 (by decide) (a_245 hm R8) rfl rp0 hF (fun x13 ra10 hF => ?_)
  refine s_kok R8 (t_243 hm R8.S) (Nat.le_of_ble_eq_true rfl) ?_
  refine s_call R8 (Nat.zero_le _) (fun _ hq => SX38_layNumber (b := 0) (N := N) hm (R8.rf) rfl ra10 (c_lit 4 4 rfl) ⟨by decide, by decide⟩ hq) hF (fun f12 rv12 h12 q16 R12 e12 E12 hF => ?_)
  refine s_gAs R12 (t_243 hm R12.S) (Nat.le_of_ble_eq_true rfl) rfl (o_243_2 hm R12.S) (a_246 hm R12) ?_
  refine s_rI R12 (u_246 hm R12.S).1 (u_246 hm R12.S).2 (by decide) (a_246 hm R12) rfl rp0 hF (fun x19 ra14 hF => ?_)
  refine s_kok R12 (t_243 hm R12.S) (Nat.le_of_ble_eq_true rfl) ?_
  refine s_call R12 (Nat.zero_le _) (fun _ hq => SX38_layNumber (b := 0) (N := N) hm (R12.rf) rfl ra14 (c_lit 4 4 rfl) ⟨by decide, by decide⟩ hq) hF (fun f16 rv16 h16 q22 R16 e16 E16 hF => ?_)
  refine s_kok R16 (t_243 hm R16.S) (Nat.le_of_ble_eq_true rfl) ?_
  refine s_call R16 (Nat.zero_le _) (fun _ hq => SX38_lay (b := 0) hm (R16.rf) (c_lit 0 0 rfl) ⟨by decide, by decide⟩ hq) hF (fun f18 rv18 h18 q24 R18 e18 E18 hF => ?_)
  refine s_gAs R18 (t_243 hm R18.S) (Nat.le_of_ble_eq_true rfl) rfl (o_243_3 hm R18.S) (a_247 hm R18) ?_
  refine s_rI R18 (u_247 hm R18.S).1 (u_247 hm R18.S).2 (by decide) (a_247 hm R18) rfl rp0 hF (fun x27 ra20 hF => ?_)
  refine s_if (i_le rfl (c_lit 9 9 rfl) ra20 ⟨by decide, by decide⟩) hF (fun c21 hF => ?_) (fun c21 hF => ?_)
  ·
    exact SX38_define_b66 (N := N) hm R18 rfl rp0 (c_lit 0 0 rfl) ⟨by decide, by decide⟩ hF
  ·
    exact SX38_define_b66 (N := N) hm R18 rfl rp0 (c_lit 1 1 rfl) ⟨by decide, by decide⟩ hF
def FX38_character_b83 (N : Nat) (l2 : Int) (s : fS) : Option (Unit × fS) :=
  (FX38_lay l2 s).bind fun q2 =>
  some ((), q2.2)
theorem SX38_character_b83 {m b : Nat} {φ0 : Nat → Nat} {σo : fS} (hm : 1 ≤ m) {N : Nat} {q : Unit × fS} {φ : Nat → Nat} {h : eH} {s : fS} {l2' : Int32} {l2 : Int} (R : fC m b φ0 σo φ h s) (el2 : l2' = iI l2) (rl2 : r32 l2) (hF : FX38_character_b83 N l2 s = some q) : gG m b φ0 σo lU q (fX38_character_b83 N 243 l2' h) := by
  subst el2
  unfold FX38_character_b83 at hF
  unfold fX38_character_b83
  refine s_kok R (t_243 hm R.S) (Nat.le_of_ble_eq_true rfl) ?_
  refine s_call R (Nat.zero_le _) (fun _ hq => SX38_lay (b := 0) hm (R.rf) rfl rl2 hq) hF (fun f2 rv2 h2 q2 R2 e2 E2 hF => ?_)
  exact g_ret R2 hF trivial
def FX38_character_b70 (N : Nat) (l2 : Int) (s : fS) : Option (Unit × fS) :=
  if l2 ≤ 127 then
    FX38_character_b83 N l2 s
  else
    (FX38_lay 128 s).bind fun q3 =>
    FX38_character_b83 N l2 q3.2
theorem SX38_character_b70 {m b : Nat} {φ0 : Nat → Nat} {σo : fS} (hm : 1 ≤ m) {N : Nat} {q : Unit × fS} {φ : Nat → Nat} {h : eH} {s : fS} {l2' : Int32} {l2 : Int} (R : fC m b φ0 σo φ h s) (el2 : l2' = iI l2) (rl2 : r32 l2) (hF : FX38_character_b70 N l2 s = some q) : gG m b φ0 σo lU q (fX38_character_b70 N 243 l2' h) := by
  subst el2
  unfold FX38_character_b70 at hF
  unfold fX38_character_b70
  refine s_if (i_le rfl (c_lit 127 127 rfl) rl2 ⟨by decide, by decide⟩) hF (fun c1 hF => ?_) (fun c1 hF => ?_)
  ·
    exact SX38_character_b83 (N := N) hm R rfl rl2 hF
  ·
    refine s_kok R (t_243 hm R.S) (Nat.le_of_ble_eq_true rfl) ?_
    refine s_call R (Nat.zero_le _) (fun _ hq => SX38_lay (b := 0) hm (R.rf) (c_lit 128 128 rfl) ⟨by decide, by decide⟩ hq) hF (fun f3 rv3 h3 q3 R3 e3 E3 hF => ?_)
    exact SX38_character_b83 (N := N) hm R3 rfl rl2 hF
def FX38_character_b56 (N : Nat) (l1 : Int) (l2 : Int) (s1 : Int) (s : fS) : Option (Unit × fS) :=
  (FX38_lay s1 s).bind fun q2 =>
  if l1 ≤ 63 then
    FX38_character_b70 N l2 q2.2
  else
    (FX38_lay l1 q2.2).bind fun q5 =>
    FX38_character_b70 N l2 q5.2
theorem SX38_character_b56 {m b : Nat} {φ0 : Nat → Nat} {σo : fS} (hm : 1 ≤ m) {N : Nat} {q : Unit × fS} {φ : Nat → Nat} {h : eH} {s : fS} {l1' : Int32} {l1 : Int} {l2' : Int32} {l2 : Int} {s1' : Int32} {s1 : Int} (R : fC m b φ0 σo φ h s) (el1 : l1' = iI l1) (rl1 : r32 l1) (el2 : l2' = iI l2) (rl2 : r32 l2) (es1 : s1' = iI s1) (rs1 : r32 s1) (hF : FX38_character_b56 N l1 l2 s1 s = some q) : gG m b φ0 σo lU q (fX38_character_b56 N 243 l1' l2' 243 s1' h) := by
  subst el1; subst el2; subst es1
  unfold FX38_character_b56 at hF
  unfold fX38_character_b56
  refine s_kok R (t_243 hm R.S) (Nat.le_of_ble_eq_true rfl) ?_
  refine s_call R (Nat.zero_le _) (fun _ hq => SX38_lay (b := 0) hm (R.rf) rfl rs1 hq) hF (fun f2 rv2 h2 q2 R2 e2 E2 hF => ?_)
  refine s_if (i_le rfl (c_lit 63 63 rfl) rl1 ⟨by decide, by decide⟩) hF (fun c3 hF => ?_) (fun c3 hF => ?_)
  ·
    exact SX38_character_b70 (N := N) hm R2 rfl rl2 hF
  ·
    refine s_kok R2 (t_243 hm R2.S) (Nat.le_of_ble_eq_true rfl) ?_
    refine s_call R2 (Nat.zero_le _) (fun _ hq => SX38_lay (b := 0) hm (R2.rf) rfl rl1 hq) hF (fun f5 rv5 h5 q5 R5 e5 E5 hF => ?_)
    exact SX38_character_b70 (N := N) hm R5 rfl rl2 hF
def FX38_character_b38 (N : Nat) (l1 : Int) (l2 : Int) (s : fS) : Option (Unit × fS) :=
  if 64 ≤ l1 then
    FX38_character_b56 N l1 l2 235 s
  else
    FX38_character_b56 N l1 l2 (iadd 171 l1) s
theorem SX38_character_b38 {m b : Nat} {φ0 : Nat → Nat} {σo : fS} (hm : 1 ≤ m) {N : Nat} {q : Unit × fS} {φ : Nat → Nat} {h : eH} {s : fS} {l1' : Int32} {l1 : Int} {l2' : Int32} {l2 : Int} (R : fC m b φ0 σo φ h s) (el1 : l1' = iI l1) (rl1 : r32 l1) (el2 : l2' = iI l2) (rl2 : r32 l2) (hF : FX38_character_b38 N l1 l2 s = some q) : gG m b φ0 σo lU q (fX38_character_b38 N 243 l1' l2' h) := by
  subst el1; subst el2
  unfold FX38_character_b38 at hF
  unfold fX38_character_b38
  refine s_if (i_le (c_lit 64 64 rfl) rfl ⟨by decide, by decide⟩ rl1) hF (fun c1 hF => ?_) (fun c1 hF => ?_)
  ·
    exact SX38_character_b56 (N := N) hm R rfl rl1 rfl rl2 (c_lit 235 235 rfl) ⟨by decide, by decide⟩ hF
  ·
    exact SX38_character_b56 (N := N) hm R rfl rl1 rfl rl2 (c_add (c_lit 171 171 rfl) rfl) (rr_I _) hF
def FX38_character (N : Nat) (p0 : Int) (p1 : Int) (p2 : Int) (s : fS) : Option (Unit × fS) :=
  if p0 = p2 then
    FX38_character_b70 N p1 s
  else
    (FX38_isTold N p0 s).bind fun q3 =>
    if ¬ (q3.1 = 0) then
      FX38_character_b38 N p0 p1 q3.2
    else
      (FX38_define N p0 q3.2).bind fun q6 =>
      (uQI q6.2 250 (q6.2.i 243 11) p0).bind fun σ11 =>
      (uPI σ11 243 11 (iadd (σ11.i 243 11) 1)).bind fun σ15 =>
      FX38_character_b38 N p0 p1 σ15
theorem SX38_character {m b : Nat} {φ0 : Nat → Nat} {σo : fS} (hm : 1 ≤ m) {N : Nat} {q : Unit × fS} {φ : Nat → Nat} {h : eH} {s : fS} {p0' : Int32} {p0 : Int} {p1' : Int32} {p1 : Int} {p2' : Int32} {p2 : Int} (R : fC m b φ0 σo φ h s) (ep0 : p0' = iI p0) (rp0 : r32 p0) (ep1 : p1' = iI p1) (rp1 : r32 p1) (ep2 : p2' = iI p2) (rp2 : r32 p2) (hF : FX38_character N p0 p1 p2 s = some q) : gG m b φ0 σo lU q (fX38_character N 243 p0' p1' p2' h) := by
  subst ep0; subst ep1; subst ep2
  unfold FX38_character at hF
  unfold fX38_character
  refine s_if (i_eq rfl rfl rp0 rp2) hF (fun c1 hF => ?_) (fun c1 hF => ?_)
  ·
    exact SX38_character_b70 (N := N) hm R rfl rp1 hF
  ·
    refine s_kok R (t_243 hm R.S) (Nat.le_of_ble_eq_true rfl) ?_
    refine s_call R (Nat.zero_le _) (fun _ hq => SX38_isTold (b := 0) (N := N) hm (R.rf) rfl rp0 hq) hF (fun f3 rv3 h3 q3 R3 e3 E3 hF => ?_)
    refine s_if (not_congr (i_eq e3.1 (c_lit 0 0 rfl) e3.2 ⟨by decide, by decide⟩)) hF (fun c4 hF => ?_) (fun c4 hF => ?_)
    ·
      exact SX38_character_b38 (N := N) hm R3 rfl rp0 rfl rp1 hF
    ·
      refine s_kok R3 (t_243 hm R3.S) (Nat.le_of_ble_eq_true rfl) ?_
      refine s_call R3 (Nat.zero_le _) (fun _ hq => SX38_define (b := 0) (N := N) hm (R3.rf) rfl rp0 hq) hF (fun f6 rv6 h6 q6 R6 e6 E6 hF => ?_)
      refine s_gAs R6 (t_243 hm R6.S) (Nat.le_of_ble_eq_true rfl) rfl (o_243_12 hm R6.S) (a_250 hm R6) ?_
      refine s_gI R6 (t_243 hm R6.S) (Nat.le_of_ble_eq_true rfl) rfl ?_
      refine s_qI R6 (u_250 hm R6.S).1 (u_250 hm R6.S).2 (by decide) (a_250 hm R6) rfl (R6.ri (t_243 hm R6.S) (Nat.le_of_ble_eq_true rfl) rfl) rfl rp0 hF (fun h9 σ11 R9 T9 hF => ?_)
      refine s_gI R9 (t_243 hm R9.S) (Nat.le_of_ble_eq_true rfl) rfl ?_
      refine s_pI R9 (t_243 hm R9.S) (Nat.le_of_ble_eq_true rfl) rfl (c_add rfl (c_lit 1 1 rfl)) (rr_I _) hF (fun h11 σ15 R11 T11 hF => ?_)
      exact SX38_character_b38 (N := N) hm R11 rfl rp0 rfl rp1 hF
def FX38_writePage_b182 (N : Nat) (K83 : Int → Int → fS → Option (Unit × fS)) (l2 : Int) (l3 : Int) (s : fS) : Option (Unit × fS) :=
  K83 l2 (iadd l3 1) s
theorem SX38_writePage_b182 {m b : Nat} {φ0 : Nat → Nat} {σo : fS} (hm : 1 ≤ m) {N : Nat} {k83 : Nat → Int32 → Int32 → eH → Option (Unit × eH)} {K83 : Int → Int → fS → Option (Unit × fS)} {q : Unit × fS} (hk83 : ∀ {φ : Nat → Nat} {h : eH} {s : fS} {l2' : Int32} {l2 : Int} {l3' : Int32} {l3 : Int}, fC m b φ0 σo φ h s → l2' = iI l2 → r32 l2 → l3' = iI l3 → r32 l3 → K83 l2 l3 s = some q → gG m b φ0 σo lU q (k83 243 l2' l3' h)) {φ : Nat → Nat} {h : eH} {s : fS} {l2' : Int32} {l2 : Int} {l3' : Int32} {l3 : Int} (R : fC m b φ0 σo φ h s) (el2 : l2' = iI l2) (rl2 : r32 l2) (el3 : l3' = iI l3) (rl3 : r32 l3) (hF : FX38_writePage_b182 N K83 l2 l3 s = some q) : gG m b φ0 σo lU q (fX38_writePage_b182 N k83 243 l2' l3' h) := by
  subst el2; subst el3
  unfold FX38_writePage_b182 at hF
  unfold fX38_writePage_b182
  exact hk83 R rfl rl2 (c_add rfl (c_lit 1 1 rfl)) (rr_I _) hF
def FX38_writePage_b83 (N : Nat) : Nat → Int → Int → fS → Option (Unit × fS)
  | 0, _, _, _ => none
  | n + 1, l2, l3, s =>
    if (s.i 243 13) ≤ l3 then
      (FX38_lay 142 s).bind fun q5 =>
      (FX38_lay 140 q5.2).bind fun q7 =>
      some ((), q7.2)
    else
      (FX38_move N 258 l3 157 4 s).bind fun q11 =>
      (FX38_move N 257 l3 143 2 q11.2).bind fun q15 =>
      (uRI q15.2 251 l3).bind fun x18 =>
      if 0 ≤ x18 then
        (uRI q15.2 251 l3).bind fun x23 =>
        (uRI q15.2 252 l3).bind fun x27 =>
        (FX38_character N x23 x27 l2 q15.2).bind fun q30 =>
        (uRI q30.2 251 l3).bind fun x33 =>
        FX38_writePage_b182 N (FX38_writePage_b83 N n) x33 l3 q30.2
      else
        (FX38_lay 137 q15.2).bind fun q36 =>
        (uRI q36.2 255 l3).bind fun x39 =>
        (FX38_layNumber N x39 4 q36.2).bind fun q42 =>
        (uRI q42.2 252 l3).bind fun x45 =>
        (FX38_layNumber N x45 4 q42.2).bind fun q48 =>
        FX38_writePage_b182 N (FX38_writePage_b83 N n) l2 l3 q48.2
theorem SX38_writePage_b83 {m b : Nat} {φ0 : Nat → Nat} {σo : fS} (hm : 1 ≤ m) {N : Nat} {q : Unit × fS} : ∀ {n : Nat} {φ : Nat → Nat} {h : eH} {s : fS} {l2' : Int32} {l2 : Int} {l3' : Int32} {l3 : Int}, fC m b φ0 σo φ h s → l2' = iI l2 → r32 l2 → l3' = iI l3 → r32 l3 → FX38_writePage_b83 N n l2 l3 s = some q → gG m b φ0 σo lU q (fX38_writePage_b83 N n 243 l2' l3' h) := by
  intro n
  induction n with
 | zero => intro φ h s l2' l2 l3' l3 R el2 rl2 el3 rl3 hF; simp [FX38_writePage_b83] at hF
  | succ n ih =>
    intro φ h s l2' l2 l3' l3 R el2 rl2 el3 rl3 hF
    subst el2; subst el3
    rw [FX38_writePage_b83] at hF
    rw [fX38_writePage_b83]
    refine s_gI R (t_243 hm R.S) (Nat.le_of_ble_eq_true rfl) rfl ?_
    refine s_if (i_le rfl rfl (R.ri (t_243 hm R.S) (Nat.le_of_ble_eq_true rfl) rfl) rl3) hF (fun c2 hF => ?_) (fun c2 hF => ?_)
    ·
      refine s_kok R (t_243 hm R.S) (Nat.le_of_ble_eq_true rfl) ?_
      refine s_call R (Nat.zero_le _) (fun _ hq => SX38_lay (b := 0) hm (R.rf) (c_lit 142 142 rfl) ⟨by decide, by decide⟩ hq) hF (fun f4 rv4 h4 q5 R4 e4 E4 hF => ?_)
      refine s_kok R4 (t_243 hm R4.S) (Nat.le_of_ble_eq_true rfl) ?_
      refine s_call R4 (Nat.zero_le _) (fun _ hq => SX38_lay (b := 0) hm (R4.rf) (c_lit 140 140 rfl) ⟨by decide, by decide⟩ hq) hF (fun f6 rv6 h6 q7 R6 e6 E6 hF => ?_)
      exact g_ret R6 hF trivial
    ·
      refine s_gAs R (t_243 hm R.S) (Nat.le_of_ble_eq_true rfl) rfl (o_243_21 hm R.S) (a_258 hm R) ?_
      refine s_kok R (t_243 hm R.S) (Nat.le_of_ble_eq_true rfl) ?_
      refine s_call R (Nat.zero_le _) (fun _ hq => SX38_move (b := 0) (N := N) hm (R.rf) (a_258 hm R) (u_258 hm R.S).1 rfl rl3 (c_lit 157 157 rfl) ⟨by decide, by decide⟩ (c_lit 4 4 rfl) ⟨by decide, by decide⟩ hq) hF (fun f9 rv9 h9 q11 R9 e9 E9 hF => ?_)
      refine s_gAs R9 (t_243 hm R9.S) (Nat.le_of_ble_eq_true rfl) rfl (o_243_20 hm R9.S) (a_257 hm R9) ?_
      refine s_kok R9 (t_243 hm R9.S) (Nat.le_of_ble_eq_true rfl) ?_
      refine s_call R9 (Nat.zero_le _) (fun _ hq => SX38_move (b := 0) (N := N) hm (R9.rf) (a_257 hm R9) (u_257 hm R9.S).1 rfl rl3 (c_lit 143 143 rfl) ⟨by decide, by decide⟩ (c_lit 2 2 rfl) ⟨by decide, by decide⟩ hq) hF (fun f12 rv12 h12 q15 R12 e12 E12 hF => ?_)
      refine s_gAs R12 (t_243 hm R12.S) (Nat.le_of_ble_eq_true rfl) rfl (o_243_14 hm R12.S) (a_251 hm R12) ?_
      refine s_rI R12 (u_251 hm R12.S).1 (u_251 hm R12.S).2 (by decide) (a_251 hm R12) rfl rl3 hF (fun x18 ra14 hF => ?_)
      refine s_if (i_le (c_lit 0 0 rfl) rfl ⟨by decide, by decide⟩ ra14) hF (fun c15 hF => ?_) (fun c15 hF => ?_)
      ·
        refine s_gAs R12 (t_243 hm R12.S) (Nat.le_of_ble_eq_true rfl) rfl (o_243_14 hm R12.S) (a_251 hm R12) ?_
        refine s_rI R12 (u_251 hm R12.S).1 (u_251 hm R12.S).2 (by decide) (a_251 hm R12) rfl rl3 hF (fun x23 ra17 hF => ?_)
        refine s_gAs R12 (t_243 hm R12.S) (Nat.le_of_ble_eq_true rfl) rfl (o_243_15 hm R12.S) (a_252 hm R12) ?_
        refine s_rI R12 (u_252 hm R12.S).1 (u_252 hm R12.S).2 (by decide) (a_252 hm R12) rfl rl3 hF (fun x27 ra19 hF => ?_)
        refine s_kok R12 (t_243 hm R12.S) (Nat.le_of_ble_eq_true rfl) ?_
        refine s_call R12 (Nat.zero_le _) (fun _ hq => SX38_character (b := 0) (N := N) hm (R12.rf) rfl ra17 rfl ra19 rfl rl2 hq) hF (fun f21 rv21 h21 q30 R21 e21 E21 hF => ?_)
        refine s_gAs R21 (t_243 hm R21.S) (Nat.le_of_ble_eq_true rfl) rfl (o_243_14 hm R21.S) (a_251 hm R21) ?_
        refine s_rI R21 (u_251 hm R21.S).1 (u_251 hm R21.S).2 (by decide) (a_251 hm R21) rfl rl3 hF (fun x33 ra23 hF => ?_)
        exact SX38_writePage_b182 (N := N) (k83 := fX38_writePage_b83 N n) (K83 := FX38_writePage_b83 N n) hm @ih R21 rfl ra23 rfl rl3 hF
      ·
        refine s_kok R12 (t_243 hm R12.S) (Nat.le_of_ble_eq_true rfl) ?_
        refine s_call R12 (Nat.zero_le _) (fun _ hq => SX38_lay (b := 0) hm (R12.rf) (c_lit 137 137 rfl) ⟨by decide, by decide⟩ hq) hF (fun f25 rv25 h25 q36 R25 e25 E25 hF => ?_)
        refine s_gAs R25 (t_243 hm R25.S) (Nat.le_of_ble_eq_true rfl) rfl (o_243_18 hm R25.S) (a_255 hm R25) ?_
        refine s_rI R25 (u_255 hm R25.S).1 (u_255 hm R25.S).2 (by decide) (a_255 hm R25) rfl rl3 hF (fun x39 ra27 hF => ?_)
        refine s_kok R25 (t_243 hm R25.S) (Nat.le_of_ble_eq_true rfl) ?_
        refine s_call R25 (Nat.zero_le _) (fun _ hq => SX38_layNumber (b := 0) (N := N) hm (R25.rf) rfl ra27 (c_lit 4 4 rfl) ⟨by decide, by decide⟩ hq) hF (fun f29 rv29 h29 q42 R29 e29 E29 hF => ?_)
        refine s_gAs R29 (t_243 hm R29.S) (Nat.le_of_ble_eq_true rfl) rfl (o_243_15 hm R29.S) (a_252 hm R29) ?_
        refine s_rI R29 (u_252 hm R29.S).1 (u_252 hm R29.S).2 (by decide) (a_252 hm R29) rfl rl3 hF (fun x45 ra31 hF => ?_)
        refine s_kok R29 (t_243 hm R29.S) (Nat.le_of_ble_eq_true rfl) ?_
        refine s_call R29 (Nat.zero_le _) (fun _ hq => SX38_layNumber (b := 0) (N := N) hm (R29.rf) rfl ra31 (c_lit 4 4 rfl) ⟨by decide, by decide⟩ hq) hF (fun f33 rv33 h33 q48 R33 e33 E33 hF => ?_)
        exact SX38_writePage_b182 (N := N) (k83 := fX38_writePage_b83 N n) (K83 := FX38_writePage_b83 N n) hm @ih R33 rfl rl2 rfl rl3 hF
def FX38_writePage_b60 (N : Nat) : Nat → Int → fS → Option (Unit × fS)
  | 0, _, _ => none
  | n + 1, l2, s =>
    if 6 ≤ l2 then
      FX38_writePage_b83 N N (-1) 0 s
    else
      (uQI s 259 l2 0).bind fun σ4 =>
      FX38_writePage_b60 N n (iadd l2 1) σ4
theorem SX38_writePage_b60 {m b : Nat} {φ0 : Nat → Nat} {σo : fS} (hm : 1 ≤ m) {N : Nat} {q : Unit × fS} : ∀ {n : Nat} {φ : Nat → Nat} {h : eH} {s : fS} {l2' : Int32} {l2 : Int}, fC m b φ0 σo φ h s → l2' = iI l2 → r32 l2 → FX38_writePage_b60 N n l2 s = some q → gG m b φ0 σo lU q (fX38_writePage_b60 N n 243 l2' h) := by
  intro n
  induction n with
 | zero => intro φ h s l2' l2 R el2 rl2 hF; simp [FX38_writePage_b60] at hF
  | succ n ih =>
    intro φ h s l2' l2 R el2 rl2 hF
    subst el2
    rw [FX38_writePage_b60] at hF
    rw [fX38_writePage_b60]
    refine s_if (i_le (c_lit 6 6 rfl) rfl ⟨by decide, by decide⟩ rl2) hF (fun c1 hF => ?_) (fun c1 hF => ?_)
    ·
      exact SX38_writePage_b83 (N := N) hm R (c_lit (-1) (-1) rfl) ⟨by decide, by decide⟩ (c_lit 0 0 rfl) ⟨by decide, by decide⟩ hF
    ·
      refine s_gAs R (t_243 hm R.S) (Nat.le_of_ble_eq_true rfl) rfl (o_243_22 hm R.S) (a_259 hm R) ?_
      refine s_qI R (u_259 hm R.S).1 (u_259 hm R.S).2 (by decide) (a_259 hm R) rfl rl2 (c_lit 0 0 rfl) ⟨by decide, by decide⟩ hF (fun h3 σ4 R3 T3 hF => ?_)
      exact ih R3 (c_add rfl (c_lit 1 1 rfl)) (rr_I _) hF
def FX38_writePage_b14 (N : Nat) : Nat → Int → Int → fS → Option (Unit × fS)
  | 0, _, _, _ => none
  | n + 1, l1, l2, s =>
    if 10 ≤ l2 then
      (FX38_layNumber N (s.i 243 8) 4 s).bind fun q5 =>
      (uPI q5.2 243 8 l1).bind fun σ6 =>
      (FX38_lay 141 σ6).bind fun q9 =>
      FX38_writePage_b60 N N 0 q9.2
    else
      (uRI s 248 l2).bind fun x12 =>
      (FX38_layNumber N x12 4 s).bind fun q15 =>
      FX38_writePage_b14 N n l1 (iadd l2 1) q15.2
theorem SX38_writePage_b14 {m b : Nat} {φ0 : Nat → Nat} {σo : fS} (hm : 1 ≤ m) {N : Nat} {q : Unit × fS} : ∀ {n : Nat} {φ : Nat → Nat} {h : eH} {s : fS} {l1' : Int32} {l1 : Int} {l2' : Int32} {l2 : Int}, fC m b φ0 σo φ h s → l1' = iI l1 → r32 l1 → l2' = iI l2 → r32 l2 → FX38_writePage_b14 N n l1 l2 s = some q → gG m b φ0 σo lU q (fX38_writePage_b14 N n 243 l1' l2' h) := by
  intro n
  induction n with
 | zero => intro φ h s l1' l1 l2' l2 R el1 rl1 el2 rl2 hF; simp [FX38_writePage_b14] at hF
  | succ n ih =>
    intro φ h s l1' l1 l2' l2 R el1 rl1 el2 rl2 hF
    subst el1; subst el2
    rw [FX38_writePage_b14] at hF
    rw [fX38_writePage_b14]
    refine s_if (i_le (c_lit 10 10 rfl) rfl ⟨by decide, by decide⟩ rl2) hF (fun c1 hF => ?_) (fun c1 hF => ?_)
    ·
      refine s_gI R (t_243 hm R.S) (Nat.le_of_ble_eq_true rfl) rfl ?_
      refine s_kok R (t_243 hm R.S) (Nat.le_of_ble_eq_true rfl) ?_
      refine s_call R (Nat.zero_le _) (fun _ hq => SX38_layNumber (b := 0) (N := N) hm (R.rf) rfl (R.ri (t_243 hm R.S) (Nat.le_of_ble_eq_true rfl) rfl) (c_lit 4 4 rfl) ⟨by decide, by decide⟩ hq) hF (fun f4 rv4 h4 q5 R4 e4 E4 hF => ?_)
      refine s_pI R4 (t_243 hm R4.S) (Nat.le_of_ble_eq_true rfl) rfl rfl rl1 hF (fun h5 σ6 R5 T5 hF => ?_)
      refine s_kok R5 (t_243 hm R5.S) (Nat.le_of_ble_eq_true rfl) ?_
      refine s_call R5 (Nat.zero_le _) (fun _ hq => SX38_lay (b := 0) hm (R5.rf) (c_lit 141 141 rfl) ⟨by decide, by decide⟩ hq) hF (fun f7 rv7 h7 q9 R7 e7 E7 hF => ?_)
      exact SX38_writePage_b60 (N := N) hm R7 (c_lit 0 0 rfl) ⟨by decide, by decide⟩ hF
    ·
      refine s_gAs R (t_243 hm R.S) (Nat.le_of_ble_eq_true rfl) rfl (o_243_4 hm R.S) (a_248 hm R) ?_
      refine s_rI R (u_248 hm R.S).1 (u_248 hm R.S).2 (by decide) (a_248 hm R) rfl rl2 hF (fun x12 ra9 hF => ?_)
      refine s_kok R (t_243 hm R.S) (Nat.le_of_ble_eq_true rfl) ?_
      refine s_call R (Nat.zero_le _) (fun _ hq => SX38_layNumber (b := 0) (N := N) hm (R.rf) rfl ra9 (c_lit 4 4 rfl) ⟨by decide, by decide⟩ hq) hF (fun f11 rv11 h11 q15 R11 e11 E11 hF => ?_)
      exact ih R11 rfl rl1 (c_add rfl (c_lit 1 1 rfl)) (rr_I _) hF
def FX38_writePage (N : Nat) (s : fS) : Option (Unit × fS) :=
  (FX38_lay 139 s).bind fun q4 =>
  FX38_writePage_b14 N N (s.i 243 5) 0 q4.2
theorem SX38_writePage {m b : Nat} {φ0 : Nat → Nat} {σo : fS} (hm : 1 ≤ m) {N : Nat} {q : Unit × fS} {φ : Nat → Nat} {h : eH} {s : fS} (R : fC m b φ0 σo φ h s) (hF : FX38_writePage N s = some q) : gG m b φ0 σo lU q (fX38_writePage N 243 h) := by
  unfold FX38_writePage at hF
  unfold fX38_writePage
  refine s_gI R (t_243 hm R.S) (Nat.le_of_ble_eq_true rfl) rfl ?_
  refine s_kok R (t_243 hm R.S) (Nat.le_of_ble_eq_true rfl) ?_
  refine s_call R (Nat.zero_le _) (fun _ hq => SX38_lay (b := 0) hm (R.rf) (c_lit 139 139 rfl) ⟨by decide, by decide⟩ hq) hF (fun f3 rv3 h3 q4 R3 e3 E3 hF => ?_)
  exact SX38_writePage_b14 (N := N) hm R3 rfl (R.ri (t_243 hm R.S) (Nat.le_of_ble_eq_true rfl) rfl) (c_lit 0 0 rfl) ⟨by decide, by decide⟩ hF
def FX38_fits_b37 (N : Nat) (l1 : Int) (l2 : Int) (l3 : Int) (s0 : Int) (s : fS) : Option (Int × fS) :=
  (uPI s 243 5 l1).bind fun σ1 =>
  (uPI σ1 243 11 l2).bind fun σ3 =>
  (uPI σ3 243 8 l3).bind fun σ5 =>
  uZ s0 (s0, σ5)
theorem SX38_fits_b37 {m b : Nat} {φ0 : Nat → Nat} {σo : fS} (hm : 1 ≤ m) {N : Nat} {q : Int × fS} {φ : Nat → Nat} {h : eH} {s : fS} {l1' : Int32} {l1 : Int} {l2' : Int32} {l2 : Int} {l3' : Int32} {l3 : Int} {s0' : Int32} {s0 : Int} (R : fC m b φ0 σo φ h s) (el1 : l1' = iI l1) (rl1 : r32 l1) (el2 : l2' = iI l2) (rl2 : r32 l2) (el3 : l3' = iI l3) (rl3 : r32 l3) (es0 : s0' = iI s0) (rs0 : r32 s0) (hF : FX38_fits_b37 N l1 l2 l3 s0 s = some q) : gG m b φ0 σo lI q (fX38_fits_b37 N 243 l1' l2' l3' s0' h) := by
  subst el1; subst el2; subst el3; subst es0
  unfold FX38_fits_b37 at hF
  unfold fX38_fits_b37
  refine s_pI R (t_243 hm R.S) (Nat.le_of_ble_eq_true rfl) rfl rfl rl1 hF (fun h1 σ1 R1 T1 hF => ?_)
  refine s_pI R1 (t_243 hm R1.S) (Nat.le_of_ble_eq_true rfl) rfl rfl rl2 hF (fun h2 σ3 R2 T2 hF => ?_)
  refine s_pI R2 (t_243 hm R2.S) (Nat.le_of_ble_eq_true rfl) rfl rfl rl3 hF (fun h3 σ5 R3 T3 hF => ?_)
  exact g_z R3 rfl hF ⟨rfl, rs0⟩
def FX38_fits (N : Nat) (s : fS) : Option (Int × fS) :=
  (FX38_findMoves N s).bind fun q2 =>
  (FX38_writePage N q2.2).bind fun q10 =>
  if 200000 < (q10.2.i 243 5) then
    FX38_fits_b37 N (q2.2.i 243 5) (q2.2.i 243 11) (q2.2.i 243 8) 0 q10.2
  else
    FX38_fits_b37 N (q2.2.i 243 5) (q2.2.i 243 11) (q2.2.i 243 8) 1 q10.2
theorem SX38_fits {m b : Nat} {φ0 : Nat → Nat} {σo : fS} (hm : 1 ≤ m) {N : Nat} {q : Int × fS} {φ : Nat → Nat} {h : eH} {s : fS} (R : fC m b φ0 σo φ h s) (hF : FX38_fits N s = some q) : gG m b φ0 σo lI q (fX38_fits N 243 h) := by
  unfold FX38_fits at hF
  unfold fX38_fits
  refine s_kok R (t_243 hm R.S) (Nat.le_of_ble_eq_true rfl) ?_
  refine s_call R (Nat.zero_le _) (fun _ hq => SX38_findMoves (b := 0) (N := N) hm (R.rf) hq) hF (fun f2 rv2 h2 q2 R2 e2 E2 hF => ?_)
  refine s_gI R2 (t_243 hm R2.S) (Nat.le_of_ble_eq_true rfl) rfl ?_
  refine s_gI R2 (t_243 hm R2.S) (Nat.le_of_ble_eq_true rfl) rfl ?_
  refine s_gI R2 (t_243 hm R2.S) (Nat.le_of_ble_eq_true rfl) rfl ?_
  refine s_kok R2 (t_243 hm R2.S) (Nat.le_of_ble_eq_true rfl) ?_
  refine s_call R2 (Nat.zero_le _) (fun _ hq => SX38_writePage (b := 0) (N := N) hm (R2.rf) hq) hF (fun f7 rv7 h7 q10 R7 e7 E7 hF => ?_)
  refine s_gI R7 (t_243 hm R7.S) (Nat.le_of_ble_eq_true rfl) rfl ?_
  refine s_if (i_lt (c_lit 200000 200000 rfl) rfl ⟨by decide, by decide⟩ (R7.ri (t_243 hm R7.S) (Nat.le_of_ble_eq_true rfl) rfl)) hF (fun c9 hF => ?_) (fun c9 hF => ?_)
  ·
    exact SX38_fits_b37 (N := N) hm R7 rfl (R2.ri (t_243 hm R2.S) (Nat.le_of_ble_eq_true rfl) rfl) rfl (R2.ri (t_243 hm R2.S) (Nat.le_of_ble_eq_true rfl) rfl) rfl (R2.ri (t_243 hm R2.S) (Nat.le_of_ble_eq_true rfl) rfl) (c_lit 0 0 rfl) ⟨by decide, by decide⟩ hF
  ·
    exact SX38_fits_b37 (N := N) hm R7 rfl (R2.ri (t_243 hm R2.S) (Nat.le_of_ble_eq_true rfl) rfl) rfl (R2.ri (t_243 hm R2.S) (Nat.le_of_ble_eq_true rfl) rfl) rfl (R2.ri (t_243 hm R2.S) (Nat.le_of_ble_eq_true rfl) rfl) (c_lit 1 1 rfl) ⟨by decide, by decide⟩ hF
def FX38_ship_b85 (N : Nat) (K6 : Int → fS → Option (Unit × fS)) (l1 : Int) (s1 : Int) (s : fS) : Option (Unit × fS) :=
  (uPI s 243 10 s1).bind fun σ1 =>
  K6 (iadd l1 1) σ1
theorem SX38_ship_b85 {m b : Nat} {φ0 : Nat → Nat} {σo : fS} (hm : 1 ≤ m) {N : Nat} {k6 : Nat → Int32 → eH → Option (Unit × eH)} {K6 : Int → fS → Option (Unit × fS)} {q : Unit × fS} (hk6 : ∀ {φ : Nat → Nat} {h : eH} {s : fS} {l1' : Int32} {l1 : Int}, fC m b φ0 σo φ h s → l1' = iI l1 → r32 l1 → K6 l1 s = some q → gG m b φ0 σo lU q (k6 243 l1' h)) {φ : Nat → Nat} {h : eH} {s : fS} {l1' : Int32} {l1 : Int} {s1' : Int32} {s1 : Int} (R : fC m b φ0 σo φ h s) (el1 : l1' = iI l1) (rl1 : r32 l1) (es1 : s1' = iI s1) (rs1 : r32 s1) (hF : FX38_ship_b85 N K6 l1 s1 s = some q) : gG m b φ0 σo lU q (fX38_ship_b85 N k6 243 l1' 243 s1' h) := by
  subst el1; subst es1
  unfold FX38_ship_b85 at hF
  unfold fX38_ship_b85
  refine s_pI R (t_243 hm R.S) (Nat.le_of_ble_eq_true rfl) rfl rfl rs1 hF (fun h1 σ1 R1 T1 hF => ?_)
  exact hk6 R1 (c_add rfl (c_lit 1 1 rfl)) (rr_I _) hF
def FX38_ship_b41 (N : Nat) (K6 : Int → fS → Option (Unit × fS)) (l1 : Int) (s1 : Int) (s : fS) : Option (Unit × fS) :=
  (uPI s 243 9 s1).bind fun σ1 =>
  (uRI σ1 253 l1).bind fun x5 =>
  (uRI σ1 256 l1).bind fun x9 =>
  if (iadd x5 x9) ≤ (σ1.i 243 10) then
    FX38_ship_b85 N K6 l1 (σ1.i 243 10) σ1
  else
    (uRI σ1 253 l1).bind fun x18 =>
    (uRI σ1 256 l1).bind fun x22 =>
    FX38_ship_b85 N K6 l1 (iadd x18 x22) σ1
theorem SX38_ship_b41 {m b : Nat} {φ0 : Nat → Nat} {σo : fS} (hm : 1 ≤ m) {N : Nat} {k6 : Nat → Int32 → eH → Option (Unit × eH)} {K6 : Int → fS → Option (Unit × fS)} {q : Unit × fS} (hk6 : ∀ {φ : Nat → Nat} {h : eH} {s : fS} {l1' : Int32} {l1 : Int}, fC m b φ0 σo φ h s → l1' = iI l1 → r32 l1 → K6 l1 s = some q → gG m b φ0 σo lU q (k6 243 l1' h)) {φ : Nat → Nat} {h : eH} {s : fS} {l1' : Int32} {l1 : Int} {s1' : Int32} {s1 : Int} (R : fC m b φ0 σo φ h s) (el1 : l1' = iI l1) (rl1 : r32 l1) (es1 : s1' = iI s1) (rs1 : r32 s1) (hF : FX38_ship_b41 N K6 l1 s1 s = some q) : gG m b φ0 σo lU q (fX38_ship_b41 N k6 243 l1' 243 s1' h) := by
  subst el1; subst es1
  unfold FX38_ship_b41 at hF
  unfold fX38_ship_b41
  refine s_pI R (t_243 hm R.S) (Nat.le_of_ble_eq_true rfl) rfl rfl rs1 hF (fun h1 σ1 R1 T1 hF => ?_)
  refine s_gAs R1 (t_243 hm R1.S) (Nat.le_of_ble_eq_true rfl) rfl (o_243_16 hm R1.S) (a_253 hm R1) ?_
  refine s_rI R1 (u_253 hm R1.S).1 (u_253 hm R1.S).2 (by decide) (a_253 hm R1) rfl rl1 hF (fun x5 ra3 hF => ?_)
  refine s_gAs R1 (t_243 hm R1.S) (Nat.le_of_ble_eq_true rfl) rfl (o_243_19 hm R1.S) (a_256 hm R1) ?_
  refine s_rI R1 (u_256 hm R1.S).1 (u_256 hm R1.S).2 (by decide) (a_256 hm R1) rfl rl1 hF (fun x9 ra5 hF => ?_)
  refine s_gI R1 (t_243 hm R1.S) (Nat.le_of_ble_eq_true rfl) rfl ?_
  refine s_if (i_le (c_add rfl rfl) rfl (rr_I _) (R1.ri (t_243 hm R1.S) (Nat.le_of_ble_eq_true rfl) rfl)) hF (fun c7 hF => ?_) (fun c7 hF => ?_)
  ·
    refine s_gI R1 (t_243 hm R1.S) (Nat.le_of_ble_eq_true rfl) rfl ?_
    exact SX38_ship_b85 (N := N) (k6 := k6) (K6 := K6) hm @hk6 R1 rfl rl1 rfl (R1.ri (t_243 hm R1.S) (Nat.le_of_ble_eq_true rfl) rfl) hF
  ·
    refine s_gAs R1 (t_243 hm R1.S) (Nat.le_of_ble_eq_true rfl) rfl (o_243_16 hm R1.S) (a_253 hm R1) ?_
    refine s_rI R1 (u_253 hm R1.S).1 (u_253 hm R1.S).2 (by decide) (a_253 hm R1) rfl rl1 hF (fun x18 ra10 hF => ?_)
    refine s_gAs R1 (t_243 hm R1.S) (Nat.le_of_ble_eq_true rfl) rfl (o_243_19 hm R1.S) (a_256 hm R1) ?_
    refine s_rI R1 (u_256 hm R1.S).1 (u_256 hm R1.S).2 (by decide) (a_256 hm R1) rfl rl1 hF (fun x22 ra12 hF => ?_)
    exact SX38_ship_b85 (N := N) (k6 := k6) (K6 := K6) hm @hk6 R1 rfl rl1 (c_add rfl rfl) (rr_I _) hF
def FX38_ship_b6 (N : Nat) : Nat → Int → fS → Option (Unit × fS)
  | 0, _, _ => none
  | n + 1, l1, s =>
    if (s.i 243 13) ≤ l1 then
      (uPI s 243 7 (iadd (s.i 243 7) 1)).bind fun σ6 =>
      some ((), σ6)
    else
      (uRI s 254 l1).bind fun x10 =>
      if x10 ≤ (s.i 243 9) then
        FX38_ship_b41 N (FX38_ship_b6 N n) l1 (s.i 243 9) s
      else
        (uRI s 254 l1).bind fun x19 =>
        FX38_ship_b41 N (FX38_ship_b6 N n) l1 x19 s
theorem SX38_ship_b6 {m b : Nat} {φ0 : Nat → Nat} {σo : fS} (hm : 1 ≤ m) {N : Nat} {q : Unit × fS} : ∀ {n : Nat} {φ : Nat → Nat} {h : eH} {s : fS} {l1' : Int32} {l1 : Int}, fC m b φ0 σo φ h s → l1' = iI l1 → r32 l1 → FX38_ship_b6 N n l1 s = some q → gG m b φ0 σo lU q (fX38_ship_b6 N n 243 l1' h) := by
  intro n
  induction n with
 | zero => intro φ h s l1' l1 R el1 rl1 hF; simp [FX38_ship_b6] at hF
  | succ n ih =>
    intro φ h s l1' l1 R el1 rl1 hF
    subst el1
    rw [FX38_ship_b6] at hF
    rw [fX38_ship_b6]
    refine s_gI R (t_243 hm R.S) (Nat.le_of_ble_eq_true rfl) rfl ?_
    refine s_if (i_le rfl rfl (R.ri (t_243 hm R.S) (Nat.le_of_ble_eq_true rfl) rfl) rl1) hF (fun c2 hF => ?_) (fun c2 hF => ?_)
    ·
      refine s_gI R (t_243 hm R.S) (Nat.le_of_ble_eq_true rfl) rfl ?_
      refine s_pI R (t_243 hm R.S) (Nat.le_of_ble_eq_true rfl) rfl (c_add rfl (c_lit 1 1 rfl)) (rr_I _) hF (fun h4 σ6 R4 T4 hF => ?_)
      exact g_ret R4 hF trivial
    ·
      refine s_gAs R (t_243 hm R.S) (Nat.le_of_ble_eq_true rfl) rfl (o_243_17 hm R.S) (a_254 hm R) ?_
      refine s_rI R (u_254 hm R.S).1 (u_254 hm R.S).2 (by decide) (a_254 hm R) rfl rl1 hF (fun x10 ra6 hF => ?_)
      refine s_gI R (t_243 hm R.S) (Nat.le_of_ble_eq_true rfl) rfl ?_
      refine s_if (i_le rfl rfl ra6 (R.ri (t_243 hm R.S) (Nat.le_of_ble_eq_true rfl) rfl)) hF (fun c8 hF => ?_) (fun c8 hF => ?_)
      ·
        refine s_gI R (t_243 hm R.S) (Nat.le_of_ble_eq_true rfl) rfl ?_
        exact SX38_ship_b41 (N := N) (k6 := fX38_ship_b6 N n) (K6 := FX38_ship_b6 N n) hm @ih R rfl rl1 rfl (R.ri (t_243 hm R.S) (Nat.le_of_ble_eq_true rfl) rfl) hF
      ·
        refine s_gAs R (t_243 hm R.S) (Nat.le_of_ble_eq_true rfl) rfl (o_243_17 hm R.S) (a_254 hm R) ?_
        refine s_rI R (u_254 hm R.S).1 (u_254 hm R.S).2 (by decide) (a_254 hm R) rfl rl1 hF (fun x19 ra11 hF => ?_)
        exact SX38_ship_b41 (N := N) (k6 := fX38_ship_b6 N n) (K6 := FX38_ship_b6 N n) hm @ih R rfl rl1 rfl ra11 hF
def FX38_ship (N : Nat) (s : fS) : Option (Unit × fS) :=
  (FX38_writePage N s).bind fun q2 =>
  FX38_ship_b6 N N 0 q2.2
theorem SX38_ship {m b : Nat} {φ0 : Nat → Nat} {σo : fS} (hm : 1 ≤ m) {N : Nat} {q : Unit × fS} {φ : Nat → Nat} {h : eH} {s : fS} (R : fC m b φ0 σo φ h s) (hF : FX38_ship N s = some q) : gG m b φ0 σo lU q (fX38_ship N 243 h) := by
  unfold FX38_ship at hF
  unfold fX38_ship
  refine s_kok R (t_243 hm R.S) (Nat.le_of_ble_eq_true rfl) ?_
  refine s_call R (Nat.zero_le _) (fun _ hq => SX38_writePage (b := 0) (N := N) hm (R.rf) hq) hF (fun f2 rv2 h2 q2 R2 e2 E2 hF => ?_)
  exact SX38_ship_b6 (N := N) hm R2 (c_lit 0 0 rfl) ⟨by decide, by decide⟩ hF
def FX35_setAt_b50 (N : Nat) (s : fS) : Option (Unit × fS) :=
  some ((), s)
theorem SX35_setAt_b50 {m b : Nat} {φ0 : Nat → Nat} {σo : fS} (hm : 1 ≤ m) {N : Nat} {q : Unit × fS} {φ : Nat → Nat} {h : eH} {s : fS} (R : fC m b φ0 σo φ h s) (hF : FX35_setAt_b50 N s = some q) : gG m b φ0 σo lU q (fX35_setAt_b50 N h) := by
  unfold FX35_setAt_b50 at hF
  unfold fX35_setAt_b50
  exact g_ret R hF trivial
def FX35_setAt_b14 (N : Nat) : Nat → Int → Int → Int → fS → Option (Unit × fS)
  | 0, _, _, _, _ => none
  | n + 1, l1, l2, l4, s =>
    if (s.i 192 21) < l4 then
      FX35_setAt_b50 N s
    else
      if ¬ ((s.i 192 46) = 0) then
        FX35_setAt_b50 N s
      else
        (uQI s 265 (iadd (imul 3812 l4) l1) l2).bind fun σ9 =>
        FX35_setAt_b14 N n l1 l2 (iadd l4 1) σ9
theorem SX35_setAt_b14 {m b : Nat} {φ0 : Nat → Nat} {σo : fS} (hm : 1 ≤ m) {N : Nat} {q : Unit × fS} : ∀ {n : Nat} {φ : Nat → Nat} {h : eH} {s : fS} {l1' : Int32} {l1 : Int} {l2' : Int32} {l2 : Int} {l4' : Int32} {l4 : Int}, fC m b φ0 σo φ h s → l1' = iI l1 → r32 l1 → l2' = iI l2 → r32 l2 → l4' = iI l4 → r32 l4 → FX35_setAt_b14 N n l1 l2 l4 s = some q → gG m b φ0 σo lU q (fX35_setAt_b14 N n 192 l1' l2' l4' h) := by
  intro n
  induction n with
 | zero => intro φ h s l1' l1 l2' l2 l4' l4 R el1 rl1 el2 rl2 el4 rl4 hF; simp [FX35_setAt_b14] at hF
  | succ n ih =>
    intro φ h s l1' l1 l2' l2 l4' l4 R el1 rl1 el2 rl2 el4 rl4 hF
    subst el1; subst el2; subst el4
    rw [FX35_setAt_b14] at hF
    rw [fX35_setAt_b14]
    refine s_gI R (t_192 hm R.S) (Nat.le_of_ble_eq_true rfl) rfl ?_
    refine s_if (i_lt rfl rfl (R.ri (t_192 hm R.S) (Nat.le_of_ble_eq_true rfl) rfl) rl4) hF (fun c2 hF => ?_) (fun c2 hF => ?_)
    ·
      exact SX35_setAt_b50 (N := N) hm R hF
    ·
      refine s_gI R (t_192 hm R.S) (Nat.le_of_ble_eq_true rfl) rfl ?_
      refine s_if (not_congr (i_eq rfl (c_lit 0 0 rfl) (R.ri (t_192 hm R.S) (Nat.le_of_ble_eq_true rfl) rfl) ⟨by decide, by decide⟩)) hF (fun c4 hF => ?_) (fun c4 hF => ?_)
      ·
        exact SX35_setAt_b50 (N := N) hm R hF
      ·
        refine s_gAs R (t_192 hm R.S) (Nat.le_of_ble_eq_true rfl) rfl (o_192_22 hm R.S) (a_265 hm R) ?_
        refine s_qI R (u_265 hm R.S).1 (u_265 hm R.S).2 (by decide) (a_265 hm R) (c_add (c_mul (c_lit 3812 3812 rfl) rfl) rfl) (rr_I _) rfl rl2 hF (fun h6 σ9 R6 T6 hF => ?_)
        exact ih R6 rfl rl1 rfl rl2 (c_add rfl (c_lit 1 1 rfl)) (rr_I _) hF
def FX35_setAt_b12 (N : Nat) (l1 : Int) (l2 : Int) (s0 : Int) (s : fS) : Option (Unit × fS) :=
  FX35_setAt_b14 N N l1 l2 s0 s
theorem SX35_setAt_b12 {m b : Nat} {φ0 : Nat → Nat} {σo : fS} (hm : 1 ≤ m) {N : Nat} {q : Unit × fS} {φ : Nat → Nat} {h : eH} {s : fS} {l1' : Int32} {l1 : Int} {l2' : Int32} {l2 : Int} {s0' : Int32} {s0 : Int} (R : fC m b φ0 σo φ h s) (el1 : l1' = iI l1) (rl1 : r32 l1) (el2 : l2' = iI l2) (rl2 : r32 l2) (es0 : s0' = iI s0) (rs0 : r32 s0) (hF : FX35_setAt_b12 N l1 l2 s0 s = some q) : gG m b φ0 σo lU q (fX35_setAt_b12 N 192 l1' l2' s0' h) := by
  subst el1; subst el2; subst es0
  unfold FX35_setAt_b12 at hF
  unfold fX35_setAt_b12
  exact SX35_setAt_b14 (N := N) hm R rfl rl1 rfl rl2 rfl rs0 hF
def FX35_setAt (N : Nat) (p0 : Int) (p1 : Int) (p2 : Int) (s : fS) : Option (Unit × fS) :=
  if p2 = 0 then
    FX35_setAt_b12 N p0 p1 (s.i 192 21) s
  else
    FX35_setAt_b12 N p0 p1 0 s
theorem SX35_setAt {m b : Nat} {φ0 : Nat → Nat} {σo : fS} (hm : 1 ≤ m) {N : Nat} {q : Unit × fS} {φ : Nat → Nat} {h : eH} {s : fS} {p0' : Int32} {p0 : Int} {p1' : Int32} {p1 : Int} {p2' : Int32} {p2 : Int} (R : fC m b φ0 σo φ h s) (ep0 : p0' = iI p0) (rp0 : r32 p0) (ep1 : p1' = iI p1) (rp1 : r32 p1) (ep2 : p2' = iI p2) (rp2 : r32 p2) (hF : FX35_setAt N p0 p1 p2 s = some q) : gG m b φ0 σo lU q (fX35_setAt N 192 p0' p1' p2' h) := by
  subst ep0; subst ep1; subst ep2
  unfold FX35_setAt at hF
  unfold fX35_setAt
  refine s_if (i_eq rfl (c_lit 0 0 rfl) rp2 ⟨by decide, by decide⟩) hF (fun c1 hF => ?_) (fun c1 hF => ?_)
  ·
    refine s_gI R (t_192 hm R.S) (Nat.le_of_ble_eq_true rfl) rfl ?_
    exact SX35_setAt_b12 (N := N) hm R rfl rp0 rfl rp1 rfl (R.ri (t_192 hm R.S) (Nat.le_of_ble_eq_true rfl) rfl) hF
  ·
    exact SX35_setAt_b12 (N := N) hm R rfl rp0 rfl rp1 (c_lit 0 0 rfl) ⟨by decide, by decide⟩ hF
def FX35_ship_b61 (N : Nat) (SL : Int → Int → Int → fS → Option (Int × fS)) (K16 : Int → Int → fS → Option (Unit × fS)) (l3 : Int) (s0 : Int) (s : fS) : Option (Unit × fS) :=
  K16 s0 (iadd l3 1) s
theorem SX35_ship_b61 {m b : Nat} {φ0 : Nat → Nat} {σo : fS} (hm : 1 ≤ m) (hb : 1 ≤ b) {N : Nat} {sL : Nat → Int32 → Int64 → Int64 → eH → Option (Int32 × eH)} {SL : Int → Int → Int → fS → Option (Int × fS)} {k16 : Nat → Int64 → Int32 → eH → Option (Unit × eH)} {K16 : Int → Int → fS → Option (Unit × fS)} {q : Unit × fS} (hsL : ∀ {φ : Nat → Nat} {h : eH} {s : fS} {x1' : Int32} {x1 : Int} {x2' : Int64} {x2 : Int} {x3' : Int64} {x3 : Int} {q}, fC m 1 φ s φ h s → x1' = iI x1 → r32 x1 → x2' = iJ x2 → r64 x2 → x3' = iJ x3 → r64 x3 → SL x1 x2 x3 s = some q → gG m 1 φ s lI q (sL 192 x1' x2' x3' h)) (hk16 : ∀ {φ : Nat → Nat} {h : eH} {s : fS} {l1' : Int64} {l1 : Int} {l3' : Int32} {l3 : Int}, fC m b φ0 σo φ h s → l1' = iJ l1 → r64 l1 → l3' = iI l3 → r32 l3 → K16 l1 l3 s = some q → gG m b φ0 σo lU q (k16 192 l1' l3' h)) {φ : Nat → Nat} {h : eH} {s : fS} {l3' : Int32} {l3 : Int} {s0' : Int64} {s0 : Int} (R : fC m b φ0 σo φ h s) (el3 : l3' = iI l3) (rl3 : r32 l3) (es0 : s0' = iJ s0) (rs0 : r64 s0) (hF : FX35_ship_b61 N SL K16 l3 s0 s = some q) : gG m b φ0 σo lU q (fX35_ship_b61 N sL k16 192 l3' s0' h) := by
  subst el3; subst es0
  unfold FX35_ship_b61 at hF
  unfold fX35_ship_b61
  exact hk16 R rfl rs0 (c_add rfl (c_lit 1 1 rfl)) (rr_I _) hF
def FX35_ship_b60 (N : Nat) (SL : Int → Int → Int → fS → Option (Int × fS)) (K16 : Int → Int → fS → Option (Unit × fS)) (l1 : Int) (l3 : Int) (s : fS) : Option (Unit × fS) :=
  FX35_ship_b61 N SL K16 l3 l1 s
theorem SX35_ship_b60 {m b : Nat} {φ0 : Nat → Nat} {σo : fS} (hm : 1 ≤ m) (hb : 1 ≤ b) {N : Nat} {sL : Nat → Int32 → Int64 → Int64 → eH → Option (Int32 × eH)} {SL : Int → Int → Int → fS → Option (Int × fS)} {k16 : Nat → Int64 → Int32 → eH → Option (Unit × eH)} {K16 : Int → Int → fS → Option (Unit × fS)} {q : Unit × fS} (hsL : ∀ {φ : Nat → Nat} {h : eH} {s : fS} {x1' : Int32} {x1 : Int} {x2' : Int64} {x2 : Int} {x3' : Int64} {x3 : Int} {q}, fC m 1 φ s φ h s → x1' = iI x1 → r32 x1 → x2' = iJ x2 → r64 x2 → x3' = iJ x3 → r64 x3 → SL x1 x2 x3 s = some q → gG m 1 φ s lI q (sL 192 x1' x2' x3' h)) (hk16 : ∀ {φ : Nat → Nat} {h : eH} {s : fS} {l1' : Int64} {l1 : Int} {l3' : Int32} {l3 : Int}, fC m b φ0 σo φ h s → l1' = iJ l1 → r64 l1 → l3' = iI l3 → r32 l3 → K16 l1 l3 s = some q → gG m b φ0 σo lU q (k16 192 l1' l3' h)) {φ : Nat → Nat} {h : eH} {s : fS} {l1' : Int64} {l1 : Int} {l3' : Int32} {l3 : Int} (R : fC m b φ0 σo φ h s) (el1 : l1' = iJ l1) (rl1 : r64 l1) (el3 : l3' = iI l3) (rl3 : r32 l3) (hF : FX35_ship_b60 N SL K16 l1 l3 s = some q) : gG m b φ0 σo lU q (fX35_ship_b60 N sL k16 192 l1' l3' h) := by
  subst el1; subst el3
  unfold FX35_ship_b60 at hF
  unfold fX35_ship_b60
  exact SX35_ship_b61 (N := N) (sL := sL) (SL := SL) (k16 := k16) (K16 := K16) hm hb @hsL @hk16 R rfl rl3 rfl rl1 hF
def FX35_ship_b88 (N : Nat) (SL : Int → Int → Int → fS → Option (Int × fS)) (s : fS) : Option (Unit × fS) :=
  (FX35_fail 17 s).bind fun q2 =>
  some ((), q2.2)
theorem SX35_ship_b88 {m b : Nat} {φ0 : Nat → Nat} {σo : fS} (hm : 1 ≤ m) {N : Nat} {sL : Nat → Int32 → Int64 → Int64 → eH → Option (Int32 × eH)} {SL : Int → Int → Int → fS → Option (Int × fS)} {q : Unit × fS} (hsL : ∀ {φ : Nat → Nat} {h : eH} {s : fS} {x1' : Int32} {x1 : Int} {x2' : Int64} {x2 : Int} {x3' : Int64} {x3 : Int} {q}, fC m 1 φ s φ h s → x1' = iI x1 → r32 x1 → x2' = iJ x2 → r64 x2 → x3' = iJ x3 → r64 x3 → SL x1 x2 x3 s = some q → gG m 1 φ s lI q (sL 192 x1' x2' x3' h)) {φ : Nat → Nat} {h : eH} {s : fS} (R : fC m b φ0 σo φ h s) (hF : FX35_ship_b88 N SL s = some q) : gG m b φ0 σo lU q (fX35_ship_b88 N sL 192 h) := by
  unfold FX35_ship_b88 at hF
  unfold fX35_ship_b88
  refine s_kok R (t_192 hm R.S) (Nat.le_of_ble_eq_true rfl) ?_
  refine s_call R (Nat.zero_le _) (fun _ hq => SX35_fail (b := 0) hm (R.rf) (c_lit 17 17 rfl) ⟨by decide, by decide⟩ hq) hF (fun f2 rv2 h2 q2 R2 e2 E2 hF => ?_)
  exact g_ret R2 hF trivial
def FX35_ship_b299 (N : Nat) (SL : Int → Int → Int → fS → Option (Int × fS)) (K122 : Int → fS → Option (Unit × fS)) (l3 : Int) (s1 : Int) (s2 : Int) (s : fS) : Option (Unit × fS) :=
  (uQI s 256 s1 (l2i s2)).bind fun σ1 =>
  K122 (iadd l3 1) σ1
theorem SX35_ship_b299 {m b : Nat} {φ0 : Nat → Nat} {σo : fS} (hm : 1 ≤ m) {N : Nat} {sL : Nat → Int32 → Int64 → Int64 → eH → Option (Int32 × eH)} {SL : Int → Int → Int → fS → Option (Int × fS)} {k122 : Nat → Int32 → eH → Option (Unit × eH)} {K122 : Int → fS → Option (Unit × fS)} {q : Unit × fS} (hsL : ∀ {φ : Nat → Nat} {h : eH} {s : fS} {x1' : Int32} {x1 : Int} {x2' : Int64} {x2 : Int} {x3' : Int64} {x3 : Int} {q}, fC m 1 φ s φ h s → x1' = iI x1 → r32 x1 → x2' = iJ x2 → r64 x2 → x3' = iJ x3 → r64 x3 → SL x1 x2 x3 s = some q → gG m 1 φ s lI q (sL 192 x1' x2' x3' h)) (hk122 : ∀ {φ : Nat → Nat} {h : eH} {s : fS} {l3' : Int32} {l3 : Int}, fC m b φ0 σo φ h s → l3' = iI l3 → r32 l3 → K122 l3 s = some q → gG m b φ0 σo lU q (k122 192 l3' h)) {φ : Nat → Nat} {h : eH} {s : fS} {l3' : Int32} {l3 : Int} {s1' : Int32} {s1 : Int} {s2' : Int64} {s2 : Int} (R : fC m b φ0 σo φ h s) (el3 : l3' = iI l3) (rl3 : r32 l3) (es1 : s1' = iI s1) (rs1 : r32 s1) (es2 : s2' = iJ s2) (rs2 : r64 s2) (hF : FX35_ship_b299 N SL K122 l3 s1 s2 s = some q) : gG m b φ0 σo lU q (fX35_ship_b299 N sL k122 192 l3' 256 s1' s2' h) := by
  subst el3; subst es1; subst es2
  unfold FX35_ship_b299 at hF
  unfold fX35_ship_b299
  refine s_qI R (u_256 hm R.S).1 (u_256 hm R.S).2 (by decide) (a_256 hm R) rfl rs1 (d_2i rfl) (rr_I _) hF (fun h1 σ1 R1 T1 hF => ?_)
  exact hk122 R1 (c_add rfl (c_lit 1 1 rfl)) (rr_I _) hF
def FX35_ship_b274 (N : Nat) (SL : Int → Int → Int → fS → Option (Int × fS)) (K122 : Int → fS → Option (Unit × fS)) (l3 : Int) (l4 : Int) (s1 : Int) (s2 : Int) (s : fS) : Option (Unit × fS) :=
  (uQI s 255 s1 (l2i s2)).bind fun σ1 =>
  if l4 = 0 then
    (uRJ σ1 318 l3).bind fun x10 =>
    FX35_ship_b299 N SL K122 l3 l3 x10 σ1
  else
    FX35_ship_b299 N SL K122 l3 l3 0 σ1
theorem SX35_ship_b274 {m b : Nat} {φ0 : Nat → Nat} {σo : fS} (hm : 1 ≤ m) {N : Nat} {sL : Nat → Int32 → Int64 → Int64 → eH → Option (Int32 × eH)} {SL : Int → Int → Int → fS → Option (Int × fS)} {k122 : Nat → Int32 → eH → Option (Unit × eH)} {K122 : Int → fS → Option (Unit × fS)} {q : Unit × fS} (hsL : ∀ {φ : Nat → Nat} {h : eH} {s : fS} {x1' : Int32} {x1 : Int} {x2' : Int64} {x2 : Int} {x3' : Int64} {x3 : Int} {q}, fC m 1 φ s φ h s → x1' = iI x1 → r32 x1 → x2' = iJ x2 → r64 x2 → x3' = iJ x3 → r64 x3 → SL x1 x2 x3 s = some q → gG m 1 φ s lI q (sL 192 x1' x2' x3' h)) (hk122 : ∀ {φ : Nat → Nat} {h : eH} {s : fS} {l3' : Int32} {l3 : Int}, fC m b φ0 σo φ h s → l3' = iI l3 → r32 l3 → K122 l3 s = some q → gG m b φ0 σo lU q (k122 192 l3' h)) {φ : Nat → Nat} {h : eH} {s : fS} {l3' : Int32} {l3 : Int} {l4' : Int32} {l4 : Int} {s1' : Int32} {s1 : Int} {s2' : Int64} {s2 : Int} (R : fC m b φ0 σo φ h s) (el3 : l3' = iI l3) (rl3 : r32 l3) (el4 : l4' = iI l4) (rl4 : r32 l4) (es1 : s1' = iI s1) (rs1 : r32 s1) (es2 : s2' = iJ s2) (rs2 : r64 s2) (hF : FX35_ship_b274 N SL K122 l3 l4 s1 s2 s = some q) : gG m b φ0 σo lU q (fX35_ship_b274 N sL k122 192 l3' l4' 255 s1' s2' h) := by
  subst el3; subst el4; subst es1; subst es2
  unfold FX35_ship_b274 at hF
  unfold fX35_ship_b274
  refine s_qI R (u_255 hm R.S).1 (u_255 hm R.S).2 (by decide) (a_255 hm R) rfl rs1 (d_2i rfl) (rr_I _) hF (fun h1 σ1 R1 T1 hF => ?_)
  refine s_gO R1 (t_192 hm R1.S) (Nat.le_of_ble_eq_true rfl) rfl (o_192_7 hm R1.S) ?_
  refine s_gAs R1 (t_243 hm R1.S) (Nat.le_of_ble_eq_true rfl) rfl (o_243_19 hm R1.S) (a_256 hm R1) ?_
  refine s_if (i_eq rfl (c_lit 0 0 rfl) rl4 ⟨by decide, by decide⟩) hF (fun c4 hF => ?_) (fun c4 hF => ?_)
  ·
    refine s_gAs R1 (t_192 hm R1.S) (Nat.le_of_ble_eq_true rfl) rfl (o_192_107 hm R1.S) (a_318 hm R1) ?_
    refine s_rJ R1 (u_318 hm R1.S).1 (u_318 hm R1.S).2 (a_318 hm R1) rfl rl3 hF (fun x10 ra6 hF => ?_)
    exact SX35_ship_b299 (N := N) (sL := sL) (SL := SL) (k122 := k122) (K122 := K122) hm @hsL @hk122 R1 rfl rl3 rfl rl3 rfl ra6 hF
  ·
    exact SX35_ship_b299 (N := N) (sL := sL) (SL := SL) (k122 := k122) (K122 := K122) hm @hsL @hk122 R1 rfl rl3 rfl rl3 (d_lit 0 0 rfl) ⟨by decide, by decide⟩ hF
def FX35_ship_b242 (N : Nat) (SL : Int → Int → Int → fS → Option (Int × fS)) (K122 : Int → fS → Option (Unit × fS)) (l3 : Int) (l4 : Int) (s1 : Int) (s2 : Int) (s : fS) : Option (Unit × fS) :=
  (uQI s 254 s1 (l2i s2)).bind fun σ1 =>
  if l4 = 0 then
    FX35_ship_b274 N SL K122 l3 l4 l3 0 σ1
  else
    (uRJ σ1 319 l3).bind fun x10 =>
    (uRJ σ1 320 l3).bind fun x14 =>
    FX35_ship_b274 N SL K122 l3 l4 l3 (ladd x10 x14) σ1
theorem SX35_ship_b242 {m b : Nat} {φ0 : Nat → Nat} {σo : fS} (hm : 1 ≤ m) {N : Nat} {sL : Nat → Int32 → Int64 → Int64 → eH → Option (Int32 × eH)} {SL : Int → Int → Int → fS → Option (Int × fS)} {k122 : Nat → Int32 → eH → Option (Unit × eH)} {K122 : Int → fS → Option (Unit × fS)} {q : Unit × fS} (hsL : ∀ {φ : Nat → Nat} {h : eH} {s : fS} {x1' : Int32} {x1 : Int} {x2' : Int64} {x2 : Int} {x3' : Int64} {x3 : Int} {q}, fC m 1 φ s φ h s → x1' = iI x1 → r32 x1 → x2' = iJ x2 → r64 x2 → x3' = iJ x3 → r64 x3 → SL x1 x2 x3 s = some q → gG m 1 φ s lI q (sL 192 x1' x2' x3' h)) (hk122 : ∀ {φ : Nat → Nat} {h : eH} {s : fS} {l3' : Int32} {l3 : Int}, fC m b φ0 σo φ h s → l3' = iI l3 → r32 l3 → K122 l3 s = some q → gG m b φ0 σo lU q (k122 192 l3' h)) {φ : Nat → Nat} {h : eH} {s : fS} {l3' : Int32} {l3 : Int} {l4' : Int32} {l4 : Int} {s1' : Int32} {s1 : Int} {s2' : Int64} {s2 : Int} (R : fC m b φ0 σo φ h s) (el3 : l3' = iI l3) (rl3 : r32 l3) (el4 : l4' = iI l4) (rl4 : r32 l4) (es1 : s1' = iI s1) (rs1 : r32 s1) (es2 : s2' = iJ s2) (rs2 : r64 s2) (hF : FX35_ship_b242 N SL K122 l3 l4 s1 s2 s = some q) : gG m b φ0 σo lU q (fX35_ship_b242 N sL k122 192 l3' l4' 254 s1' s2' h) := by
  subst el3; subst el4; subst es1; subst es2
  unfold FX35_ship_b242 at hF
  unfold fX35_ship_b242
  refine s_qI R (u_254 hm R.S).1 (u_254 hm R.S).2 (by decide) (a_254 hm R) rfl rs1 (d_2i rfl) (rr_I _) hF (fun h1 σ1 R1 T1 hF => ?_)
  refine s_gO R1 (t_192 hm R1.S) (Nat.le_of_ble_eq_true rfl) rfl (o_192_7 hm R1.S) ?_
  refine s_gAs R1 (t_243 hm R1.S) (Nat.le_of_ble_eq_true rfl) rfl (o_243_18 hm R1.S) (a_255 hm R1) ?_
  refine s_if (i_eq rfl (c_lit 0 0 rfl) rl4 ⟨by decide, by decide⟩) hF (fun c4 hF => ?_) (fun c4 hF => ?_)
  ·
    exact SX35_ship_b274 (N := N) (sL := sL) (SL := SL) (k122 := k122) (K122 := K122) hm @hsL @hk122 R1 rfl rl3 rfl rl4 rfl rl3 (d_lit 0 0 rfl) ⟨by decide, by decide⟩ hF
  ·
    refine s_gAs R1 (t_192 hm R1.S) (Nat.le_of_ble_eq_true rfl) rfl (o_192_108 hm R1.S) (a_319 hm R1) ?_
    refine s_rJ R1 (u_319 hm R1.S).1 (u_319 hm R1.S).2 (a_319 hm R1) rfl rl3 hF (fun x10 ra6 hF => ?_)
    refine s_gAs R1 (t_192 hm R1.S) (Nat.le_of_ble_eq_true rfl) rfl (o_192_109 hm R1.S) (a_320 hm R1) ?_
    refine s_rJ R1 (u_320 hm R1.S).1 (u_320 hm R1.S).2 (a_320 hm R1) rfl rl3 hF (fun x14 ra8 hF => ?_)
    exact SX35_ship_b274 (N := N) (sL := sL) (SL := SL) (k122 := k122) (K122 := K122) hm @hsL @hk122 R1 rfl rl3 rfl rl4 rfl rl3 (d_add rfl rfl) (rr_J _) hF
def FX35_ship_b190 (N : Nat) (SL : Int → Int → Int → fS → Option (Int × fS)) (K122 : Int → fS → Option (Unit × fS)) (l3 : Int) (l4 : Int) (s1 : Int) (s2 : Int) (s : fS) : Option (Unit × fS) :=
  (uQI s 252 s1 s2).bind fun σ1 =>
  (uRJ σ1 316 l3).bind fun x9 =>
  (uQI σ1 253 l3 (l2i x9)).bind fun σ11 =>
  if l4 = 0 then
    (uRJ σ11 317 l3).bind fun x20 =>
    FX35_ship_b242 N SL K122 l3 l4 l3 x20 σ11
  else
    (uRJ σ11 317 l3).bind fun x24 =>
    (uRJ σ11 320 l3).bind fun x28 =>
    FX35_ship_b242 N SL K122 l3 l4 l3 (ladd x24 x28) σ11
theorem SX35_ship_b190 {m b : Nat} {φ0 : Nat → Nat} {σo : fS} (hm : 1 ≤ m) {N : Nat} {sL : Nat → Int32 → Int64 → Int64 → eH → Option (Int32 × eH)} {SL : Int → Int → Int → fS → Option (Int × fS)} {k122 : Nat → Int32 → eH → Option (Unit × eH)} {K122 : Int → fS → Option (Unit × fS)} {q : Unit × fS} (hsL : ∀ {φ : Nat → Nat} {h : eH} {s : fS} {x1' : Int32} {x1 : Int} {x2' : Int64} {x2 : Int} {x3' : Int64} {x3 : Int} {q}, fC m 1 φ s φ h s → x1' = iI x1 → r32 x1 → x2' = iJ x2 → r64 x2 → x3' = iJ x3 → r64 x3 → SL x1 x2 x3 s = some q → gG m 1 φ s lI q (sL 192 x1' x2' x3' h)) (hk122 : ∀ {φ : Nat → Nat} {h : eH} {s : fS} {l3' : Int32} {l3 : Int}, fC m b φ0 σo φ h s → l3' = iI l3 → r32 l3 → K122 l3 s = some q → gG m b φ0 σo lU q (k122 192 l3' h)) {φ : Nat → Nat} {h : eH} {s : fS} {l3' : Int32} {l3 : Int} {l4' : Int32} {l4 : Int} {s1' : Int32} {s1 : Int} {s2' : Int32} {s2 : Int} (R : fC m b φ0 σo φ h s) (el3 : l3' = iI l3) (rl3 : r32 l3) (el4 : l4' = iI l4) (rl4 : r32 l4) (es1 : s1' = iI s1) (rs1 : r32 s1) (es2 : s2' = iI s2) (rs2 : r32 s2) (hF : FX35_ship_b190 N SL K122 l3 l4 s1 s2 s = some q) : gG m b φ0 σo lU q (fX35_ship_b190 N sL k122 192 l3' l4' 252 s1' s2' h) := by
  subst el3; subst el4; subst es1; subst es2
  unfold FX35_ship_b190 at hF
  unfold fX35_ship_b190
  refine s_qI R (u_252 hm R.S).1 (u_252 hm R.S).2 (by decide) (a_252 hm R) rfl rs1 rfl rs2 hF (fun h1 σ1 R1 T1 hF => ?_)
  refine s_gO R1 (t_192 hm R1.S) (Nat.le_of_ble_eq_true rfl) rfl (o_192_7 hm R1.S) ?_
  refine s_gAs R1 (t_243 hm R1.S) (Nat.le_of_ble_eq_true rfl) rfl (o_243_16 hm R1.S) (a_253 hm R1) ?_
  refine s_gAs R1 (t_192 hm R1.S) (Nat.le_of_ble_eq_true rfl) rfl (o_192_105 hm R1.S) (a_316 hm R1) ?_
  refine s_rJ R1 (u_316 hm R1.S).1 (u_316 hm R1.S).2 (a_316 hm R1) rfl rl3 hF (fun x9 ra5 hF => ?_)
  refine s_qI R1 (u_253 hm R1.S).1 (u_253 hm R1.S).2 (by decide) (a_253 hm R1) rfl rl3 (d_2i rfl) (rr_I _) hF (fun h6 σ11 R6 T6 hF => ?_)
  refine s_gO R6 (t_192 hm R6.S) (Nat.le_of_ble_eq_true rfl) rfl (o_192_7 hm R6.S) ?_
  refine s_gAs R6 (t_243 hm R6.S) (Nat.le_of_ble_eq_true rfl) rfl (o_243_17 hm R6.S) (a_254 hm R6) ?_
  refine s_if (i_eq rfl (c_lit 0 0 rfl) rl4 ⟨by decide, by decide⟩) hF (fun c9 hF => ?_) (fun c9 hF => ?_)
  ·
    refine s_gAs R6 (t_192 hm R6.S) (Nat.le_of_ble_eq_true rfl) rfl (o_192_106 hm R6.S) (a_317 hm R6) ?_
    refine s_rJ R6 (u_317 hm R6.S).1 (u_317 hm R6.S).2 (a_317 hm R6) rfl rl3 hF (fun x20 ra11 hF => ?_)
    exact SX35_ship_b242 (N := N) (sL := sL) (SL := SL) (k122 := k122) (K122 := K122) hm @hsL @hk122 R6 rfl rl3 rfl rl4 rfl rl3 rfl ra11 hF
  ·
    refine s_gAs R6 (t_192 hm R6.S) (Nat.le_of_ble_eq_true rfl) rfl (o_192_106 hm R6.S) (a_317 hm R6) ?_
    refine s_rJ R6 (u_317 hm R6.S).1 (u_317 hm R6.S).2 (a_317 hm R6) rfl rl3 hF (fun x24 ra13 hF => ?_)
    refine s_gAs R6 (t_192 hm R6.S) (Nat.le_of_ble_eq_true rfl) rfl (o_192_109 hm R6.S) (a_320 hm R6) ?_
    refine s_rJ R6 (u_320 hm R6.S).1 (u_320 hm R6.S).2 (a_320 hm R6) rfl rl3 hF (fun x28 ra15 hF => ?_)
    exact SX35_ship_b242 (N := N) (sL := sL) (SL := SL) (k122 := k122) (K122 := K122) hm @hsL @hk122 R6 rfl rl3 rfl rl4 rfl rl3 (d_add rfl rfl) (rr_J _) hF
def FX35_ship_b144 (N : Nat) (SL : Int → Int → Int → fS → Option (Int × fS)) (K122 : Int → fS → Option (Unit × fS)) (l3 : Int) (s0 : Int) (s : fS) : Option (Unit × fS) :=
  (uRI s 314 l3).bind fun x7 =>
  (uQI s 251 l3 x7).bind fun σ9 =>
  if s0 = 0 then
    (uRI σ9 315 l3).bind fun x18 =>
    FX35_ship_b190 N SL K122 l3 s0 l3 x18 σ9
  else
    (uRJ σ9 318 l3).bind fun x22 =>
    FX35_ship_b190 N SL K122 l3 s0 l3 (l2i x22) σ9
theorem SX35_ship_b144 {m b : Nat} {φ0 : Nat → Nat} {σo : fS} (hm : 1 ≤ m) {N : Nat} {sL : Nat → Int32 → Int64 → Int64 → eH → Option (Int32 × eH)} {SL : Int → Int → Int → fS → Option (Int × fS)} {k122 : Nat → Int32 → eH → Option (Unit × eH)} {K122 : Int → fS → Option (Unit × fS)} {q : Unit × fS} (hsL : ∀ {φ : Nat → Nat} {h : eH} {s : fS} {x1' : Int32} {x1 : Int} {x2' : Int64} {x2 : Int} {x3' : Int64} {x3 : Int} {q}, fC m 1 φ s φ h s → x1' = iI x1 → r32 x1 → x2' = iJ x2 → r64 x2 → x3' = iJ x3 → r64 x3 → SL x1 x2 x3 s = some q → gG m 1 φ s lI q (sL 192 x1' x2' x3' h)) (hk122 : ∀ {φ : Nat → Nat} {h : eH} {s : fS} {l3' : Int32} {l3 : Int}, fC m b φ0 σo φ h s → l3' = iI l3 → r32 l3 → K122 l3 s = some q → gG m b φ0 σo lU q (k122 192 l3' h)) {φ : Nat → Nat} {h : eH} {s : fS} {l3' : Int32} {l3 : Int} {s0' : Int32} {s0 : Int} (R : fC m b φ0 σo φ h s) (el3 : l3' = iI l3) (rl3 : r32 l3) (es0 : s0' = iI s0) (rs0 : r32 s0) (hF : FX35_ship_b144 N SL K122 l3 s0 s = some q) : gG m b φ0 σo lU q (fX35_ship_b144 N sL k122 192 l3' s0' h) := by
  subst el3; subst es0
  unfold FX35_ship_b144 at hF
  unfold fX35_ship_b144
  refine s_gO R (t_192 hm R.S) (Nat.le_of_ble_eq_true rfl) rfl (o_192_7 hm R.S) ?_
  refine s_gAs R (t_243 hm R.S) (Nat.le_of_ble_eq_true rfl) rfl (o_243_14 hm R.S) (a_251 hm R) ?_
  refine s_gAs R (t_192 hm R.S) (Nat.le_of_ble_eq_true rfl) rfl (o_192_103 hm R.S) (a_314 hm R) ?_
  refine s_rI R (u_314 hm R.S).1 (u_314 hm R.S).2 (by decide) (a_314 hm R) rfl rl3 hF (fun x7 ra4 hF => ?_)
  refine s_qI R (u_251 hm R.S).1 (u_251 hm R.S).2 (by decide) (a_251 hm R) rfl rl3 rfl ra4 hF (fun h5 σ9 R5 T5 hF => ?_)
  refine s_gO R5 (t_192 hm R5.S) (Nat.le_of_ble_eq_true rfl) rfl (o_192_7 hm R5.S) ?_
  refine s_gAs R5 (t_243 hm R5.S) (Nat.le_of_ble_eq_true rfl) rfl (o_243_15 hm R5.S) (a_252 hm R5) ?_
  refine s_if (i_eq rfl (c_lit 0 0 rfl) rs0 ⟨by decide, by decide⟩) hF (fun c8 hF => ?_) (fun c8 hF => ?_)
  ·
    refine s_gAs R5 (t_192 hm R5.S) (Nat.le_of_ble_eq_true rfl) rfl (o_192_104 hm R5.S) (a_315 hm R5) ?_
    refine s_rI R5 (u_315 hm R5.S).1 (u_315 hm R5.S).2 (by decide) (a_315 hm R5) rfl rl3 hF (fun x18 ra10 hF => ?_)
    exact SX35_ship_b190 (N := N) (sL := sL) (SL := SL) (k122 := k122) (K122 := K122) hm @hsL @hk122 R5 rfl rl3 rfl rs0 rfl rl3 rfl ra10 hF
  ·
    refine s_gAs R5 (t_192 hm R5.S) (Nat.le_of_ble_eq_true rfl) rfl (o_192_107 hm R5.S) (a_318 hm R5) ?_
    refine s_rJ R5 (u_318 hm R5.S).1 (u_318 hm R5.S).2 (a_318 hm R5) rfl rl3 hF (fun x22 ra12 hF => ?_)
    exact SX35_ship_b190 (N := N) (sL := sL) (SL := SL) (k122 := k122) (K122 := K122) hm @hsL @hk122 R5 rfl rl3 rfl rs0 rfl rl3 (d_2i rfl) (rr_I _) hF
def FX35_ship_b406 (N : Nat) (SL : Int → Int → Int → fS → Option (Int × fS)) (s : fS) : Option (Unit × fS) :=
  some ((), s)
theorem SX35_ship_b406 {m b : Nat} {φ0 : Nat → Nat} {σo : fS} (hm : 1 ≤ m) {N : Nat} {sL : Nat → Int32 → Int64 → Int64 → eH → Option (Int32 × eH)} {SL : Int → Int → Int → fS → Option (Int × fS)} {q : Unit × fS} (hsL : ∀ {φ : Nat → Nat} {h : eH} {s : fS} {x1' : Int32} {x1 : Int} {x2' : Int64} {x2 : Int} {x3' : Int64} {x3 : Int} {q}, fC m 1 φ s φ h s → x1' = iI x1 → r32 x1 → x2' = iJ x2 → r64 x2 → x3' = iJ x3 → r64 x3 → SL x1 x2 x3 s = some q → gG m 1 φ s lI q (sL 192 x1' x2' x3' h)) {φ : Nat → Nat} {h : eH} {s : fS} (R : fC m b φ0 σo φ h s) (hF : FX35_ship_b406 N SL s = some q) : gG m b φ0 σo lU q (fX35_ship_b406 N sL h) := by
  unfold FX35_ship_b406 at hF
  unfold fX35_ship_b406
  exact g_ret R hF trivial
def FX35_ship_b309 (N : Nat) (SL : Int → Int → Int → fS → Option (Int × fS)) : Nat → Int → fS → Option (Unit × fS)
  | 0, _, _ => none
  | n + 1, l3, s =>
    if 10 ≤ l3 then
      (FX38_fits N s).bind fun q5 =>
      if ¬ (q5.1 = 0) then
        (FX35_counter 0 q5.2).bind fun q8 =>
        if ¬ (q8.1 = 2147483647) then
          (FX38_ship N q8.2).bind fun q13 =>
          (uPI q13.2 192 101 (iadd (q13.2.i 192 101) 1)).bind fun σ16 =>
          (FX35_counter 0 σ16).bind fun q19 =>
          (FX35_setAt N 1716 (iadd q19.1 1) 1 q19.2).bind fun q21 =>
          FX35_ship_b406 N SL q21.2
        else
          (FX35_fail 7 q8.2).bind fun q23 =>
          FX35_ship_b406 N SL q23.2
      else
        (FX35_fail 17 q5.2).bind fun q25 =>
        FX35_ship_b406 N SL q25.2
    else
      (FX35_counter l3 s).bind fun q31 =>
      (uQI q31.2 248 l3 q31.1).bind fun σ32 =>
      FX35_ship_b309 N SL n (iadd l3 1) σ32
theorem SX35_ship_b309 {m b : Nat} {φ0 : Nat → Nat} {σo : fS} (hm : 1 ≤ m) {N : Nat} {sL : Nat → Int32 → Int64 → Int64 → eH → Option (Int32 × eH)} {SL : Int → Int → Int → fS → Option (Int × fS)} {q : Unit × fS} (hsL : ∀ {φ : Nat → Nat} {h : eH} {s : fS} {x1' : Int32} {x1 : Int} {x2' : Int64} {x2 : Int} {x3' : Int64} {x3 : Int} {q}, fC m 1 φ s φ h s → x1' = iI x1 → r32 x1 → x2' = iJ x2 → r64 x2 → x3' = iJ x3 → r64 x3 → SL x1 x2 x3 s = some q → gG m 1 φ s lI q (sL 192 x1' x2' x3' h)) : ∀ {n : Nat} {φ : Nat → Nat} {h : eH} {s : fS} {l3' : Int32} {l3 : Int}, fC m b φ0 σo φ h s → l3' = iI l3 → r32 l3 → FX35_ship_b309 N SL n l3 s = some q → gG m b φ0 σo lU q (fX35_ship_b309 N sL n 192 l3' h) := by
  intro n
  induction n with
 | zero => intro φ h s l3' l3 R el3 rl3 hF; simp [FX35_ship_b309] at hF
  | succ n ih =>
    intro φ h s l3' l3 R el3 rl3 hF
    subst el3
    rw [FX35_ship_b309] at hF
    rw [fX35_ship_b309]
    refine s_if (i_le (c_lit 10 10 rfl) rfl ⟨by decide, by decide⟩ rl3) hF (fun c1 hF => ?_) (fun c1 hF => ?_)
    ·
      refine s_gO R (t_192 hm R.S) (Nat.le_of_ble_eq_true rfl) rfl (o_192_7 hm R.S) ?_
      refine s_kok R (t_243 hm R.S) (Nat.le_of_ble_eq_true rfl) ?_
      refine s_call R (Nat.zero_le _) (fun _ hq => SX38_fits (b := 0) (N := N) hm (R.rf) hq) hF (fun f4 rv4 h4 q5 R4 e4 E4 hF => ?_)
      refine s_if (not_congr (i_eq e4.1 (c_lit 0 0 rfl) e4.2 ⟨by decide, by decide⟩)) hF (fun c5 hF => ?_) (fun c5 hF => ?_)
      ·
        refine s_kok R4 (t_192 hm R4.S) (Nat.le_of_ble_eq_true rfl) ?_
        refine s_call R4 (Nat.zero_le _) (fun _ hq => SX35_counter (b := 0) hm (R4.rf) (c_lit 0 0 rfl) ⟨by decide, by decide⟩ hq) hF (fun f7 rv7 h7 q8 R7 e7 E7 hF => ?_)
        refine s_if (not_congr (i_eq e7.1 (c_lit 2147483647 2147483647 rfl) e7.2 ⟨by decide, by decide⟩)) hF (fun c8 hF => ?_) (fun c8 hF => ?_)
        ·
          refine s_gO R7 (t_192 hm R7.S) (Nat.le_of_ble_eq_true rfl) rfl (o_192_7 hm R7.S) ?_
          refine s_kok R7 (t_243 hm R7.S) (Nat.le_of_ble_eq_true rfl) ?_
          refine s_call R7 (Nat.zero_le _) (fun _ hq => SX38_ship (b := 0) (N := N) hm (R7.rf) hq) hF (fun f11 rv11 h11 q13 R11 e11 E11 hF => ?_)
          refine s_gI R11 (t_192 hm R11.S) (Nat.le_of_ble_eq_true rfl) rfl ?_
          refine s_pI R11 (t_192 hm R11.S) (Nat.le_of_ble_eq_true rfl) rfl (c_add rfl (c_lit 1 1 rfl)) (rr_I _) hF (fun h13 σ16 R13 T13 hF => ?_)
          refine s_kok R13 (t_192 hm R13.S) (Nat.le_of_ble_eq_true rfl) ?_
          refine s_call R13 (Nat.zero_le _) (fun _ hq => SX35_counter (b := 0) hm (R13.rf) (c_lit 0 0 rfl) ⟨by decide, by decide⟩ hq) hF (fun f15 rv15 h15 q19 R15 e15 E15 hF => ?_)
          refine s_kok R15 (t_192 hm R15.S) (Nat.le_of_ble_eq_true rfl) ?_
          refine s_call R15 (Nat.zero_le _) (fun _ hq => SX35_setAt (b := 0) (N := N) hm (R15.rf) (c_lit 1716 1716 rfl) ⟨by decide, by decide⟩ (c_add e15.1 (c_lit 1 1 rfl)) (rr_I _) (c_lit 1 1 rfl) ⟨by decide, by decide⟩ hq) hF (fun f17 rv17 h17 q21 R17 e17 E17 hF => ?_)
          exact SX35_ship_b406 (N := N) (sL := sL) (SL := SL) hm @hsL R17 hF
        ·
          refine s_kok R7 (t_192 hm R7.S) (Nat.le_of_ble_eq_true rfl) ?_
          refine s_call R7 (Nat.zero_le _) (fun _ hq => SX35_fail (b := 0) hm (R7.rf) (c_lit 7 7 rfl) ⟨by decide, by decide⟩ hq) hF (fun f19 rv19 h19 q23 R19 e19 E19 hF => ?_)
          exact SX35_ship_b406 (N := N) (sL := sL) (SL := SL) hm @hsL R19 hF
      ·
        refine s_kok R4 (t_192 hm R4.S) (Nat.le_of_ble_eq_true rfl) ?_
        refine s_call R4 (Nat.zero_le _) (fun _ hq => SX35_fail (b := 0) hm (R4.rf) (c_lit 17 17 rfl) ⟨by decide, by decide⟩ hq) hF (fun f21 rv21 h21 q25 R21 e21 E21 hF => ?_)
        exact SX35_ship_b406 (N := N) (sL := sL) (SL := SL) hm @hsL R21 hF
    ·
      refine s_gO R (t_192 hm R.S) (Nat.le_of_ble_eq_true rfl) rfl (o_192_7 hm R.S) ?_
      refine s_gAs R (t_243 hm R.S) (Nat.le_of_ble_eq_true rfl) rfl (o_243_4 hm R.S) (a_248 hm R) ?_
      refine s_kok R (t_192 hm R.S) (Nat.le_of_ble_eq_true rfl) ?_
      refine s_call R (Nat.zero_le _) (fun _ hq => SX35_counter (b := 0) hm (R.rf) rfl rl3 hq) hF (fun f25 rv25 h25 q31 R25 e25 E25 hF => ?_)
      refine s_qI R25 (u_248 hm R25.S).1 (u_248 hm R25.S).2 (by decide) (a_248 hm R25) rfl rl3 e25.1 e25.2 hF (fun h26 σ32 R26 T26 hF => ?_)
      exact ih R26 (c_add rfl (c_lit 1 1 rfl)) (rr_I _) hF
def FX35_ship_b122 (N : Nat) (SL : Int → Int → Int → fS → Option (Int × fS)) : Nat → Int → fS → Option (Unit × fS)
  | 0, _, _ => none
  | n + 1, l3, s =>
    if (s.i 192 102) ≤ l3 then
      FX35_ship_b309 N SL N 0 s
    else
      (uRI s 314 l3).bind fun x6 =>
      if 0 ≤ x6 then
        FX35_ship_b144 N SL (FX35_ship_b122 N SL n) l3 0 s
      else
        FX35_ship_b144 N SL (FX35_ship_b122 N SL n) l3 1 s
theorem SX35_ship_b122 {m b : Nat} {φ0 : Nat → Nat} {σo : fS} (hm : 1 ≤ m) {N : Nat} {sL : Nat → Int32 → Int64 → Int64 → eH → Option (Int32 × eH)} {SL : Int → Int → Int → fS → Option (Int × fS)} {q : Unit × fS} (hsL : ∀ {φ : Nat → Nat} {h : eH} {s : fS} {x1' : Int32} {x1 : Int} {x2' : Int64} {x2 : Int} {x3' : Int64} {x3 : Int} {q}, fC m 1 φ s φ h s → x1' = iI x1 → r32 x1 → x2' = iJ x2 → r64 x2 → x3' = iJ x3 → r64 x3 → SL x1 x2 x3 s = some q → gG m 1 φ s lI q (sL 192 x1' x2' x3' h)) : ∀ {n : Nat} {φ : Nat → Nat} {h : eH} {s : fS} {l3' : Int32} {l3 : Int}, fC m b φ0 σo φ h s → l3' = iI l3 → r32 l3 → FX35_ship_b122 N SL n l3 s = some q → gG m b φ0 σo lU q (fX35_ship_b122 N sL n 192 l3' h) := by
  intro n
  induction n with
 | zero => intro φ h s l3' l3 R el3 rl3 hF; simp [FX35_ship_b122] at hF
  | succ n ih =>
    intro φ h s l3' l3 R el3 rl3 hF
    subst el3
    rw [FX35_ship_b122] at hF
    rw [fX35_ship_b122]
    refine s_gI R (t_192 hm R.S) (Nat.le_of_ble_eq_true rfl) rfl ?_
    refine s_if (i_le rfl rfl (R.ri (t_192 hm R.S) (Nat.le_of_ble_eq_true rfl) rfl) rl3) hF (fun c2 hF => ?_) (fun c2 hF => ?_)
    ·
      exact SX35_ship_b309 (N := N) (sL := sL) (SL := SL) hm @hsL R (c_lit 0 0 rfl) ⟨by decide, by decide⟩ hF
    ·
      refine s_gAs R (t_192 hm R.S) (Nat.le_of_ble_eq_true rfl) rfl (o_192_103 hm R.S) (a_314 hm R) ?_
      refine s_rI R (u_314 hm R.S).1 (u_314 hm R.S).2 (by decide) (a_314 hm R) rfl rl3 hF (fun x6 ra4 hF => ?_)
      refine s_if (i_le (c_lit 0 0 rfl) rfl ⟨by decide, by decide⟩ ra4) hF (fun c5 hF => ?_) (fun c5 hF => ?_)
      ·
        exact SX35_ship_b144 (N := N) (sL := sL) (SL := SL) (k122 := fX35_ship_b122 N sL n) (K122 := FX35_ship_b122 N SL n) hm @hsL @ih R rfl rl3 (c_lit 0 0 rfl) ⟨by decide, by decide⟩ hF
      ·
        exact SX35_ship_b144 (N := N) (sL := sL) (SL := SL) (k122 := fX35_ship_b122 N sL n) (K122 := FX35_ship_b122 N SL n) hm @hsL @ih R rfl rl3 (c_lit 1 1 rfl) ⟨by decide, by decide⟩ hF
def FX35_ship_b16 (N : Nat) (SL : Int → Int → Int → fS → Option (Int × fS)) : Nat → Int → Int → fS → Option (Unit × fS)
  | 0, _, _, _ => none
  | n + 1, l1, l3, s =>
    if (s.i 192 96) ≤ l3 then
      (uPI s 192 102 0).bind fun σ4 =>
      if 20000 < l1 then
        FX35_ship_b88 N SL σ4
      else
        (FX35_layPage N SL σ4).bind fun q8 =>
        if ¬ (q8.1 = 0) then
          (FX35_areNear N q8.2).bind fun q11 =>
          if ¬ (q11.1 = 0) then
            (uPI q11.2 243 13 (q11.2.i 192 102)).bind fun σ17 =>
            FX35_ship_b122 N SL N 0 σ17
          else
            (FX35_fail 16 q11.2).bind fun q20 =>
            some ((), q20.2)
        else
          FX35_ship_b88 N SL q8.2
    else
      (uRI s 307 l3).bind fun x23 =>
      if ¬ (x23 = 5) then
        FX35_ship_b60 N SL (FX35_ship_b16 N SL n) l1 l3 s
      else
        (uRI s 312 l3).bind fun x28 =>
        if x28 < 0 then
          FX35_ship_b60 N SL (FX35_ship_b16 N SL n) l1 l3 s
        else
          (uRI s 312 l3).bind fun x35 =>
          (uRI s 303 x35).bind fun x37 =>
          FX35_ship_b61 N SL (FX35_ship_b16 N SL n) l3 (ladd l1 x37) s
theorem SX35_ship_b16 {m b : Nat} {φ0 : Nat → Nat} {σo : fS} (hm : 1 ≤ m) (hb : 1 ≤ b) {N : Nat} {sL : Nat → Int32 → Int64 → Int64 → eH → Option (Int32 × eH)} {SL : Int → Int → Int → fS → Option (Int × fS)} {q : Unit × fS} (hsL : ∀ {φ : Nat → Nat} {h : eH} {s : fS} {x1' : Int32} {x1 : Int} {x2' : Int64} {x2 : Int} {x3' : Int64} {x3 : Int} {q}, fC m 1 φ s φ h s → x1' = iI x1 → r32 x1 → x2' = iJ x2 → r64 x2 → x3' = iJ x3 → r64 x3 → SL x1 x2 x3 s = some q → gG m 1 φ s lI q (sL 192 x1' x2' x3' h)) : ∀ {n : Nat} {φ : Nat → Nat} {h : eH} {s : fS} {l1' : Int64} {l1 : Int} {l3' : Int32} {l3 : Int}, fC m b φ0 σo φ h s → l1' = iJ l1 → r64 l1 → l3' = iI l3 → r32 l3 → FX35_ship_b16 N SL n l1 l3 s = some q → gG m b φ0 σo lU q (fX35_ship_b16 N sL n 192 l1' l3' h) := by
  intro n
  induction n with
 | zero => intro φ h s l1' l1 l3' l3 R el1 rl1 el3 rl3 hF; simp [FX35_ship_b16] at hF
  | succ n ih =>
    intro φ h s l1' l1 l3' l3 R el1 rl1 el3 rl3 hF
    subst el1; subst el3
    rw [FX35_ship_b16] at hF
    rw [fX35_ship_b16]
    refine s_gI R (t_192 hm R.S) (Nat.le_of_ble_eq_true rfl) rfl ?_
    refine s_if (i_le rfl rfl (R.ri (t_192 hm R.S) (Nat.le_of_ble_eq_true rfl) rfl) rl3) hF (fun c2 hF => ?_) (fun c2 hF => ?_)
    ·
      refine s_pI R (t_192 hm R.S) (Nat.le_of_ble_eq_true rfl) rfl (c_lit 0 0 rfl) ⟨by decide, by decide⟩ hF (fun h3 σ4 R3 T3 hF => ?_)
      refine s_if ((lg_cmp_gt _ _).trans (j_lt (d_lit 20000 20000 rfl) rfl ⟨by decide, by decide⟩ rl1)) hF (fun c4 hF => ?_) (fun c4 hF => ?_)
      ·
        exact SX35_ship_b88 (N := N) (sL := sL) (SL := SL) hm @hsL R3 hF
      ·
        refine s_kok R3 (t_192 hm R3.S) (Nat.le_of_ble_eq_true rfl) ?_
        refine s_call R3 hb (fun _ hq => SX35_layPage (b := 1) (N := N) (sL := sL) (SL := SL) hm (Nat.le_of_ble_eq_true rfl) @hsL (R3.rf) hq) hF (fun f6 rv6 h6 q8 R6 e6 E6 hF => ?_)
        refine s_if (not_congr (i_eq e6.1 (c_lit 0 0 rfl) e6.2 ⟨by decide, by decide⟩)) hF (fun c7 hF => ?_) (fun c7 hF => ?_)
        ·
          refine s_kok R6 (t_192 hm R6.S) (Nat.le_of_ble_eq_true rfl) ?_
          refine s_call R6 (Nat.zero_le _) (fun _ hq => SX35_areNear (b := 0) (N := N) hm (R6.rf) hq) hF (fun f9 rv9 h9 q11 R9 e9 E9 hF => ?_)
          refine s_if (not_congr (i_eq e9.1 (c_lit 0 0 rfl) e9.2 ⟨by decide, by decide⟩)) hF (fun c10 hF => ?_) (fun c10 hF => ?_)
          ·
            refine s_gO R9 (t_192 hm R9.S) (Nat.le_of_ble_eq_true rfl) rfl (o_192_7 hm R9.S) ?_
            refine s_gI R9 (t_192 hm R9.S) (Nat.le_of_ble_eq_true rfl) rfl ?_
            refine s_pI R9 (t_243 hm R9.S) (Nat.le_of_ble_eq_true rfl) rfl rfl (R9.ri (t_192 hm R9.S) (Nat.le_of_ble_eq_true rfl) rfl) hF (fun h13 σ17 R13 T13 hF => ?_)
            exact SX35_ship_b122 (N := N) (sL := sL) (SL := SL) hm @hsL R13 (c_lit 0 0 rfl) ⟨by decide, by decide⟩ hF
          ·
            refine s_kok R9 (t_192 hm R9.S) (Nat.le_of_ble_eq_true rfl) ?_
            refine s_call R9 (Nat.zero_le _) (fun _ hq => SX35_fail (b := 0) hm (R9.rf) (c_lit 16 16 rfl) ⟨by decide, by decide⟩ hq) hF (fun f15 rv15 h15 q20 R15 e15 E15 hF => ?_)
            exact g_ret R15 hF trivial
        ·
          exact SX35_ship_b88 (N := N) (sL := sL) (SL := SL) hm @hsL R6 hF
    ·
      refine s_gAs R (t_192 hm R.S) (Nat.le_of_ble_eq_true rfl) rfl (o_192_87 hm R.S) (a_307 hm R) ?_
      refine s_rI R (u_307 hm R.S).1 (u_307 hm R.S).2 (by decide) (a_307 hm R) rfl rl3 hF (fun x23 ra17 hF => ?_)
      refine s_if (not_congr (i_eq rfl (c_lit 5 5 rfl) ra17 ⟨by decide, by decide⟩)) hF (fun c18 hF => ?_) (fun c18 hF => ?_)
      ·
        exact SX35_ship_b60 (N := N) (sL := sL) (SL := SL) (k16 := fX35_ship_b16 N sL n) (K16 := FX35_ship_b16 N SL n) hm hb @hsL @ih R rfl rl1 rfl rl3 hF
      ·
        refine s_gAs R (t_192 hm R.S) (Nat.le_of_ble_eq_true rfl) rfl (o_192_92 hm R.S) (a_312 hm R) ?_
        refine s_rI R (u_312 hm R.S).1 (u_312 hm R.S).2 (by decide) (a_312 hm R) rfl rl3 hF (fun x28 ra20 hF => ?_)
        refine s_if (i_lt rfl (c_lit 0 0 rfl) ra20 ⟨by decide, by decide⟩) hF (fun c21 hF => ?_) (fun c21 hF => ?_)
        ·
          exact SX35_ship_b60 (N := N) (sL := sL) (SL := SL) (k16 := fX35_ship_b16 N sL n) (K16 := FX35_ship_b16 N SL n) hm hb @hsL @ih R rfl rl1 rfl rl3 hF
        ·
          refine s_gAs R (t_192 hm R.S) (Nat.le_of_ble_eq_true rfl) rfl (o_192_76 hm R.S) (a_303 hm R) ?_
          refine s_gAs R (t_192 hm R.S) (Nat.le_of_ble_eq_true rfl) rfl (o_192_92 hm R.S) (a_312 hm R) ?_
          refine s_rI R (u_312 hm R.S).1 (u_312 hm R.S).2 (by decide) (a_312 hm R) rfl rl3 hF (fun x35 ra24 hF => ?_)
          refine s_rI R (u_303 hm R.S).1 (u_303 hm R.S).2 (by decide) (a_303 hm R) rfl ra24 hF (fun x37 ra25 hF => ?_)
          exact SX35_ship_b61 (N := N) (sL := sL) (SL := SL) (k16 := fX35_ship_b16 N sL n) (K16 := FX35_ship_b16 N SL n) hm hb @hsL @ih R rfl rl3 (d_add rfl (c_2l rfl ra25)) (rr_J _) hF
def FX35_ship (N : Nat) (SL : Int → Int → Int → fS → Option (Int × fS)) (s : fS) : Option (Unit × fS) :=
  FX35_ship_b16 N SL N (isub (s.i 192 96) (s.i 192 95)) (s.i 192 95) s
theorem SX35_ship {m b : Nat} {φ0 : Nat → Nat} {σo : fS} (hm : 1 ≤ m) (hb : 1 ≤ b) {N : Nat} {sL : Nat → Int32 → Int64 → Int64 → eH → Option (Int32 × eH)} {SL : Int → Int → Int → fS → Option (Int × fS)} {q : Unit × fS} (hsL : ∀ {φ : Nat → Nat} {h : eH} {s : fS} {x1' : Int32} {x1 : Int} {x2' : Int64} {x2 : Int} {x3' : Int64} {x3 : Int} {q}, fC m 1 φ s φ h s → x1' = iI x1 → r32 x1 → x2' = iJ x2 → r64 x2 → x3' = iJ x3 → r64 x3 → SL x1 x2 x3 s = some q → gG m 1 φ s lI q (sL 192 x1' x2' x3' h)) {φ : Nat → Nat} {h : eH} {s : fS} (R : fC m b φ0 σo φ h s) (hF : FX35_ship N SL s = some q) : gG m b φ0 σo lU q (fX35_ship N sL 192 h) := by
  unfold FX35_ship at hF
  unfold fX35_ship
  refine s_gI R (t_192 hm R.S) (Nat.le_of_ble_eq_true rfl) rfl ?_
  refine s_gI R (t_192 hm R.S) (Nat.le_of_ble_eq_true rfl) rfl ?_
  refine s_gI R (t_192 hm R.S) (Nat.le_of_ble_eq_true rfl) rfl ?_
  exact SX35_ship_b16 (N := N) (sL := sL) (SL := SL) hm hb @hsL R (c_2l (c_sub rfl rfl) (rr_I _)) (r32.w (rr_I _)) rfl (R.ri (t_192 hm R.S) (Nat.le_of_ble_eq_true rfl) rfl) hF
def FX35_goOn_b42 (N : Nat) (SL : Int → Int → Int → fS → Option (Int × fS)) (s : fS) : Option (Unit × fS) :=
  some ((), s)
theorem SX35_goOn_b42 {m b : Nat} {φ0 : Nat → Nat} {σo : fS} (hm : 1 ≤ m) {N : Nat} {sL : Nat → Int32 → Int64 → Int64 → eH → Option (Int32 × eH)} {SL : Int → Int → Int → fS → Option (Int × fS)} {q : Unit × fS} (hsL : ∀ {φ : Nat → Nat} {h : eH} {s : fS} {x1' : Int32} {x1 : Int} {x2' : Int64} {x2 : Int} {x3' : Int64} {x3 : Int} {q}, fC m 1 φ s φ h s → x1' = iI x1 → r32 x1 → x2' = iJ x2 → r64 x2 → x3' = iJ x3 → r64 x3 → SL x1 x2 x3 s = some q → gG m 1 φ s lI q (sL 192 x1' x2' x3' h)) {φ : Nat → Nat} {h : eH} {s : fS} (R : fC m b φ0 σo φ h s) (hF : FX35_goOn_b42 N SL s = some q) : gG m b φ0 σo lU q (fX35_goOn_b42 N sL h) := by
  unfold FX35_goOn_b42 at hF
  unfold fX35_goOn_b42
  exact g_ret R hF trivial
def FX35_goOn_b4 (N : Nat) (SL : Int → Int → Int → fS → Option (Int × fS)) : Nat → fS → Option (Unit × fS)
  | 0, _ => none
  | n + 1, s =>
    if ¬ ((s.i 192 46) = 0) then
      FX35_goOn_b42 N SL s
    else
      (FX35_breaks N s).bind fun q5 =>
      if q5.1 = 0 then
        FX35_goOn_b42 N SL q5.2
      else
        (FX35_ship N SL q5.2).bind fun q8 =>
        (uPI q8.2 192 95 (q8.2.i 192 96)).bind fun σ11 =>
        (uPZ σ11 192 94 0).bind fun σ13 =>
        (FX35_openPage N σ13).bind fun q16 =>
        FX35_goOn_b4 N SL n q16.2
theorem SX35_goOn_b4 {m b : Nat} {φ0 : Nat → Nat} {σo : fS} (hm : 1 ≤ m) (hb : 1 ≤ b) {N : Nat} {sL : Nat → Int32 → Int64 → Int64 → eH → Option (Int32 × eH)} {SL : Int → Int → Int → fS → Option (Int × fS)} {q : Unit × fS} (hsL : ∀ {φ : Nat → Nat} {h : eH} {s : fS} {x1' : Int32} {x1 : Int} {x2' : Int64} {x2 : Int} {x3' : Int64} {x3 : Int} {q}, fC m 1 φ s φ h s → x1' = iI x1 → r32 x1 → x2' = iJ x2 → r64 x2 → x3' = iJ x3 → r64 x3 → SL x1 x2 x3 s = some q → gG m 1 φ s lI q (sL 192 x1' x2' x3' h)) : ∀ {n : Nat} {φ : Nat → Nat} {h : eH} {s : fS} , fC m b φ0 σo φ h s → FX35_goOn_b4 N SL n s = some q → gG m b φ0 σo lU q (fX35_goOn_b4 N sL n 192 h) := by
  intro n
  induction n with
 | zero => intro φ h s R hF; simp [FX35_goOn_b4] at hF
  | succ n ih =>
    intro φ h s  R  hF
    rw [FX35_goOn_b4] at hF
    rw [fX35_goOn_b4]
    refine s_gI R (t_192 hm R.S) (Nat.le_of_ble_eq_true rfl) rfl ?_
    refine s_if (not_congr (i_eq rfl (c_lit 0 0 rfl) (R.ri (t_192 hm R.S) (Nat.le_of_ble_eq_true rfl) rfl) ⟨by decide, by decide⟩)) hF (fun c2 hF => ?_) (fun c2 hF => ?_)
    ·
      exact SX35_goOn_b42 (N := N) (sL := sL) (SL := SL) hm @hsL R hF
    ·
      refine s_kok R (t_192 hm R.S) (Nat.le_of_ble_eq_true rfl) ?_
      refine s_call R (Nat.zero_le _) (fun _ hq => SX35_breaks (b := 0) (N := N) hm (R.rf) hq) hF (fun f4 rv4 h4 q5 R4 e4 E4 hF => ?_)
      refine s_if (i_eq e4.1 (c_lit 0 0 rfl) e4.2 ⟨by decide, by decide⟩) hF (fun c5 hF => ?_) (fun c5 hF => ?_)
      ·
        exact SX35_goOn_b42 (N := N) (sL := sL) (SL := SL) hm @hsL R4 hF
      ·
        refine s_kok R4 (t_192 hm R4.S) (Nat.le_of_ble_eq_true rfl) ?_
        refine s_call R4 hb (fun _ hq => SX35_ship (b := 1) (N := N) (sL := sL) (SL := SL) hm (Nat.le_of_ble_eq_true rfl) @hsL (R4.rf) hq) hF (fun f7 rv7 h7 q8 R7 e7 E7 hF => ?_)
        refine s_gI R7 (t_192 hm R7.S) (Nat.le_of_ble_eq_true rfl) rfl ?_
        refine s_pI R7 (t_192 hm R7.S) (Nat.le_of_ble_eq_true rfl) rfl rfl (R7.ri (t_192 hm R7.S) (Nat.le_of_ble_eq_true rfl) rfl) hF (fun h9 σ11 R9 T9 hF => ?_)
        refine s_pZ R9 (t_192 hm R9.S) (Nat.le_of_ble_eq_true rfl) rfl (c_lit 0 0 rfl) ⟨by decide, by decide⟩ hF (fun h10 σ13 R10 T10 hF => ?_)
        refine s_kok R10 (t_192 hm R10.S) (Nat.le_of_ble_eq_true rfl) ?_
        refine s_call R10 (Nat.zero_le _) (fun _ hq => SX35_openPage (b := 0) (N := N) hm (R10.rf) hq) hF (fun f12 rv12 h12 q16 R12 e12 E12 hF => ?_)
        exact ih R12 hF
def FX35_goOn (N : Nat) (SL : Int → Int → Int → fS → Option (Int × fS)) (s : fS) : Option (Unit × fS) :=
  (FX35_openPage N s).bind fun q2 =>
  FX35_goOn_b4 N SL N q2.2
theorem SX35_goOn {m b : Nat} {φ0 : Nat → Nat} {σo : fS} (hm : 1 ≤ m) (hb : 1 ≤ b) {N : Nat} {sL : Nat → Int32 → Int64 → Int64 → eH → Option (Int32 × eH)} {SL : Int → Int → Int → fS → Option (Int × fS)} {q : Unit × fS} (hsL : ∀ {φ : Nat → Nat} {h : eH} {s : fS} {x1' : Int32} {x1 : Int} {x2' : Int64} {x2 : Int} {x3' : Int64} {x3 : Int} {q}, fC m 1 φ s φ h s → x1' = iI x1 → r32 x1 → x2' = iJ x2 → r64 x2 → x3' = iJ x3 → r64 x3 → SL x1 x2 x3 s = some q → gG m 1 φ s lI q (sL 192 x1' x2' x3' h)) {φ : Nat → Nat} {h : eH} {s : fS} (R : fC m b φ0 σo φ h s) (hF : FX35_goOn N SL s = some q) : gG m b φ0 σo lU q (fX35_goOn N sL 192 h) := by
  unfold FX35_goOn at hF
  unfold fX35_goOn
  refine s_kok R (t_192 hm R.S) (Nat.le_of_ble_eq_true rfl) ?_
  refine s_call R (Nat.zero_le _) (fun _ hq => SX35_openPage (b := 0) (N := N) hm (R.rf) hq) hF (fun f2 rv2 h2 q2 R2 e2 E2 hF => ?_)
  exact SX35_goOn_b4 (N := N) (sL := sL) (SL := SL) hm hb @hsL R2 hF
def FX35_outer (N : Nat) (SL : Int → Int → Int → fS → Option (Int × fS)) (p0 : Int) (p1 : Int) (p2 : Int) (p3 : Int) (p4 : Int) (p5 : Int) (p6 : Int) (s : fS) : Option (Unit × fS) :=
  if (s.i 192 46) ≤ 0 then
    if ¬ ((s.i 192 86) = 10000) then
      (uQI s 307 (s.i 192 86) p0).bind fun σ11 =>
      (uQI σ11 308 (σ11.i 192 86) p1).bind fun σ17 =>
      (uQI σ17 309 (σ17.i 192 86) p2).bind fun σ23 =>
      (uQI σ23 310 (σ23.i 192 86) p3).bind fun σ29 =>
      (uQI σ29 311 (σ29.i 192 86) p4).bind fun σ35 =>
      (uQI σ35 312 (σ35.i 192 86) p5).bind fun σ41 =>
      (uQI σ41 313 (σ41.i 192 86) p6).bind fun σ47 =>
      (uPI σ47 192 86 (iadd (σ47.i 192 86) 1)).bind fun σ51 =>
      (FX35_goOn N SL σ51).bind fun q54 =>
      some ((), q54.2)
    else
      (FX35_fail 2 s).bind fun q56 =>
      some ((), q56.2)
  else
    some ((), s)
theorem SX35_outer {m b : Nat} {φ0 : Nat → Nat} {σo : fS} (hm : 1 ≤ m) (hb : 1 ≤ b) {N : Nat} {sL : Nat → Int32 → Int64 → Int64 → eH → Option (Int32 × eH)} {SL : Int → Int → Int → fS → Option (Int × fS)} {q : Unit × fS} (hsL : ∀ {φ : Nat → Nat} {h : eH} {s : fS} {x1' : Int32} {x1 : Int} {x2' : Int64} {x2 : Int} {x3' : Int64} {x3 : Int} {q}, fC m 1 φ s φ h s → x1' = iI x1 → r32 x1 → x2' = iJ x2 → r64 x2 → x3' = iJ x3 → r64 x3 → SL x1 x2 x3 s = some q → gG m 1 φ s lI q (sL 192 x1' x2' x3' h)) {φ : Nat → Nat} {h : eH} {s : fS} {p0' : Int32} {p0 : Int} {p1' : Int32} {p1 : Int} {p2' : Int32} {p2 : Int} {p3' : Int32} {p3 : Int} {p4' : Int32} {p4 : Int} {p5' : Int32} {p5 : Int} {p6' : Int32} {p6 : Int} (R : fC m b φ0 σo φ h s) (ep0 : p0' = iI p0) (rp0 : r32 p0) (ep1 : p1' = iI p1) (rp1 : r32 p1) (ep2 : p2' = iI p2) (rp2 : r32 p2) (ep3 : p3' = iI p3) (rp3 : r32 p3) (ep4 : p4' = iI p4) (rp4 : r32 p4) (ep5 : p5' = iI p5) (rp5 : r32 p5) (ep6 : p6' = iI p6) (rp6 : r32 p6) (hF : FX35_outer N SL p0 p1 p2 p3 p4 p5 p6 s = some q) : gG m b φ0 σo lU q (fX35_outer N sL 192 p0' p1' p2' p3' p4' p5' p6' h) := by
  subst ep0; subst ep1; subst ep2; subst ep3; subst ep4; subst ep5; subst ep6
  unfold FX35_outer at hF
  unfold fX35_outer
  refine s_gI R (t_192 hm R.S) (Nat.le_of_ble_eq_true rfl) rfl ?_
  refine s_if (i_le rfl (c_lit 0 0 rfl) (R.ri (t_192 hm R.S) (Nat.le_of_ble_eq_true rfl) rfl) ⟨by decide, by decide⟩) hF (fun c2 hF => ?_) (fun c2 hF => ?_)
  ·
    refine s_gI R (t_192 hm R.S) (Nat.le_of_ble_eq_true rfl) rfl ?_
    refine s_if (not_congr (i_eq rfl (c_lit 10000 10000 rfl) (R.ri (t_192 hm R.S) (Nat.le_of_ble_eq_true rfl) rfl) ⟨by decide, by decide⟩)) hF (fun c4 hF => ?_) (fun c4 hF => ?_)
    ·
      refine s_gAs R (t_192 hm R.S) (Nat.le_of_ble_eq_true rfl) rfl (o_192_87 hm R.S) (a_307 hm R) ?_
      refine s_gI R (t_192 hm R.S) (Nat.le_of_ble_eq_true rfl) rfl ?_
      refine s_qI R (u_307 hm R.S).1 (u_307 hm R.S).2 (by decide) (a_307 hm R) rfl (R.ri (t_192 hm R.S) (Nat.le_of_ble_eq_true rfl) rfl) rfl rp0 hF (fun h7 σ11 R7 T7 hF => ?_)
      refine s_gAs R7 (t_192 hm R7.S) (Nat.le_of_ble_eq_true rfl) rfl (o_192_88 hm R7.S) (a_308 hm R7) ?_
      refine s_gI R7 (t_192 hm R7.S) (Nat.le_of_ble_eq_true rfl) rfl ?_
      refine s_qI R7 (u_308 hm R7.S).1 (u_308 hm R7.S).2 (by decide) (a_308 hm R7) rfl (R7.ri (t_192 hm R7.S) (Nat.le_of_ble_eq_true rfl) rfl) rfl rp1 hF (fun h10 σ17 R10 T10 hF => ?_)
      refine s_gAs R10 (t_192 hm R10.S) (Nat.le_of_ble_eq_true rfl) rfl (o_192_89 hm R10.S) (a_309 hm R10) ?_
      refine s_gI R10 (t_192 hm R10.S) (Nat.le_of_ble_eq_true rfl) rfl ?_
      refine s_qI R10 (u_309 hm R10.S).1 (u_309 hm R10.S).2 (by decide) (a_309 hm R10) rfl (R10.ri (t_192 hm R10.S) (Nat.le_of_ble_eq_true rfl) rfl) rfl rp2 hF (fun h13 σ23 R13 T13 hF => ?_)
      refine s_gAs R13 (t_192 hm R13.S) (Nat.le_of_ble_eq_true rfl) rfl (o_192_90 hm R13.S) (a_310 hm R13) ?_
      refine s_gI R13 (t_192 hm R13.S) (Nat.le_of_ble_eq_true rfl) rfl ?_
      refine s_qI R13 (u_310 hm R13.S).1 (u_310 hm R13.S).2 (by decide) (a_310 hm R13) rfl (R13.ri (t_192 hm R13.S) (Nat.le_of_ble_eq_true rfl) rfl) rfl rp3 hF (fun h16 σ29 R16 T16 hF => ?_)
      refine s_gAs R16 (t_192 hm R16.S) (Nat.le_of_ble_eq_true rfl) rfl (o_192_91 hm R16.S) (a_311 hm R16) ?_
      refine s_gI R16 (t_192 hm R16.S) (Nat.le_of_ble_eq_true rfl) rfl ?_
      refine s_qI R16 (u_311 hm R16.S).1 (u_311 hm R16.S).2 (by decide) (a_311 hm R16) rfl (R16.ri (t_192 hm R16.S) (Nat.le_of_ble_eq_true rfl) rfl) rfl rp4 hF (fun h19 σ35 R19 T19 hF => ?_)
      refine s_gAs R19 (t_192 hm R19.S) (Nat.le_of_ble_eq_true rfl) rfl (o_192_92 hm R19.S) (a_312 hm R19) ?_
      refine s_gI R19 (t_192 hm R19.S) (Nat.le_of_ble_eq_true rfl) rfl ?_
      refine s_qI R19 (u_312 hm R19.S).1 (u_312 hm R19.S).2 (by decide) (a_312 hm R19) rfl (R19.ri (t_192 hm R19.S) (Nat.le_of_ble_eq_true rfl) rfl) rfl rp5 hF (fun h22 σ41 R22 T22 hF => ?_)
      refine s_gAs R22 (t_192 hm R22.S) (Nat.le_of_ble_eq_true rfl) rfl (o_192_93 hm R22.S) (a_313 hm R22) ?_
      refine s_gI R22 (t_192 hm R22.S) (Nat.le_of_ble_eq_true rfl) rfl ?_
      refine s_qI R22 (u_313 hm R22.S).1 (u_313 hm R22.S).2 (by decide) (a_313 hm R22) rfl (R22.ri (t_192 hm R22.S) (Nat.le_of_ble_eq_true rfl) rfl) rfl rp6 hF (fun h25 σ47 R25 T25 hF => ?_)
      refine s_gI R25 (t_192 hm R25.S) (Nat.le_of_ble_eq_true rfl) rfl ?_
      refine s_pI R25 (t_192 hm R25.S) (Nat.le_of_ble_eq_true rfl) rfl (c_add rfl (c_lit 1 1 rfl)) (rr_I _) hF (fun h27 σ51 R27 T27 hF => ?_)
      refine s_kok R27 (t_192 hm R27.S) (Nat.le_of_ble_eq_true rfl) ?_
      refine s_call R27 hb (fun _ hq => SX35_goOn (b := 1) (N := N) (sL := sL) (SL := SL) hm (Nat.le_of_ble_eq_true rfl) @hsL (R27.rf) hq) hF (fun f29 rv29 h29 q54 R29 e29 E29 hF => ?_)
      exact g_ret R29 hF trivial
    ·
      refine s_kok R (t_192 hm R.S) (Nat.le_of_ble_eq_true rfl) ?_
      refine s_call R (Nat.zero_le _) (fun _ hq => SX35_fail (b := 0) hm (R.rf) (c_lit 2 2 rfl) ⟨by decide, by decide⟩ hq) hF (fun f31 rv31 h31 q56 R31 e31 E31 hF => ?_)
      exact g_ret R31 hF trivial
  ·
    exact g_ret R hF trivial
def FX35_wider_b9 (N : Nat) : Nat → Nat → Int → fS → Option (Nat × fS)
  | 0, _, _, _ => none
  | n + 1, l1, l2, s =>
    if (s.n 1000288 : Int) ≤ l2 then
      some (l1, s)
    else
      (uRI s 1000288 l2).bind fun x4 =>
      (uKA 100 s l1).bind fun _ =>
      (uQI s l1 l2 x4).bind fun σ6 =>
      FX35_wider_b9 N n l1 (iadd l2 1) σ6
theorem SX35_wider_b9 {m b : Nat} {φ0 : Nat → Nat} {σo : fS} (hm : 1 ≤ m) {N : Nat} {q : Nat × fS} : ∀ {n : Nat} {φ : Nat → Nat} {h : eH} {s : fS} {l0' : Nat} {l1' : Nat} {l1 : Nat} {l2' : Int32} {l2 : Int}, fC m b φ0 σo φ h s → l0' = φ 1000288 → l1' = φ l1 → s.t l1 < 128 → l2' = iI l2 → r32 l2 → FX35_wider_b9 N n l1 l2 s = some q → gG m b φ0 σo lA q (fX35_wider_b9 N n l0' l1' l2' h) := by
  intro n
  induction n with
 | zero => intro φ h s l0' l1' l1 l2' l2 R el0 el1 al1 el2 rl2 hF; simp [FX35_wider_b9] at hF
  | succ n ih =>
    intro φ h s l0' l1' l1 l2' l2 R el0 el1 al1 el2 rl2 hF
    subst el2
    rw [FX35_wider_b9] at hF
    rw [fX35_wider_b9]
    refine s_len R (by rw [(t_1000288 hm R.S)]; decide) (by rw [(t_1000288 hm R.S)]; decide) el0 ?_
    refine s_if (i_le rfl rfl (R.rn (by rw [(t_1000288 hm R.S)]; decide) (by rw [(t_1000288 hm R.S)]; decide)) rl2) hF (fun c2 hF => ?_) (fun c2 hF => ?_)
    ·
      exact g_ret R hF el1
    ·
      refine s_rI R (u_1000288 hm R.S).1 (u_1000288 hm R.S).2 (by decide) el0 rfl rl2 hF (fun x4 ra3 hF => ?_)
      refine s_KA hF (fun y5 z5 hF => ?_)
      refine s_qI R y5 z5 (by decide) el1 rfl rl2 rfl ra3 hF (fun h4 σ6 R4 T4 hF => ?_)
      exact ih R4 el0 el1 (by rw [T4]; exact y5) (c_add rfl (c_lit 1 1 rfl)) (rr_I _) hF
def FX35_wider (N : Nat) (s : fS) : Option (Nat × fS) :=
  (uNA 110 1 s (imul 2 (s.n 1000288 : Int))).bind fun q3 =>
  FX35_wider_b9 N N q3.1 0 q3.2
theorem SX35_wider {m b : Nat} {φ0 : Nat → Nat} {σo : fS} (hm : 1 ≤ m) {N : Nat} {q : Nat × fS} {φ : Nat → Nat} {h : eH} {s : fS} {p0' : Nat} (R : fC m b φ0 σo φ h s) (ep0 : p0' = φ 1000288) (hF : FX35_wider N s = some q) : gG m b φ0 σo lA q (fX35_wider N p0' h) := by
  unfold FX35_wider at hF
  unfold fX35_wider
  refine s_len R (by rw [(t_1000288 hm R.S)]; decide) (by rw [(t_1000288 hm R.S)]; decide) ep0 ?_
  refine s_nA (tmp := 10) R (Or.inl ⟨by decide, rfl⟩) (by decide) (c_mul (c_lit 2 2 rfl) rfl) (rr_I _) hF (fun h2 s2_ R2 E2 y2 z2 w2 hF => ?_)
  exact SX35_wider_b9 (N := N) hm R2 (ep0.trans (E2.k0 rfl _ (u_1000288 hm R.S).1).1.symm) y2 (by rw [z2]; decide) (c_lit 0 0 rfl) ⟨by decide, by decide⟩ hF
def FX35_item_b52 (N : Nat) (l1 : Int) (l2 : Int) (l3 : Int) (l4 : Int) (l5 : Int) (l6 : Int) (s : fS) : Option (Unit × fS) :=
  (uQI s 1000288 (imul 6 (s.i 192 56)) l1).bind fun σ5 =>
  (uQI σ5 1000288 (iadd (imul 6 (σ5.i 192 56)) 1) l2).bind fun σ11 =>
  (uQI σ11 1000288 (iadd (imul 6 (σ11.i 192 56)) 2) l3).bind fun σ17 =>
  (uQI σ17 1000288 (iadd (imul 6 (σ17.i 192 56)) 3) l4).bind fun σ23 =>
  (uQI σ23 1000288 (iadd (imul 6 (σ23.i 192 56)) 4) l5).bind fun σ29 =>
  (uQI σ29 1000288 (iadd (imul 6 (σ29.i 192 56)) 5) l6).bind fun σ35 =>
  (uPI σ35 192 56 (iadd (σ35.i 192 56) 1)).bind fun σ39 =>
  some ((), σ39)
theorem SX35_item_b52 {m b : Nat} {φ0 : Nat → Nat} {σo : fS} (hm : 1 ≤ m) {N : Nat} {q : Unit × fS} {φ : Nat → Nat} {h : eH} {s : fS} {l1' : Int32} {l1 : Int} {l2' : Int32} {l2 : Int} {l3' : Int32} {l3 : Int} {l4' : Int32} {l4 : Int} {l5' : Int32} {l5 : Int} {l6' : Int32} {l6 : Int} (R : fC m b φ0 σo φ h s) (el1 : l1' = iI l1) (rl1 : r32 l1) (el2 : l2' = iI l2) (rl2 : r32 l2) (el3 : l3' = iI l3) (rl3 : r32 l3) (el4 : l4' = iI l4) (rl4 : r32 l4) (el5 : l5' = iI l5) (rl5 : r32 l5) (el6 : l6' = iI l6) (rl6 : r32 l6) (hF : FX35_item_b52 N l1 l2 l3 l4 l5 l6 s = some q) : gG m b φ0 σo lU q (fX35_item_b52 N 192 l1' l2' l3' l4' l5' l6' h) := by
  subst el1; subst el2; subst el3; subst el4; subst el5; subst el6
  unfold FX35_item_b52 at hF
  unfold fX35_item_b52
  refine s_gA R (t_192 hm R.S) (Nat.le_of_ble_eq_true rfl) rfl (o_192_55 hm R.S) (fun _ _ => ?_)
  refine s_gI R (t_192 hm R.S) (Nat.le_of_ble_eq_true rfl) rfl ?_
  refine s_qI R (u_1000288 hm R.S).1 (u_1000288 hm R.S).2 (by decide) rfl (c_mul (c_lit 6 6 rfl) rfl) (rr_I _) rfl rl1 hF (fun h3 σ5 R3 T3 hF => ?_)
  refine s_gA R3 (t_192 hm R3.S) (Nat.le_of_ble_eq_true rfl) rfl (o_192_55 hm R3.S) (fun _ _ => ?_)
  refine s_gI R3 (t_192 hm R3.S) (Nat.le_of_ble_eq_true rfl) rfl ?_
  refine s_qI R3 (u_1000288 hm R3.S).1 (u_1000288 hm R3.S).2 (by decide) rfl (c_add (c_mul (c_lit 6 6 rfl) rfl) (c_lit 1 1 rfl)) (rr_I _) rfl rl2 hF (fun h6 σ11 R6 T6 hF => ?_)
  refine s_gA R6 (t_192 hm R6.S) (Nat.le_of_ble_eq_true rfl) rfl (o_192_55 hm R6.S) (fun _ _ => ?_)
  refine s_gI R6 (t_192 hm R6.S) (Nat.le_of_ble_eq_true rfl) rfl ?_
  refine s_qI R6 (u_1000288 hm R6.S).1 (u_1000288 hm R6.S).2 (by decide) rfl (c_add (c_mul (c_lit 6 6 rfl) rfl) (c_lit 2 2 rfl)) (rr_I _) rfl rl3 hF (fun h9 σ17 R9 T9 hF => ?_)
  refine s_gA R9 (t_192 hm R9.S) (Nat.le_of_ble_eq_true rfl) rfl (o_192_55 hm R9.S) (fun _ _ => ?_)
  refine s_gI R9 (t_192 hm R9.S) (Nat.le_of_ble_eq_true rfl) rfl ?_
  refine s_qI R9 (u_1000288 hm R9.S).1 (u_1000288 hm R9.S).2 (by decide) rfl (c_add (c_mul (c_lit 6 6 rfl) rfl) (c_lit 3 3 rfl)) (rr_I _) rfl rl4 hF (fun h12 σ23 R12 T12 hF => ?_)
  refine s_gA R12 (t_192 hm R12.S) (Nat.le_of_ble_eq_true rfl) rfl (o_192_55 hm R12.S) (fun _ _ => ?_)
  refine s_gI R12 (t_192 hm R12.S) (Nat.le_of_ble_eq_true rfl) rfl ?_
  refine s_qI R12 (u_1000288 hm R12.S).1 (u_1000288 hm R12.S).2 (by decide) rfl (c_add (c_mul (c_lit 6 6 rfl) rfl) (c_lit 4 4 rfl)) (rr_I _) rfl rl5 hF (fun h15 σ29 R15 T15 hF => ?_)
  refine s_gA R15 (t_192 hm R15.S) (Nat.le_of_ble_eq_true rfl) rfl (o_192_55 hm R15.S) (fun _ _ => ?_)
  refine s_gI R15 (t_192 hm R15.S) (Nat.le_of_ble_eq_true rfl) rfl ?_
  refine s_qI R15 (u_1000288 hm R15.S).1 (u_1000288 hm R15.S).2 (by decide) rfl (c_add (c_mul (c_lit 6 6 rfl) rfl) (c_lit 5 5 rfl)) (rr_I _) rfl rl6 hF (fun h18 σ35 R18 T18 hF => ?_)
  refine s_gI R18 (t_192 hm R18.S) (Nat.le_of_ble_eq_true rfl) rfl ?_
  refine s_pI R18 (t_192 hm R18.S) (Nat.le_of_ble_eq_true rfl) rfl (c_add rfl (c_lit 1 1 rfl)) (rr_I _) hF (fun h20 σ39 R20 T20 hF => ?_)
  exact g_ret R20 hF trivial
def FX35_item_b15 (N : Nat) (l1 : Int) (l2 : Int) (l3 : Int) (l4 : Int) (l5 : Int) (l6 : Int) (s : fS) : Option (Unit × fS) :=
  if (s.i 192 46) ≤ 0 then
    if (iadd (imul 6 (s.i 192 56)) 6) ≤ (s.n 1000288 : Int) then
      FX35_item_b52 N l1 l2 l3 l4 l5 l6 s
    else
      (FX35_wider N s).bind fun q13 =>
      (uMV q13.2 1000288 q13.1).bind fun σ14 =>
      FX35_item_b52 N l1 l2 l3 l4 l5 l6 σ14
  else
    some ((), s)
theorem SX35_item_b15 {m b : Nat} {φ0 : Nat → Nat} {σo : fS} (hm : 1 ≤ m) (hb : 1 ≤ b) {N : Nat} {q : Unit × fS} {φ : Nat → Nat} {h : eH} {s : fS} {l1' : Int32} {l1 : Int} {l2' : Int32} {l2 : Int} {l3' : Int32} {l3 : Int} {l4' : Int32} {l4 : Int} {l5' : Int32} {l5 : Int} {l6' : Int32} {l6 : Int} (R : fC m b φ0 σo φ h s) (el1 : l1' = iI l1) (rl1 : r32 l1) (el2 : l2' = iI l2) (rl2 : r32 l2) (el3 : l3' = iI l3) (rl3 : r32 l3) (el4 : l4' = iI l4) (rl4 : r32 l4) (el5 : l5' = iI l5) (rl5 : r32 l5) (el6 : l6' = iI l6) (rl6 : r32 l6) (hF : FX35_item_b15 N l1 l2 l3 l4 l5 l6 s = some q) : gG m b φ0 σo lU q (fX35_item_b15 N 192 l1' l2' l3' l4' l5' l6' h) := by
  subst el1; subst el2; subst el3; subst el4; subst el5; subst el6
  unfold FX35_item_b15 at hF
  unfold fX35_item_b15
  refine s_gI R (t_192 hm R.S) (Nat.le_of_ble_eq_true rfl) rfl ?_
  refine s_if (i_le rfl (c_lit 0 0 rfl) (R.ri (t_192 hm R.S) (Nat.le_of_ble_eq_true rfl) rfl) ⟨by decide, by decide⟩) hF (fun c2 hF => ?_) (fun c2 hF => ?_)
  ·
    refine s_gI R (t_192 hm R.S) (Nat.le_of_ble_eq_true rfl) rfl ?_
    refine s_gA R (t_192 hm R.S) (Nat.le_of_ble_eq_true rfl) rfl (o_192_55 hm R.S) (fun _ _ => ?_)
    refine s_len R (by rw [(t_1000288 hm R.S)]; decide) (by rw [(t_1000288 hm R.S)]; decide) rfl ?_
    refine s_if (i_le (c_add (c_mul (c_lit 6 6 rfl) rfl) (c_lit 6 6 rfl)) rfl (rr_I _) (R.rn (by rw [(t_1000288 hm R.S)]; decide) (by rw [(t_1000288 hm R.S)]; decide))) hF (fun c6 hF => ?_) (fun c6 hF => ?_)
    ·
      exact SX35_item_b52 (N := N) hm R rfl rl1 rfl rl2 rfl rl3 rfl rl4 rfl rl5 rfl rl6 hF
    ·
      refine s_gA R (t_192 hm R.S) (Nat.le_of_ble_eq_true rfl) rfl (o_192_55 hm R.S) (fun _ _ => ?_)
      refine s_call R (Nat.zero_le _) (fun _ hq => SX35_wider (b := 0) (N := N) hm (R.rf) rfl hq) hF (fun f8 rv8 h8 q13 R8 e8 E8 hF => ?_)
      refine s_mv R8 (t_192 hm R8.S) (Nat.le_of_ble_eq_true rfl) rfl (o_192_55 hm R8.S) (by decide) (f_mv_1 hb (by decide) (by decide)) e8 hF (fun f9 h9 σ14 R9 E9 K9 hF => ?_)
      exact SX35_item_b52 (N := N) hm R9 rfl rl1 rfl rl2 rfl rl3 rfl rl4 rfl rl5 rfl rl6 hF
  ·
    exact g_ret R hF trivial
def FX35_item (N : Nat) (p0 : Int) (p1 : Int) (p2 : Int) (p3 : Int) (p4 : Int) (p5 : Int) (s : fS) : Option (Unit × fS) :=
  if ¬ ((s.i 192 56) = 20000) then
    FX35_item_b15 N p0 p1 p2 p3 p4 p5 s
  else
    (FX35_fail 2 s).bind fun q5 =>
    FX35_item_b15 N p0 p1 p2 p3 p4 p5 q5.2
theorem SX35_item {m b : Nat} {φ0 : Nat → Nat} {σo : fS} (hm : 1 ≤ m) (hb : 1 ≤ b) {N : Nat} {q : Unit × fS} {φ : Nat → Nat} {h : eH} {s : fS} {p0' : Int32} {p0 : Int} {p1' : Int32} {p1 : Int} {p2' : Int32} {p2 : Int} {p3' : Int32} {p3 : Int} {p4' : Int32} {p4 : Int} {p5' : Int32} {p5 : Int} (R : fC m b φ0 σo φ h s) (ep0 : p0' = iI p0) (rp0 : r32 p0) (ep1 : p1' = iI p1) (rp1 : r32 p1) (ep2 : p2' = iI p2) (rp2 : r32 p2) (ep3 : p3' = iI p3) (rp3 : r32 p3) (ep4 : p4' = iI p4) (rp4 : r32 p4) (ep5 : p5' = iI p5) (rp5 : r32 p5) (hF : FX35_item N p0 p1 p2 p3 p4 p5 s = some q) : gG m b φ0 σo lU q (fX35_item N 192 p0' p1' p2' p3' p4' p5' h) := by
  subst ep0; subst ep1; subst ep2; subst ep3; subst ep4; subst ep5
  unfold FX35_item at hF
  unfold fX35_item
  refine s_gI R (t_192 hm R.S) (Nat.le_of_ble_eq_true rfl) rfl ?_
  refine s_if (not_congr (i_eq rfl (c_lit 20000 20000 rfl) (R.ri (t_192 hm R.S) (Nat.le_of_ble_eq_true rfl) rfl) ⟨by decide, by decide⟩)) hF (fun c2 hF => ?_) (fun c2 hF => ?_)
  ·
    exact SX35_item_b15 (N := N) hm hb R rfl rp0 rfl rp1 rfl rp2 rfl rp3 rfl rp4 rfl rp5 hF
  ·
    refine s_kok R (t_192 hm R.S) (Nat.le_of_ble_eq_true rfl) ?_
    refine s_call R (Nat.zero_le _) (fun _ hq => SX35_fail (b := 0) hm (R.rf) (c_lit 2 2 rfl) ⟨by decide, by decide⟩ hq) hF (fun f4 rv4 h4 q5 R4 e4 E4 hF => ?_)
    exact SX35_item_b15 (N := N) hm hb R4 rfl rp0 rfl rp1 rfl rp2 rfl rp3 rfl rp4 rfl rp5 hF
def FX35_glueItem_b41 (N : Nat) (SL : Int → Int → Int → fS → Option (Int × fS)) (s : fS) : Option (Unit × fS) :=
  some ((), s)
theorem SX35_glueItem_b41 {m b : Nat} {φ0 : Nat → Nat} {σo : fS} (hm : 1 ≤ m) {N : Nat} {sL : Nat → Int32 → Int64 → Int64 → eH → Option (Int32 × eH)} {SL : Int → Int → Int → fS → Option (Int × fS)} {q : Unit × fS} (hsL : ∀ {φ : Nat → Nat} {h : eH} {s : fS} {x1' : Int32} {x1 : Int} {x2' : Int64} {x2 : Int} {x3' : Int64} {x3 : Int} {q}, fC m 1 φ s φ h s → x1' = iI x1 → r32 x1 → x2' = iJ x2 → r64 x2 → x3' = iJ x3 → r64 x3 → SL x1 x2 x3 s = some q → gG m 1 φ s lI q (sL 192 x1' x2' x3' h)) {φ : Nat → Nat} {h : eH} {s : fS} (R : fC m b φ0 σo φ h s) (hF : FX35_glueItem_b41 N SL s = some q) : gG m b φ0 σo lU q (fX35_glueItem_b41 N sL h) := by
  unfold FX35_glueItem_b41 at hF
  unfold fX35_glueItem_b41
  exact g_ret R hF trivial
def FX35_glueItem_b35 (N : Nat) (SL : Int → Int → Int → fS → Option (Int × fS)) (l4 : Int) (s1 : Int) (s2 : Int) (s3 : Int) (s4 : Int) (s : fS) : Option (Unit × fS) :=
  (FX35_item N s1 s2 s3 s4 l4 0 s).bind fun q2 =>
  FX35_glueItem_b41 N SL q2.2
theorem SX35_glueItem_b35 {m b : Nat} {φ0 : Nat → Nat} {σo : fS} (hm : 1 ≤ m) (hb : 1 ≤ b) {N : Nat} {sL : Nat → Int32 → Int64 → Int64 → eH → Option (Int32 × eH)} {SL : Int → Int → Int → fS → Option (Int × fS)} {q : Unit × fS} (hsL : ∀ {φ : Nat → Nat} {h : eH} {s : fS} {x1' : Int32} {x1 : Int} {x2' : Int64} {x2 : Int} {x3' : Int64} {x3 : Int} {q}, fC m 1 φ s φ h s → x1' = iI x1 → r32 x1 → x2' = iJ x2 → r64 x2 → x3' = iJ x3 → r64 x3 → SL x1 x2 x3 s = some q → gG m 1 φ s lI q (sL 192 x1' x2' x3' h)) {φ : Nat → Nat} {h : eH} {s : fS} {l4' : Int32} {l4 : Int} {s1' : Int32} {s1 : Int} {s2' : Int32} {s2 : Int} {s3' : Int32} {s3 : Int} {s4' : Int32} {s4 : Int} (R : fC m b φ0 σo φ h s) (el4 : l4' = iI l4) (rl4 : r32 l4) (es1 : s1' = iI s1) (rs1 : r32 s1) (es2 : s2' = iI s2) (rs2 : r32 s2) (es3 : s3' = iI s3) (rs3 : r32 s3) (es4 : s4' = iI s4) (rs4 : r32 s4) (hF : FX35_glueItem_b35 N SL l4 s1 s2 s3 s4 s = some q) : gG m b φ0 σo lU q (fX35_glueItem_b35 N sL l4' 192 s1' s2' s3' s4' h) := by
  subst el4; subst es1; subst es2; subst es3; subst es4
  unfold FX35_glueItem_b35 at hF
  unfold fX35_glueItem_b35
  refine s_kok R (t_192 hm R.S) (Nat.le_of_ble_eq_true rfl) ?_
  refine s_call R hb (fun _ hq => SX35_item (b := 1) (N := N) hm (Nat.le_of_ble_eq_true rfl) (R.rf) rfl rs1 rfl rs2 rfl rs3 rfl rs4 rfl rl4 (c_lit 0 0 rfl) ⟨by decide, by decide⟩ hq) hF (fun f2 rv2 h2 q2 R2 e2 E2 hF => ?_)
  exact SX35_glueItem_b41 (N := N) (sL := sL) (SL := SL) hm @hsL R2 hF
def FX35_glueItem (N : Nat) (SL : Int → Int → Int → fS → Option (Int × fS)) (p0 : Int) (p1 : Int) (p2 : Int) (p3 : Int) (s : fS) : Option (Unit × fS) :=
  (FX35_mode s).bind fun q2 =>
  if ¬ (q2.1 = 0) then
    if ¬ (p1 = 0) then
      FX35_glueItem_b35 N SL p3 2 p0 p1 p2 q2.2
    else
      FX35_glueItem_b35 N SL p3 2 p0 p1 0 q2.2
  else
    (FX35_outer N SL 2 p0 p1 p3 p2 (-1) 0 q2.2).bind fun q6 =>
    FX35_glueItem_b41 N SL q6.2
theorem SX35_glueItem {m b : Nat} {φ0 : Nat → Nat} {σo : fS} (hm : 1 ≤ m) (hb : 1 ≤ b) {N : Nat} {sL : Nat → Int32 → Int64 → Int64 → eH → Option (Int32 × eH)} {SL : Int → Int → Int → fS → Option (Int × fS)} {q : Unit × fS} (hsL : ∀ {φ : Nat → Nat} {h : eH} {s : fS} {x1' : Int32} {x1 : Int} {x2' : Int64} {x2 : Int} {x3' : Int64} {x3 : Int} {q}, fC m 1 φ s φ h s → x1' = iI x1 → r32 x1 → x2' = iJ x2 → r64 x2 → x3' = iJ x3 → r64 x3 → SL x1 x2 x3 s = some q → gG m 1 φ s lI q (sL 192 x1' x2' x3' h)) {φ : Nat → Nat} {h : eH} {s : fS} {p0' : Int32} {p0 : Int} {p1' : Int32} {p1 : Int} {p2' : Int32} {p2 : Int} {p3' : Int32} {p3 : Int} (R : fC m b φ0 σo φ h s) (ep0 : p0' = iI p0) (rp0 : r32 p0) (ep1 : p1' = iI p1) (rp1 : r32 p1) (ep2 : p2' = iI p2) (rp2 : r32 p2) (ep3 : p3' = iI p3) (rp3 : r32 p3) (hF : FX35_glueItem N SL p0 p1 p2 p3 s = some q) : gG m b φ0 σo lU q (fX35_glueItem N sL 192 p0' p1' p2' p3' h) := by
  subst ep0; subst ep1; subst ep2; subst ep3
  unfold FX35_glueItem at hF
  unfold fX35_glueItem
  refine s_kok R (t_192 hm R.S) (Nat.le_of_ble_eq_true rfl) ?_
  refine s_call R (Nat.zero_le _) (fun _ hq => SX35_mode (b := 0) hm (R.rf) hq) hF (fun f2 rv2 h2 q2 R2 e2 E2 hF => ?_)
  refine s_if (not_congr (i_eq e2.1 (c_lit 0 0 rfl) e2.2 ⟨by decide, by decide⟩)) hF (fun c3 hF => ?_) (fun c3 hF => ?_)
  ·
    refine s_if (not_congr (i_eq rfl (c_lit 0 0 rfl) rp1 ⟨by decide, by decide⟩)) hF (fun c4 hF => ?_) (fun c4 hF => ?_)
    ·
      exact SX35_glueItem_b35 (N := N) (sL := sL) (SL := SL) hm hb @hsL R2 rfl rp3 (c_lit 2 2 rfl) ⟨by decide, by decide⟩ rfl rp0 rfl rp1 rfl rp2 hF
    ·
      exact SX35_glueItem_b35 (N := N) (sL := sL) (SL := SL) hm hb @hsL R2 rfl rp3 (c_lit 2 2 rfl) ⟨by decide, by decide⟩ rfl rp0 rfl rp1 (c_lit 0 0 rfl) ⟨by decide, by decide⟩ hF
  ·
    refine s_kok R2 (t_192 hm R2.S) (Nat.le_of_ble_eq_true rfl) ?_
    refine s_call R2 hb (fun _ hq => SX35_outer (b := 1) (N := N) (sL := sL) (SL := SL) hm (Nat.le_of_ble_eq_true rfl) @hsL (R2.rf) (c_lit 2 2 rfl) ⟨by decide, by decide⟩ rfl rp0 rfl rp1 rfl rp3 rfl rp2 (c_lit (-1) (-1) rfl) ⟨by decide, by decide⟩ (c_lit 0 0 rfl) ⟨by decide, by decide⟩ hq) hF (fun f6 rv6 h6 q6 R6 e6 E6 hF => ?_)
    exact SX35_glueItem_b41 (N := N) (sL := sL) (SL := SL) hm @hsL R6 hF
def FX35_glueOf (N : Nat) (SL : Int → Int → Int → fS → Option (Int × fS)) (p0 : Int) (s : fS) : Option (Unit × fS) :=
  (FX35_now (iadd 2247 (imul 4 p0)) s).bind fun q2 =>
  (FX35_now (iadd (iadd 2247 (imul 4 p0)) 1) q2.2).bind fun q4 =>
  (FX35_now (iadd (iadd 2247 (imul 4 p0)) 2) q4.2).bind fun q6 =>
  (FX35_now (iadd (iadd 2247 (imul 4 p0)) 3) q6.2).bind fun q8 =>
  (FX35_glueItem N SL q2.1 q4.1 q6.1 q8.1 q8.2).bind fun q10 =>
  some ((), q10.2)
theorem SX35_glueOf {m b : Nat} {φ0 : Nat → Nat} {σo : fS} (hm : 1 ≤ m) (hb : 1 ≤ b) {N : Nat} {sL : Nat → Int32 → Int64 → Int64 → eH → Option (Int32 × eH)} {SL : Int → Int → Int → fS → Option (Int × fS)} {q : Unit × fS} (hsL : ∀ {φ : Nat → Nat} {h : eH} {s : fS} {x1' : Int32} {x1 : Int} {x2' : Int64} {x2 : Int} {x3' : Int64} {x3 : Int} {q}, fC m 1 φ s φ h s → x1' = iI x1 → r32 x1 → x2' = iJ x2 → r64 x2 → x3' = iJ x3 → r64 x3 → SL x1 x2 x3 s = some q → gG m 1 φ s lI q (sL 192 x1' x2' x3' h)) {φ : Nat → Nat} {h : eH} {s : fS} {p0' : Int32} {p0 : Int} (R : fC m b φ0 σo φ h s) (ep0 : p0' = iI p0) (rp0 : r32 p0) (hF : FX35_glueOf N SL p0 s = some q) : gG m b φ0 σo lU q (fX35_glueOf N sL 192 p0' h) := by
  subst ep0
  unfold FX35_glueOf at hF
  unfold fX35_glueOf
  refine s_kok R (t_192 hm R.S) (Nat.le_of_ble_eq_true rfl) ?_
  refine s_call R (Nat.zero_le _) (fun _ hq => SX35_now (b := 0) hm (R.rf) (c_add (c_lit 2247 2247 rfl) (c_mul (c_lit 4 4 rfl) rfl)) (rr_I _) hq) hF (fun f2 rv2 h2 q2 R2 e2 E2 hF => ?_)
  refine s_kok R2 (t_192 hm R2.S) (Nat.le_of_ble_eq_true rfl) ?_
  refine s_call R2 (Nat.zero_le _) (fun _ hq => SX35_now (b := 0) hm (R2.rf) (c_add (c_add (c_lit 2247 2247 rfl) (c_mul (c_lit 4 4 rfl) rfl)) (c_lit 1 1 rfl)) (rr_I _) hq) hF (fun f4 rv4 h4 q4 R4 e4 E4 hF => ?_)
  refine s_kok R4 (t_192 hm R4.S) (Nat.le_of_ble_eq_true rfl) ?_
  refine s_call R4 (Nat.zero_le _) (fun _ hq => SX35_now (b := 0) hm (R4.rf) (c_add (c_add (c_lit 2247 2247 rfl) (c_mul (c_lit 4 4 rfl) rfl)) (c_lit 2 2 rfl)) (rr_I _) hq) hF (fun f6 rv6 h6 q6 R6 e6 E6 hF => ?_)
  refine s_kok R6 (t_192 hm R6.S) (Nat.le_of_ble_eq_true rfl) ?_
  refine s_call R6 (Nat.zero_le _) (fun _ hq => SX35_now (b := 0) hm (R6.rf) (c_add (c_add (c_lit 2247 2247 rfl) (c_mul (c_lit 4 4 rfl) rfl)) (c_lit 3 3 rfl)) (rr_I _) hq) hF (fun f8 rv8 h8 q8 R8 e8 E8 hF => ?_)
  refine s_kok R8 (t_192 hm R8.S) (Nat.le_of_ble_eq_true rfl) ?_
  refine s_call R8 hb (fun _ hq => SX35_glueItem (b := 1) (N := N) (sL := sL) (SL := SL) hm (Nat.le_of_ble_eq_true rfl) @hsL (R8.rf) e2.1 e2.2 e4.1 e4.2 e6.1 e6.2 e8.1 e8.2 hq) hF (fun f10 rv10 h10 q10 R10 e10 E10 hF => ?_)
  exact g_ret R10 hF trivial
def FX35_openList (p0 : Int) (s : fS) : Option (Unit × fS) :=
  (uQI s 285 (s.i 192 51) p0).bind fun σ5 =>
  (uQI σ5 286 (σ5.i 192 51) (σ5.i 192 56)).bind fun σ13 =>
  (uQI σ13 287 (σ13.i 192 51) (-2147483647)).bind fun σ19 =>
  (uPI σ19 192 51 (iadd (σ19.i 192 51) 1)).bind fun σ23 =>
  some ((), σ23)
theorem SX35_openList {m b : Nat} {φ0 : Nat → Nat} {σo : fS} (hm : 1 ≤ m) {q : Unit × fS} {φ : Nat → Nat} {h : eH} {s : fS} {p0' : Int32} {p0 : Int} (R : fC m b φ0 σo φ h s) (ep0 : p0' = iI p0) (rp0 : r32 p0) (hF : FX35_openList p0 s = some q) : gG m b φ0 σo lU q (fX35_openList 192 p0' h) := by
  subst ep0
  unfold FX35_openList at hF
  unfold fX35_openList
  refine s_gAs R (t_192 hm R.S) (Nat.le_of_ble_eq_true rfl) rfl (o_192_52 hm R.S) (a_285 hm R) ?_
  refine s_gI R (t_192 hm R.S) (Nat.le_of_ble_eq_true rfl) rfl ?_
  refine s_qI R (u_285 hm R.S).1 (u_285 hm R.S).2 (by decide) (a_285 hm R) rfl (R.ri (t_192 hm R.S) (Nat.le_of_ble_eq_true rfl) rfl) rfl rp0 hF (fun h3 σ5 R3 T3 hF => ?_)
  refine s_gAs R3 (t_192 hm R3.S) (Nat.le_of_ble_eq_true rfl) rfl (o_192_53 hm R3.S) (a_286 hm R3) ?_
  refine s_gI R3 (t_192 hm R3.S) (Nat.le_of_ble_eq_true rfl) rfl ?_
  refine s_gI R3 (t_192 hm R3.S) (Nat.le_of_ble_eq_true rfl) rfl ?_
  refine s_qI R3 (u_286 hm R3.S).1 (u_286 hm R3.S).2 (by decide) (a_286 hm R3) rfl (R3.ri (t_192 hm R3.S) (Nat.le_of_ble_eq_true rfl) rfl) rfl (R3.ri (t_192 hm R3.S) (Nat.le_of_ble_eq_true rfl) rfl) hF (fun h7 σ13 R7 T7 hF => ?_)
  refine s_gAs R7 (t_192 hm R7.S) (Nat.le_of_ble_eq_true rfl) rfl (o_192_54 hm R7.S) (a_287 hm R7) ?_
  refine s_gI R7 (t_192 hm R7.S) (Nat.le_of_ble_eq_true rfl) rfl ?_
  refine s_qI R7 (u_287 hm R7.S).1 (u_287 hm R7.S).2 (by decide) (a_287 hm R7) rfl (R7.ri (t_192 hm R7.S) (Nat.le_of_ble_eq_true rfl) rfl) (c_lit (-2147483647) (-2147483647) rfl) ⟨by decide, by decide⟩ hF (fun h10 σ19 R10 T10 hF => ?_)
  refine s_gI R10 (t_192 hm R10.S) (Nat.le_of_ble_eq_true rfl) rfl ?_
  refine s_pI R10 (t_192 hm R10.S) (Nat.le_of_ble_eq_true rfl) rfl (c_add rfl (c_lit 1 1 rfl)) (rr_I _) hF (fun h12 σ23 R12 T12 hF => ?_)
  exact g_ret R12 hF trivial
def FX35_setGlue_b85 (N : Nat) (K39 : Int → Int → Int → fS → Option (Unit × fS)) (l1 : Int) (l2 : Int) (l4 : Int) (s : fS) : Option (Unit × fS) :=
  K39 l1 l2 (iadd l4 1) s
theorem SX35_setGlue_b85 {m b : Nat} {φ0 : Nat → Nat} {σo : fS} (hm : 1 ≤ m) {N : Nat} {k39 : Nat → Int32 → Int64 → Int32 → eH → Option (Unit × eH)} {K39 : Int → Int → Int → fS → Option (Unit × fS)} {q : Unit × fS} (hk39 : ∀ {φ : Nat → Nat} {h : eH} {s : fS} {l1' : Int32} {l1 : Int} {l2' : Int64} {l2 : Int} {l4' : Int32} {l4 : Int}, fC m b φ0 σo φ h s → l1' = iI l1 → r32 l1 → l2' = iJ l2 → r64 l2 → l4' = iI l4 → r32 l4 → K39 l1 l2 l4 s = some q → gG m b φ0 σo lU q (k39 192 l1' l2' l4' h)) {φ : Nat → Nat} {h : eH} {s : fS} {l1' : Int32} {l1 : Int} {l2' : Int64} {l2 : Int} {l4' : Int32} {l4 : Int} (R : fC m b φ0 σo φ h s) (el1 : l1' = iI l1) (rl1 : r32 l1) (el2 : l2' = iJ l2) (rl2 : r64 l2) (el4 : l4' = iI l4) (rl4 : r32 l4) (hF : FX35_setGlue_b85 N K39 l1 l2 l4 s = some q) : gG m b φ0 σo lU q (fX35_setGlue_b85 N k39 192 l1' l2' l4' h) := by
  subst el1; subst el2; subst el4
  unfold FX35_setGlue_b85 at hF
  unfold fX35_setGlue_b85
  exact hk39 R rfl rl1 rfl rl2 (c_add rfl (c_lit 1 1 rfl)) (rr_I _) hF
def FX35_setGlue_b162 (N : Nat) (s1 : Int) (s : fS) : Option (Unit × fS) :=
  (uPI s 192 110 s1).bind fun σ1 =>
  some ((), σ1)
theorem SX35_setGlue_b162 {m b : Nat} {φ0 : Nat → Nat} {σo : fS} (hm : 1 ≤ m) {N : Nat} {q : Unit × fS} {φ : Nat → Nat} {h : eH} {s : fS} {s1' : Int32} {s1 : Int} (R : fC m b φ0 σo φ h s) (es1 : s1' = iI s1) (rs1 : r32 s1) (hF : FX35_setGlue_b162 N s1 s = some q) : gG m b φ0 σo lU q (fX35_setGlue_b162 N 192 s1' h) := by
  subst es1
  unfold FX35_setGlue_b162 at hF
  unfold fX35_setGlue_b162
  refine s_pI R (t_192 hm R.S) (Nat.le_of_ble_eq_true rfl) rfl rfl rs1 hF (fun h1 σ1 R1 T1 hF => ?_)
  exact g_ret R1 hF trivial
def FX35_setGlue_b142 (N : Nat) (l4 : Int) (s1 : Int) (s2 : Int) (s : fS) : Option (Unit × fS) :=
  (uQI s 301 s1 s2).bind fun σ1 =>
  if l4 = 0 then
    FX35_setGlue_b162 N (σ1.i 192 110) σ1
  else
    FX35_setGlue_b162 N (iadd (σ1.i 192 110) 1) σ1
theorem SX35_setGlue_b142 {m b : Nat} {φ0 : Nat → Nat} {σo : fS} (hm : 1 ≤ m) {N : Nat} {q : Unit × fS} {φ : Nat → Nat} {h : eH} {s : fS} {l4' : Int32} {l4 : Int} {s1' : Int32} {s1 : Int} {s2' : Int32} {s2 : Int} (R : fC m b φ0 σo φ h s) (el4 : l4' = iI l4) (rl4 : r32 l4) (es1 : s1' = iI s1) (rs1 : r32 s1) (es2 : s2' = iI s2) (rs2 : r32 s2) (hF : FX35_setGlue_b142 N l4 s1 s2 s = some q) : gG m b φ0 σo lU q (fX35_setGlue_b142 N 192 l4' 301 s1' s2' h) := by
  subst el4; subst es1; subst es2
  unfold FX35_setGlue_b142 at hF
  unfold fX35_setGlue_b142
  refine s_qI R (u_301 hm R.S).1 (u_301 hm R.S).2 (by decide) (a_301 hm R) rfl rs1 rfl rs2 hF (fun h1 σ1 R1 T1 hF => ?_)
  refine s_if (i_eq rfl (c_lit 0 0 rfl) rl4 ⟨by decide, by decide⟩) hF (fun c2 hF => ?_) (fun c2 hF => ?_)
  ·
    refine s_gI R1 (t_192 hm R1.S) (Nat.le_of_ble_eq_true rfl) rfl ?_
    exact SX35_setGlue_b162 (N := N) hm R1 rfl (R1.ri (t_192 hm R1.S) (Nat.le_of_ble_eq_true rfl) rfl) hF
  ·
    refine s_gI R1 (t_192 hm R1.S) (Nat.le_of_ble_eq_true rfl) rfl ?_
    exact SX35_setGlue_b162 (N := N) hm R1 (c_add rfl (c_lit 1 1 rfl)) (rr_I _) hF
def FX35_setGlue_b115 (N : Nat) (l1 : Int) (l2 : Int) (s0 : Int) (s : fS) : Option (Unit × fS) :=
  if s0 = 0 then
    FX35_setGlue_b142 N s0 l1 0 s
  else
    (uRI s 300 l1).bind fun x6 =>
    FX35_setGlue_b142 N s0 l1 (l2i (lsub (lneg l2) x6)) s
theorem SX35_setGlue_b115 {m b : Nat} {φ0 : Nat → Nat} {σo : fS} (hm : 1 ≤ m) {N : Nat} {q : Unit × fS} {φ : Nat → Nat} {h : eH} {s : fS} {l1' : Int32} {l1 : Int} {l2' : Int64} {l2 : Int} {s0' : Int32} {s0 : Int} (R : fC m b φ0 σo φ h s) (el1 : l1' = iI l1) (rl1 : r32 l1) (el2 : l2' = iJ l2) (rl2 : r64 l2) (es0 : s0' = iI s0) (rs0 : r32 s0) (hF : FX35_setGlue_b115 N l1 l2 s0 s = some q) : gG m b φ0 σo lU q (fX35_setGlue_b115 N 192 l1' l2' s0' h) := by
  subst el1; subst el2; subst es0
  unfold FX35_setGlue_b115 at hF
  unfold fX35_setGlue_b115
  refine s_gAs R (t_192 hm R.S) (Nat.le_of_ble_eq_true rfl) rfl (o_192_74 hm R.S) (a_301 hm R) ?_
  refine s_if (i_eq rfl (c_lit 0 0 rfl) rs0 ⟨by decide, by decide⟩) hF (fun c2 hF => ?_) (fun c2 hF => ?_)
  ·
    exact SX35_setGlue_b142 (N := N) hm R rfl rs0 rfl rl1 (c_lit 0 0 rfl) ⟨by decide, by decide⟩ hF
  ·
    refine s_gAs R (t_192 hm R.S) (Nat.le_of_ble_eq_true rfl) rfl (o_192_73 hm R.S) (a_300 hm R) ?_
    refine s_rI R (u_300 hm R.S).1 (u_300 hm R.S).2 (by decide) (a_300 hm R) rfl rl1 hF (fun x6 ra4 hF => ?_)
    exact SX35_setGlue_b142 (N := N) hm R rfl rs0 rfl rl1 (d_2i (d_sub (d_neg rfl) (c_2l rfl ra4))) (rr_I _) hF
def FX35_setGlue_b114 (N : Nat) (l1 : Int) (l2 : Int) (s : fS) : Option (Unit × fS) :=
  FX35_setGlue_b115 N l1 l2 0 s
theorem SX35_setGlue_b114 {m b : Nat} {φ0 : Nat → Nat} {σo : fS} (hm : 1 ≤ m) {N : Nat} {q : Unit × fS} {φ : Nat → Nat} {h : eH} {s : fS} {l1' : Int32} {l1 : Int} {l2' : Int64} {l2 : Int} (R : fC m b φ0 σo φ h s) (el1 : l1' = iI l1) (rl1 : r32 l1) (el2 : l2' = iJ l2) (rl2 : r64 l2) (hF : FX35_setGlue_b114 N l1 l2 s = some q) : gG m b φ0 σo lU q (fX35_setGlue_b114 N 192 l1' l2' h) := by
  subst el1; subst el2
  unfold FX35_setGlue_b114 at hF
  unfold fX35_setGlue_b114
  exact SX35_setGlue_b115 (N := N) hm R rfl rl1 rfl rl2 (c_lit 0 0 rfl) ⟨by decide, by decide⟩ hF
def FX35_setGlue_b91 (N : Nat) (l1 : Int) (l2 : Int) (s : fS) : Option (Unit × fS) :=
  if 0 ≤ l2 then
    FX35_setGlue_b114 N l1 l2 s
  else
    (uRI s 300 l1).bind fun x4 =>
    if (lneg l2) ≤ x4 then
      FX35_setGlue_b114 N l1 l2 s
    else
      FX35_setGlue_b115 N l1 l2 1 s
theorem SX35_setGlue_b91 {m b : Nat} {φ0 : Nat → Nat} {σo : fS} (hm : 1 ≤ m) {N : Nat} {q : Unit × fS} {φ : Nat → Nat} {h : eH} {s : fS} {l1' : Int32} {l1 : Int} {l2' : Int64} {l2 : Int} (R : fC m b φ0 σo φ h s) (el1 : l1' = iI l1) (rl1 : r32 l1) (el2 : l2' = iJ l2) (rl2 : r64 l2) (hF : FX35_setGlue_b91 N l1 l2 s = some q) : gG m b φ0 σo lU q (fX35_setGlue_b91 N 192 l1' l2' h) := by
  subst el1; subst el2
  unfold FX35_setGlue_b91 at hF
  unfold fX35_setGlue_b91
  refine s_if ((lg_cmp_ge _ _).trans (j_le (d_lit 0 0 rfl) rfl ⟨by decide, by decide⟩ rl2)) hF (fun c1 hF => ?_) (fun c1 hF => ?_)
  ·
    exact SX35_setGlue_b114 (N := N) hm R rfl rl1 rfl rl2 hF
  ·
    refine s_gAs R (t_192 hm R.S) (Nat.le_of_ble_eq_true rfl) rfl (o_192_73 hm R.S) (a_300 hm R) ?_
    refine s_rI R (u_300 hm R.S).1 (u_300 hm R.S).2 (by decide) (a_300 hm R) rfl rl1 hF (fun x4 ra3 hF => ?_)
    refine s_if ((lg_cmp_ge _ _).trans (j_le (d_neg rfl) (c_2l rfl ra3) (rr_J _) (r32.w ra3))) hF (fun c4 hF => ?_) (fun c4 hF => ?_)
    ·
      exact SX35_setGlue_b114 (N := N) hm R rfl rl1 rfl rl2 hF
    ·
      exact SX35_setGlue_b115 (N := N) hm R rfl rl1 rfl rl2 (c_lit 1 1 rfl) ⟨by decide, by decide⟩ hF
def FX35_setGlue_b39 (N : Nat) : Nat → Int → Int → Int → fS → Option (Unit × fS)
  | 0, _, _, _, _ => none
  | n + 1, l1, l2, l4, s =>
    if 4 ≤ l4 then
      FX35_setGlue_b91 N l1 l2 s
    else
      if l2 ≤ 0 then
        FX35_setGlue_b91 N l1 l2 s
      else
        (uRJ s 305 l4).bind fun x5 =>
        if x5 = 0 then
          FX35_setGlue_b85 N (FX35_setGlue_b39 N n) l1 l2 l4 s
        else
          (uQI s 299 l1 l4).bind fun σ10 =>
          (uRJ σ10 305 l4).bind fun x16 =>
          (uQI σ10 300 l1 (l2i x16)).bind fun σ18 =>
          FX35_setGlue_b85 N (FX35_setGlue_b39 N n) l1 l2 l4 σ18
theorem SX35_setGlue_b39 {m b : Nat} {φ0 : Nat → Nat} {σo : fS} (hm : 1 ≤ m) {N : Nat} {q : Unit × fS} : ∀ {n : Nat} {φ : Nat → Nat} {h : eH} {s : fS} {l1' : Int32} {l1 : Int} {l2' : Int64} {l2 : Int} {l4' : Int32} {l4 : Int}, fC m b φ0 σo φ h s → l1' = iI l1 → r32 l1 → l2' = iJ l2 → r64 l2 → l4' = iI l4 → r32 l4 → FX35_setGlue_b39 N n l1 l2 l4 s = some q → gG m b φ0 σo lU q (fX35_setGlue_b39 N n 192 l1' l2' l4' h) := by
  intro n
  induction n with
 | zero => intro φ h s l1' l1 l2' l2 l4' l4 R el1 rl1 el2 rl2 el4 rl4 hF; simp [FX35_setGlue_b39] at hF
  | succ n ih =>
    intro φ h s l1' l1 l2' l2 l4' l4 R el1 rl1 el2 rl2 el4 rl4 hF
    subst el1; subst el2; subst el4
    rw [FX35_setGlue_b39] at hF
    rw [fX35_setGlue_b39]
    refine s_if (i_le (c_lit 4 4 rfl) rfl ⟨by decide, by decide⟩ rl4) hF (fun c1 hF => ?_) (fun c1 hF => ?_)
    ·
      exact SX35_setGlue_b91 (N := N) hm R rfl rl1 rfl rl2 hF
    ·
      refine s_if (lg_le.trans (j_le rfl (d_lit 0 0 rfl) rl2 ⟨by decide, by decide⟩)) hF (fun c2 hF => ?_) (fun c2 hF => ?_)
      ·
        exact SX35_setGlue_b91 (N := N) hm R rfl rl1 rfl rl2 hF
      ·
        refine s_gAs R (t_192 hm R.S) (Nat.le_of_ble_eq_true rfl) rfl (o_192_83 hm R.S) (a_305 hm R) ?_
        refine s_rJ R (u_305 hm R.S).1 (u_305 hm R.S).2 (a_305 hm R) rfl rl4 hF (fun x5 ra4 hF => ?_)
        refine s_if (lg_eq.trans (j_eq rfl (d_lit 0 0 rfl) ra4 ⟨by decide, by decide⟩)) hF (fun c5 hF => ?_) (fun c5 hF => ?_)
        ·
          exact SX35_setGlue_b85 (N := N) (k39 := fX35_setGlue_b39 N n) (K39 := FX35_setGlue_b39 N n) hm @ih R rfl rl1 rfl rl2 rfl rl4 hF
        ·
          refine s_gAs R (t_192 hm R.S) (Nat.le_of_ble_eq_true rfl) rfl (o_192_72 hm R.S) (a_299 hm R) ?_
          refine s_qI R (u_299 hm R.S).1 (u_299 hm R.S).2 (by decide) (a_299 hm R) rfl rl1 rfl rl4 hF (fun h7 σ10 R7 T7 hF => ?_)
          refine s_gAs R7 (t_192 hm R7.S) (Nat.le_of_ble_eq_true rfl) rfl (o_192_73 hm R7.S) (a_300 hm R7) ?_
          refine s_gAs R7 (t_192 hm R7.S) (Nat.le_of_ble_eq_true rfl) rfl (o_192_83 hm R7.S) (a_305 hm R7) ?_
          refine s_rJ R7 (u_305 hm R7.S).1 (u_305 hm R7.S).2 (a_305 hm R7) rfl rl4 hF (fun x16 ra10 hF => ?_)
          refine s_qI R7 (u_300 hm R7.S).1 (u_300 hm R7.S).2 (by decide) (a_300 hm R7) rfl rl1 (d_2i rfl) (rr_I _) hF (fun h11 σ18 R11 T11 hF => ?_)
          exact SX35_setGlue_b85 (N := N) (k39 := fX35_setGlue_b39 N n) (K39 := FX35_setGlue_b39 N n) hm @ih R11 rfl rl1 rfl rl2 rfl rl4 hF
def FX35_setGlue_b35 (N : Nat) (l1 : Int) (l2 : Int) (s1 : Int) (s2 : Int) (s : fS) : Option (Unit × fS) :=
  (uQI s 300 s1 s2).bind fun σ1 =>
  FX35_setGlue_b39 N N l1 l2 0 σ1
theorem SX35_setGlue_b35 {m b : Nat} {φ0 : Nat → Nat} {σo : fS} (hm : 1 ≤ m) {N : Nat} {q : Unit × fS} {φ : Nat → Nat} {h : eH} {s : fS} {l1' : Int32} {l1 : Int} {l2' : Int64} {l2 : Int} {s1' : Int32} {s1 : Int} {s2' : Int32} {s2 : Int} (R : fC m b φ0 σo φ h s) (el1 : l1' = iI l1) (rl1 : r32 l1) (el2 : l2' = iJ l2) (rl2 : r64 l2) (es1 : s1' = iI s1) (rs1 : r32 s1) (es2 : s2' = iI s2) (rs2 : r32 s2) (hF : FX35_setGlue_b35 N l1 l2 s1 s2 s = some q) : gG m b φ0 σo lU q (fX35_setGlue_b35 N 192 l1' l2' 300 s1' s2' h) := by
  subst el1; subst el2; subst es1; subst es2
  unfold FX35_setGlue_b35 at hF
  unfold fX35_setGlue_b35
  refine s_qI R (u_300 hm R.S).1 (u_300 hm R.S).2 (by decide) (a_300 hm R) rfl rs1 rfl rs2 hF (fun h1 σ1 R1 T1 hF => ?_)
  exact SX35_setGlue_b39 (N := N) hm R1 rfl rl1 rfl rl2 (c_lit 0 0 rfl) ⟨by decide, by decide⟩ hF
def FX35_setGlue (N : Nat) (p0 : Int) (p1 : Int) (s : fS) : Option (Unit × fS) :=
  (uQI s 298 p0 (l2i p1)).bind fun σ3 =>
  (uQI σ3 299 p0 0).bind fun σ7 =>
  if 0 ≤ p1 then
    FX35_setGlue_b35 N p0 p1 p0 0 σ7
  else
    FX35_setGlue_b35 N p0 p1 p0 (l2i (σ7.j 192 85)) σ7
theorem SX35_setGlue {m b : Nat} {φ0 : Nat → Nat} {σo : fS} (hm : 1 ≤ m) {N : Nat} {q : Unit × fS} {φ : Nat → Nat} {h : eH} {s : fS} {p0' : Int32} {p0 : Int} {p1' : Int64} {p1 : Int} (R : fC m b φ0 σo φ h s) (ep0 : p0' = iI p0) (rp0 : r32 p0) (ep1 : p1' = iJ p1) (rp1 : r64 p1) (hF : FX35_setGlue N p0 p1 s = some q) : gG m b φ0 σo lU q (fX35_setGlue N 192 p0' p1' h) := by
  subst ep0; subst ep1
  unfold FX35_setGlue at hF
  unfold fX35_setGlue
  refine s_gAs R (t_192 hm R.S) (Nat.le_of_ble_eq_true rfl) rfl (o_192_71 hm R.S) (a_298 hm R) ?_
  refine s_qI R (u_298 hm R.S).1 (u_298 hm R.S).2 (by decide) (a_298 hm R) rfl rp0 (d_2i rfl) (rr_I _) hF (fun h2 σ3 R2 T2 hF => ?_)
  refine s_gAs R2 (t_192 hm R2.S) (Nat.le_of_ble_eq_true rfl) rfl (o_192_72 hm R2.S) (a_299 hm R2) ?_
  refine s_qI R2 (u_299 hm R2.S).1 (u_299 hm R2.S).2 (by decide) (a_299 hm R2) rfl rp0 (c_lit 0 0 rfl) ⟨by decide, by decide⟩ hF (fun h4 σ7 R4 T4 hF => ?_)
  refine s_gAs R4 (t_192 hm R4.S) (Nat.le_of_ble_eq_true rfl) rfl (o_192_73 hm R4.S) (a_300 hm R4) ?_
  refine s_if ((lg_cmp_ge _ _).trans (j_le (d_lit 0 0 rfl) rfl ⟨by decide, by decide⟩ rp1)) hF (fun c6 hF => ?_) (fun c6 hF => ?_)
  ·
    exact SX35_setGlue_b35 (N := N) hm R4 rfl rp0 rfl rp1 rfl rp0 (c_lit 0 0 rfl) ⟨by decide, by decide⟩ hF
  ·
    refine s_gJ R4 (t_192 hm R4.S) (Nat.le_of_ble_eq_true rfl) rfl ?_
    exact SX35_setGlue_b35 (N := N) hm R4 rfl rp0 rfl rp1 rfl rp0 (d_2i rfl) (rr_I _) hF
def FX35_pack_b155 (N : Nat) (K12 : Nat → Int → Int → Int → Int → Int → Int → Int → Int → Int → fS → Option (Int × fS)) (l1 : Nat) (l2 : Int) (l3 : Int) (l4 : Int) (l5 : Int) (l6 : Int) (l7 : Int) (l8 : Int) (l11 : Int) (s0 : Int) (s : fS) : Option (Int × fS) :=
  K12 l1 l2 l3 l4 l5 l6 l7 l8 s0 (iadd l11 1) s
theorem SX35_pack_b155 {m b : Nat} {φ0 : Nat → Nat} {σo : fS} (hm : 1 ≤ m) {N : Nat} {k12 : Nat → Nat → Int32 → Int32 → Int32 → Int32 → Int32 → Int32 → Int32 → Int64 → Int32 → eH → Option (Int32 × eH)} {K12 : Nat → Int → Int → Int → Int → Int → Int → Int → Int → Int → fS → Option (Int × fS)} {q : Int × fS} (hk12 : ∀ {φ : Nat → Nat} {h : eH} {s : fS} {l1' : Nat} {l1 : Nat} {l2' : Int32} {l2 : Int} {l3' : Int32} {l3 : Int} {l4' : Int32} {l4 : Int} {l5' : Int32} {l5 : Int} {l6' : Int32} {l6 : Int} {l7' : Int32} {l7 : Int} {l8' : Int32} {l8 : Int} {l9' : Int64} {l9 : Int} {l11' : Int32} {l11 : Int}, fC m b φ0 σo φ h s → l1' = φ l1 → s.t l1 < 128 → l2' = iI l2 → r32 l2 → l3' = iI l3 → r32 l3 → l4' = iI l4 → r32 l4 → l5' = iI l5 → r32 l5 → l6' = iI l6 → r32 l6 → l7' = iI l7 → r32 l7 → l8' = iI l8 → r32 l8 → l9' = iJ l9 → r64 l9 → l11' = iI l11 → r32 l11 → K12 l1 l2 l3 l4 l5 l6 l7 l8 l9 l11 s = some q → gG m b φ0 σo lI q (k12 192 l1' l2' l3' l4' l5' l6' l7' l8' l9' l11' h)) {φ : Nat → Nat} {h : eH} {s : fS} {l1' : Nat} {l1 : Nat} {l2' : Int32} {l2 : Int} {l3' : Int32} {l3 : Int} {l4' : Int32} {l4 : Int} {l5' : Int32} {l5 : Int} {l6' : Int32} {l6 : Int} {l7' : Int32} {l7 : Int} {l8' : Int32} {l8 : Int} {l11' : Int32} {l11 : Int} {s0' : Int64} {s0 : Int} (R : fC m b φ0 σo φ h s) (el1 : l1' = φ l1) (al1 : s.t l1 < 128) (el2 : l2' = iI l2) (rl2 : r32 l2) (el3 : l3' = iI l3) (rl3 : r32 l3) (el4 : l4' = iI l4) (rl4 : r32 l4) (el5 : l5' = iI l5) (rl5 : r32 l5) (el6 : l6' = iI l6) (rl6 : r32 l6) (el7 : l7' = iI l7) (rl7 : r32 l7) (el8 : l8' = iI l8) (rl8 : r32 l8) (el11 : l11' = iI l11) (rl11 : r32 l11) (es0 : s0' = iJ s0) (rs0 : r64 s0) (hF : FX35_pack_b155 N K12 l1 l2 l3 l4 l5 l6 l7 l8 l11 s0 s = some q) : gG m b φ0 σo lI q (fX35_pack_b155 N k12 192 l1' l2' l3' l4' l5' l6' l7' l8' l11' s0' h) := by
  subst el2; subst el3; subst el4; subst el5; subst el6; subst el7; subst el8; subst el11; subst es0
  unfold FX35_pack_b155 at hF
  unfold fX35_pack_b155
  exact hk12 R el1 al1 rfl rl2 rfl rl3 rfl rl4 rfl rl5 rfl rl6 rfl rl7 rfl rl8 rfl rs0 (c_add rfl (c_lit 1 1 rfl)) (rr_I _) hF
def FX35_pack_b125 (N : Nat) (K12 : Nat → Int → Int → Int → Int → Int → Int → Int → Int → Int → fS → Option (Int × fS)) (l1 : Nat) (l2 : Int) (l3 : Int) (l4 : Int) (l5 : Int) (l6 : Int) (l7 : Int) (l9 : Int) (l11 : Int) (l13 : Int) (s0 : Int) (s : fS) : Option (Int × fS) :=
  if l13 = 0 then
    FX35_pack_b155 N K12 l1 l2 l3 l4 l5 l6 l7 s0 l11 l9 s
  else
    (uKA 100 s l1).bind fun _ =>
    (uRI s l1 (iadd (imul 6 l11) 1)).bind fun x4 =>
    (uRI s 303 x4).bind fun x6 =>
    FX35_pack_b155 N K12 l1 l2 l3 l4 l5 l6 l7 s0 l11 (ladd l9 x6) s
theorem SX35_pack_b125 {m b : Nat} {φ0 : Nat → Nat} {σo : fS} (hm : 1 ≤ m) {N : Nat} {k12 : Nat → Nat → Int32 → Int32 → Int32 → Int32 → Int32 → Int32 → Int32 → Int64 → Int32 → eH → Option (Int32 × eH)} {K12 : Nat → Int → Int → Int → Int → Int → Int → Int → Int → Int → fS → Option (Int × fS)} {q : Int × fS} (hk12 : ∀ {φ : Nat → Nat} {h : eH} {s : fS} {l1' : Nat} {l1 : Nat} {l2' : Int32} {l2 : Int} {l3' : Int32} {l3 : Int} {l4' : Int32} {l4 : Int} {l5' : Int32} {l5 : Int} {l6' : Int32} {l6 : Int} {l7' : Int32} {l7 : Int} {l8' : Int32} {l8 : Int} {l9' : Int64} {l9 : Int} {l11' : Int32} {l11 : Int}, fC m b φ0 σo φ h s → l1' = φ l1 → s.t l1 < 128 → l2' = iI l2 → r32 l2 → l3' = iI l3 → r32 l3 → l4' = iI l4 → r32 l4 → l5' = iI l5 → r32 l5 → l6' = iI l6 → r32 l6 → l7' = iI l7 → r32 l7 → l8' = iI l8 → r32 l8 → l9' = iJ l9 → r64 l9 → l11' = iI l11 → r32 l11 → K12 l1 l2 l3 l4 l5 l6 l7 l8 l9 l11 s = some q → gG m b φ0 σo lI q (k12 192 l1' l2' l3' l4' l5' l6' l7' l8' l9' l11' h)) {φ : Nat → Nat} {h : eH} {s : fS} {l1' : Nat} {l1 : Nat} {l2' : Int32} {l2 : Int} {l3' : Int32} {l3 : Int} {l4' : Int32} {l4 : Int} {l5' : Int32} {l5 : Int} {l6' : Int32} {l6 : Int} {l7' : Int32} {l7 : Int} {l9' : Int64} {l9 : Int} {l11' : Int32} {l11 : Int} {l13' : Int32} {l13 : Int} {s0' : Int32} {s0 : Int} (R : fC m b φ0 σo φ h s) (el1 : l1' = φ l1) (al1 : s.t l1 < 128) (el2 : l2' = iI l2) (rl2 : r32 l2) (el3 : l3' = iI l3) (rl3 : r32 l3) (el4 : l4' = iI l4) (rl4 : r32 l4) (el5 : l5' = iI l5) (rl5 : r32 l5) (el6 : l6' = iI l6) (rl6 : r32 l6) (el7 : l7' = iI l7) (rl7 : r32 l7) (el9 : l9' = iJ l9) (rl9 : r64 l9) (el11 : l11' = iI l11) (rl11 : r32 l11) (el13 : l13' = iI l13) (rl13 : r32 l13) (es0 : s0' = iI s0) (rs0 : r32 s0) (hF : FX35_pack_b125 N K12 l1 l2 l3 l4 l5 l6 l7 l9 l11 l13 s0 s = some q) : gG m b φ0 σo lI q (fX35_pack_b125 N k12 192 l1' l2' l3' l4' l5' l6' l7' l9' l11' l13' s0' h) := by
  subst el2; subst el3; subst el4; subst el5; subst el6; subst el7; subst el9; subst el11; subst el13; subst es0
  unfold FX35_pack_b125 at hF
  unfold fX35_pack_b125
  refine s_if (i_eq rfl (c_lit 0 0 rfl) rl13 ⟨by decide, by decide⟩) hF (fun c1 hF => ?_) (fun c1 hF => ?_)
  ·
    exact SX35_pack_b155 (N := N) (k12 := k12) (K12 := K12) hm @hk12 R el1 al1 rfl rl2 rfl rl3 rfl rl4 rfl rl5 rfl rl6 rfl rl7 rfl rs0 rfl rl11 rfl rl9 hF
  ·
    refine s_gAs R (t_192 hm R.S) (Nat.le_of_ble_eq_true rfl) rfl (o_192_76 hm R.S) (a_303 hm R) ?_
    refine s_KA hF (fun y4 z4 hF => ?_)
    refine s_rI R y4 z4 (by decide) el1 (c_add (c_mul (c_lit 6 6 rfl) rfl) (c_lit 1 1 rfl)) (rr_I _) hF (fun x4 ra3 hF => ?_)
    refine s_rI R (u_303 hm R.S).1 (u_303 hm R.S).2 (by decide) (a_303 hm R) rfl ra3 hF (fun x6 ra5 hF => ?_)
    exact SX35_pack_b155 (N := N) (k12 := k12) (K12 := K12) hm @hk12 R el1 y4 rfl rl2 rfl rl3 rfl rl4 rfl rl5 rfl rl6 rfl rl7 rfl rs0 rfl rl11 (d_add rfl (c_2l rfl ra5)) (rr_J _) hF
def FX35_pack_b123 (N : Nat) (K12 : Nat → Int → Int → Int → Int → Int → Int → Int → Int → Int → fS → Option (Int × fS)) (l1 : Nat) (l2 : Int) (l3 : Int) (l4 : Int) (l5 : Int) (l6 : Int) (l7 : Int) (l8 : Int) (l9 : Int) (l11 : Int) (l13 : Int) (s : fS) : Option (Int × fS) :=
  FX35_pack_b125 N K12 l1 l2 l3 l4 l5 l6 l7 l9 l11 l13 l8 s
theorem SX35_pack_b123 {m b : Nat} {φ0 : Nat → Nat} {σo : fS} (hm : 1 ≤ m) {N : Nat} {k12 : Nat → Nat → Int32 → Int32 → Int32 → Int32 → Int32 → Int32 → Int32 → Int64 → Int32 → eH → Option (Int32 × eH)} {K12 : Nat → Int → Int → Int → Int → Int → Int → Int → Int → Int → fS → Option (Int × fS)} {q : Int × fS} (hk12 : ∀ {φ : Nat → Nat} {h : eH} {s : fS} {l1' : Nat} {l1 : Nat} {l2' : Int32} {l2 : Int} {l3' : Int32} {l3 : Int} {l4' : Int32} {l4 : Int} {l5' : Int32} {l5 : Int} {l6' : Int32} {l6 : Int} {l7' : Int32} {l7 : Int} {l8' : Int32} {l8 : Int} {l9' : Int64} {l9 : Int} {l11' : Int32} {l11 : Int}, fC m b φ0 σo φ h s → l1' = φ l1 → s.t l1 < 128 → l2' = iI l2 → r32 l2 → l3' = iI l3 → r32 l3 → l4' = iI l4 → r32 l4 → l5' = iI l5 → r32 l5 → l6' = iI l6 → r32 l6 → l7' = iI l7 → r32 l7 → l8' = iI l8 → r32 l8 → l9' = iJ l9 → r64 l9 → l11' = iI l11 → r32 l11 → K12 l1 l2 l3 l4 l5 l6 l7 l8 l9 l11 s = some q → gG m b φ0 σo lI q (k12 192 l1' l2' l3' l4' l5' l6' l7' l8' l9' l11' h)) {φ : Nat → Nat} {h : eH} {s : fS} {l1' : Nat} {l1 : Nat} {l2' : Int32} {l2 : Int} {l3' : Int32} {l3 : Int} {l4' : Int32} {l4 : Int} {l5' : Int32} {l5 : Int} {l6' : Int32} {l6 : Int} {l7' : Int32} {l7 : Int} {l8' : Int32} {l8 : Int} {l9' : Int64} {l9 : Int} {l11' : Int32} {l11 : Int} {l13' : Int32} {l13 : Int} (R : fC m b φ0 σo φ h s) (el1 : l1' = φ l1) (al1 : s.t l1 < 128) (el2 : l2' = iI l2) (rl2 : r32 l2) (el3 : l3' = iI l3) (rl3 : r32 l3) (el4 : l4' = iI l4) (rl4 : r32 l4) (el5 : l5' = iI l5) (rl5 : r32 l5) (el6 : l6' = iI l6) (rl6 : r32 l6) (el7 : l7' = iI l7) (rl7 : r32 l7) (el8 : l8' = iI l8) (rl8 : r32 l8) (el9 : l9' = iJ l9) (rl9 : r64 l9) (el11 : l11' = iI l11) (rl11 : r32 l11) (el13 : l13' = iI l13) (rl13 : r32 l13) (hF : FX35_pack_b123 N K12 l1 l2 l3 l4 l5 l6 l7 l8 l9 l11 l13 s = some q) : gG m b φ0 σo lI q (fX35_pack_b123 N k12 192 l1' l2' l3' l4' l5' l6' l7' l8' l9' l11' l13' h) := by
  subst el2; subst el3; subst el4; subst el5; subst el6; subst el7; subst el8; subst el9; subst el11; subst el13
  unfold FX35_pack_b123 at hF
  unfold fX35_pack_b123
  exact SX35_pack_b125 (N := N) (k12 := k12) (K12 := K12) hm @hk12 R el1 al1 rfl rl2 rfl rl3 rfl rl4 rfl rl5 rfl rl6 rfl rl7 rfl rl9 rfl rl11 rfl rl13 rfl rl8 hF
def FX35_pack_b80 (N : Nat) (K12 : Nat → Int → Int → Int → Int → Int → Int → Int → Int → Int → fS → Option (Int × fS)) (l1 : Nat) (l2 : Int) (l3 : Int) (l4 : Int) (l5 : Int) (l6 : Int) (l7 : Int) (l8 : Int) (l9 : Int) (l11 : Int) (s0 : Int) (s : fS) : Option (Int × fS) :=
  if s0 = 0 then
    FX35_pack_b123 N K12 l1 l2 l3 l4 l5 l6 l7 l8 l9 l11 s0 s
  else
    (uKA 100 s l1).bind fun _ =>
    (uRI s l1 (iadd (imul 6 l11) 1)).bind fun x4 =>
    (uRI s 302 x4).bind fun x6 =>
    if x6 ≤ l8 then
      FX35_pack_b123 N K12 l1 l2 l3 l4 l5 l6 l7 l8 l9 l11 s0 s
    else
      (uKA 100 s l1).bind fun _ =>
      (uRI s l1 (iadd (imul 6 l11) 1)).bind fun x11 =>
      (uRI s 302 x11).bind fun x13 =>
      FX35_pack_b125 N K12 l1 l2 l3 l4 l5 l6 l7 l9 l11 s0 x13 s
theorem SX35_pack_b80 {m b : Nat} {φ0 : Nat → Nat} {σo : fS} (hm : 1 ≤ m) {N : Nat} {k12 : Nat → Nat → Int32 → Int32 → Int32 → Int32 → Int32 → Int32 → Int32 → Int64 → Int32 → eH → Option (Int32 × eH)} {K12 : Nat → Int → Int → Int → Int → Int → Int → Int → Int → Int → fS → Option (Int × fS)} {q : Int × fS} (hk12 : ∀ {φ : Nat → Nat} {h : eH} {s : fS} {l1' : Nat} {l1 : Nat} {l2' : Int32} {l2 : Int} {l3' : Int32} {l3 : Int} {l4' : Int32} {l4 : Int} {l5' : Int32} {l5 : Int} {l6' : Int32} {l6 : Int} {l7' : Int32} {l7 : Int} {l8' : Int32} {l8 : Int} {l9' : Int64} {l9 : Int} {l11' : Int32} {l11 : Int}, fC m b φ0 σo φ h s → l1' = φ l1 → s.t l1 < 128 → l2' = iI l2 → r32 l2 → l3' = iI l3 → r32 l3 → l4' = iI l4 → r32 l4 → l5' = iI l5 → r32 l5 → l6' = iI l6 → r32 l6 → l7' = iI l7 → r32 l7 → l8' = iI l8 → r32 l8 → l9' = iJ l9 → r64 l9 → l11' = iI l11 → r32 l11 → K12 l1 l2 l3 l4 l5 l6 l7 l8 l9 l11 s = some q → gG m b φ0 σo lI q (k12 192 l1' l2' l3' l4' l5' l6' l7' l8' l9' l11' h)) {φ : Nat → Nat} {h : eH} {s : fS} {l1' : Nat} {l1 : Nat} {l2' : Int32} {l2 : Int} {l3' : Int32} {l3 : Int} {l4' : Int32} {l4 : Int} {l5' : Int32} {l5 : Int} {l6' : Int32} {l6 : Int} {l7' : Int32} {l7 : Int} {l8' : Int32} {l8 : Int} {l9' : Int64} {l9 : Int} {l11' : Int32} {l11 : Int} {s0' : Int32} {s0 : Int} (R : fC m b φ0 σo φ h s) (el1 : l1' = φ l1) (al1 : s.t l1 < 128) (el2 : l2' = iI l2) (rl2 : r32 l2) (el3 : l3' = iI l3) (rl3 : r32 l3) (el4 : l4' = iI l4) (rl4 : r32 l4) (el5 : l5' = iI l5) (rl5 : r32 l5) (el6 : l6' = iI l6) (rl6 : r32 l6) (el7 : l7' = iI l7) (rl7 : r32 l7) (el8 : l8' = iI l8) (rl8 : r32 l8) (el9 : l9' = iJ l9) (rl9 : r64 l9) (el11 : l11' = iI l11) (rl11 : r32 l11) (es0 : s0' = iI s0) (rs0 : r32 s0) (hF : FX35_pack_b80 N K12 l1 l2 l3 l4 l5 l6 l7 l8 l9 l11 s0 s = some q) : gG m b φ0 σo lI q (fX35_pack_b80 N k12 192 l1' l2' l3' l4' l5' l6' l7' l8' l9' l11' s0' h) := by
  subst el2; subst el3; subst el4; subst el5; subst el6; subst el7; subst el8; subst el9; subst el11; subst es0
  unfold FX35_pack_b80 at hF
  unfold fX35_pack_b80
  refine s_if (i_eq rfl (c_lit 0 0 rfl) rs0 ⟨by decide, by decide⟩) hF (fun c1 hF => ?_) (fun c1 hF => ?_)
  ·
    exact SX35_pack_b123 (N := N) (k12 := k12) (K12 := K12) hm @hk12 R el1 al1 rfl rl2 rfl rl3 rfl rl4 rfl rl5 rfl rl6 rfl rl7 rfl rl8 rfl rl9 rfl rl11 rfl rs0 hF
  ·
    refine s_gAs R (t_192 hm R.S) (Nat.le_of_ble_eq_true rfl) rfl (o_192_75 hm R.S) (a_302 hm R) ?_
    refine s_KA hF (fun y4 z4 hF => ?_)
    refine s_rI R y4 z4 (by decide) el1 (c_add (c_mul (c_lit 6 6 rfl) rfl) (c_lit 1 1 rfl)) (rr_I _) hF (fun x4 ra3 hF => ?_)
    refine s_rI R (u_302 hm R.S).1 (u_302 hm R.S).2 (by decide) (a_302 hm R) rfl ra3 hF (fun x6 ra5 hF => ?_)
    refine s_if (i_le rfl rfl ra5 rl8) hF (fun c6 hF => ?_) (fun c6 hF => ?_)
    ·
      exact SX35_pack_b123 (N := N) (k12 := k12) (K12 := K12) hm @hk12 R el1 y4 rfl rl2 rfl rl3 rfl rl4 rfl rl5 rfl rl6 rfl rl7 rfl rl8 rfl rl9 rfl rl11 rfl rs0 hF
    ·
      refine s_gAs R (t_192 hm R.S) (Nat.le_of_ble_eq_true rfl) rfl (o_192_75 hm R.S) (a_302 hm R) ?_
      refine s_KA hF (fun y9 z9 hF => ?_)
      refine s_rI R y9 z9 (by decide) el1 (c_add (c_mul (c_lit 6 6 rfl) rfl) (c_lit 1 1 rfl)) (rr_I _) hF (fun x11 ra8 hF => ?_)
      refine s_rI R (u_302 hm R.S).1 (u_302 hm R.S).2 (by decide) (a_302 hm R) rfl ra8 hF (fun x13 ra10 hF => ?_)
      exact SX35_pack_b125 (N := N) (k12 := k12) (K12 := K12) hm @hk12 R el1 y9 rfl rl2 rfl rl3 rfl rl4 rfl rl5 rfl rl6 rfl rl7 rfl rl9 rfl rl11 rfl rs0 rfl ra10 hF
def FX35_pack_b62 (N : Nat) (K12 : Nat → Int → Int → Int → Int → Int → Int → Int → Int → Int → fS → Option (Int × fS)) (l1 : Nat) (l2 : Int) (l3 : Int) (l4 : Int) (l5 : Int) (l6 : Int) (l8 : Int) (l9 : Int) (l11 : Int) (s0 : Int) (s : fS) : Option (Int × fS) :=
  (uKA 100 s l1).bind fun _ =>
  (uRI s l1 (imul 6 l11)).bind fun x1 =>
  if ¬ (x1 = 5) then
    FX35_pack_b80 N K12 l1 l2 l3 l4 l5 l6 s0 l8 l9 l11 0 s
  else
    FX35_pack_b80 N K12 l1 l2 l3 l4 l5 l6 s0 l8 l9 l11 1 s
theorem SX35_pack_b62 {m b : Nat} {φ0 : Nat → Nat} {σo : fS} (hm : 1 ≤ m) {N : Nat} {k12 : Nat → Nat → Int32 → Int32 → Int32 → Int32 → Int32 → Int32 → Int32 → Int64 → Int32 → eH → Option (Int32 × eH)} {K12 : Nat → Int → Int → Int → Int → Int → Int → Int → Int → Int → fS → Option (Int × fS)} {q : Int × fS} (hk12 : ∀ {φ : Nat → Nat} {h : eH} {s : fS} {l1' : Nat} {l1 : Nat} {l2' : Int32} {l2 : Int} {l3' : Int32} {l3 : Int} {l4' : Int32} {l4 : Int} {l5' : Int32} {l5 : Int} {l6' : Int32} {l6 : Int} {l7' : Int32} {l7 : Int} {l8' : Int32} {l8 : Int} {l9' : Int64} {l9 : Int} {l11' : Int32} {l11 : Int}, fC m b φ0 σo φ h s → l1' = φ l1 → s.t l1 < 128 → l2' = iI l2 → r32 l2 → l3' = iI l3 → r32 l3 → l4' = iI l4 → r32 l4 → l5' = iI l5 → r32 l5 → l6' = iI l6 → r32 l6 → l7' = iI l7 → r32 l7 → l8' = iI l8 → r32 l8 → l9' = iJ l9 → r64 l9 → l11' = iI l11 → r32 l11 → K12 l1 l2 l3 l4 l5 l6 l7 l8 l9 l11 s = some q → gG m b φ0 σo lI q (k12 192 l1' l2' l3' l4' l5' l6' l7' l8' l9' l11' h)) {φ : Nat → Nat} {h : eH} {s : fS} {l1' : Nat} {l1 : Nat} {l2' : Int32} {l2 : Int} {l3' : Int32} {l3 : Int} {l4' : Int32} {l4 : Int} {l5' : Int32} {l5 : Int} {l6' : Int32} {l6 : Int} {l8' : Int32} {l8 : Int} {l9' : Int64} {l9 : Int} {l11' : Int32} {l11 : Int} {s0' : Int32} {s0 : Int} (R : fC m b φ0 σo φ h s) (el1 : l1' = φ l1) (al1 : s.t l1 < 128) (el2 : l2' = iI l2) (rl2 : r32 l2) (el3 : l3' = iI l3) (rl3 : r32 l3) (el4 : l4' = iI l4) (rl4 : r32 l4) (el5 : l5' = iI l5) (rl5 : r32 l5) (el6 : l6' = iI l6) (rl6 : r32 l6) (el8 : l8' = iI l8) (rl8 : r32 l8) (el9 : l9' = iJ l9) (rl9 : r64 l9) (el11 : l11' = iI l11) (rl11 : r32 l11) (es0 : s0' = iI s0) (rs0 : r32 s0) (hF : FX35_pack_b62 N K12 l1 l2 l3 l4 l5 l6 l8 l9 l11 s0 s = some q) : gG m b φ0 σo lI q (fX35_pack_b62 N k12 192 l1' l2' l3' l4' l5' l6' l8' l9' l11' s0' h) := by
  subst el2; subst el3; subst el4; subst el5; subst el6; subst el8; subst el9; subst el11; subst es0
  unfold FX35_pack_b62 at hF
  unfold fX35_pack_b62
  refine s_KA hF (fun y2 z2 hF => ?_)
  refine s_rI R y2 z2 (by decide) el1 (c_mul (c_lit 6 6 rfl) rfl) (rr_I _) hF (fun x1 ra1 hF => ?_)
  refine s_if (not_congr (i_eq rfl (c_lit 5 5 rfl) ra1 ⟨by decide, by decide⟩)) hF (fun c3 hF => ?_) (fun c3 hF => ?_)
  ·
    exact SX35_pack_b80 (N := N) (k12 := k12) (K12 := K12) hm @hk12 R el1 y2 rfl rl2 rfl rl3 rfl rl4 rfl rl5 rfl rl6 rfl rs0 rfl rl8 rfl rl9 rfl rl11 (c_lit 0 0 rfl) ⟨by decide, by decide⟩ hF
  ·
    exact SX35_pack_b80 (N := N) (k12 := k12) (K12 := K12) hm @hk12 R el1 y2 rfl rl2 rfl rl3 rfl rl4 rfl rl5 rfl rl6 rfl rs0 rfl rl8 rfl rl9 rfl rl11 (c_lit 1 1 rfl) ⟨by decide, by decide⟩ hF
def FX35_pack_b46 (N : Nat) (K12 : Nat → Int → Int → Int → Int → Int → Int → Int → Int → Int → fS → Option (Int × fS)) (l1 : Nat) (l2 : Int) (l3 : Int) (l4 : Int) (l5 : Int) (l6 : Int) (l7 : Int) (l8 : Int) (l9 : Int) (l11 : Int) (s0 : Int) (s : fS) : Option (Int × fS) :=
  if s0 = 0 then
    FX35_pack_b62 N K12 l1 l2 l3 l4 l5 l6 l8 l9 l11 l7 s
  else
    FX35_pack_b62 N K12 l1 l2 l3 l4 l5 l6 l8 l9 l11 (iadd l7 1) s
theorem SX35_pack_b46 {m b : Nat} {φ0 : Nat → Nat} {σo : fS} (hm : 1 ≤ m) {N : Nat} {k12 : Nat → Nat → Int32 → Int32 → Int32 → Int32 → Int32 → Int32 → Int32 → Int64 → Int32 → eH → Option (Int32 × eH)} {K12 : Nat → Int → Int → Int → Int → Int → Int → Int → Int → Int → fS → Option (Int × fS)} {q : Int × fS} (hk12 : ∀ {φ : Nat → Nat} {h : eH} {s : fS} {l1' : Nat} {l1 : Nat} {l2' : Int32} {l2 : Int} {l3' : Int32} {l3 : Int} {l4' : Int32} {l4 : Int} {l5' : Int32} {l5 : Int} {l6' : Int32} {l6 : Int} {l7' : Int32} {l7 : Int} {l8' : Int32} {l8 : Int} {l9' : Int64} {l9 : Int} {l11' : Int32} {l11 : Int}, fC m b φ0 σo φ h s → l1' = φ l1 → s.t l1 < 128 → l2' = iI l2 → r32 l2 → l3' = iI l3 → r32 l3 → l4' = iI l4 → r32 l4 → l5' = iI l5 → r32 l5 → l6' = iI l6 → r32 l6 → l7' = iI l7 → r32 l7 → l8' = iI l8 → r32 l8 → l9' = iJ l9 → r64 l9 → l11' = iI l11 → r32 l11 → K12 l1 l2 l3 l4 l5 l6 l7 l8 l9 l11 s = some q → gG m b φ0 σo lI q (k12 192 l1' l2' l3' l4' l5' l6' l7' l8' l9' l11' h)) {φ : Nat → Nat} {h : eH} {s : fS} {l1' : Nat} {l1 : Nat} {l2' : Int32} {l2 : Int} {l3' : Int32} {l3 : Int} {l4' : Int32} {l4 : Int} {l5' : Int32} {l5 : Int} {l6' : Int32} {l6 : Int} {l7' : Int32} {l7 : Int} {l8' : Int32} {l8 : Int} {l9' : Int64} {l9 : Int} {l11' : Int32} {l11 : Int} {s0' : Int32} {s0 : Int} (R : fC m b φ0 σo φ h s) (el1 : l1' = φ l1) (al1 : s.t l1 < 128) (el2 : l2' = iI l2) (rl2 : r32 l2) (el3 : l3' = iI l3) (rl3 : r32 l3) (el4 : l4' = iI l4) (rl4 : r32 l4) (el5 : l5' = iI l5) (rl5 : r32 l5) (el6 : l6' = iI l6) (rl6 : r32 l6) (el7 : l7' = iI l7) (rl7 : r32 l7) (el8 : l8' = iI l8) (rl8 : r32 l8) (el9 : l9' = iJ l9) (rl9 : r64 l9) (el11 : l11' = iI l11) (rl11 : r32 l11) (es0 : s0' = iI s0) (rs0 : r32 s0) (hF : FX35_pack_b46 N K12 l1 l2 l3 l4 l5 l6 l7 l8 l9 l11 s0 s = some q) : gG m b φ0 σo lI q (fX35_pack_b46 N k12 192 l1' l2' l3' l4' l5' l6' l7' l8' l9' l11' s0' h) := by
  subst el2; subst el3; subst el4; subst el5; subst el6; subst el7; subst el8; subst el9; subst el11; subst es0
  unfold FX35_pack_b46 at hF
  unfold fX35_pack_b46
  refine s_if (i_eq rfl (c_lit 0 0 rfl) rs0 ⟨by decide, by decide⟩) hF (fun c1 hF => ?_) (fun c1 hF => ?_)
  ·
    exact SX35_pack_b62 (N := N) (k12 := k12) (K12 := K12) hm @hk12 R el1 al1 rfl rl2 rfl rl3 rfl rl4 rfl rl5 rfl rl6 rfl rl8 rfl rl9 rfl rl11 rfl rl7 hF
  ·
    exact SX35_pack_b62 (N := N) (k12 := k12) (K12 := K12) hm @hk12 R el1 al1 rfl rl2 rfl rl3 rfl rl4 rfl rl5 rfl rl6 rfl rl8 rfl rl9 rfl rl11 (c_add rfl (c_lit 1 1 rfl)) (rr_I _) hF
def FX35_pack_b45 (N : Nat) (K12 : Nat → Int → Int → Int → Int → Int → Int → Int → Int → Int → fS → Option (Int × fS)) (l1 : Nat) (l2 : Int) (l3 : Int) (l4 : Int) (l5 : Int) (l6 : Int) (l7 : Int) (l8 : Int) (l9 : Int) (l11 : Int) (s : fS) : Option (Int × fS) :=
  FX35_pack_b46 N K12 l1 l2 l3 l4 l5 l6 l7 l8 l9 l11 0 s
theorem SX35_pack_b45 {m b : Nat} {φ0 : Nat → Nat} {σo : fS} (hm : 1 ≤ m) {N : Nat} {k12 : Nat → Nat → Int32 → Int32 → Int32 → Int32 → Int32 → Int32 → Int32 → Int64 → Int32 → eH → Option (Int32 × eH)} {K12 : Nat → Int → Int → Int → Int → Int → Int → Int → Int → Int → fS → Option (Int × fS)} {q : Int × fS} (hk12 : ∀ {φ : Nat → Nat} {h : eH} {s : fS} {l1' : Nat} {l1 : Nat} {l2' : Int32} {l2 : Int} {l3' : Int32} {l3 : Int} {l4' : Int32} {l4 : Int} {l5' : Int32} {l5 : Int} {l6' : Int32} {l6 : Int} {l7' : Int32} {l7 : Int} {l8' : Int32} {l8 : Int} {l9' : Int64} {l9 : Int} {l11' : Int32} {l11 : Int}, fC m b φ0 σo φ h s → l1' = φ l1 → s.t l1 < 128 → l2' = iI l2 → r32 l2 → l3' = iI l3 → r32 l3 → l4' = iI l4 → r32 l4 → l5' = iI l5 → r32 l5 → l6' = iI l6 → r32 l6 → l7' = iI l7 → r32 l7 → l8' = iI l8 → r32 l8 → l9' = iJ l9 → r64 l9 → l11' = iI l11 → r32 l11 → K12 l1 l2 l3 l4 l5 l6 l7 l8 l9 l11 s = some q → gG m b φ0 σo lI q (k12 192 l1' l2' l3' l4' l5' l6' l7' l8' l9' l11' h)) {φ : Nat → Nat} {h : eH} {s : fS} {l1' : Nat} {l1 : Nat} {l2' : Int32} {l2 : Int} {l3' : Int32} {l3 : Int} {l4' : Int32} {l4 : Int} {l5' : Int32} {l5 : Int} {l6' : Int32} {l6 : Int} {l7' : Int32} {l7 : Int} {l8' : Int32} {l8 : Int} {l9' : Int64} {l9 : Int} {l11' : Int32} {l11 : Int} (R : fC m b φ0 σo φ h s) (el1 : l1' = φ l1) (al1 : s.t l1 < 128) (el2 : l2' = iI l2) (rl2 : r32 l2) (el3 : l3' = iI l3) (rl3 : r32 l3) (el4 : l4' = iI l4) (rl4 : r32 l4) (el5 : l5' = iI l5) (rl5 : r32 l5) (el6 : l6' = iI l6) (rl6 : r32 l6) (el7 : l7' = iI l7) (rl7 : r32 l7) (el8 : l8' = iI l8) (rl8 : r32 l8) (el9 : l9' = iJ l9) (rl9 : r64 l9) (el11 : l11' = iI l11) (rl11 : r32 l11) (hF : FX35_pack_b45 N K12 l1 l2 l3 l4 l5 l6 l7 l8 l9 l11 s = some q) : gG m b φ0 σo lI q (fX35_pack_b45 N k12 192 l1' l2' l3' l4' l5' l6' l7' l8' l9' l11' h) := by
  subst el2; subst el3; subst el4; subst el5; subst el6; subst el7; subst el8; subst el9; subst el11
  unfold FX35_pack_b45 at hF
  unfold fX35_pack_b45
  exact SX35_pack_b46 (N := N) (k12 := k12) (K12 := K12) hm @hk12 R el1 al1 rfl rl2 rfl rl3 rfl rl4 rfl rl5 rfl rl6 rfl rl7 rfl rl8 rfl rl9 rfl rl11 (c_lit 0 0 rfl) ⟨by decide, by decide⟩ hF
def FX35_pack_b198 (N : Nat) (s : fS) : Option (Int × fS) :=
  (FX35_fail 2 s).bind fun q2 =>
  some ((-1), q2.2)
theorem SX35_pack_b198 {m b : Nat} {φ0 : Nat → Nat} {σo : fS} (hm : 1 ≤ m) {N : Nat} {q : Int × fS} {φ : Nat → Nat} {h : eH} {s : fS} (R : fC m b φ0 σo φ h s) (hF : FX35_pack_b198 N s = some q) : gG m b φ0 σo lI q (fX35_pack_b198 N 192 h) := by
  unfold FX35_pack_b198 at hF
  unfold fX35_pack_b198
  refine s_kok R (t_192 hm R.S) (Nat.le_of_ble_eq_true rfl) ?_
  refine s_call R (Nat.zero_le _) (fun _ hq => SX35_fail (b := 0) hm (R.rf) (c_lit 2 2 rfl) ⟨by decide, by decide⟩ hq) hF (fun f2 rv2 h2 q2 R2 e2 E2 hF => ?_)
  exact g_ret R2 hF ⟨(c_lit (-1) (-1) rfl), ⟨by decide, by decide⟩⟩
def FX35_pack_b306 (N : Nat) (K223 : Nat → Int → Int → Int → Int → Int → Int → Int → Int → Int → fS → Option (Int × fS)) (l1 : Nat) (l3 : Int) (l4 : Int) (l5 : Int) (l6 : Int) (l7 : Int) (l8 : Int) (l9 : Int) (l11 : Int) (l12 : Int) (s : fS) : Option (Int × fS) :=
  K223 l1 l3 l4 l5 l6 l7 l8 l9 l11 (iadd l12 1) s
theorem SX35_pack_b306 {m b : Nat} {φ0 : Nat → Nat} {σo : fS} (hm : 1 ≤ m) {N : Nat} {k223 : Nat → Nat → Int32 → Int32 → Int32 → Int32 → Int32 → Int32 → Int64 → Int32 → Int32 → eH → Option (Int32 × eH)} {K223 : Nat → Int → Int → Int → Int → Int → Int → Int → Int → Int → fS → Option (Int × fS)} {q : Int × fS} (hk223 : ∀ {φ : Nat → Nat} {h : eH} {s : fS} {l1' : Nat} {l1 : Nat} {l3' : Int32} {l3 : Int} {l4' : Int32} {l4 : Int} {l5' : Int32} {l5 : Int} {l6' : Int32} {l6 : Int} {l7' : Int32} {l7 : Int} {l8' : Int32} {l8 : Int} {l9' : Int64} {l9 : Int} {l11' : Int32} {l11 : Int} {l12' : Int32} {l12 : Int}, fC m b φ0 σo φ h s → l1' = φ l1 → s.t l1 < 128 → l3' = iI l3 → r32 l3 → l4' = iI l4 → r32 l4 → l5' = iI l5 → r32 l5 → l6' = iI l6 → r32 l6 → l7' = iI l7 → r32 l7 → l8' = iI l8 → r32 l8 → l9' = iJ l9 → r64 l9 → l11' = iI l11 → r32 l11 → l12' = iI l12 → r32 l12 → K223 l1 l3 l4 l5 l6 l7 l8 l9 l11 l12 s = some q → gG m b φ0 σo lI q (k223 192 l1' l3' l4' l5' l6' l7' l8' l9' l11' l12' h)) {φ : Nat → Nat} {h : eH} {s : fS} {l1' : Nat} {l1 : Nat} {l3' : Int32} {l3 : Int} {l4' : Int32} {l4 : Int} {l5' : Int32} {l5 : Int} {l6' : Int32} {l6 : Int} {l7' : Int32} {l7 : Int} {l8' : Int32} {l8 : Int} {l9' : Int64} {l9 : Int} {l11' : Int32} {l11 : Int} {l12' : Int32} {l12 : Int} (R : fC m b φ0 σo φ h s) (el1 : l1' = φ l1) (al1 : s.t l1 < 128) (el3 : l3' = iI l3) (rl3 : r32 l3) (el4 : l4' = iI l4) (rl4 : r32 l4) (el5 : l5' = iI l5) (rl5 : r32 l5) (el6 : l6' = iI l6) (rl6 : r32 l6) (el7 : l7' = iI l7) (rl7 : r32 l7) (el8 : l8' = iI l8) (rl8 : r32 l8) (el9 : l9' = iJ l9) (rl9 : r64 l9) (el11 : l11' = iI l11) (rl11 : r32 l11) (el12 : l12' = iI l12) (rl12 : r32 l12) (hF : FX35_pack_b306 N K223 l1 l3 l4 l5 l6 l7 l8 l9 l11 l12 s = some q) : gG m b φ0 σo lI q (fX35_pack_b306 N k223 192 l1' l3' l4' l5' l6' l7' l8' l9' l11' l12' h) := by
  subst el3; subst el4; subst el5; subst el6; subst el7; subst el8; subst el9; subst el11; subst el12
  unfold FX35_pack_b306 at hF
  unfold fX35_pack_b306
  exact hk223 R el1 al1 rfl rl3 rfl rl4 rfl rl5 rfl rl6 rfl rl7 rfl rl8 rfl rl9 rfl rl11 (c_add rfl (c_lit 1 1 rfl)) (rr_I _) hF
def FX35_pack_b267 (N : Nat) (K223 : Nat → Int → Int → Int → Int → Int → Int → Int → Int → Int → fS → Option (Int × fS)) : Nat → Nat → Int → Int → Int → Int → Int → Int → Int → Int → Int → Int → fS → Option (Int × fS)
  | 0, _, _, _, _, _, _, _, _, _, _, _, _ => none
  | n + 1, l1, l3, l4, l5, l6, l7, l8, l9, l11, l12, l13, s =>
    if 6 ≤ l13 then
      FX35_pack_b306 N K223 l1 l3 l4 l5 l6 l7 l8 l9 (iadd l11 1) l12 s
    else
      (uKA 100 s l1).bind fun _ =>
      (uRI s l1 (iadd (imul 6 l12) l13)).bind fun x4 =>
      (uQI s 304 (iadd (imul 6 l11) l13) x4).bind fun σ6 =>
      FX35_pack_b267 N K223 n l1 l3 l4 l5 l6 l7 l8 l9 l11 l12 (iadd l13 1) σ6
theorem SX35_pack_b267 {m b : Nat} {φ0 : Nat → Nat} {σo : fS} (hm : 1 ≤ m) {N : Nat} {k223 : Nat → Nat → Int32 → Int32 → Int32 → Int32 → Int32 → Int32 → Int64 → Int32 → Int32 → eH → Option (Int32 × eH)} {K223 : Nat → Int → Int → Int → Int → Int → Int → Int → Int → Int → fS → Option (Int × fS)} {q : Int × fS} (hk223 : ∀ {φ : Nat → Nat} {h : eH} {s : fS} {l1' : Nat} {l1 : Nat} {l3' : Int32} {l3 : Int} {l4' : Int32} {l4 : Int} {l5' : Int32} {l5 : Int} {l6' : Int32} {l6 : Int} {l7' : Int32} {l7 : Int} {l8' : Int32} {l8 : Int} {l9' : Int64} {l9 : Int} {l11' : Int32} {l11 : Int} {l12' : Int32} {l12 : Int}, fC m b φ0 σo φ h s → l1' = φ l1 → s.t l1 < 128 → l3' = iI l3 → r32 l3 → l4' = iI l4 → r32 l4 → l5' = iI l5 → r32 l5 → l6' = iI l6 → r32 l6 → l7' = iI l7 → r32 l7 → l8' = iI l8 → r32 l8 → l9' = iJ l9 → r64 l9 → l11' = iI l11 → r32 l11 → l12' = iI l12 → r32 l12 → K223 l1 l3 l4 l5 l6 l7 l8 l9 l11 l12 s = some q → gG m b φ0 σo lI q (k223 192 l1' l3' l4' l5' l6' l7' l8' l9' l11' l12' h)) : ∀ {n : Nat} {φ : Nat → Nat} {h : eH} {s : fS} {l1' : Nat} {l1 : Nat} {l3' : Int32} {l3 : Int} {l4' : Int32} {l4 : Int} {l5' : Int32} {l5 : Int} {l6' : Int32} {l6 : Int} {l7' : Int32} {l7 : Int} {l8' : Int32} {l8 : Int} {l9' : Int64} {l9 : Int} {l11' : Int32} {l11 : Int} {l12' : Int32} {l12 : Int} {l13' : Int32} {l13 : Int}, fC m b φ0 σo φ h s → l1' = φ l1 → s.t l1 < 128 → l3' = iI l3 → r32 l3 → l4' = iI l4 → r32 l4 → l5' = iI l5 → r32 l5 → l6' = iI l6 → r32 l6 → l7' = iI l7 → r32 l7 → l8' = iI l8 → r32 l8 → l9' = iJ l9 → r64 l9 → l11' = iI l11 → r32 l11 → l12' = iI l12 → r32 l12 → l13' = iI l13 → r32 l13 → FX35_pack_b267 N K223 n l1 l3 l4 l5 l6 l7 l8 l9 l11 l12 l13 s = some q → gG m b φ0 σo lI q (fX35_pack_b267 N k223 n 192 l1' l3' l4' l5' l6' l7' l8' l9' l11' l12' l13' h) := by
  intro n
  induction n with
 | zero => intro φ h s l1' l1 l3' l3 l4' l4 l5' l5 l6' l6 l7' l7 l8' l8 l9' l9 l11' l11 l12' l12 l13' l13 R el1 al1 el3 rl3 el4 rl4 el5 rl5 el6 rl6 el7 rl7 el8 rl8 el9 rl9 el11 rl11 el12 rl12 el13 rl13 hF; simp [FX35_pack_b267] at hF
  | succ n ih =>
    intro φ h s l1' l1 l3' l3 l4' l4 l5' l5 l6' l6 l7' l7 l8' l8 l9' l9 l11' l11 l12' l12 l13' l13 R el1 al1 el3 rl3 el4 rl4 el5 rl5 el6 rl6 el7 rl7 el8 rl8 el9 rl9 el11 rl11 el12 rl12 el13 rl13 hF
    subst el3; subst el4; subst el5; subst el6; subst el7; subst el8; subst el9; subst el11; subst el12; subst el13
    rw [FX35_pack_b267] at hF
    rw [fX35_pack_b267]
    refine s_if (i_le (c_lit 6 6 rfl) rfl ⟨by decide, by decide⟩ rl13) hF (fun c1 hF => ?_) (fun c1 hF => ?_)
    ·
      exact SX35_pack_b306 (N := N) (k223 := k223) (K223 := K223) hm @hk223 R el1 al1 rfl rl3 rfl rl4 rfl rl5 rfl rl6 rfl rl7 rfl rl8 rfl rl9 (c_add rfl (c_lit 1 1 rfl)) (rr_I _) rfl rl12 hF
    ·
      refine s_gAs R (t_192 hm R.S) (Nat.le_of_ble_eq_true rfl) rfl (o_192_77 hm R.S) (a_304 hm R) ?_
      refine s_KA hF (fun y4 z4 hF => ?_)
      refine s_rI R y4 z4 (by decide) el1 (c_add (c_mul (c_lit 6 6 rfl) rfl) rfl) (rr_I _) hF (fun x4 ra3 hF => ?_)
      refine s_qI R (u_304 hm R.S).1 (u_304 hm R.S).2 (by decide) (a_304 hm R) (c_add (c_mul (c_lit 6 6 rfl) rfl) rfl) (rr_I _) rfl ra3 hF (fun h5 σ6 R5 T5 hF => ?_)
      exact ih R5 el1 (by rw [T5]; exact y4) rfl rl3 rfl rl4 rfl rl5 rfl rl6 rfl rl7 rfl rl8 rfl rl9 rfl rl11 rfl rl12 (c_add rfl (c_lit 1 1 rfl)) (rr_I _) hF
def FX35_pack_b420 (N : Nat) (s : fS) : Option (Int × fS) :=
  (FX35_fail 16 s).bind fun q2 =>
  some ((-1), q2.2)
theorem SX35_pack_b420 {m b : Nat} {φ0 : Nat → Nat} {σo : fS} (hm : 1 ≤ m) {N : Nat} {q : Int × fS} {φ : Nat → Nat} {h : eH} {s : fS} (R : fC m b φ0 σo φ h s) (hF : FX35_pack_b420 N s = some q) : gG m b φ0 σo lI q (fX35_pack_b420 N 192 h) := by
  unfold FX35_pack_b420 at hF
  unfold fX35_pack_b420
  refine s_kok R (t_192 hm R.S) (Nat.le_of_ble_eq_true rfl) ?_
  refine s_call R (Nat.zero_le _) (fun _ hq => SX35_fail (b := 0) hm (R.rf) (c_lit 16 16 rfl) ⟨by decide, by decide⟩ hq) hF (fun f2 rv2 h2 q2 R2 e2 E2 hF => ?_)
  exact g_ret R2 hF ⟨(c_lit (-1) (-1) rfl), ⟨by decide, by decide⟩⟩
def FX35_pack_b566 (N : Nat) (l12 : Int) (l14 : Int) (s1 : Int) (s2 : Int) (s : fS) : Option (Int × fS) :=
  (uQI s 303 s1 (l2i s2)).bind fun σ1 =>
  (FX35_setGlue N l14 l12 σ1).bind fun q4 =>
  some (l14, q4.2)
theorem SX35_pack_b566 {m b : Nat} {φ0 : Nat → Nat} {σo : fS} (hm : 1 ≤ m) {N : Nat} {q : Int × fS} {φ : Nat → Nat} {h : eH} {s : fS} {l12' : Int64} {l12 : Int} {l14' : Int32} {l14 : Int} {s1' : Int32} {s1 : Int} {s2' : Int64} {s2 : Int} (R : fC m b φ0 σo φ h s) (el12 : l12' = iJ l12) (rl12 : r64 l12) (el14 : l14' = iI l14) (rl14 : r32 l14) (es1 : s1' = iI s1) (rs1 : r32 s1) (es2 : s2' = iJ s2) (rs2 : r64 s2) (hF : FX35_pack_b566 N l12 l14 s1 s2 s = some q) : gG m b φ0 σo lI q (fX35_pack_b566 N 192 l12' l14' 303 s1' s2' h) := by
  subst el12; subst el14; subst es1; subst es2
  unfold FX35_pack_b566 at hF
  unfold fX35_pack_b566
  refine s_qI R (u_303 hm R.S).1 (u_303 hm R.S).2 (by decide) (a_303 hm R) rfl rs1 (d_2i rfl) (rr_I _) hF (fun h1 σ1 R1 T1 hF => ?_)
  refine s_kok R1 (t_192 hm R1.S) (Nat.le_of_ble_eq_true rfl) ?_
  refine s_call R1 (Nat.zero_le _) (fun _ hq => SX35_setGlue (b := 0) (N := N) hm (R1.rf) rfl rl14 rfl rl12 hq) hF (fun f3 rv3 h3 q4 R3 e3 E3 hF => ?_)
  exact g_ret R3 hF ⟨rfl, rl14⟩
def FX35_pack_b510 (N : Nat) (l7 : Int) (l8 : Int) (l9 : Int) (l12 : Int) (l14 : Int) (s1 : Int) (s2 : Int) (s : fS) : Option (Int × fS) :=
  (uQI s 296 s1 (l2i s2)).bind fun σ1 =>
  (uQI σ1 297 l14 (l2i (σ1.j 192 82))).bind fun σ7 =>
  (uQI σ7 302 l14 (iadd l8 1)).bind fun σ11 =>
  if (ladd l7 l9) ≤ 1000000 then
    FX35_pack_b566 N l12 l14 l14 (ladd l7 l9) σ11
  else
    FX35_pack_b566 N l12 l14 l14 1000000 σ11
theorem SX35_pack_b510 {m b : Nat} {φ0 : Nat → Nat} {σo : fS} (hm : 1 ≤ m) {N : Nat} {q : Int × fS} {φ : Nat → Nat} {h : eH} {s : fS} {l7' : Int32} {l7 : Int} {l8' : Int32} {l8 : Int} {l9' : Int64} {l9 : Int} {l12' : Int64} {l12 : Int} {l14' : Int32} {l14 : Int} {s1' : Int32} {s1 : Int} {s2' : Int64} {s2 : Int} (R : fC m b φ0 σo φ h s) (el7 : l7' = iI l7) (rl7 : r32 l7) (el8 : l8' = iI l8) (rl8 : r32 l8) (el9 : l9' = iJ l9) (rl9 : r64 l9) (el12 : l12' = iJ l12) (rl12 : r64 l12) (el14 : l14' = iI l14) (rl14 : r32 l14) (es1 : s1' = iI s1) (rs1 : r32 s1) (es2 : s2' = iJ s2) (rs2 : r64 s2) (hF : FX35_pack_b510 N l7 l8 l9 l12 l14 s1 s2 s = some q) : gG m b φ0 σo lI q (fX35_pack_b510 N 192 l7' l8' l9' l12' l14' 296 s1' s2' h) := by
  subst el7; subst el8; subst el9; subst el12; subst el14; subst es1; subst es2
  unfold FX35_pack_b510 at hF
  unfold fX35_pack_b510
  refine s_qI R (u_296 hm R.S).1 (u_296 hm R.S).2 (by decide) (a_296 hm R) rfl rs1 (d_2i rfl) (rr_I _) hF (fun h1 σ1 R1 T1 hF => ?_)
  refine s_gAs R1 (t_192 hm R1.S) (Nat.le_of_ble_eq_true rfl) rfl (o_192_70 hm R1.S) (a_297 hm R1) ?_
  refine s_gJ R1 (t_192 hm R1.S) (Nat.le_of_ble_eq_true rfl) rfl ?_
  refine s_qI R1 (u_297 hm R1.S).1 (u_297 hm R1.S).2 (by decide) (a_297 hm R1) rfl rl14 (d_2i rfl) (rr_I _) hF (fun h4 σ7 R4 T4 hF => ?_)
  refine s_gAs R4 (t_192 hm R4.S) (Nat.le_of_ble_eq_true rfl) rfl (o_192_75 hm R4.S) (a_302 hm R4) ?_
  refine s_qI R4 (u_302 hm R4.S).1 (u_302 hm R4.S).2 (by decide) (a_302 hm R4) rfl rl14 (c_add rfl (c_lit 1 1 rfl)) (rr_I _) hF (fun h6 σ11 R6 T6 hF => ?_)
  refine s_gAs R6 (t_192 hm R6.S) (Nat.le_of_ble_eq_true rfl) rfl (o_192_76 hm R6.S) (a_303 hm R6) ?_
  refine s_if (lg_le.trans (j_le (d_add (c_2l rfl rl7) rfl) (d_lit 1000000 1000000 rfl) (rr_J _) ⟨by decide, by decide⟩)) hF (fun c8 hF => ?_) (fun c8 hF => ?_)
  ·
    exact SX35_pack_b566 (N := N) hm R6 rfl rl12 rfl rl14 rfl rl14 (d_add (c_2l rfl rl7) rfl) (rr_J _) hF
  ·
    exact SX35_pack_b566 (N := N) hm R6 rfl rl12 rfl rl14 rfl rl14 (d_lit 1000000 1000000 rfl) ⟨by decide, by decide⟩ hF
def FX35_pack_b486 (N : Nat) (l4 : Int) (l7 : Int) (l8 : Int) (l9 : Int) (l12 : Int) (l14 : Int) (s1 : Int) (s2 : Int) (s : fS) : Option (Int × fS) :=
  (uQI s 295 s1 (l2i s2)).bind fun σ1 =>
  if l4 = 0 then
    FX35_pack_b510 N l7 l8 l9 l12 l14 l14 (σ1.j 192 81) σ1
  else
    FX35_pack_b510 N l7 l8 l9 l12 l14 l14 (σ1.j 192 79) σ1
theorem SX35_pack_b486 {m b : Nat} {φ0 : Nat → Nat} {σo : fS} (hm : 1 ≤ m) {N : Nat} {q : Int × fS} {φ : Nat → Nat} {h : eH} {s : fS} {l4' : Int32} {l4 : Int} {l7' : Int32} {l7 : Int} {l8' : Int32} {l8 : Int} {l9' : Int64} {l9 : Int} {l12' : Int64} {l12 : Int} {l14' : Int32} {l14 : Int} {s1' : Int32} {s1 : Int} {s2' : Int64} {s2 : Int} (R : fC m b φ0 σo φ h s) (el4 : l4' = iI l4) (rl4 : r32 l4) (el7 : l7' = iI l7) (rl7 : r32 l7) (el8 : l8' = iI l8) (rl8 : r32 l8) (el9 : l9' = iJ l9) (rl9 : r64 l9) (el12 : l12' = iJ l12) (rl12 : r64 l12) (el14 : l14' = iI l14) (rl14 : r32 l14) (es1 : s1' = iI s1) (rs1 : r32 s1) (es2 : s2' = iJ s2) (rs2 : r64 s2) (hF : FX35_pack_b486 N l4 l7 l8 l9 l12 l14 s1 s2 s = some q) : gG m b φ0 σo lI q (fX35_pack_b486 N 192 l4' l7' l8' l9' l12' l14' 295 s1' s2' h) := by
  subst el4; subst el7; subst el8; subst el9; subst el12; subst el14; subst es1; subst es2
  unfold FX35_pack_b486 at hF
  unfold fX35_pack_b486
  refine s_qI R (u_295 hm R.S).1 (u_295 hm R.S).2 (by decide) (a_295 hm R) rfl rs1 (d_2i rfl) (rr_I _) hF (fun h1 σ1 R1 T1 hF => ?_)
  refine s_gAs R1 (t_192 hm R1.S) (Nat.le_of_ble_eq_true rfl) rfl (o_192_69 hm R1.S) (a_296 hm R1) ?_
  refine s_if (i_eq rfl (c_lit 0 0 rfl) rl4 ⟨by decide, by decide⟩) hF (fun c3 hF => ?_) (fun c3 hF => ?_)
  ·
    refine s_gJ R1 (t_192 hm R1.S) (Nat.le_of_ble_eq_true rfl) rfl ?_
    exact SX35_pack_b510 (N := N) hm R1 rfl rl7 rfl rl8 rfl rl9 rfl rl12 rfl rl14 rfl rl14 rfl (R1.rj (t_192 hm R1.S) (Nat.le_of_ble_eq_true rfl) rfl) hF
  ·
    refine s_gJ R1 (t_192 hm R1.S) (Nat.le_of_ble_eq_true rfl) rfl ?_
    exact SX35_pack_b510 (N := N) hm R1 rfl rl7 rfl rl8 rfl rl9 rfl rl12 rfl rl14 rfl rl14 rfl (R1.rj (t_192 hm R1.S) (Nat.le_of_ble_eq_true rfl) rfl) hF
def FX35_pack_b384 (N : Nat) (l4 : Int) (l7 : Int) (l8 : Int) (l9 : Int) (l11 : Int) (l12 : Int) (s1 : Int) (s : fS) : Option (Int × fS) :=
  (uPZ s 192 78 s1).bind fun σ1 =>
  (FX35_grow l12 σ1).bind fun q4 =>
  if (q4.2.i 192 78) = 0 then
    FX35_pack_b420 N q4.2
  else
    (FX35_isSize (q4.2.j 192 82) q4.2).bind fun q10 =>
    if q10.1 = 0 then
      FX35_pack_b420 N q10.2
    else
      (FX35_isSize (q10.2.j 192 81) q10.2).bind fun q14 =>
      if ¬ (q14.1 = 0) then
        (uPI q14.2 192 65 (iadd (q14.2.i 192 65) 1)).bind fun σ20 =>
        (uQI σ20 293 (σ20.i 192 65) l11).bind fun σ26 =>
        (uQI σ26 294 (q14.2.i 192 65) (iand l4 1)).bind fun σ30 =>
        if l4 = 0 then
          FX35_pack_b486 N l4 l7 l8 l9 l12 (q14.2.i 192 65) (q14.2.i 192 65) (σ30.j 192 79) σ30
        else
          FX35_pack_b486 N l4 l7 l8 l9 l12 (q14.2.i 192 65) (q14.2.i 192 65) (σ30.j 192 81) σ30
      else
        FX35_pack_b420 N q14.2
theorem SX35_pack_b384 {m b : Nat} {φ0 : Nat → Nat} {σo : fS} (hm : 1 ≤ m) {N : Nat} {q : Int × fS} {φ : Nat → Nat} {h : eH} {s : fS} {l4' : Int32} {l4 : Int} {l7' : Int32} {l7 : Int} {l8' : Int32} {l8 : Int} {l9' : Int64} {l9 : Int} {l11' : Int32} {l11 : Int} {l12' : Int64} {l12 : Int} {s1' : Int32} {s1 : Int} (R : fC m b φ0 σo φ h s) (el4 : l4' = iI l4) (rl4 : r32 l4) (el7 : l7' = iI l7) (rl7 : r32 l7) (el8 : l8' = iI l8) (rl8 : r32 l8) (el9 : l9' = iJ l9) (rl9 : r64 l9) (el11 : l11' = iI l11) (rl11 : r32 l11) (el12 : l12' = iJ l12) (rl12 : r64 l12) (es1 : s1' = iI s1) (rs1 : r32 s1) (hF : FX35_pack_b384 N l4 l7 l8 l9 l11 l12 s1 s = some q) : gG m b φ0 σo lI q (fX35_pack_b384 N 192 l4' l7' l8' l9' l11' l12' 192 s1' h) := by
  subst el4; subst el7; subst el8; subst el9; subst el11; subst el12; subst es1
  unfold FX35_pack_b384 at hF
  unfold fX35_pack_b384
  refine s_pZ R (t_192 hm R.S) (Nat.le_of_ble_eq_true rfl) rfl rfl rs1 hF (fun h1 σ1 R1 T1 hF => ?_)
  refine s_kok R1 (t_192 hm R1.S) (Nat.le_of_ble_eq_true rfl) ?_
  refine s_call R1 (Nat.zero_le _) (fun _ hq => SX35_grow (b := 0) hm (R1.rf) rfl rl12 hq) hF (fun f3 rv3 h3 q4 R3 e3 E3 hF => ?_)
  refine s_gI R3 (t_192 hm R3.S) (Nat.le_of_ble_eq_true rfl) rfl ?_
  refine s_if (i_eq rfl (c_lit 0 0 rfl) (R3.ri (t_192 hm R3.S) (Nat.le_of_ble_eq_true rfl) rfl) ⟨by decide, by decide⟩) hF (fun c5 hF => ?_) (fun c5 hF => ?_)
  ·
    exact SX35_pack_b420 (N := N) hm R3 hF
  ·
    refine s_gJ R3 (t_192 hm R3.S) (Nat.le_of_ble_eq_true rfl) rfl ?_
    refine s_call R3 (Nat.zero_le _) (fun _ hq => SX35_isSize (b := 0) hm (R3.rf) rfl (R3.rj (t_192 hm R3.S) (Nat.le_of_ble_eq_true rfl) rfl) hq) hF (fun f7 rv7 h7 q10 R7 e7 E7 hF => ?_)
    refine s_if (i_eq e7.1 (c_lit 0 0 rfl) e7.2 ⟨by decide, by decide⟩) hF (fun c8 hF => ?_) (fun c8 hF => ?_)
    ·
      exact SX35_pack_b420 (N := N) hm R7 hF
    ·
      refine s_gJ R7 (t_192 hm R7.S) (Nat.le_of_ble_eq_true rfl) rfl ?_
      refine s_call R7 (Nat.zero_le _) (fun _ hq => SX35_isSize (b := 0) hm (R7.rf) rfl (R7.rj (t_192 hm R7.S) (Nat.le_of_ble_eq_true rfl) rfl) hq) hF (fun f10 rv10 h10 q14 R10 e10 E10 hF => ?_)
      refine s_if (not_congr (i_eq e10.1 (c_lit 0 0 rfl) e10.2 ⟨by decide, by decide⟩)) hF (fun c11 hF => ?_) (fun c11 hF => ?_)
      ·
        refine s_gI R10 (t_192 hm R10.S) (Nat.le_of_ble_eq_true rfl) rfl ?_
        refine s_gI R10 (t_192 hm R10.S) (Nat.le_of_ble_eq_true rfl) rfl ?_
        refine s_pI R10 (t_192 hm R10.S) (Nat.le_of_ble_eq_true rfl) rfl (c_add rfl (c_lit 1 1 rfl)) (rr_I _) hF (fun h14 σ20 R14 T14 hF => ?_)
        refine s_gAs R14 (t_192 hm R14.S) (Nat.le_of_ble_eq_true rfl) rfl (o_192_66 hm R14.S) (a_293 hm R14) ?_
        refine s_gI R14 (t_192 hm R14.S) (Nat.le_of_ble_eq_true rfl) rfl ?_
        refine s_qI R14 (u_293 hm R14.S).1 (u_293 hm R14.S).2 (by decide) (a_293 hm R14) rfl (R14.ri (t_192 hm R14.S) (Nat.le_of_ble_eq_true rfl) rfl) rfl rl11 hF (fun h17 σ26 R17 T17 hF => ?_)
        refine s_gAs R17 (t_192 hm R17.S) (Nat.le_of_ble_eq_true rfl) rfl (o_192_67 hm R17.S) (a_294 hm R17) ?_
        refine s_qI R17 (u_294 hm R17.S).1 (u_294 hm R17.S).2 (by decide) (a_294 hm R17) rfl (R10.ri (t_192 hm R10.S) (Nat.le_of_ble_eq_true rfl) rfl) (c_and rfl (c_lit 1 1 rfl)) (rr_I _) hF (fun h19 σ30 R19 T19 hF => ?_)
        refine s_gAs R19 (t_192 hm R19.S) (Nat.le_of_ble_eq_true rfl) rfl (o_192_68 hm R19.S) (a_295 hm R19) ?_
        refine s_if (i_eq rfl (c_lit 0 0 rfl) rl4 ⟨by decide, by decide⟩) hF (fun c21 hF => ?_) (fun c21 hF => ?_)
        ·
          refine s_gJ R19 (t_192 hm R19.S) (Nat.le_of_ble_eq_true rfl) rfl ?_
          exact SX35_pack_b486 (N := N) hm R19 rfl rl4 rfl rl7 rfl rl8 rfl rl9 rfl rl12 rfl (R10.ri (t_192 hm R10.S) (Nat.le_of_ble_eq_true rfl) rfl) rfl (R10.ri (t_192 hm R10.S) (Nat.le_of_ble_eq_true rfl) rfl) rfl (R19.rj (t_192 hm R19.S) (Nat.le_of_ble_eq_true rfl) rfl) hF
        ·
          refine s_gJ R19 (t_192 hm R19.S) (Nat.le_of_ble_eq_true rfl) rfl ?_
          exact SX35_pack_b486 (N := N) hm R19 rfl rl4 rfl rl7 rfl rl8 rfl rl9 rfl rl12 rfl (R10.ri (t_192 hm R10.S) (Nat.le_of_ble_eq_true rfl) rfl) rfl (R10.ri (t_192 hm R10.S) (Nat.le_of_ble_eq_true rfl) rfl) rfl (R19.rj (t_192 hm R19.S) (Nat.le_of_ble_eq_true rfl) rfl) hF
      ·
        exact SX35_pack_b420 (N := N) hm R10 hF
def FX35_pack_b383 (N : Nat) (l4 : Int) (l7 : Int) (l8 : Int) (l9 : Int) (l11 : Int) (l12 : Int) (s : fS) : Option (Int × fS) :=
  FX35_pack_b384 N l4 l7 l8 l9 l11 l12 0 s
theorem SX35_pack_b383 {m b : Nat} {φ0 : Nat → Nat} {σo : fS} (hm : 1 ≤ m) {N : Nat} {q : Int × fS} {φ : Nat → Nat} {h : eH} {s : fS} {l4' : Int32} {l4 : Int} {l7' : Int32} {l7 : Int} {l8' : Int32} {l8 : Int} {l9' : Int64} {l9 : Int} {l11' : Int32} {l11 : Int} {l12' : Int64} {l12 : Int} (R : fC m b φ0 σo φ h s) (el4 : l4' = iI l4) (rl4 : r32 l4) (el7 : l7' = iI l7) (rl7 : r32 l7) (el8 : l8' = iI l8) (rl8 : r32 l8) (el9 : l9' = iJ l9) (rl9 : r64 l9) (el11 : l11' = iI l11) (rl11 : r32 l11) (el12 : l12' = iJ l12) (rl12 : r64 l12) (hF : FX35_pack_b383 N l4 l7 l8 l9 l11 l12 s = some q) : gG m b φ0 σo lI q (fX35_pack_b383 N 192 l4' l7' l8' l9' l11' l12' 192 h) := by
  subst el4; subst el7; subst el8; subst el9; subst el11; subst el12
  unfold FX35_pack_b383 at hF
  unfold fX35_pack_b383
  exact SX35_pack_b384 (N := N) hm R rfl rl4 rfl rl7 rfl rl8 rfl rl9 rfl rl11 rfl rl12 (c_lit 0 0 rfl) ⟨by decide, by decide⟩ hF
def FX35_pack_b361 (N : Nat) (l4 : Int) (l7 : Int) (l8 : Int) (l9 : Int) (l11 : Int) (s0 : Int) (s : fS) : Option (Int × fS) :=
  if (s.i 192 78) = 0 then
    FX35_pack_b383 N l4 l7 l8 l9 l11 s0 s
  else
    (FX35_isSize s0 s).bind fun q4 =>
    if q4.1 = 0 then
      FX35_pack_b383 N l4 l7 l8 l9 l11 s0 q4.2
    else
      FX35_pack_b384 N l4 l7 l8 l9 l11 s0 1 q4.2
theorem SX35_pack_b361 {m b : Nat} {φ0 : Nat → Nat} {σo : fS} (hm : 1 ≤ m) {N : Nat} {q : Int × fS} {φ : Nat → Nat} {h : eH} {s : fS} {l4' : Int32} {l4 : Int} {l7' : Int32} {l7 : Int} {l8' : Int32} {l8 : Int} {l9' : Int64} {l9 : Int} {l11' : Int32} {l11 : Int} {s0' : Int64} {s0 : Int} (R : fC m b φ0 σo φ h s) (el4 : l4' = iI l4) (rl4 : r32 l4) (el7 : l7' = iI l7) (rl7 : r32 l7) (el8 : l8' = iI l8) (rl8 : r32 l8) (el9 : l9' = iJ l9) (rl9 : r64 l9) (el11 : l11' = iI l11) (rl11 : r32 l11) (es0 : s0' = iJ s0) (rs0 : r64 s0) (hF : FX35_pack_b361 N l4 l7 l8 l9 l11 s0 s = some q) : gG m b φ0 σo lI q (fX35_pack_b361 N 192 l4' l7' l8' l9' l11' s0' h) := by
  subst el4; subst el7; subst el8; subst el9; subst el11; subst es0
  unfold FX35_pack_b361 at hF
  unfold fX35_pack_b361
  refine s_gI R (t_192 hm R.S) (Nat.le_of_ble_eq_true rfl) rfl ?_
  refine s_if (i_eq rfl (c_lit 0 0 rfl) (R.ri (t_192 hm R.S) (Nat.le_of_ble_eq_true rfl) rfl) ⟨by decide, by decide⟩) hF (fun c2 hF => ?_) (fun c2 hF => ?_)
  ·
    exact SX35_pack_b383 (N := N) hm R rfl rl4 rfl rl7 rfl rl8 rfl rl9 rfl rl11 rfl rs0 hF
  ·
    refine s_call R (Nat.zero_le _) (fun _ hq => SX35_isSize (b := 0) hm (R.rf) rfl rs0 hq) hF (fun f3 rv3 h3 q4 R3 e3 E3 hF => ?_)
    refine s_if (i_eq e3.1 (c_lit 0 0 rfl) e3.2 ⟨by decide, by decide⟩) hF (fun c4 hF => ?_) (fun c4 hF => ?_)
    ·
      exact SX35_pack_b383 (N := N) hm R3 rfl rl4 rfl rl7 rfl rl8 rfl rl9 rfl rl11 rfl rs0 hF
    ·
      exact SX35_pack_b384 (N := N) hm R3 rfl rl4 rfl rl7 rfl rl8 rfl rl9 rfl rl11 rfl rs0 (c_lit 1 1 rfl) ⟨by decide, by decide⟩ hF
def FX35_pack_b329 (N : Nat) (l4 : Int) (l5 : Int) (l6 : Int) (l7 : Int) (l8 : Int) (l9 : Int) (l11 : Int) (s1 : Int) (s : fS) : Option (Int × fS) :=
  (uPJ s 192 82 s1).bind fun σ1 =>
  if ¬ (l5 = 0) then
    if ¬ (l5 = 1) then
      FX35_pack_b361 N l4 l7 l8 l9 l11 l6 σ1
    else
      FX35_pack_b361 N l4 l7 l8 l9 l11 (lsub l6 (σ1.j 192 79)) σ1
  else
    FX35_pack_b361 N l4 l7 l8 l9 l11 0 σ1
theorem SX35_pack_b329 {m b : Nat} {φ0 : Nat → Nat} {σo : fS} (hm : 1 ≤ m) {N : Nat} {q : Int × fS} {φ : Nat → Nat} {h : eH} {s : fS} {l4' : Int32} {l4 : Int} {l5' : Int32} {l5 : Int} {l6' : Int32} {l6 : Int} {l7' : Int32} {l7 : Int} {l8' : Int32} {l8 : Int} {l9' : Int64} {l9 : Int} {l11' : Int32} {l11 : Int} {s1' : Int64} {s1 : Int} (R : fC m b φ0 σo φ h s) (el4 : l4' = iI l4) (rl4 : r32 l4) (el5 : l5' = iI l5) (rl5 : r32 l5) (el6 : l6' = iI l6) (rl6 : r32 l6) (el7 : l7' = iI l7) (rl7 : r32 l7) (el8 : l8' = iI l8) (rl8 : r32 l8) (el9 : l9' = iJ l9) (rl9 : r64 l9) (el11 : l11' = iI l11) (rl11 : r32 l11) (es1 : s1' = iJ s1) (rs1 : r64 s1) (hF : FX35_pack_b329 N l4 l5 l6 l7 l8 l9 l11 s1 s = some q) : gG m b φ0 σo lI q (fX35_pack_b329 N 192 l4' l5' l6' l7' l8' l9' l11' 192 s1' h) := by
  subst el4; subst el5; subst el6; subst el7; subst el8; subst el9; subst el11; subst es1
  unfold FX35_pack_b329 at hF
  unfold fX35_pack_b329
  refine s_pJ R (t_192 hm R.S) (Nat.le_of_ble_eq_true rfl) rfl rfl rs1 hF (fun h1 σ1 R1 T1 hF => ?_)
  refine s_if (not_congr (i_eq rfl (c_lit 0 0 rfl) rl5 ⟨by decide, by decide⟩)) hF (fun c2 hF => ?_) (fun c2 hF => ?_)
  ·
    refine s_if (not_congr (i_eq rfl (c_lit 1 1 rfl) rl5 ⟨by decide, by decide⟩)) hF (fun c3 hF => ?_) (fun c3 hF => ?_)
    ·
      exact SX35_pack_b361 (N := N) hm R1 rfl rl4 rfl rl7 rfl rl8 rfl rl9 rfl rl11 (c_2l rfl rl6) (r32.w rl6) hF
    ·
      refine s_gJ R1 (t_192 hm R1.S) (Nat.le_of_ble_eq_true rfl) rfl ?_
      exact SX35_pack_b361 (N := N) hm R1 rfl rl4 rfl rl7 rfl rl8 rfl rl9 rfl rl11 (d_sub (c_2l rfl rl6) rfl) (rr_J _) hF
  ·
    exact SX35_pack_b361 (N := N) hm R1 rfl rl4 rfl rl7 rfl rl8 rfl rl9 rfl rl11 (d_lit 0 0 rfl) ⟨by decide, by decide⟩ hF
def FX35_pack_b223 (N : Nat) : Nat → Nat → Int → Int → Int → Int → Int → Int → Int → Int → Int → fS → Option (Int × fS)
  | 0, _, _, _, _, _, _, _, _, _, _, _ => none
  | n + 1, l1, l3, l4, l5, l6, l7, l8, l9, l11, l12, s =>
    if l3 ≤ l12 then
      if l4 = 0 then
        FX35_pack_b329 N l4 l5 l6 l7 l8 l9 l11 (s.j 192 82) s
      else
        FX35_pack_b329 N l4 l5 l6 l7 l8 l9 l11 (s.j 192 80) s
    else
      (uKA 100 s l1).bind fun _ =>
      (uRI s l1 (imul 6 l12)).bind fun x7 =>
      if x7 = 4 then
        FX35_pack_b306 N (FX35_pack_b223 N n) l1 l3 l4 l5 l6 l7 l8 l9 l11 l12 s
      else
        (uKA 100 s l1).bind fun _ =>
        (uRI s l1 (imul 6 l12)).bind fun x10 =>
        if x10 = 6 then
          FX35_pack_b306 N (FX35_pack_b223 N n) l1 l3 l4 l5 l6 l7 l8 l9 l11 l12 s
        else
          (FX35_add l1 (imul 6 l12) l4 s).bind fun q14 =>
          FX35_pack_b267 N (FX35_pack_b223 N n) N l1 l3 l4 l5 l6 l7 l8 l9 l11 l12 0 q14.2
theorem SX35_pack_b223 {m b : Nat} {φ0 : Nat → Nat} {σo : fS} (hm : 1 ≤ m) {N : Nat} {q : Int × fS} : ∀ {n : Nat} {φ : Nat → Nat} {h : eH} {s : fS} {l1' : Nat} {l1 : Nat} {l3' : Int32} {l3 : Int} {l4' : Int32} {l4 : Int} {l5' : Int32} {l5 : Int} {l6' : Int32} {l6 : Int} {l7' : Int32} {l7 : Int} {l8' : Int32} {l8 : Int} {l9' : Int64} {l9 : Int} {l11' : Int32} {l11 : Int} {l12' : Int32} {l12 : Int}, fC m b φ0 σo φ h s → l1' = φ l1 → s.t l1 < 128 → l3' = iI l3 → r32 l3 → l4' = iI l4 → r32 l4 → l5' = iI l5 → r32 l5 → l6' = iI l6 → r32 l6 → l7' = iI l7 → r32 l7 → l8' = iI l8 → r32 l8 → l9' = iJ l9 → r64 l9 → l11' = iI l11 → r32 l11 → l12' = iI l12 → r32 l12 → FX35_pack_b223 N n l1 l3 l4 l5 l6 l7 l8 l9 l11 l12 s = some q → gG m b φ0 σo lI q (fX35_pack_b223 N n 192 l1' l3' l4' l5' l6' l7' l8' l9' l11' l12' h) := by
  intro n
  induction n with
 | zero => intro φ h s l1' l1 l3' l3 l4' l4 l5' l5 l6' l6 l7' l7 l8' l8 l9' l9 l11' l11 l12' l12 R el1 al1 el3 rl3 el4 rl4 el5 rl5 el6 rl6 el7 rl7 el8 rl8 el9 rl9 el11 rl11 el12 rl12 hF; simp [FX35_pack_b223] at hF
  | succ n ih =>
    intro φ h s l1' l1 l3' l3 l4' l4 l5' l5 l6' l6 l7' l7 l8' l8 l9' l9 l11' l11 l12' l12 R el1 al1 el3 rl3 el4 rl4 el5 rl5 el6 rl6 el7 rl7 el8 rl8 el9 rl9 el11 rl11 el12 rl12 hF
    subst el3; subst el4; subst el5; subst el6; subst el7; subst el8; subst el9; subst el11; subst el12
    rw [FX35_pack_b223] at hF
    rw [fX35_pack_b223]
    refine s_if (i_le rfl rfl rl3 rl12) hF (fun c1 hF => ?_) (fun c1 hF => ?_)
    ·
      refine s_if (i_eq rfl (c_lit 0 0 rfl) rl4 ⟨by decide, by decide⟩) hF (fun c2 hF => ?_) (fun c2 hF => ?_)
      ·
        refine s_gJ R (t_192 hm R.S) (Nat.le_of_ble_eq_true rfl) rfl ?_
        exact SX35_pack_b329 (N := N) hm R rfl rl4 rfl rl5 rfl rl6 rfl rl7 rfl rl8 rfl rl9 rfl rl11 rfl (R.rj (t_192 hm R.S) (Nat.le_of_ble_eq_true rfl) rfl) hF
      ·
        refine s_gJ R (t_192 hm R.S) (Nat.le_of_ble_eq_true rfl) rfl ?_
        exact SX35_pack_b329 (N := N) hm R rfl rl4 rfl rl5 rfl rl6 rfl rl7 rfl rl8 rfl rl9 rfl rl11 rfl (R.rj (t_192 hm R.S) (Nat.le_of_ble_eq_true rfl) rfl) hF
    ·
      refine s_KA hF (fun y6 z6 hF => ?_)
      refine s_rI R y6 z6 (by decide) el1 (c_mul (c_lit 6 6 rfl) rfl) (rr_I _) hF (fun x7 ra5 hF => ?_)
      refine s_if (i_eq rfl (c_lit 4 4 rfl) ra5 ⟨by decide, by decide⟩) hF (fun c7 hF => ?_) (fun c7 hF => ?_)
      ·
        exact SX35_pack_b306 (N := N) (k223 := fX35_pack_b223 N n) (K223 := FX35_pack_b223 N n) hm @ih R el1 y6 rfl rl3 rfl rl4 rfl rl5 rfl rl6 rfl rl7 rfl rl8 rfl rl9 rfl rl11 rfl rl12 hF
      ·
        refine s_KA hF (fun y9 z9 hF => ?_)
        refine s_rI R y9 z9 (by decide) el1 (c_mul (c_lit 6 6 rfl) rfl) (rr_I _) hF (fun x10 ra8 hF => ?_)
        refine s_if (i_eq rfl (c_lit 6 6 rfl) ra8 ⟨by decide, by decide⟩) hF (fun c10 hF => ?_) (fun c10 hF => ?_)
        ·
          exact SX35_pack_b306 (N := N) (k223 := fX35_pack_b223 N n) (K223 := FX35_pack_b223 N n) hm @ih R el1 y9 rfl rl3 rfl rl4 rfl rl5 rfl rl6 rfl rl7 rfl rl8 rfl rl9 rfl rl11 rfl rl12 hF
        ·
          refine s_kok R (t_192 hm R.S) (Nat.le_of_ble_eq_true rfl) ?_
          refine s_call R (Nat.zero_le _) (fun _ hq => SX35_add (b := 0) hm (R.rf) el1 y9 (c_mul (c_lit 6 6 rfl) rfl) (rr_I _) rfl rl4 hq) hF (fun f12 rv12 h12 q14 R12 e12 E12 hF => ?_)
          exact SX35_pack_b267 (N := N) (k223 := fX35_pack_b223 N n) (K223 := FX35_pack_b223 N n) hm @ih R12 (el1.trans (E12.k0 rfl _ y9).1.symm) (by rw [(E12.k0 rfl _ y9).2]; exact y9) rfl rl3 rfl rl4 rfl rl5 rfl rl6 rfl rl7 rfl rl8 rfl rl9 rfl rl11 rfl rl12 (c_lit 0 0 rfl) ⟨by decide, by decide⟩ hF
def FX35_pack_b12 (N : Nat) : Nat → Nat → Int → Int → Int → Int → Int → Int → Int → Int → Int → fS → Option (Int × fS)
  | 0, _, _, _, _, _, _, _, _, _, _, _ => none
  | n + 1, l1, l2, l3, l4, l5, l6, l7, l8, l9, l11, s =>
    if l3 ≤ l11 then
      if (s.i 192 65) = 3000 then
        FX35_pack_b198 N s
      else
        (uRI s 293 (s.i 192 65)).bind fun x9 =>
        if 20000 < (iadd x9 l7) then
          FX35_pack_b198 N s
        else
          if ¬ (l8 = 10) then
            (FX35_nothing N s).bind fun q14 =>
            (uRI q14.2 293 (q14.2.i 192 65)).bind fun x19 =>
            FX35_pack_b223 N N l1 l3 l4 l5 l6 l7 l8 l9 x19 l2 q14.2
          else
            FX35_pack_b198 N s
    else
      (uKA 100 s l1).bind fun _ =>
      (uRI s l1 (imul 6 l11)).bind fun x21 =>
      if x21 = 4 then
        FX35_pack_b45 N (FX35_pack_b12 N n) l1 l2 l3 l4 l5 l6 l7 l8 l9 l11 s
      else
        (uKA 100 s l1).bind fun _ =>
        (uRI s l1 (imul 6 l11)).bind fun x24 =>
        if x24 = 6 then
          FX35_pack_b45 N (FX35_pack_b12 N n) l1 l2 l3 l4 l5 l6 l7 l8 l9 l11 s
        else
          FX35_pack_b46 N (FX35_pack_b12 N n) l1 l2 l3 l4 l5 l6 l7 l8 l9 l11 1 s
theorem SX35_pack_b12 {m b : Nat} {φ0 : Nat → Nat} {σo : fS} (hm : 1 ≤ m) {N : Nat} {q : Int × fS} : ∀ {n : Nat} {φ : Nat → Nat} {h : eH} {s : fS} {l1' : Nat} {l1 : Nat} {l2' : Int32} {l2 : Int} {l3' : Int32} {l3 : Int} {l4' : Int32} {l4 : Int} {l5' : Int32} {l5 : Int} {l6' : Int32} {l6 : Int} {l7' : Int32} {l7 : Int} {l8' : Int32} {l8 : Int} {l9' : Int64} {l9 : Int} {l11' : Int32} {l11 : Int}, fC m b φ0 σo φ h s → l1' = φ l1 → s.t l1 < 128 → l2' = iI l2 → r32 l2 → l3' = iI l3 → r32 l3 → l4' = iI l4 → r32 l4 → l5' = iI l5 → r32 l5 → l6' = iI l6 → r32 l6 → l7' = iI l7 → r32 l7 → l8' = iI l8 → r32 l8 → l9' = iJ l9 → r64 l9 → l11' = iI l11 → r32 l11 → FX35_pack_b12 N n l1 l2 l3 l4 l5 l6 l7 l8 l9 l11 s = some q → gG m b φ0 σo lI q (fX35_pack_b12 N n 192 l1' l2' l3' l4' l5' l6' l7' l8' l9' l11' h) := by
  intro n
  induction n with
 | zero => intro φ h s l1' l1 l2' l2 l3' l3 l4' l4 l5' l5 l6' l6 l7' l7 l8' l8 l9' l9 l11' l11 R el1 al1 el2 rl2 el3 rl3 el4 rl4 el5 rl5 el6 rl6 el7 rl7 el8 rl8 el9 rl9 el11 rl11 hF; simp [FX35_pack_b12] at hF
  | succ n ih =>
    intro φ h s l1' l1 l2' l2 l3' l3 l4' l4 l5' l5 l6' l6 l7' l7 l8' l8 l9' l9 l11' l11 R el1 al1 el2 rl2 el3 rl3 el4 rl4 el5 rl5 el6 rl6 el7 rl7 el8 rl8 el9 rl9 el11 rl11 hF
    subst el2; subst el3; subst el4; subst el5; subst el6; subst el7; subst el8; subst el9; subst el11
    rw [FX35_pack_b12] at hF
    rw [fX35_pack_b12]
    refine s_if (i_le rfl rfl rl3 rl11) hF (fun c1 hF => ?_) (fun c1 hF => ?_)
    ·
      refine s_gI R (t_192 hm R.S) (Nat.le_of_ble_eq_true rfl) rfl ?_
      refine s_if (i_eq rfl (c_lit 3000 3000 rfl) (R.ri (t_192 hm R.S) (Nat.le_of_ble_eq_true rfl) rfl) ⟨by decide, by decide⟩) hF (fun c3 hF => ?_) (fun c3 hF => ?_)
      ·
        exact SX35_pack_b198 (N := N) hm R hF
      ·
        refine s_gAs R (t_192 hm R.S) (Nat.le_of_ble_eq_true rfl) rfl (o_192_66 hm R.S) (a_293 hm R) ?_
        refine s_gI R (t_192 hm R.S) (Nat.le_of_ble_eq_true rfl) rfl ?_
        refine s_rI R (u_293 hm R.S).1 (u_293 hm R.S).2 (by decide) (a_293 hm R) rfl (R.ri (t_192 hm R.S) (Nat.le_of_ble_eq_true rfl) rfl) hF (fun x9 ra6 hF => ?_)
        refine s_if (i_lt (c_lit 20000 20000 rfl) (c_add rfl rfl) ⟨by decide, by decide⟩ (rr_I _)) hF (fun c7 hF => ?_) (fun c7 hF => ?_)
        ·
          exact SX35_pack_b198 (N := N) hm R hF
        ·
          refine s_if (not_congr (i_eq rfl (c_lit 10 10 rfl) rl8 ⟨by decide, by decide⟩)) hF (fun c8 hF => ?_) (fun c8 hF => ?_)
          ·
            refine s_kok R (t_192 hm R.S) (Nat.le_of_ble_eq_true rfl) ?_
            refine s_call R (Nat.zero_le _) (fun _ hq => SX35_nothing (b := 0) (N := N) hm (R.rf) hq) hF (fun f10 rv10 h10 q14 R10 e10 E10 hF => ?_)
            refine s_gAs R10 (t_192 hm R10.S) (Nat.le_of_ble_eq_true rfl) rfl (o_192_66 hm R10.S) (a_293 hm R10) ?_
            refine s_gI R10 (t_192 hm R10.S) (Nat.le_of_ble_eq_true rfl) rfl ?_
            refine s_rI R10 (u_293 hm R10.S).1 (u_293 hm R10.S).2 (by decide) (a_293 hm R10) rfl (R10.ri (t_192 hm R10.S) (Nat.le_of_ble_eq_true rfl) rfl) hF (fun x19 ra13 hF => ?_)
            exact SX35_pack_b223 (N := N) hm R10 (el1.trans (E10.k0 rfl _ al1).1.symm) (by rw [(E10.k0 rfl _ al1).2]; exact al1) rfl rl3 rfl rl4 rfl rl5 rfl rl6 rfl rl7 rfl rl8 rfl rl9 rfl ra13 rfl rl2 hF
          ·
            exact SX35_pack_b198 (N := N) hm R hF
    ·
      refine s_KA hF (fun y15 z15 hF => ?_)
      refine s_rI R y15 z15 (by decide) el1 (c_mul (c_lit 6 6 rfl) rfl) (rr_I _) hF (fun x21 ra14 hF => ?_)
      refine s_if (i_eq rfl (c_lit 4 4 rfl) ra14 ⟨by decide, by decide⟩) hF (fun c16 hF => ?_) (fun c16 hF => ?_)
      ·
        exact SX35_pack_b45 (N := N) (k12 := fX35_pack_b12 N n) (K12 := FX35_pack_b12 N n) hm @ih R el1 y15 rfl rl2 rfl rl3 rfl rl4 rfl rl5 rfl rl6 rfl rl7 rfl rl8 rfl rl9 rfl rl11 hF
      ·
        refine s_KA hF (fun y18 z18 hF => ?_)
        refine s_rI R y18 z18 (by decide) el1 (c_mul (c_lit 6 6 rfl) rfl) (rr_I _) hF (fun x24 ra17 hF => ?_)
        refine s_if (i_eq rfl (c_lit 6 6 rfl) ra17 ⟨by decide, by decide⟩) hF (fun c19 hF => ?_) (fun c19 hF => ?_)
        ·
          exact SX35_pack_b45 (N := N) (k12 := fX35_pack_b12 N n) (K12 := FX35_pack_b12 N n) hm @ih R el1 y18 rfl rl2 rfl rl3 rfl rl4 rfl rl5 rfl rl6 rfl rl7 rfl rl8 rfl rl9 rfl rl11 hF
        ·
          exact SX35_pack_b46 (N := N) (k12 := fX35_pack_b12 N n) (K12 := FX35_pack_b12 N n) hm @ih R el1 y18 rfl rl2 rfl rl3 rfl rl4 rfl rl5 rfl rl6 rfl rl7 rfl rl8 rfl rl9 rfl rl11 (c_lit 1 1 rfl) ⟨by decide, by decide⟩ hF
def FX35_pack (N : Nat) (p0 : Nat) (p1 : Int) (p2 : Int) (p3 : Int) (p4 : Int) (p5 : Int) (s : fS) : Option (Int × fS) :=
  FX35_pack_b12 N N p0 p1 p2 p3 p4 p5 0 0 0 p1 s
theorem SX35_pack {m b : Nat} {φ0 : Nat → Nat} {σo : fS} (hm : 1 ≤ m) {N : Nat} {q : Int × fS} {φ : Nat → Nat} {h : eH} {s : fS} {p0' : Nat} {p0 : Nat} {p1' : Int32} {p1 : Int} {p2' : Int32} {p2 : Int} {p3' : Int32} {p3 : Int} {p4' : Int32} {p4 : Int} {p5' : Int32} {p5 : Int} (R : fC m b φ0 σo φ h s) (ep0 : p0' = φ p0) (ap0 : s.t p0 < 128) (ep1 : p1' = iI p1) (rp1 : r32 p1) (ep2 : p2' = iI p2) (rp2 : r32 p2) (ep3 : p3' = iI p3) (rp3 : r32 p3) (ep4 : p4' = iI p4) (rp4 : r32 p4) (ep5 : p5' = iI p5) (rp5 : r32 p5) (hF : FX35_pack N p0 p1 p2 p3 p4 p5 s = some q) : gG m b φ0 σo lI q (fX35_pack N 192 p0' p1' p2' p3' p4' p5' h) := by
  subst ep1; subst ep2; subst ep3; subst ep4; subst ep5
  unfold FX35_pack at hF
  unfold fX35_pack
  exact SX35_pack_b12 (N := N) hm R ep0 ap0 rfl rp1 rfl rp2 rfl rp3 rfl rp4 rfl rp5 (c_lit 0 0 rfl) ⟨by decide, by decide⟩ (c_lit 0 0 rfl) ⟨by decide, by decide⟩ (d_lit 0 0 rfl) ⟨by decide, by decide⟩ rfl rp1 hF
def FX35_isVertical_b13 (s0 : Int) (s : fS) : Option (Int × fS) :=
  uZ s0 (s0, s)
theorem SX35_isVertical_b13 {m b : Nat} {φ0 : Nat → Nat} {σo : fS} (hm : 1 ≤ m) {q : Int × fS} {φ : Nat → Nat} {h : eH} {s : fS} {s0' : Int32} {s0 : Int} (R : fC m b φ0 σo φ h s) (es0 : s0' = iI s0) (rs0 : r32 s0) (hF : FX35_isVertical_b13 s0 s = some q) : gG m b φ0 σo lI q (fX35_isVertical_b13 s0' h) := by
  subst es0
  unfold FX35_isVertical_b13 at hF
  unfold fX35_isVertical_b13
  exact g_z R rfl hF ⟨rfl, rs0⟩
def FX35_isVertical (s : fS) : Option (Int × fS) :=
  (FX35_mode s).bind fun q2 =>
  if 2 ≤ q2.1 then
    FX35_isVertical_b13 0 q2.2
  else
    FX35_isVertical_b13 1 q2.2
theorem SX35_isVertical {m b : Nat} {φ0 : Nat → Nat} {σo : fS} (hm : 1 ≤ m) {q : Int × fS} {φ : Nat → Nat} {h : eH} {s : fS} (R : fC m b φ0 σo φ h s) (hF : FX35_isVertical s = some q) : gG m b φ0 σo lI q (fX35_isVertical 192 h) := by
  unfold FX35_isVertical at hF
  unfold fX35_isVertical
  refine s_kok R (t_192 hm R.S) (Nat.le_of_ble_eq_true rfl) ?_
  refine s_call R (Nat.zero_le _) (fun _ hq => SX35_mode (b := 0) hm (R.rf) hq) hF (fun f2 rv2 h2 q2 R2 e2 E2 hF => ?_)
  refine s_if (i_le (c_lit 2 2 rfl) e2.1 ⟨by decide, by decide⟩ e2.2) hF (fun c3 hF => ?_) (fun c3 hF => ?_)
  ·
    exact SX35_isVertical_b13 hm R2 (c_lit 0 0 rfl) ⟨by decide, by decide⟩ hF
  ·
    exact SX35_isVertical_b13 hm R2 (c_lit 1 1 rfl) ⟨by decide, by decide⟩ hF
