set_option maxRecDepth 100000
set_option maxHeartbeats 4000000
def FX24_run_b242 (N : Nat) (s : fS) : Option (Int × fS) :=
  some (0, s)
theorem SX24_run_b242 {m b : Nat} {φ0 : Nat → Nat} {σo : fS} {N : Nat} {q : Int × fS} {φ : Nat → Nat} {h : eH} {s : fS} (R : fC m b φ0 σo φ h s) (hF : FX24_run_b242 N s = some q) : gG m b φ0 σo lI q (fX24_run_b242 N h) := by
  unfold FX24_run_b242 at hF
  unfold fX24_run_b242
  exact g_ret R hF ⟨(c_lit 0 0 rfl), ⟨by decide, by decide⟩⟩
def FX24_run_b244 (N : Nat) (K13 : Int → fS → Option (Int × fS)) (l1 : Int) (s : fS) : Option (Int × fS) :=
  K13 (iadd l1 1) s
theorem SX24_run_b244 {m b : Nat} {φ0 : Nat → Nat} {σo : fS} {N : Nat} {k13 : Nat → Int32 → eH → Option (Int32 × eH)} {K13 : Int → fS → Option (Int × fS)} {q : Int × fS} (hk13 : ∀ {φ : Nat → Nat} {h : eH} {s : fS} {l1' : Int32} {l1 : Int}, fC m b φ0 σo φ h s → l1' = iI l1 → r32 l1 → K13 l1 s = some q → gG m b φ0 σo lI q (k13 120 l1' h)) {φ : Nat → Nat} {h : eH} {s : fS} {l1' : Int32} {l1 : Int} (R : fC m b φ0 σo φ h s) (el1 : l1' = iI l1) (rl1 : r32 l1) (hF : FX24_run_b244 N K13 l1 s = some q) : gG m b φ0 σo lI q (fX24_run_b244 N k13 120 l1' h) := by
  subst el1
  unfold FX24_run_b244 at hF
  unfold fX24_run_b244
  exact hk13 R (c_add rfl (c_lit 1 1 rfl)) (rr_I _) hF
def FX24_run_b209 (N : Nat) (K13 : Int → fS → Option (Int × fS)) (l1 : Int) (l2 : Int) (s : fS) : Option (Int × fS) :=
  (uPI s 120 15 (iadd (s.i 120 15) (isub (s.i 120 14) l2))).bind fun σ5 =>
  if 3000000 < (σ5.i 120 14) then
    FX24_run_b242 N σ5
  else
    if (σ5.i 120 15) ≤ 30000000 then
      FX24_run_b244 N K13 l1 σ5
    else
      FX24_run_b242 N σ5
theorem SX24_run_b209 {m b : Nat} {φ0 : Nat → Nat} {σo : fS} {N : Nat} {k13 : Nat → Int32 → eH → Option (Int32 × eH)} {K13 : Int → fS → Option (Int × fS)} {q : Int × fS} (hk13 : ∀ {φ : Nat → Nat} {h : eH} {s : fS} {l1' : Int32} {l1 : Int}, fC m b φ0 σo φ h s → l1' = iI l1 → r32 l1 → K13 l1 s = some q → gG m b φ0 σo lI q (k13 120 l1' h)) {φ : Nat → Nat} {h : eH} {s : fS} {l1' : Int32} {l1 : Int} {l2' : Int32} {l2 : Int} (R : fC m b φ0 σo φ h s) (el1 : l1' = iI l1) (rl1 : r32 l1) (el2 : l2' = iI l2) (rl2 : r32 l2) (hF : FX24_run_b209 N K13 l1 l2 s = some q) : gG m b φ0 σo lI q (fX24_run_b209 N k13 120 l1' l2' h) := by
  subst el1; subst el2
  unfold FX24_run_b209 at hF
  unfold fX24_run_b209
  refine s_gI R (t_120 R.S) (Nat.le_of_ble_eq_true rfl) rfl ?_
  refine s_gI R (t_120 R.S) (Nat.le_of_ble_eq_true rfl) rfl ?_
  refine s_pI R (t_120 R.S) (Nat.le_of_ble_eq_true rfl) rfl (c_add rfl (c_sub rfl rfl)) (rr_I _) hF (fun h3 σ5 R3 T3 hF => ?_)
  refine s_gI R3 (t_120 R3.S) (Nat.le_of_ble_eq_true rfl) rfl ?_
  refine s_if (i_lt (c_lit 3000000 3000000 rfl) rfl ⟨by decide, by decide⟩ (R3.ri (t_120 R3.S) (Nat.le_of_ble_eq_true rfl) rfl)) hF (fun c5 hF => ?_) (fun c5 hF => ?_)
  ·
    exact SX24_run_b242 (N := N) R3 hF
  ·
    refine s_gI R3 (t_120 R3.S) (Nat.le_of_ble_eq_true rfl) rfl ?_
    refine s_if (i_le rfl (c_lit 30000000 30000000 rfl) (R3.ri (t_120 R3.S) (Nat.le_of_ble_eq_true rfl) rfl) ⟨by decide, by decide⟩) hF (fun c7 hF => ?_) (fun c7 hF => ?_)
    ·
      exact SX24_run_b244 (N := N) (k13 := k13) (K13 := K13) @hk13 R3 rfl rl1 hF
    ·
      exact SX24_run_b242 (N := N) R3 hF
def FX24_run_b192 (N : Nat) (K13 : Int → fS → Option (Int × fS)) (l1 : Int) (l2 : Int) (s : fS) : Option (Int × fS) :=
  if (s.i 120 13) = 0 then
    FX24_run_b209 N K13 l1 l2 s
  else
    (FX24_makeNodes N l1 s).bind fun q5 =>
    if ¬ (q5.1 = 0) then
      FX24_run_b209 N K13 l1 l2 q5.2
    else
      some (0, q5.2)
theorem SX24_run_b192 {m b : Nat} {φ0 : Nat → Nat} {σo : fS} {N : Nat} {k13 : Nat → Int32 → eH → Option (Int32 × eH)} {K13 : Int → fS → Option (Int × fS)} {q : Int × fS} (hk13 : ∀ {φ : Nat → Nat} {h : eH} {s : fS} {l1' : Int32} {l1 : Int}, fC m b φ0 σo φ h s → l1' = iI l1 → r32 l1 → K13 l1 s = some q → gG m b φ0 σo lI q (k13 120 l1' h)) {φ : Nat → Nat} {h : eH} {s : fS} {l1' : Int32} {l1 : Int} {l2' : Int32} {l2 : Int} (R : fC m b φ0 σo φ h s) (el1 : l1' = iI l1) (rl1 : r32 l1) (el2 : l2' = iI l2) (rl2 : r32 l2) (hF : FX24_run_b192 N K13 l1 l2 s = some q) : gG m b φ0 σo lI q (fX24_run_b192 N k13 120 l1' l2' h) := by
  subst el1; subst el2
  unfold FX24_run_b192 at hF
  unfold fX24_run_b192
  refine s_gI R (t_120 R.S) (Nat.le_of_ble_eq_true rfl) rfl ?_
  refine s_if (i_eq rfl (c_lit 0 0 rfl) (R.ri (t_120 R.S) (Nat.le_of_ble_eq_true rfl) rfl) ⟨by decide, by decide⟩) hF (fun c2 hF => ?_) (fun c2 hF => ?_)
  ·
    exact SX24_run_b209 (N := N) (k13 := k13) (K13 := K13) @hk13 R rfl rl1 rfl rl2 hF
  ·
    refine s_kok R (t_120 R.S) (Nat.le_of_ble_eq_true rfl) ?_
    refine s_call R (Nat.zero_le _) (fun _ hq => SX24_makeNodes (b := 0) (N := N) (R.rf) rfl rl1 hq) hF (fun f4 rv4 h4 q5 R4 e4 E4 hF => ?_)
    refine s_if (not_congr (i_eq e4.1 (c_lit 0 0 rfl) e4.2 ⟨by decide, by decide⟩)) hF (fun c5 hF => ?_) (fun c5 hF => ?_)
    ·
      exact SX24_run_b209 (N := N) (k13 := k13) (K13 := K13) @hk13 R4 rfl rl1 rfl rl2 hF
    ·
      exact g_ret R4 hF ⟨(c_lit 0 0 rfl), ⟨by decide, by decide⟩⟩
def FX24_run_b250 (N : Nat) (s : fS) : Option (Int × fS) :=
  some (1, s)
theorem SX24_run_b250 {m b : Nat} {φ0 : Nat → Nat} {σo : fS} {N : Nat} {q : Int × fS} {φ : Nat → Nat} {h : eH} {s : fS} (R : fC m b φ0 σo φ h s) (hF : FX24_run_b250 N s = some q) : gG m b φ0 σo lI q (fX24_run_b250 N h) := by
  unfold FX24_run_b250 at hF
  unfold fX24_run_b250
  exact g_ret R hF ⟨(c_lit 1 1 rfl), ⟨by decide, by decide⟩⟩
def FX24_run_b13 (N : Nat) : Nat → Int → fS → Option (Int × fS)
  | 0, _, _ => none
  | n + 1, l1, s =>
    if (s.i 104 5) ≤ l1 then
      FX24_run_b250 N s
    else
      if (s.i 121 7) = (-1) then
        FX24_run_b250 N s
      else
        (FX24_isPlace N l1 s).bind fun q12 =>
        if ¬ (q12.1 = 0) then
          (FX24_goThrough N l1 q12.2).bind fun q17 =>
          if ¬ ((q17.2.i 120 13) = 0) then
            FX24_run_b192 N (FX24_run_b13 N n) l1 (q12.2.i 120 14) q17.2
          else
            if (q17.2.i 120 9) = 0 then
              FX24_run_b192 N (FX24_run_b13 N n) l1 (q12.2.i 120 14) q17.2
            else
              if q17.1 = (-1) then
                FX24_run_b192 N (FX24_run_b13 N n) l1 (q12.2.i 120 14) q17.2
              else
                if (q17.2.i 121 6) ≤ 8000 then
                  (uRI q17.2 122 q17.1).bind fun x38 =>
                  (FX23_measure N x38 l1 q17.2).bind fun q41 =>
                  (uRI q41.2 123 q17.1).bind fun x50 =>
                  (uRI q41.2 118 (imin x50 19)).bind fun x52 =>
                  (FX26_weigh (lsub x52 (q41.2.j 110 8)) q41.2).bind fun q61 =>
                  (uRI q61.2 123 q17.1).bind fun x68 =>
                  (uRJ q61.2 125 q17.1).bind fun x78 =>
                  (FX25_add l1 (iadd x68 1) (q61.2.i 128 1) x78 q17.1 q61.2).bind fun q81 =>
                  FX24_run_b209 N (FX24_run_b13 N n) l1 (q12.2.i 120 14) q81.2
                else
                  some (0, q17.2)
        else
          FX24_run_b244 N (FX24_run_b13 N n) l1 q12.2
theorem SX24_run_b13 {m b : Nat} {φ0 : Nat → Nat} {σo : fS} {N : Nat} {q : Int × fS} : ∀ {n : Nat} {φ : Nat → Nat} {h : eH} {s : fS} {l1' : Int32} {l1 : Int}, fC m b φ0 σo φ h s → l1' = iI l1 → r32 l1 → FX24_run_b13 N n l1 s = some q → gG m b φ0 σo lI q (fX24_run_b13 N n 120 l1' h) := by
  intro n
  induction n with
 | zero => intro φ h s l1' l1 R el1 rl1 hF; simp [FX24_run_b13] at hF
  | succ n ih =>
    intro φ h s l1' l1 R el1 rl1 hF
    subst el1
    rw [FX24_run_b13] at hF
    rw [fX24_run_b13]
    refine s_gO R (t_120 R.S) (Nat.le_of_ble_eq_true rfl) rfl (o_120_0 R.S) ?_
    refine s_gI R (t_104 R.S) (Nat.le_of_ble_eq_true rfl) rfl ?_
    refine s_if (i_le rfl rfl (R.ri (t_104 R.S) (Nat.le_of_ble_eq_true rfl) rfl) rl1) hF (fun c3 hF => ?_) (fun c3 hF => ?_)
    ·
      exact SX24_run_b250 (N := N) R hF
    ·
      refine s_gO R (t_120 R.S) (Nat.le_of_ble_eq_true rfl) rfl (o_120_4 R.S) ?_
      refine s_gI R (t_121 R.S) (Nat.le_of_ble_eq_true rfl) rfl ?_
      refine s_if (i_eq rfl (c_lit (-1) (-1) rfl) (R.ri (t_121 R.S) (Nat.le_of_ble_eq_true rfl) rfl) ⟨by decide, by decide⟩) hF (fun c6 hF => ?_) (fun c6 hF => ?_)
      ·
        exact SX24_run_b250 (N := N) R hF
      ·
        refine s_kok R (t_120 R.S) (Nat.le_of_ble_eq_true rfl) ?_
        refine s_call R (Nat.zero_le _) (fun _ hq => SX24_isPlace (b := 0) (N := N) (R.rf) rfl rl1 hq) hF (fun f8 rv8 h8 q12 R8 e8 E8 hF => ?_)
        refine s_if (not_congr (i_eq e8.1 (c_lit 0 0 rfl) e8.2 ⟨by decide, by decide⟩)) hF (fun c9 hF => ?_) (fun c9 hF => ?_)
        ·
          refine s_gI R8 (t_120 R8.S) (Nat.le_of_ble_eq_true rfl) rfl ?_
          refine s_kok R8 (t_120 R8.S) (Nat.le_of_ble_eq_true rfl) ?_
          refine s_call R8 (Nat.zero_le _) (fun _ hq => SX24_goThrough (b := 0) (N := N) (R8.rf) rfl rl1 hq) hF (fun f12 rv12 h12 q17 R12 e12 E12 hF => ?_)
          refine s_gI R12 (t_120 R12.S) (Nat.le_of_ble_eq_true rfl) rfl ?_
          refine s_if (not_congr (i_eq rfl (c_lit 0 0 rfl) (R12.ri (t_120 R12.S) (Nat.le_of_ble_eq_true rfl) rfl) ⟨by decide, by decide⟩)) hF (fun c14 hF => ?_) (fun c14 hF => ?_)
          ·
            exact SX24_run_b192 (N := N) (k13 := fX24_run_b13 N n) (K13 := FX24_run_b13 N n) @ih R12 rfl rl1 rfl (R8.ri (t_120 R8.S) (Nat.le_of_ble_eq_true rfl) rfl) hF
          ·
            refine s_gI R12 (t_120 R12.S) (Nat.le_of_ble_eq_true rfl) rfl ?_
            refine s_if (i_eq rfl (c_lit 0 0 rfl) (R12.ri (t_120 R12.S) (Nat.le_of_ble_eq_true rfl) rfl) ⟨by decide, by decide⟩) hF (fun c16 hF => ?_) (fun c16 hF => ?_)
            ·
              exact SX24_run_b192 (N := N) (k13 := fX24_run_b13 N n) (K13 := FX24_run_b13 N n) @ih R12 rfl rl1 rfl (R8.ri (t_120 R8.S) (Nat.le_of_ble_eq_true rfl) rfl) hF
            ·
              refine s_if (i_eq e12.1 (c_lit (-1) (-1) rfl) e12.2 ⟨by decide, by decide⟩) hF (fun c17 hF => ?_) (fun c17 hF => ?_)
              ·
                exact SX24_run_b192 (N := N) (k13 := fX24_run_b13 N n) (K13 := FX24_run_b13 N n) @ih R12 rfl rl1 rfl (R8.ri (t_120 R8.S) (Nat.le_of_ble_eq_true rfl) rfl) hF
              ·
                refine s_gO R12 (t_120 R12.S) (Nat.le_of_ble_eq_true rfl) rfl (o_120_4 R12.S) ?_
                refine s_gI R12 (t_121 R12.S) (Nat.le_of_ble_eq_true rfl) rfl ?_
                refine s_if (i_le rfl (c_lit 8000 8000 rfl) (R12.ri (t_121 R12.S) (Nat.le_of_ble_eq_true rfl) rfl) ⟨by decide, by decide⟩) hF (fun c20 hF => ?_) (fun c20 hF => ?_)
                ·
                  refine s_gO R12 (t_120 R12.S) (Nat.le_of_ble_eq_true rfl) rfl (o_120_1 R12.S) ?_
                  refine s_gO R12 (t_120 R12.S) (Nat.le_of_ble_eq_true rfl) rfl (o_120_0 R12.S) ?_
                  refine s_gO R12 (t_120 R12.S) (Nat.le_of_ble_eq_true rfl) rfl (o_120_4 R12.S) ?_
                  refine s_gAs R12 (t_121 R12.S) (Nat.le_of_ble_eq_true rfl) rfl (o_121_0 R12.S) (a_122 R12) ?_
                  refine s_rI R12 (u_122 R12.S).1 (u_122 R12.S).2 (by decide) (a_122 R12) e12.1 e12.2 hF (fun x38 ra25 hF => ?_)
                  refine s_kok R12 (t_110 R12.S) (Nat.le_of_ble_eq_true rfl) ?_
                  refine s_call R12 (Nat.zero_le _) (fun _ hq => SX23_measure (b := 0) (N := N) (R12.rf) rfl ra25 rfl rl1 hq) hF (fun f27 rv27 h27 q41 R27 e27 E27 hF => ?_)
                  refine s_gO R27 (t_120 R27.S) (Nat.le_of_ble_eq_true rfl) rfl (o_120_5 R27.S) ?_
                  refine s_gAs R27 (t_120 R27.S) (Nat.le_of_ble_eq_true rfl) rfl (o_120_3 R27.S) (a_118 R27) ?_
                  refine s_gO R27 (t_120 R27.S) (Nat.le_of_ble_eq_true rfl) rfl (o_120_4 R27.S) ?_
                  refine s_gAs R27 (t_121 R27.S) (Nat.le_of_ble_eq_true rfl) rfl (o_121_1 R27.S) (a_123 R27) ?_
                  refine s_rI R27 (u_123 R27.S).1 (u_123 R27.S).2 (by decide) (a_123 R27) e12.1 e12.2 hF (fun x50 ra32 hF => ?_)
                  refine s_rI R27 (u_118 R27.S).1 (u_118 R27.S).2 (by decide) (a_118 R27) (c_min rfl (c_lit 19 19 rfl) ra32 ⟨by decide, by decide⟩) (r_min ra32 ⟨by decide, by decide⟩) hF (fun x52 ra33 hF => ?_)
                  refine s_gO R27 (t_120 R27.S) (Nat.le_of_ble_eq_true rfl) rfl (o_120_1 R27.S) ?_
                  refine s_gJ R27 (t_110 R27.S) (Nat.le_of_ble_eq_true rfl) rfl ?_
                  refine s_gO R27 (t_120 R27.S) (Nat.le_of_ble_eq_true rfl) rfl (o_120_1 R27.S) ?_
                  refine s_kok R27 (t_128 R27.S) (Nat.le_of_ble_eq_true rfl) ?_
                  refine s_call R27 (Nat.zero_le _) (fun _ hq => SX26_weigh (b := 0) (R27.rf) (d_sub (c_2l rfl ra33) rfl) (rr_J _) hq) hF (fun f38 rv38 h38 q61 R38 e38 E38 hF => ?_)
                  refine s_gO R38 (t_120 R38.S) (Nat.le_of_ble_eq_true rfl) rfl (o_120_4 R38.S) ?_
                  refine s_gO R38 (t_120 R38.S) (Nat.le_of_ble_eq_true rfl) rfl (o_120_4 R38.S) ?_
                  refine s_gAs R38 (t_121 R38.S) (Nat.le_of_ble_eq_true rfl) rfl (o_121_1 R38.S) (a_123 R38) ?_
                  refine s_rI R38 (u_123 R38.S).1 (u_123 R38.S).2 (by decide) (a_123 R38) e12.1 e12.2 hF (fun x68 ra42 hF => ?_)
                  refine s_gO R38 (t_120 R38.S) (Nat.le_of_ble_eq_true rfl) rfl (o_120_5 R38.S) ?_
                  refine s_gI R38 (t_128 R38.S) (Nat.le_of_ble_eq_true rfl) rfl ?_
                  refine s_gO R38 (t_120 R38.S) (Nat.le_of_ble_eq_true rfl) rfl (o_120_4 R38.S) ?_
                  refine s_gAs R38 (t_121 R38.S) (Nat.le_of_ble_eq_true rfl) rfl (o_121_3 R38.S) (a_125 R38) ?_
                  refine s_rJ R38 (u_125 R38.S).1 (u_125 R38.S).2 (a_125 R38) e12.1 e12.2 hF (fun x78 ra47 hF => ?_)
                  refine s_kok R38 (t_121 R38.S) (Nat.le_of_ble_eq_true rfl) ?_
                  refine s_call R38 (Nat.zero_le _) (fun _ hq => SX25_add (b := 0) (R38.rf) rfl rl1 (c_add rfl (c_lit 1 1 rfl)) (rr_I _) rfl (R38.ri (t_128 R38.S) (Nat.le_of_ble_eq_true rfl) rfl) rfl ra47 e12.1 e12.2 hq) hF (fun f49 rv49 h49 q81 R49 e49 E49 hF => ?_)
                  exact SX24_run_b209 (N := N) (k13 := fX24_run_b13 N n) (K13 := FX24_run_b13 N n) @ih R49 rfl rl1 rfl (R8.ri (t_120 R8.S) (Nat.le_of_ble_eq_true rfl) rfl) hF
                ·
                  exact g_ret R12 hF ⟨(c_lit 0 0 rfl), ⟨by decide, by decide⟩⟩
        ·
          exact SX24_run_b244 (N := N) (k13 := fX24_run_b13 N n) (K13 := FX24_run_b13 N n) @ih R8 rfl rl1 hF
def FX24_run (N : Nat) (s : fS) : Option (Int × fS) :=
  (FX25_begin s).bind fun q4 =>
  (FX24_clear N q4.2).bind fun q6 =>
  FX24_run_b13 N N 0 q6.2
theorem SX24_run {m b : Nat} {φ0 : Nat → Nat} {σo : fS} {N : Nat} {q : Int × fS} {φ : Nat → Nat} {h : eH} {s : fS} (R : fC m b φ0 σo φ h s) (hF : FX24_run N s = some q) : gG m b φ0 σo lI q (fX24_run N 120 h) := by
  unfold FX24_run at hF
  unfold fX24_run
  refine s_gO R (t_120 R.S) (Nat.le_of_ble_eq_true rfl) rfl (o_120_4 R.S) ?_
  refine s_kok R (t_121 R.S) (Nat.le_of_ble_eq_true rfl) ?_
  refine s_call R (Nat.zero_le _) (fun _ hq => SX25_begin (b := 0) (R.rf) hq) hF (fun f3 rv3 h3 q4 R3 e3 E3 hF => ?_)
  refine s_kok R3 (t_120 R3.S) (Nat.le_of_ble_eq_true rfl) ?_
  refine s_call R3 (Nat.zero_le _) (fun _ hq => SX24_clear (b := 0) (N := N) (R3.rf) hq) hF (fun f5 rv5 h5 q6 R5 e5 E5 hF => ?_)
  exact SX24_run_b13 (N := N) R5 (c_lit 0 0 rfl) ⟨by decide, by decide⟩ hF
def FX24_isAtEnd_b26 (s0 : Int) (s : fS) : Option (Int × fS) :=
  uZ s0 (s0, s)
theorem SX24_isAtEnd_b26 {m b : Nat} {φ0 : Nat → Nat} {σo : fS} {q : Int × fS} {φ : Nat → Nat} {h : eH} {s : fS} {s0' : Int32} {s0 : Int} (R : fC m b φ0 σo φ h s) (es0 : s0' = iI s0) (rs0 : r32 s0) (hF : FX24_isAtEnd_b26 s0 s = some q) : gG m b φ0 σo lI q (fX24_isAtEnd_b26 s0' h) := by
  subst es0
  unfold FX24_isAtEnd_b26 at hF
  unfold fX24_isAtEnd_b26
  exact g_z R rfl hF ⟨rfl, rs0⟩
def FX24_isAtEnd (p0 : Int) (s : fS) : Option (Int × fS) :=
  (uRI s 122 p0).bind fun x5 =>
  if ¬ (x5 = (isub (s.i 104 5) 1)) then
    FX24_isAtEnd_b26 0 s
  else
    FX24_isAtEnd_b26 1 s
theorem SX24_isAtEnd {m b : Nat} {φ0 : Nat → Nat} {σo : fS} {q : Int × fS} {φ : Nat → Nat} {h : eH} {s : fS} {p0' : Int32} {p0 : Int} (R : fC m b φ0 σo φ h s) (ep0 : p0' = iI p0) (rp0 : r32 p0) (hF : FX24_isAtEnd p0 s = some q) : gG m b φ0 σo lI q (fX24_isAtEnd 120 p0' h) := by
  subst ep0
  unfold FX24_isAtEnd at hF
  unfold fX24_isAtEnd
  refine s_gO R (t_120 R.S) (Nat.le_of_ble_eq_true rfl) rfl (o_120_4 R.S) ?_
  refine s_gAs R (t_121 R.S) (Nat.le_of_ble_eq_true rfl) rfl (o_121_0 R.S) (a_122 R) ?_
  refine s_rI R (u_122 R.S).1 (u_122 R.S).2 (by decide) (a_122 R) rfl rp0 hF (fun x5 ra3 hF => ?_)
  refine s_gO R (t_120 R.S) (Nat.le_of_ble_eq_true rfl) rfl (o_120_0 R.S) ?_
  refine s_gI R (t_104 R.S) (Nat.le_of_ble_eq_true rfl) rfl ?_
  refine s_if (not_congr (i_eq rfl (c_sub rfl (c_lit 1 1 rfl)) ra3 (rr_I _))) hF (fun c6 hF => ?_) (fun c6 hF => ?_)
  ·
    exact SX24_isAtEnd_b26 R (c_lit 0 0 rfl) ⟨by decide, by decide⟩ hF
  ·
    exact SX24_isAtEnd_b26 R (c_lit 1 1 rfl) ⟨by decide, by decide⟩ hF
def FX24_leastOf_b193 (N : Nat) (K4 : Int → Int → Int → fS → Option (Int × fS)) (l1 : Int) (l2 : Int) (l3 : Int) (s : fS) : Option (Int × fS) :=
  K4 l1 l2 (iadd l3 1) s
theorem SX24_leastOf_b193 {m b : Nat} {φ0 : Nat → Nat} {σo : fS} {N : Nat} {k4 : Nat → Int32 → Int32 → Int32 → eH → Option (Int32 × eH)} {K4 : Int → Int → Int → fS → Option (Int × fS)} {q : Int × fS} (hk4 : ∀ {φ : Nat → Nat} {h : eH} {s : fS} {l1' : Int32} {l1 : Int} {l2' : Int32} {l2 : Int} {l3' : Int32} {l3 : Int}, fC m b φ0 σo φ h s → l1' = iI l1 → r32 l1 → l2' = iI l2 → r32 l2 → l3' = iI l3 → r32 l3 → K4 l1 l2 l3 s = some q → gG m b φ0 σo lI q (k4 120 l1' l2' l3' h)) {φ : Nat → Nat} {h : eH} {s : fS} {l1' : Int32} {l1 : Int} {l2' : Int32} {l2 : Int} {l3' : Int32} {l3 : Int} (R : fC m b φ0 σo φ h s) (el1 : l1' = iI l1) (rl1 : r32 l1) (el2 : l2' = iI l2) (rl2 : r32 l2) (el3 : l3' = iI l3) (rl3 : r32 l3) (hF : FX24_leastOf_b193 N K4 l1 l2 l3 s = some q) : gG m b φ0 σo lI q (fX24_leastOf_b193 N k4 120 l1' l2' l3' h) := by
  subst el1; subst el2; subst el3
  unfold FX24_leastOf_b193 at hF
  unfold fX24_leastOf_b193
  exact hk4 R rfl rl1 rfl rl2 (c_add rfl (c_lit 1 1 rfl)) (rr_I _) hF
def FX24_leastOf_b192 (N : Nat) (K4 : Int → Int → Int → fS → Option (Int × fS)) (l1 : Int) (l3 : Int) (s0 : Int) (s : fS) : Option (Int × fS) :=
  FX24_leastOf_b193 N K4 l1 s0 l3 s
theorem SX24_leastOf_b192 {m b : Nat} {φ0 : Nat → Nat} {σo : fS} {N : Nat} {k4 : Nat → Int32 → Int32 → Int32 → eH → Option (Int32 × eH)} {K4 : Int → Int → Int → fS → Option (Int × fS)} {q : Int × fS} (hk4 : ∀ {φ : Nat → Nat} {h : eH} {s : fS} {l1' : Int32} {l1 : Int} {l2' : Int32} {l2 : Int} {l3' : Int32} {l3 : Int}, fC m b φ0 σo φ h s → l1' = iI l1 → r32 l1 → l2' = iI l2 → r32 l2 → l3' = iI l3 → r32 l3 → K4 l1 l2 l3 s = some q → gG m b φ0 σo lI q (k4 120 l1' l2' l3' h)) {φ : Nat → Nat} {h : eH} {s : fS} {l1' : Int32} {l1 : Int} {l3' : Int32} {l3 : Int} {s0' : Int32} {s0 : Int} (R : fC m b φ0 σo φ h s) (el1 : l1' = iI l1) (rl1 : r32 l1) (el3 : l3' = iI l3) (rl3 : r32 l3) (es0 : s0' = iI s0) (rs0 : r32 s0) (hF : FX24_leastOf_b192 N K4 l1 l3 s0 s = some q) : gG m b φ0 σo lI q (fX24_leastOf_b192 N k4 120 l1' l3' s0' h) := by
  subst el1; subst el3; subst es0
  unfold FX24_leastOf_b192 at hF
  unfold fX24_leastOf_b192
  exact SX24_leastOf_b193 (N := N) (k4 := k4) (K4 := K4) @hk4 R rfl rl1 rfl rs0 rfl rl3 hF
def FX24_leastOf_b182 (N : Nat) (K4 : Int → Int → Int → fS → Option (Int × fS)) (l1 : Int) (l2 : Int) (l3 : Int) (l4 : Int) (s : fS) : Option (Int × fS) :=
  if l4 = 0 then
    FX24_leastOf_b192 N K4 l1 l3 l2 s
  else
    FX24_leastOf_b192 N K4 l1 l3 l3 s
theorem SX24_leastOf_b182 {m b : Nat} {φ0 : Nat → Nat} {σo : fS} {N : Nat} {k4 : Nat → Int32 → Int32 → Int32 → eH → Option (Int32 × eH)} {K4 : Int → Int → Int → fS → Option (Int × fS)} {q : Int × fS} (hk4 : ∀ {φ : Nat → Nat} {h : eH} {s : fS} {l1' : Int32} {l1 : Int} {l2' : Int32} {l2 : Int} {l3' : Int32} {l3 : Int}, fC m b φ0 σo φ h s → l1' = iI l1 → r32 l1 → l2' = iI l2 → r32 l2 → l3' = iI l3 → r32 l3 → K4 l1 l2 l3 s = some q → gG m b φ0 σo lI q (k4 120 l1' l2' l3' h)) {φ : Nat → Nat} {h : eH} {s : fS} {l1' : Int32} {l1 : Int} {l2' : Int32} {l2 : Int} {l3' : Int32} {l3 : Int} {l4' : Int32} {l4 : Int} (R : fC m b φ0 σo φ h s) (el1 : l1' = iI l1) (rl1 : r32 l1) (el2 : l2' = iI l2) (rl2 : r32 l2) (el3 : l3' = iI l3) (rl3 : r32 l3) (el4 : l4' = iI l4) (rl4 : r32 l4) (hF : FX24_leastOf_b182 N K4 l1 l2 l3 l4 s = some q) : gG m b φ0 σo lI q (fX24_leastOf_b182 N k4 120 l1' l2' l3' l4' h) := by
  subst el1; subst el2; subst el3; subst el4
  unfold FX24_leastOf_b182 at hF
  unfold fX24_leastOf_b182
  refine s_if (i_eq rfl (c_lit 0 0 rfl) rl4 ⟨by decide, by decide⟩) hF (fun c1 hF => ?_) (fun c1 hF => ?_)
  ·
    exact SX24_leastOf_b192 (N := N) (k4 := k4) (K4 := K4) @hk4 R rfl rl1 rfl rl3 rfl rl2 hF
  ·
    exact SX24_leastOf_b192 (N := N) (k4 := k4) (K4 := K4) @hk4 R rfl rl1 rfl rl3 rfl rl3 hF
def FX24_leastOf_b180 (N : Nat) (K4 : Int → Int → Int → fS → Option (Int × fS)) (l1 : Int) (l2 : Int) (l3 : Int) (s0 : Int) (s : fS) : Option (Int × fS) :=
  FX24_leastOf_b182 N K4 l1 l2 l3 s0 s
theorem SX24_leastOf_b180 {m b : Nat} {φ0 : Nat → Nat} {σo : fS} {N : Nat} {k4 : Nat → Int32 → Int32 → Int32 → eH → Option (Int32 × eH)} {K4 : Int → Int → Int → fS → Option (Int × fS)} {q : Int × fS} (hk4 : ∀ {φ : Nat → Nat} {h : eH} {s : fS} {l1' : Int32} {l1 : Int} {l2' : Int32} {l2 : Int} {l3' : Int32} {l3 : Int}, fC m b φ0 σo φ h s → l1' = iI l1 → r32 l1 → l2' = iI l2 → r32 l2 → l3' = iI l3 → r32 l3 → K4 l1 l2 l3 s = some q → gG m b φ0 σo lI q (k4 120 l1' l2' l3' h)) {φ : Nat → Nat} {h : eH} {s : fS} {l1' : Int32} {l1 : Int} {l2' : Int32} {l2 : Int} {l3' : Int32} {l3 : Int} {s0' : Int32} {s0 : Int} (R : fC m b φ0 σo φ h s) (el1 : l1' = iI l1) (rl1 : r32 l1) (el2 : l2' = iI l2) (rl2 : r32 l2) (el3 : l3' = iI l3) (rl3 : r32 l3) (es0 : s0' = iI s0) (rs0 : r32 s0) (hF : FX24_leastOf_b180 N K4 l1 l2 l3 s0 s = some q) : gG m b φ0 σo lI q (fX24_leastOf_b180 N k4 120 l1' l2' l3' s0' h) := by
  subst el1; subst el2; subst el3; subst es0
  unfold FX24_leastOf_b180 at hF
  unfold fX24_leastOf_b180
  exact SX24_leastOf_b182 (N := N) (k4 := k4) (K4 := K4) @hk4 R rfl rl1 rfl rl2 rfl rl3 rfl rs0 hF
def FX24_leastOf_b75 (N : Nat) (K4 : Int → Int → Int → fS → Option (Int × fS)) (l1 : Int) (l2 : Int) (l3 : Int) (s0 : Int) (s : fS) : Option (Int × fS) :=
  if ¬ (s0 = 0) then
    FX24_leastOf_b182 N K4 l1 l2 l3 s0 s
  else
    (uRJ s 125 l3).bind fun x6 =>
    (uRJ s 125 l2).bind fun x12 =>
    if ¬ (x6 = x12) then
      FX24_leastOf_b182 N K4 l1 l2 l3 s0 s
    else
      (uRI s 123 l3).bind fun x19 =>
      (uRI s 123 l2).bind fun x25 =>
      if x19 = x25 then
        (uRI s 124 l3).bind fun x32 =>
        (uRI s 124 l2).bind fun x38 =>
        if x38 ≤ x32 then
          FX24_leastOf_b180 N K4 l1 l2 l3 0 s
        else
          FX24_leastOf_b180 N K4 l1 l2 l3 1 s
      else
        (uRI s 123 l3).bind fun x45 =>
        (uRI s 123 l2).bind fun x51 =>
        if x51 ≤ x45 then
          FX24_leastOf_b180 N K4 l1 l2 l3 0 s
        else
          FX24_leastOf_b180 N K4 l1 l2 l3 1 s
theorem SX24_leastOf_b75 {m b : Nat} {φ0 : Nat → Nat} {σo : fS} {N : Nat} {k4 : Nat → Int32 → Int32 → Int32 → eH → Option (Int32 × eH)} {K4 : Int → Int → Int → fS → Option (Int × fS)} {q : Int × fS} (hk4 : ∀ {φ : Nat → Nat} {h : eH} {s : fS} {l1' : Int32} {l1 : Int} {l2' : Int32} {l2 : Int} {l3' : Int32} {l3 : Int}, fC m b φ0 σo φ h s → l1' = iI l1 → r32 l1 → l2' = iI l2 → r32 l2 → l3' = iI l3 → r32 l3 → K4 l1 l2 l3 s = some q → gG m b φ0 σo lI q (k4 120 l1' l2' l3' h)) {φ : Nat → Nat} {h : eH} {s : fS} {l1' : Int32} {l1 : Int} {l2' : Int32} {l2 : Int} {l3' : Int32} {l3 : Int} {s0' : Int32} {s0 : Int} (R : fC m b φ0 σo φ h s) (el1 : l1' = iI l1) (rl1 : r32 l1) (el2 : l2' = iI l2) (rl2 : r32 l2) (el3 : l3' = iI l3) (rl3 : r32 l3) (es0 : s0' = iI s0) (rs0 : r32 s0) (hF : FX24_leastOf_b75 N K4 l1 l2 l3 s0 s = some q) : gG m b φ0 σo lI q (fX24_leastOf_b75 N k4 120 l1' l2' l3' s0' h) := by
  subst el1; subst el2; subst el3; subst es0
  unfold FX24_leastOf_b75 at hF
  unfold fX24_leastOf_b75
  refine s_if (not_congr (i_eq rfl (c_lit 0 0 rfl) rs0 ⟨by decide, by decide⟩)) hF (fun c1 hF => ?_) (fun c1 hF => ?_)
  ·
    exact SX24_leastOf_b182 (N := N) (k4 := k4) (K4 := K4) @hk4 R rfl rl1 rfl rl2 rfl rl3 rfl rs0 hF
  ·
    refine s_gO R (t_120 R.S) (Nat.le_of_ble_eq_true rfl) rfl (o_120_4 R.S) ?_
    refine s_gAs R (t_121 R.S) (Nat.le_of_ble_eq_true rfl) rfl (o_121_3 R.S) (a_125 R) ?_
    refine s_rJ R (u_125 R.S).1 (u_125 R.S).2 (a_125 R) rfl rl3 hF (fun x6 ra4 hF => ?_)
    refine s_gO R (t_120 R.S) (Nat.le_of_ble_eq_true rfl) rfl (o_120_4 R.S) ?_
    refine s_gAs R (t_121 R.S) (Nat.le_of_ble_eq_true rfl) rfl (o_121_3 R.S) (a_125 R) ?_
    refine s_rJ R (u_125 R.S).1 (u_125 R.S).2 (a_125 R) rfl rl2 hF (fun x12 ra7 hF => ?_)
    refine s_if (not_congr (lg_eq.trans (j_eq rfl rfl ra4 ra7))) hF (fun c8 hF => ?_) (fun c8 hF => ?_)
    ·
      exact SX24_leastOf_b182 (N := N) (k4 := k4) (K4 := K4) @hk4 R rfl rl1 rfl rl2 rfl rl3 rfl rs0 hF
    ·
      refine s_gO R (t_120 R.S) (Nat.le_of_ble_eq_true rfl) rfl (o_120_4 R.S) ?_
      refine s_gAs R (t_121 R.S) (Nat.le_of_ble_eq_true rfl) rfl (o_121_1 R.S) (a_123 R) ?_
      refine s_rI R (u_123 R.S).1 (u_123 R.S).2 (by decide) (a_123 R) rfl rl3 hF (fun x19 ra11 hF => ?_)
      refine s_gO R (t_120 R.S) (Nat.le_of_ble_eq_true rfl) rfl (o_120_4 R.S) ?_
      refine s_gAs R (t_121 R.S) (Nat.le_of_ble_eq_true rfl) rfl (o_121_1 R.S) (a_123 R) ?_
      refine s_rI R (u_123 R.S).1 (u_123 R.S).2 (by decide) (a_123 R) rfl rl2 hF (fun x25 ra14 hF => ?_)
      refine s_if (i_eq rfl rfl ra11 ra14) hF (fun c15 hF => ?_) (fun c15 hF => ?_)
      ·
        refine s_gO R (t_120 R.S) (Nat.le_of_ble_eq_true rfl) rfl (o_120_4 R.S) ?_
        refine s_gAs R (t_121 R.S) (Nat.le_of_ble_eq_true rfl) rfl (o_121_2 R.S) (a_124 R) ?_
        refine s_rI R (u_124 R.S).1 (u_124 R.S).2 (by decide) (a_124 R) rfl rl3 hF (fun x32 ra18 hF => ?_)
        refine s_gO R (t_120 R.S) (Nat.le_of_ble_eq_true rfl) rfl (o_120_4 R.S) ?_
        refine s_gAs R (t_121 R.S) (Nat.le_of_ble_eq_true rfl) rfl (o_121_2 R.S) (a_124 R) ?_
        refine s_rI R (u_124 R.S).1 (u_124 R.S).2 (by decide) (a_124 R) rfl rl2 hF (fun x38 ra21 hF => ?_)
        refine s_if (i_le rfl rfl ra21 ra18) hF (fun c22 hF => ?_) (fun c22 hF => ?_)
        ·
          exact SX24_leastOf_b180 (N := N) (k4 := k4) (K4 := K4) @hk4 R rfl rl1 rfl rl2 rfl rl3 (c_lit 0 0 rfl) ⟨by decide, by decide⟩ hF
        ·
          exact SX24_leastOf_b180 (N := N) (k4 := k4) (K4 := K4) @hk4 R rfl rl1 rfl rl2 rfl rl3 (c_lit 1 1 rfl) ⟨by decide, by decide⟩ hF
      ·
        refine s_gO R (t_120 R.S) (Nat.le_of_ble_eq_true rfl) rfl (o_120_4 R.S) ?_
        refine s_gAs R (t_121 R.S) (Nat.le_of_ble_eq_true rfl) rfl (o_121_1 R.S) (a_123 R) ?_
        refine s_rI R (u_123 R.S).1 (u_123 R.S).2 (by decide) (a_123 R) rfl rl3 hF (fun x45 ra25 hF => ?_)
        refine s_gO R (t_120 R.S) (Nat.le_of_ble_eq_true rfl) rfl (o_120_4 R.S) ?_
        refine s_gAs R (t_121 R.S) (Nat.le_of_ble_eq_true rfl) rfl (o_121_1 R.S) (a_123 R) ?_
        refine s_rI R (u_123 R.S).1 (u_123 R.S).2 (by decide) (a_123 R) rfl rl2 hF (fun x51 ra28 hF => ?_)
        refine s_if (i_le rfl rfl ra28 ra25) hF (fun c29 hF => ?_) (fun c29 hF => ?_)
        ·
          exact SX24_leastOf_b180 (N := N) (k4 := k4) (K4 := K4) @hk4 R rfl rl1 rfl rl2 rfl rl3 (c_lit 0 0 rfl) ⟨by decide, by decide⟩ hF
        ·
          exact SX24_leastOf_b180 (N := N) (k4 := k4) (K4 := K4) @hk4 R rfl rl1 rfl rl2 rfl rl3 (c_lit 1 1 rfl) ⟨by decide, by decide⟩ hF
def FX24_leastOf_b70 (N : Nat) (K4 : Int → Int → Int → fS → Option (Int × fS)) (l1 : Int) (l2 : Int) (l3 : Int) (s : fS) : Option (Int × fS) :=
  FX24_leastOf_b75 N K4 l1 l2 l3 1 s
theorem SX24_leastOf_b70 {m b : Nat} {φ0 : Nat → Nat} {σo : fS} {N : Nat} {k4 : Nat → Int32 → Int32 → Int32 → eH → Option (Int32 × eH)} {K4 : Int → Int → Int → fS → Option (Int × fS)} {q : Int × fS} (hk4 : ∀ {φ : Nat → Nat} {h : eH} {s : fS} {l1' : Int32} {l1 : Int} {l2' : Int32} {l2 : Int} {l3' : Int32} {l3 : Int}, fC m b φ0 σo φ h s → l1' = iI l1 → r32 l1 → l2' = iI l2 → r32 l2 → l3' = iI l3 → r32 l3 → K4 l1 l2 l3 s = some q → gG m b φ0 σo lI q (k4 120 l1' l2' l3' h)) {φ : Nat → Nat} {h : eH} {s : fS} {l1' : Int32} {l1 : Int} {l2' : Int32} {l2 : Int} {l3' : Int32} {l3 : Int} (R : fC m b φ0 σo φ h s) (el1 : l1' = iI l1) (rl1 : r32 l1) (el2 : l2' = iI l2) (rl2 : r32 l2) (el3 : l3' = iI l3) (rl3 : r32 l3) (hF : FX24_leastOf_b70 N K4 l1 l2 l3 s = some q) : gG m b φ0 σo lI q (fX24_leastOf_b70 N k4 120 l1' l2' l3' h) := by
  subst el1; subst el2; subst el3
  unfold FX24_leastOf_b70 at hF
  unfold fX24_leastOf_b70
  exact SX24_leastOf_b75 (N := N) (k4 := k4) (K4 := K4) @hk4 R rfl rl1 rfl rl2 rfl rl3 (c_lit 1 1 rfl) ⟨by decide, by decide⟩ hF
def FX24_leastOf_b43 (N : Nat) (K4 : Int → Int → Int → fS → Option (Int × fS)) (l1 : Int) (l2 : Int) (l3 : Int) (s : fS) : Option (Int × fS) :=
  if l2 = (-1) then
    FX24_leastOf_b70 N K4 l1 l2 l3 s
  else
    (uRJ s 125 l3).bind fun x6 =>
    (uRJ s 125 l2).bind fun x12 =>
    if x12 ≤ x6 then
      FX24_leastOf_b75 N K4 l1 l2 l3 0 s
    else
      FX24_leastOf_b70 N K4 l1 l2 l3 s
theorem SX24_leastOf_b43 {m b : Nat} {φ0 : Nat → Nat} {σo : fS} {N : Nat} {k4 : Nat → Int32 → Int32 → Int32 → eH → Option (Int32 × eH)} {K4 : Int → Int → Int → fS → Option (Int × fS)} {q : Int × fS} (hk4 : ∀ {φ : Nat → Nat} {h : eH} {s : fS} {l1' : Int32} {l1 : Int} {l2' : Int32} {l2 : Int} {l3' : Int32} {l3 : Int}, fC m b φ0 σo φ h s → l1' = iI l1 → r32 l1 → l2' = iI l2 → r32 l2 → l3' = iI l3 → r32 l3 → K4 l1 l2 l3 s = some q → gG m b φ0 σo lI q (k4 120 l1' l2' l3' h)) {φ : Nat → Nat} {h : eH} {s : fS} {l1' : Int32} {l1 : Int} {l2' : Int32} {l2 : Int} {l3' : Int32} {l3 : Int} (R : fC m b φ0 σo φ h s) (el1 : l1' = iI l1) (rl1 : r32 l1) (el2 : l2' = iI l2) (rl2 : r32 l2) (el3 : l3' = iI l3) (rl3 : r32 l3) (hF : FX24_leastOf_b43 N K4 l1 l2 l3 s = some q) : gG m b φ0 σo lI q (fX24_leastOf_b43 N k4 120 l1' l2' l3' h) := by
  subst el1; subst el2; subst el3
  unfold FX24_leastOf_b43 at hF
  unfold fX24_leastOf_b43
  refine s_if (i_eq rfl (c_lit (-1) (-1) rfl) rl2 ⟨by decide, by decide⟩) hF (fun c1 hF => ?_) (fun c1 hF => ?_)
  ·
    exact SX24_leastOf_b70 (N := N) (k4 := k4) (K4 := K4) @hk4 R rfl rl1 rfl rl2 rfl rl3 hF
  ·
    refine s_gO R (t_120 R.S) (Nat.le_of_ble_eq_true rfl) rfl (o_120_4 R.S) ?_
    refine s_gAs R (t_121 R.S) (Nat.le_of_ble_eq_true rfl) rfl (o_121_3 R.S) (a_125 R) ?_
    refine s_rJ R (u_125 R.S).1 (u_125 R.S).2 (a_125 R) rfl rl3 hF (fun x6 ra4 hF => ?_)
    refine s_gO R (t_120 R.S) (Nat.le_of_ble_eq_true rfl) rfl (o_120_4 R.S) ?_
    refine s_gAs R (t_121 R.S) (Nat.le_of_ble_eq_true rfl) rfl (o_121_3 R.S) (a_125 R) ?_
    refine s_rJ R (u_125 R.S).1 (u_125 R.S).2 (a_125 R) rfl rl2 hF (fun x12 ra7 hF => ?_)
    refine s_if ((lg_cmp_ge _ _).trans (j_le rfl rfl ra7 ra4)) hF (fun c8 hF => ?_) (fun c8 hF => ?_)
    ·
      exact SX24_leastOf_b75 (N := N) (k4 := k4) (K4 := K4) @hk4 R rfl rl1 rfl rl2 rfl rl3 (c_lit 0 0 rfl) ⟨by decide, by decide⟩ hF
    ·
      exact SX24_leastOf_b70 (N := N) (k4 := k4) (K4 := K4) @hk4 R rfl rl1 rfl rl2 rfl rl3 hF
def FX24_leastOf_b4 (N : Nat) : Nat → Int → Int → Int → fS → Option (Int × fS)
  | 0, _, _, _, _ => none
  | n + 1, l1, l2, l3, s =>
    if (s.i 121 6) ≤ l3 then
      some (l2, s)
    else
      (FX24_isAtEnd l3 s).bind fun q7 =>
      if q7.1 = 0 then
        FX24_leastOf_b193 N (FX24_leastOf_b4 N n) l1 l2 l3 q7.2
      else
        if l1 ≤ 0 then
          FX24_leastOf_b43 N (FX24_leastOf_b4 N n) l1 l2 l3 q7.2
        else
          (uRI q7.2 123 l3).bind fun x14 =>
          if x14 = l1 then
            FX24_leastOf_b43 N (FX24_leastOf_b4 N n) l1 l2 l3 q7.2
          else
            FX24_leastOf_b193 N (FX24_leastOf_b4 N n) l1 l2 l3 q7.2
theorem SX24_leastOf_b4 {m b : Nat} {φ0 : Nat → Nat} {σo : fS} {N : Nat} {q : Int × fS} : ∀ {n : Nat} {φ : Nat → Nat} {h : eH} {s : fS} {l1' : Int32} {l1 : Int} {l2' : Int32} {l2 : Int} {l3' : Int32} {l3 : Int}, fC m b φ0 σo φ h s → l1' = iI l1 → r32 l1 → l2' = iI l2 → r32 l2 → l3' = iI l3 → r32 l3 → FX24_leastOf_b4 N n l1 l2 l3 s = some q → gG m b φ0 σo lI q (fX24_leastOf_b4 N n 120 l1' l2' l3' h) := by
  intro n
  induction n with
 | zero => intro φ h s l1' l1 l2' l2 l3' l3 R el1 rl1 el2 rl2 el3 rl3 hF; simp [FX24_leastOf_b4] at hF
  | succ n ih =>
    intro φ h s l1' l1 l2' l2 l3' l3 R el1 rl1 el2 rl2 el3 rl3 hF
    subst el1; subst el2; subst el3
    rw [FX24_leastOf_b4] at hF
    rw [fX24_leastOf_b4]
    refine s_gO R (t_120 R.S) (Nat.le_of_ble_eq_true rfl) rfl (o_120_4 R.S) ?_
    refine s_gI R (t_121 R.S) (Nat.le_of_ble_eq_true rfl) rfl ?_
    refine s_if (i_le rfl rfl (R.ri (t_121 R.S) (Nat.le_of_ble_eq_true rfl) rfl) rl3) hF (fun c3 hF => ?_) (fun c3 hF => ?_)
    ·
      exact g_ret R hF ⟨rfl, rl2⟩
    ·
      refine s_kok R (t_120 R.S) (Nat.le_of_ble_eq_true rfl) ?_
      refine s_call R (Nat.zero_le _) (fun _ hq => SX24_isAtEnd (b := 0) (R.rf) rfl rl3 hq) hF (fun f5 rv5 h5 q7 R5 e5 E5 hF => ?_)
      refine s_if (i_eq e5.1 (c_lit 0 0 rfl) e5.2 ⟨by decide, by decide⟩) hF (fun c6 hF => ?_) (fun c6 hF => ?_)
      ·
        exact SX24_leastOf_b193 (N := N) (k4 := fX24_leastOf_b4 N n) (K4 := FX24_leastOf_b4 N n) @ih R5 rfl rl1 rfl rl2 rfl rl3 hF
      ·
        refine s_if (i_le rfl (c_lit 0 0 rfl) rl1 ⟨by decide, by decide⟩) hF (fun c7 hF => ?_) (fun c7 hF => ?_)
        ·
          exact SX24_leastOf_b43 (N := N) (k4 := fX24_leastOf_b4 N n) (K4 := FX24_leastOf_b4 N n) @ih R5 rfl rl1 rfl rl2 rfl rl3 hF
        ·
          refine s_gO R5 (t_120 R5.S) (Nat.le_of_ble_eq_true rfl) rfl (o_120_4 R5.S) ?_
          refine s_gAs R5 (t_121 R5.S) (Nat.le_of_ble_eq_true rfl) rfl (o_121_1 R5.S) (a_123 R5) ?_
          refine s_rI R5 (u_123 R5.S).1 (u_123 R5.S).2 (by decide) (a_123 R5) rfl rl3 hF (fun x14 ra10 hF => ?_)
          refine s_if (i_eq rfl rfl ra10 rl1) hF (fun c11 hF => ?_) (fun c11 hF => ?_)
          ·
            exact SX24_leastOf_b43 (N := N) (k4 := fX24_leastOf_b4 N n) (K4 := FX24_leastOf_b4 N n) @ih R5 rfl rl1 rfl rl2 rfl rl3 hF
          ·
            exact SX24_leastOf_b193 (N := N) (k4 := fX24_leastOf_b4 N n) (K4 := FX24_leastOf_b4 N n) @ih R5 rfl rl1 rfl rl2 rfl rl3 hF
def FX24_leastOf (N : Nat) (p0 : Int) (s : fS) : Option (Int × fS) :=
  FX24_leastOf_b4 N N p0 (-1) 1 s
theorem SX24_leastOf {m b : Nat} {φ0 : Nat → Nat} {σo : fS} {N : Nat} {q : Int × fS} {φ : Nat → Nat} {h : eH} {s : fS} {p0' : Int32} {p0 : Int} (R : fC m b φ0 σo φ h s) (ep0 : p0' = iI p0) (rp0 : r32 p0) (hF : FX24_leastOf N p0 s = some q) : gG m b φ0 σo lI q (fX24_leastOf N 120 p0' h) := by
  subst ep0
  unfold FX24_leastOf at hF
  unfold fX24_leastOf
  exact SX24_leastOf_b4 (N := N) R rfl rp0 (c_lit (-1) (-1) rfl) ⟨by decide, by decide⟩ (c_lit 1 1 rfl) ⟨by decide, by decide⟩ hF
def FX24_choose_b21 (N : Nat) (l1 : Int) (s : fS) : Option (Int × fS) :=
  some (l1, s)
theorem SX24_choose_b21 {m b : Nat} {φ0 : Nat → Nat} {σo : fS} {N : Nat} {q : Int × fS} {φ : Nat → Nat} {h : eH} {s : fS} {l1' : Int32} {l1 : Int} (R : fC m b φ0 σo φ h s) (el1 : l1' = iI l1) (rl1 : r32 l1) (hF : FX24_choose_b21 N l1 s = some q) : gG m b φ0 σo lI q (fX24_choose_b21 N l1' h) := by
  subst el1
  unfold FX24_choose_b21 at hF
  unfold fX24_choose_b21
  exact g_ret R hF ⟨rfl, rl1⟩
def FX24_choose_b93 (N : Nat) (K66 : Int → Int → Int → Int → Int → Int → fS → Option (Int × fS)) (l1 : Int) (l2 : Int) (l3 : Int) (l4 : Int) (l6 : Int) (s0 : Int) (s : fS) : Option (Int × fS) :=
  K66 l1 l2 l3 l4 s0 (iadd l6 l4) s
theorem SX24_choose_b93 {m b : Nat} {φ0 : Nat → Nat} {σo : fS} {N : Nat} {k66 : Nat → Int32 → Int32 → Int32 → Int32 → Int32 → Int32 → eH → Option (Int32 × eH)} {K66 : Int → Int → Int → Int → Int → Int → fS → Option (Int × fS)} {q : Int × fS} (hk66 : ∀ {φ : Nat → Nat} {h : eH} {s : fS} {l1' : Int32} {l1 : Int} {l2' : Int32} {l2 : Int} {l3' : Int32} {l3 : Int} {l4' : Int32} {l4 : Int} {l5' : Int32} {l5 : Int} {l6' : Int32} {l6 : Int}, fC m b φ0 σo φ h s → l1' = iI l1 → r32 l1 → l2' = iI l2 → r32 l2 → l3' = iI l3 → r32 l3 → l4' = iI l4 → r32 l4 → l5' = iI l5 → r32 l5 → l6' = iI l6 → r32 l6 → K66 l1 l2 l3 l4 l5 l6 s = some q → gG m b φ0 σo lI q (k66 120 l1' l2' l3' l4' l5' l6' h)) {φ : Nat → Nat} {h : eH} {s : fS} {l1' : Int32} {l1 : Int} {l2' : Int32} {l2 : Int} {l3' : Int32} {l3 : Int} {l4' : Int32} {l4 : Int} {l6' : Int32} {l6 : Int} {s0' : Int32} {s0 : Int} (R : fC m b φ0 σo φ h s) (el1 : l1' = iI l1) (rl1 : r32 l1) (el2 : l2' = iI l2) (rl2 : r32 l2) (el3 : l3' = iI l3) (rl3 : r32 l3) (el4 : l4' = iI l4) (rl4 : r32 l4) (el6 : l6' = iI l6) (rl6 : r32 l6) (es0 : s0' = iI s0) (rs0 : r32 s0) (hF : FX24_choose_b93 N K66 l1 l2 l3 l4 l6 s0 s = some q) : gG m b φ0 σo lI q (fX24_choose_b93 N k66 120 l1' l2' l3' l4' l6' s0' h) := by
  subst el1; subst el2; subst el3; subst el4; subst el6; subst es0
  unfold FX24_choose_b93 at hF
  unfold fX24_choose_b93
  exact hk66 R rfl rl1 rfl rl2 rfl rl3 rfl rl4 rfl rs0 (c_add rfl rfl) (rr_I _) hF
def FX24_choose_b141 (N : Nat) (s0 : Int) (s : fS) : Option (Int × fS) :=
  some (s0, s)
theorem SX24_choose_b141 {m b : Nat} {φ0 : Nat → Nat} {σo : fS} {N : Nat} {q : Int × fS} {φ : Nat → Nat} {h : eH} {s : fS} {s0' : Int32} {s0 : Int} (R : fC m b φ0 σo φ h s) (es0 : s0' = iI s0) (rs0 : r32 s0) (hF : FX24_choose_b141 N s0 s = some q) : gG m b φ0 σo lI q (fX24_choose_b141 N s0' h) := by
  subst es0
  unfold FX24_choose_b141 at hF
  unfold fX24_choose_b141
  exact g_ret R hF ⟨rfl, rs0⟩
def FX24_choose_b135 (N : Nat) (l5 : Int) (s : fS) : Option (Int × fS) :=
  FX24_choose_b141 N l5 s
theorem SX24_choose_b135 {m b : Nat} {φ0 : Nat → Nat} {σo : fS} {N : Nat} {q : Int × fS} {φ : Nat → Nat} {h : eH} {s : fS} {l5' : Int32} {l5 : Int} (R : fC m b φ0 σo φ h s) (el5 : l5' = iI l5) (rl5 : r32 l5) (hF : FX24_choose_b135 N l5 s = some q) : gG m b φ0 σo lI q (fX24_choose_b135 N l5' h) := by
  subst el5
  unfold FX24_choose_b135 at hF
  unfold fX24_choose_b135
  exact SX24_choose_b141 (N := N) R rfl rl5 hF
def FX24_choose_b114 (N : Nat) (l3 : Int) (l5 : Int) (s : fS) : Option (Int × fS) :=
  if ¬ ((s.i 120 9) = 0) then
    FX24_choose_b135 N l5 s
  else
    (uRI s 123 l5).bind fun x8 =>
    if ¬ (x8 = l3) then
      FX24_choose_b141 N (-1) s
    else
      FX24_choose_b135 N l5 s
theorem SX24_choose_b114 {m b : Nat} {φ0 : Nat → Nat} {σo : fS} {N : Nat} {q : Int × fS} {φ : Nat → Nat} {h : eH} {s : fS} {l3' : Int32} {l3 : Int} {l5' : Int32} {l5 : Int} (R : fC m b φ0 σo φ h s) (el3 : l3' = iI l3) (rl3 : r32 l3) (el5 : l5' = iI l5) (rl5 : r32 l5) (hF : FX24_choose_b114 N l3 l5 s = some q) : gG m b φ0 σo lI q (fX24_choose_b114 N 120 l3' l5' h) := by
  subst el3; subst el5
  unfold FX24_choose_b114 at hF
  unfold fX24_choose_b114
  refine s_gI R (t_120 R.S) (Nat.le_of_ble_eq_true rfl) rfl ?_
  refine s_if (not_congr (i_eq rfl (c_lit 0 0 rfl) (R.ri (t_120 R.S) (Nat.le_of_ble_eq_true rfl) rfl) ⟨by decide, by decide⟩)) hF (fun c2 hF => ?_) (fun c2 hF => ?_)
  ·
    exact SX24_choose_b135 (N := N) R rfl rl5 hF
  ·
    refine s_gO R (t_120 R.S) (Nat.le_of_ble_eq_true rfl) rfl (o_120_4 R.S) ?_
    refine s_gAs R (t_121 R.S) (Nat.le_of_ble_eq_true rfl) rfl (o_121_1 R.S) (a_123 R) ?_
    refine s_rI R (u_123 R.S).1 (u_123 R.S).2 (by decide) (a_123 R) rfl rl5 hF (fun x8 ra5 hF => ?_)
    refine s_if (not_congr (i_eq rfl rfl ra5 rl3)) hF (fun c6 hF => ?_) (fun c6 hF => ?_)
    ·
      exact SX24_choose_b141 (N := N) R (c_lit (-1) (-1) rfl) ⟨by decide, by decide⟩ hF
    ·
      exact SX24_choose_b135 (N := N) R rfl rl5 hF
def FX24_choose_b105 (N : Nat) (l1 : Int) (l3 : Int) (l5 : Int) (s : fS) : Option (Int × fS) :=
  if ¬ (l5 = (-1)) then
    FX24_choose_b114 N l3 l5 s
  else
    FX24_choose_b114 N l3 l1 s
theorem SX24_choose_b105 {m b : Nat} {φ0 : Nat → Nat} {σo : fS} {N : Nat} {q : Int × fS} {φ : Nat → Nat} {h : eH} {s : fS} {l1' : Int32} {l1 : Int} {l3' : Int32} {l3 : Int} {l5' : Int32} {l5 : Int} (R : fC m b φ0 σo φ h s) (el1 : l1' = iI l1) (rl1 : r32 l1) (el3 : l3' = iI l3) (rl3 : r32 l3) (el5 : l5' = iI l5) (rl5 : r32 l5) (hF : FX24_choose_b105 N l1 l3 l5 s = some q) : gG m b φ0 σo lI q (fX24_choose_b105 N 120 l1' l3' l5' h) := by
  subst el1; subst el3; subst el5
  unfold FX24_choose_b105 at hF
  unfold fX24_choose_b105
  refine s_if (not_congr (i_eq rfl (c_lit (-1) (-1) rfl) rl5 ⟨by decide, by decide⟩)) hF (fun c1 hF => ?_) (fun c1 hF => ?_)
  ·
    exact SX24_choose_b114 (N := N) R rfl rl3 rfl rl5 hF
  ·
    exact SX24_choose_b114 (N := N) R rfl rl3 rfl rl1 hF
def FX24_choose_b66 (N : Nat) : Nat → Int → Int → Int → Int → Int → Int → fS → Option (Int × fS)
  | 0, _, _, _, _, _, _, _ => none
  | n + 1, l1, l2, l3, l4, l5, l6, s =>
    if ¬ (l5 = (-1)) then
      FX24_choose_b105 N l1 l3 l5 s
    else
      if l6 = l2 then
        FX24_choose_b105 N l1 l3 l5 s
      else
        if l6 ≤ 0 then
          FX24_choose_b93 N (FX24_choose_b66 N n) l1 l2 l3 l4 l6 (-1) s
        else
          (FX24_leastOf N l6 s).bind fun q5 =>
          FX24_choose_b93 N (FX24_choose_b66 N n) l1 l2 l3 l4 l6 q5.1 q5.2
theorem SX24_choose_b66 {m b : Nat} {φ0 : Nat → Nat} {σo : fS} {N : Nat} {q : Int × fS} : ∀ {n : Nat} {φ : Nat → Nat} {h : eH} {s : fS} {l1' : Int32} {l1 : Int} {l2' : Int32} {l2 : Int} {l3' : Int32} {l3 : Int} {l4' : Int32} {l4 : Int} {l5' : Int32} {l5 : Int} {l6' : Int32} {l6 : Int}, fC m b φ0 σo φ h s → l1' = iI l1 → r32 l1 → l2' = iI l2 → r32 l2 → l3' = iI l3 → r32 l3 → l4' = iI l4 → r32 l4 → l5' = iI l5 → r32 l5 → l6' = iI l6 → r32 l6 → FX24_choose_b66 N n l1 l2 l3 l4 l5 l6 s = some q → gG m b φ0 σo lI q (fX24_choose_b66 N n 120 l1' l2' l3' l4' l5' l6' h) := by
  intro n
  induction n with
 | zero => intro φ h s l1' l1 l2' l2 l3' l3 l4' l4 l5' l5 l6' l6 R el1 rl1 el2 rl2 el3 rl3 el4 rl4 el5 rl5 el6 rl6 hF; simp [FX24_choose_b66] at hF
  | succ n ih =>
    intro φ h s l1' l1 l2' l2 l3' l3 l4' l4 l5' l5 l6' l6 R el1 rl1 el2 rl2 el3 rl3 el4 rl4 el5 rl5 el6 rl6 hF
    subst el1; subst el2; subst el3; subst el4; subst el5; subst el6
    rw [FX24_choose_b66] at hF
    rw [fX24_choose_b66]
    refine s_if (not_congr (i_eq rfl (c_lit (-1) (-1) rfl) rl5 ⟨by decide, by decide⟩)) hF (fun c1 hF => ?_) (fun c1 hF => ?_)
    ·
      exact SX24_choose_b105 (N := N) R rfl rl1 rfl rl3 rfl rl5 hF
    ·
      refine s_if (i_eq rfl rfl rl6 rl2) hF (fun c2 hF => ?_) (fun c2 hF => ?_)
      ·
        exact SX24_choose_b105 (N := N) R rfl rl1 rfl rl3 rfl rl5 hF
      ·
        refine s_if (i_le rfl (c_lit 0 0 rfl) rl6 ⟨by decide, by decide⟩) hF (fun c3 hF => ?_) (fun c3 hF => ?_)
        ·
          exact SX24_choose_b93 (N := N) (k66 := fX24_choose_b66 N n) (K66 := FX24_choose_b66 N n) @ih R rfl rl1 rfl rl2 rfl rl3 rfl rl4 rfl rl6 (c_lit (-1) (-1) rfl) ⟨by decide, by decide⟩ hF
        ·
          refine s_kok R (t_120 R.S) (Nat.le_of_ble_eq_true rfl) ?_
          refine s_call R (Nat.zero_le _) (fun _ hq => SX24_leastOf (b := 0) (N := N) (R.rf) rfl rl6 hq) hF (fun f5 rv5 h5 q5 R5 e5 E5 hF => ?_)
          exact SX24_choose_b93 (N := N) (k66 := fX24_choose_b66 N n) (K66 := FX24_choose_b66 N n) @ih R5 rfl rl1 rfl rl2 rfl rl3 rfl rl4 rfl rl6 e5.1 e5.2 hF
def FX24_choose_b58 (N : Nat) (l1 : Int) (l2 : Int) (l3 : Int) (s0 : Int) (s : fS) : Option (Int × fS) :=
  FX24_choose_b66 N N l1 l2 l3 s0 (-1) l3 s
theorem SX24_choose_b58 {m b : Nat} {φ0 : Nat → Nat} {σo : fS} {N : Nat} {q : Int × fS} {φ : Nat → Nat} {h : eH} {s : fS} {l1' : Int32} {l1 : Int} {l2' : Int32} {l2 : Int} {l3' : Int32} {l3 : Int} {s0' : Int32} {s0 : Int} (R : fC m b φ0 σo φ h s) (el1 : l1' = iI l1) (rl1 : r32 l1) (el2 : l2' = iI l2) (rl2 : r32 l2) (el3 : l3' = iI l3) (rl3 : r32 l3) (es0 : s0' = iI s0) (rs0 : r32 s0) (hF : FX24_choose_b58 N l1 l2 l3 s0 s = some q) : gG m b φ0 σo lI q (fX24_choose_b58 N 120 l1' l2' l3' s0' h) := by
  subst el1; subst el2; subst el3; subst es0
  unfold FX24_choose_b58 at hF
  unfold fX24_choose_b58
  exact SX24_choose_b66 (N := N) R rfl rl1 rfl rl2 rfl rl3 rfl rs0 (c_lit (-1) (-1) rfl) ⟨by decide, by decide⟩ rfl rl3 hF
def FX24_choose (N : Nat) (s : fS) : Option (Int × fS) :=
  (FX24_leastOf N 0 s).bind fun q2 =>
  if q2.1 = (-1) then
    FX24_choose_b21 N q2.1 q2.2
  else
    (uRI q2.2 117 9).bind fun x6 =>
    if ¬ (x6 = 0) then
      (uRI q2.2 123 q2.1).bind fun x13 =>
      (uRI q2.2 117 9).bind fun x17 =>
      (uRI q2.2 117 9).bind fun x21 =>
      if x21 ≤ 0 then
        FX24_choose_b58 N q2.1 x13 (iadd x13 x17) 1 q2.2
      else
        FX24_choose_b58 N q2.1 x13 (iadd x13 x17) (-1) q2.2
    else
      FX24_choose_b21 N q2.1 q2.2
theorem SX24_choose {m b : Nat} {φ0 : Nat → Nat} {σo : fS} {N : Nat} {q : Int × fS} {φ : Nat → Nat} {h : eH} {s : fS} (R : fC m b φ0 σo φ h s) (hF : FX24_choose N s = some q) : gG m b φ0 σo lI q (fX24_choose N 120 h) := by
  unfold FX24_choose at hF
  unfold fX24_choose
  refine s_kok R (t_120 R.S) (Nat.le_of_ble_eq_true rfl) ?_
  refine s_call R (Nat.zero_le _) (fun _ hq => SX24_leastOf (b := 0) (N := N) (R.rf) (c_lit 0 0 rfl) ⟨by decide, by decide⟩ hq) hF (fun f2 rv2 h2 q2 R2 e2 E2 hF => ?_)
  refine s_if (i_eq e2.1 (c_lit (-1) (-1) rfl) e2.2 ⟨by decide, by decide⟩) hF (fun c3 hF => ?_) (fun c3 hF => ?_)
  ·
    exact SX24_choose_b21 (N := N) R2 e2.1 e2.2 hF
  ·
    refine s_gAs R2 (t_120 R2.S) (Nat.le_of_ble_eq_true rfl) rfl (o_120_2 R2.S) (a_117 R2) ?_
    refine s_rI R2 (u_117 R2.S).1 (u_117 R2.S).2 (by decide) (a_117 R2) (c_lit 9 9 rfl) ⟨by decide, by decide⟩ hF (fun x6 ra5 hF => ?_)
    refine s_if (not_congr (i_eq rfl (c_lit 0 0 rfl) ra5 ⟨by decide, by decide⟩)) hF (fun c6 hF => ?_) (fun c6 hF => ?_)
    ·
      refine s_gO R2 (t_120 R2.S) (Nat.le_of_ble_eq_true rfl) rfl (o_120_4 R2.S) ?_
      refine s_gAs R2 (t_121 R2.S) (Nat.le_of_ble_eq_true rfl) rfl (o_121_1 R2.S) (a_123 R2) ?_
      refine s_rI R2 (u_123 R2.S).1 (u_123 R2.S).2 (by decide) (a_123 R2) e2.1 e2.2 hF (fun x13 ra9 hF => ?_)
      refine s_gAs R2 (t_120 R2.S) (Nat.le_of_ble_eq_true rfl) rfl (o_120_2 R2.S) (a_117 R2) ?_
      refine s_rI R2 (u_117 R2.S).1 (u_117 R2.S).2 (by decide) (a_117 R2) (c_lit 9 9 rfl) ⟨by decide, by decide⟩ hF (fun x17 ra11 hF => ?_)
      refine s_gAs R2 (t_120 R2.S) (Nat.le_of_ble_eq_true rfl) rfl (o_120_2 R2.S) (a_117 R2) ?_
      refine s_rI R2 (u_117 R2.S).1 (u_117 R2.S).2 (by decide) (a_117 R2) (c_lit 9 9 rfl) ⟨by decide, by decide⟩ hF (fun x21 ra13 hF => ?_)
      refine s_if (i_le rfl (c_lit 0 0 rfl) ra13 ⟨by decide, by decide⟩) hF (fun c14 hF => ?_) (fun c14 hF => ?_)
      ·
        exact SX24_choose_b58 (N := N) R2 e2.1 e2.2 rfl ra9 (c_add rfl rfl) (rr_I _) (c_lit 1 1 rfl) ⟨by decide, by decide⟩ hF
      ·
        exact SX24_choose_b58 (N := N) R2 e2.1 e2.2 rfl ra9 (c_add rfl rfl) (rr_I _) (c_lit (-1) (-1) rfl) ⟨by decide, by decide⟩ hF
    ·
      exact SX24_choose_b21 (N := N) R2 e2.1 e2.2 hF
def FX21_runPass_b46 (N : Nat) (s0 : Int) (s : fS) : Option (Int × fS) :=
  some (s0, s)
theorem SX21_runPass_b46 {m b : Nat} {φ0 : Nat → Nat} {σo : fS} {N : Nat} {q : Int × fS} {φ : Nat → Nat} {h : eH} {s : fS} {s0' : Int32} {s0 : Int} (R : fC m b φ0 σo φ h s) (es0 : s0' = iI s0) (rs0 : r32 s0) (hF : FX21_runPass_b46 N s0 s = some q) : gG m b φ0 σo lI q (fX21_runPass_b46 N s0' h) := by
  subst es0
  unfold FX21_runPass_b46 at hF
  unfold fX21_runPass_b46
  exact g_ret R hF ⟨rfl, rs0⟩
def FX21_runPass (N : Nat) (p0 : Int) (p1 : Int) (p2 : Int) (s : fS) : Option (Int × fS) :=
  (uPI s 120 10 p0).bind fun σ3 =>
  (uPZ σ3 120 8 p1).bind fun σ7 =>
  (uPZ σ7 120 9 p2).bind fun σ11 =>
  (FX24_run N σ11).bind fun q16 =>
  if q16.1 = 0 then
    FX21_runPass_b46 N (-2) q16.2
  else
    (FX24_choose N q16.2).bind fun q21 =>
    FX21_runPass_b46 N q21.1 q21.2
theorem SX21_runPass {m b : Nat} {φ0 : Nat → Nat} {σo : fS} {N : Nat} {q : Int × fS} {φ : Nat → Nat} {h : eH} {s : fS} {p0' : Int32} {p0 : Int} {p1' : Int32} {p1 : Int} {p2' : Int32} {p2 : Int} (R : fC m b φ0 σo φ h s) (ep0 : p0' = iI p0) (rp0 : r32 p0) (ep1 : p1' = iI p1) (rp1 : r32 p1) (ep2 : p2' = iI p2) (rp2 : r32 p2) (hF : FX21_runPass N p0 p1 p2 s = some q) : gG m b φ0 σo lI q (fX21_runPass N 103 p0' p1' p2' h) := by
  subst ep0; subst ep1; subst ep2
  unfold FX21_runPass at hF
  unfold fX21_runPass
  refine s_gO R (t_103 R.S) (Nat.le_of_ble_eq_true rfl) rfl (o_103_5 R.S) ?_
  refine s_pI R (t_120 R.S) (Nat.le_of_ble_eq_true rfl) rfl rfl rp0 hF (fun h2 σ3 R2 T2 hF => ?_)
  refine s_gO R2 (t_103 R2.S) (Nat.le_of_ble_eq_true rfl) rfl (o_103_5 R2.S) ?_
  refine s_pZ R2 (t_120 R2.S) (Nat.le_of_ble_eq_true rfl) rfl rfl rp1 hF (fun h4 σ7 R4 T4 hF => ?_)
  refine s_gO R4 (t_103 R4.S) (Nat.le_of_ble_eq_true rfl) rfl (o_103_5 R4.S) ?_
  refine s_pZ R4 (t_120 R4.S) (Nat.le_of_ble_eq_true rfl) rfl rfl rp2 hF (fun h6 σ11 R6 T6 hF => ?_)
  refine s_gO R6 (t_103 R6.S) (Nat.le_of_ble_eq_true rfl) rfl (o_103_5 R6.S) ?_
  refine s_kok R6 (t_120 R6.S) (Nat.le_of_ble_eq_true rfl) ?_
  refine s_call R6 (Nat.zero_le _) (fun _ hq => SX24_run (b := 0) (N := N) (R6.rf) hq) hF (fun f9 rv9 h9 q16 R9 e9 E9 hF => ?_)
  refine s_if (i_eq e9.1 (c_lit 0 0 rfl) e9.2 ⟨by decide, by decide⟩) hF (fun c10 hF => ?_) (fun c10 hF => ?_)
  ·
    exact SX21_runPass_b46 (N := N) R9 (c_lit (-2) (-2) rfl) ⟨by decide, by decide⟩ hF
  ·
    refine s_gO R9 (t_103 R9.S) (Nat.le_of_ble_eq_true rfl) rfl (o_103_5 R9.S) ?_
    refine s_kok R9 (t_120 R9.S) (Nat.le_of_ble_eq_true rfl) ?_
    refine s_call R9 (Nat.zero_le _) (fun _ hq => SX24_choose (b := 0) (N := N) (R9.rf) hq) hF (fun f13 rv13 h13 q21 R13 e13 E13 hF => ?_)
    exact SX21_runPass_b46 (N := N) R13 e13.1 e13.2 hF
def FX21_runAll_b104 (N : Nat) (l1 : Int) (s : fS) : Option (Int × fS) :=
  some (l1, s)
theorem SX21_runAll_b104 {m b : Nat} {φ0 : Nat → Nat} {σo : fS} {N : Nat} {q : Int × fS} {φ : Nat → Nat} {h : eH} {s : fS} {l1' : Int32} {l1 : Int} (R : fC m b φ0 σo φ h s) (el1 : l1' = iI l1) (rl1 : r32 l1) (hF : FX21_runAll_b104 N l1 s = some q) : gG m b φ0 σo lI q (fX21_runAll_b104 N l1' h) := by
  subst el1
  unfold FX21_runAll_b104 at hF
  unfold fX21_runAll_b104
  exact g_ret R hF ⟨rfl, rl1⟩
def FX21_runAll_b56 (N : Nat) (l1 : Int) (s : fS) : Option (Int × fS) :=
  if ¬ (l1 = (-1)) then
    FX21_runAll_b104 N l1 s
  else
    (uRI s 117 8).bind fun x4 =>
    if x4 ≤ 0 then
      FX21_runAll_b104 N l1 s
    else
      (uRJ s 116 0).bind fun x11 =>
      (uRI s 117 8).bind fun x15 =>
      (uQJ s 116 0 (ladd x11 x15)).bind fun σ17 =>
      (uRI σ17 117 1).bind fun x21 =>
      (FX21_runPass N x21 1 1 σ17).bind fun q24 =>
      FX21_runAll_b104 N q24.1 q24.2
theorem SX21_runAll_b56 {m b : Nat} {φ0 : Nat → Nat} {σo : fS} {N : Nat} {q : Int × fS} {φ : Nat → Nat} {h : eH} {s : fS} {l1' : Int32} {l1 : Int} (R : fC m b φ0 σo φ h s) (el1 : l1' = iI l1) (rl1 : r32 l1) (hF : FX21_runAll_b56 N l1 s = some q) : gG m b φ0 σo lI q (fX21_runAll_b56 N 103 l1' h) := by
  subst el1
  unfold FX21_runAll_b56 at hF
  unfold fX21_runAll_b56
  refine s_if (not_congr (i_eq rfl (c_lit (-1) (-1) rfl) rl1 ⟨by decide, by decide⟩)) hF (fun c1 hF => ?_) (fun c1 hF => ?_)
  ·
    exact SX21_runAll_b104 (N := N) R rfl rl1 hF
  ·
    refine s_gAs R (t_103 R.S) (Nat.le_of_ble_eq_true rfl) rfl (o_103_2 R.S) (a_117 R) ?_
    refine s_rI R (u_117 R.S).1 (u_117 R.S).2 (by decide) (a_117 R) (c_lit 8 8 rfl) ⟨by decide, by decide⟩ hF (fun x4 ra3 hF => ?_)
    refine s_if (i_le rfl (c_lit 0 0 rfl) ra3 ⟨by decide, by decide⟩) hF (fun c4 hF => ?_) (fun c4 hF => ?_)
    ·
      exact SX21_runAll_b104 (N := N) R rfl rl1 hF
    ·
      refine s_gO R (t_103 R.S) (Nat.le_of_ble_eq_true rfl) rfl (o_103_1 R.S) ?_
      refine s_gAs R (t_110 R.S) (Nat.le_of_ble_eq_true rfl) rfl (o_110_5 R.S) (a_116 R) ?_
      refine s_rJ R (u_116 R.S).1 (u_116 R.S).2 (a_116 R) (c_lit 0 0 rfl) ⟨by decide, by decide⟩ hF (fun x11 ra7 hF => ?_)
      refine s_gAs R (t_103 R.S) (Nat.le_of_ble_eq_true rfl) rfl (o_103_2 R.S) (a_117 R) ?_
      refine s_rI R (u_117 R.S).1 (u_117 R.S).2 (by decide) (a_117 R) (c_lit 8 8 rfl) ⟨by decide, by decide⟩ hF (fun x15 ra9 hF => ?_)
      refine s_qJ R (u_116 R.S).1 (u_116 R.S).2 (a_116 R) (c_lit 0 0 rfl) ⟨by decide, by decide⟩ (d_add rfl (c_2l rfl ra9)) (rr_J _) hF (fun h10 σ17 R10 T10 hF => ?_)
      refine s_gAs R10 (t_103 R10.S) (Nat.le_of_ble_eq_true rfl) rfl (o_103_2 R10.S) (a_117 R10) ?_
      refine s_rI R10 (u_117 R10.S).1 (u_117 R10.S).2 (by decide) (a_117 R10) (c_lit 1 1 rfl) ⟨by decide, by decide⟩ hF (fun x21 ra12 hF => ?_)
      refine s_kok R10 (t_103 R10.S) (Nat.le_of_ble_eq_true rfl) ?_
      refine s_call R10 (Nat.zero_le _) (fun _ hq => SX21_runPass (b := 0) (N := N) (R10.rf) rfl ra12 (c_lit 1 1 rfl) ⟨by decide, by decide⟩ (c_lit 1 1 rfl) ⟨by decide, by decide⟩ hq) hF (fun f14 rv14 h14 q24 R14 e14 E14 hF => ?_)
      exact SX21_runAll_b104 (N := N) R14 e14.1 e14.2 hF
def FX21_runAll_b52 (N : Nat) (s1 : Int) (s2 : Int) (s3 : Int) (s : fS) : Option (Int × fS) :=
  (FX21_runPass N s1 s2 s3 s).bind fun q2 =>
  FX21_runAll_b56 N q2.1 q2.2
theorem SX21_runAll_b52 {m b : Nat} {φ0 : Nat → Nat} {σo : fS} {N : Nat} {q : Int × fS} {φ : Nat → Nat} {h : eH} {s : fS} {s1' : Int32} {s1 : Int} {s2' : Int32} {s2 : Int} {s3' : Int32} {s3 : Int} (R : fC m b φ0 σo φ h s) (es1 : s1' = iI s1) (rs1 : r32 s1) (es2 : s2' = iI s2) (rs2 : r32 s2) (es3 : s3' = iI s3) (rs3 : r32 s3) (hF : FX21_runAll_b52 N s1 s2 s3 s = some q) : gG m b φ0 σo lI q (fX21_runAll_b52 N 103 103 s1' s2' s3' h) := by
  subst es1; subst es2; subst es3
  unfold FX21_runAll_b52 at hF
  unfold fX21_runAll_b52
  refine s_kok R (t_103 R.S) (Nat.le_of_ble_eq_true rfl) ?_
  refine s_call R (Nat.zero_le _) (fun _ hq => SX21_runPass (b := 0) (N := N) (R.rf) rfl rs1 rfl rs2 rfl rs3 hq) hF (fun f2 rv2 h2 q2 R2 e2 E2 hF => ?_)
  exact SX21_runAll_b56 (N := N) R2 e2.1 e2.2 hF
def FX21_runAll_b24 (N : Nat) (l1 : Int) (s : fS) : Option (Int × fS) :=
  if ¬ (l1 = (-1)) then
    FX21_runAll_b56 N l1 s
  else
    (uRI s 117 1).bind fun x4 =>
    (uRI s 117 8).bind fun x8 =>
    if ¬ (x8 = 0) then
      FX21_runAll_b52 N x4 1 0 s
    else
      FX21_runAll_b52 N x4 1 1 s
theorem SX21_runAll_b24 {m b : Nat} {φ0 : Nat → Nat} {σo : fS} {N : Nat} {q : Int × fS} {φ : Nat → Nat} {h : eH} {s : fS} {l1' : Int32} {l1 : Int} (R : fC m b φ0 σo φ h s) (el1 : l1' = iI l1) (rl1 : r32 l1) (hF : FX21_runAll_b24 N l1 s = some q) : gG m b φ0 σo lI q (fX21_runAll_b24 N 103 l1' h) := by
  subst el1
  unfold FX21_runAll_b24 at hF
  unfold fX21_runAll_b24
  refine s_if (not_congr (i_eq rfl (c_lit (-1) (-1) rfl) rl1 ⟨by decide, by decide⟩)) hF (fun c1 hF => ?_) (fun c1 hF => ?_)
  ·
    exact SX21_runAll_b56 (N := N) R rfl rl1 hF
  ·
    refine s_gAs R (t_103 R.S) (Nat.le_of_ble_eq_true rfl) rfl (o_103_2 R.S) (a_117 R) ?_
    refine s_rI R (u_117 R.S).1 (u_117 R.S).2 (by decide) (a_117 R) (c_lit 1 1 rfl) ⟨by decide, by decide⟩ hF (fun x4 ra3 hF => ?_)
    refine s_gAs R (t_103 R.S) (Nat.le_of_ble_eq_true rfl) rfl (o_103_2 R.S) (a_117 R) ?_
    refine s_rI R (u_117 R.S).1 (u_117 R.S).2 (by decide) (a_117 R) (c_lit 8 8 rfl) ⟨by decide, by decide⟩ hF (fun x8 ra5 hF => ?_)
    refine s_if (not_congr (i_eq rfl (c_lit 0 0 rfl) ra5 ⟨by decide, by decide⟩)) hF (fun c6 hF => ?_) (fun c6 hF => ?_)
    ·
      exact SX21_runAll_b52 (N := N) R rfl ra3 (c_lit 1 1 rfl) ⟨by decide, by decide⟩ (c_lit 0 0 rfl) ⟨by decide, by decide⟩ hF
    ·
      exact SX21_runAll_b52 (N := N) R rfl ra3 (c_lit 1 1 rfl) ⟨by decide, by decide⟩ (c_lit 1 1 rfl) ⟨by decide, by decide⟩ hF
def FX21_runAll (N : Nat) (s : fS) : Option (Int × fS) :=
  (uRI s 117 0).bind fun x3 =>
  if x3 < 0 then
    FX21_runAll_b24 N (-1) s
  else
    (uRI s 117 0).bind fun x8 =>
    (FX21_runPass N x8 0 0 s).bind fun q11 =>
    FX21_runAll_b24 N q11.1 q11.2
theorem SX21_runAll {m b : Nat} {φ0 : Nat → Nat} {σo : fS} {N : Nat} {q : Int × fS} {φ : Nat → Nat} {h : eH} {s : fS} (R : fC m b φ0 σo φ h s) (hF : FX21_runAll N s = some q) : gG m b φ0 σo lI q (fX21_runAll N 103 h) := by
  unfold FX21_runAll at hF
  unfold fX21_runAll
  refine s_gAs R (t_103 R.S) (Nat.le_of_ble_eq_true rfl) rfl (o_103_2 R.S) (a_117 R) ?_
  refine s_rI R (u_117 R.S).1 (u_117 R.S).2 (by decide) (a_117 R) (c_lit 0 0 rfl) ⟨by decide, by decide⟩ hF (fun x3 ra2 hF => ?_)
  refine s_if (i_lt rfl (c_lit 0 0 rfl) ra2 ⟨by decide, by decide⟩) hF (fun c3 hF => ?_) (fun c3 hF => ?_)
  ·
    exact SX21_runAll_b24 (N := N) R (c_lit (-1) (-1) rfl) ⟨by decide, by decide⟩ hF
  ·
    refine s_gAs R (t_103 R.S) (Nat.le_of_ble_eq_true rfl) rfl (o_103_2 R.S) (a_117 R) ?_
    refine s_rI R (u_117 R.S).1 (u_117 R.S).2 (by decide) (a_117 R) (c_lit 0 0 rfl) ⟨by decide, by decide⟩ hF (fun x8 ra5 hF => ?_)
    refine s_kok R (t_103 R.S) (Nat.le_of_ble_eq_true rfl) ?_
    refine s_call R (Nat.zero_le _) (fun _ hq => SX21_runPass (b := 0) (N := N) (R.rf) rfl ra5 (c_lit 0 0 rfl) ⟨by decide, by decide⟩ (c_lit 0 0 rfl) ⟨by decide, by decide⟩ hq) hF (fun f7 rv7 h7 q11 R7 e7 E7 hF => ?_)
    exact SX21_runAll_b24 (N := N) R7 e7.1 e7.2 hF
def FX21_run_b198 (N : Nat) (K137 : Int → Int → fS → Option (Int × fS)) (l6 : Int) (l7 : Int) (s1 : Int) (s2 : Int) (s : fS) : Option (Int × fS) :=
  (uQI s 132 s1 s2).bind fun σ1 =>
  K137 l7 (iadd l6 (-1)) σ1
theorem SX21_run_b198 {m b : Nat} {φ0 : Nat → Nat} {σo : fS} {N : Nat} {k137 : Nat → Int32 → Nat → Int32 → eH → Option (Int32 × eH)} {K137 : Int → Int → fS → Option (Int × fS)} {q : Int × fS} (hk137 : ∀ {φ : Nat → Nat} {h : eH} {s : fS} {l4' : Int32} {l4 : Int} {l6' : Int32} {l6 : Int}, fC m b φ0 σo φ h s → l4' = iI l4 → r32 l4 → l6' = iI l6 → r32 l6 → K137 l4 l6 s = some q → gG m b φ0 σo lI q (k137 103 l4' 121 l6' h)) {φ : Nat → Nat} {h : eH} {s : fS} {l6' : Int32} {l6 : Int} {l7' : Int32} {l7 : Int} {s1' : Int32} {s1 : Int} {s2' : Int32} {s2 : Int} (R : fC m b φ0 σo φ h s) (el6 : l6' = iI l6) (rl6 : r32 l6) (el7 : l7' = iI l7) (rl7 : r32 l7) (es1 : s1' = iI s1) (rs1 : r32 s1) (es2 : s2' = iI s2) (rs2 : r32 s2) (hF : FX21_run_b198 N K137 l6 l7 s1 s2 s = some q) : gG m b φ0 σo lI q (fX21_run_b198 N k137 103 121 l6' l7' 132 s1' s2' h) := by
  subst el6; subst el7; subst es1; subst es2
  unfold FX21_run_b198 at hF
  unfold fX21_run_b198
  refine s_qI R (u_132 R.S).1 (u_132 R.S).2 (by decide) (a_132 R) rfl rs1 rfl rs2 hF (fun h1 σ1 R1 T1 hF => ?_)
  exact hk137 R1 rfl rl7 (c_add rfl (c_lit (-1) (-1) rfl)) (rr_I _) hF
def FX21_run_b137 (N : Nat) : Nat → Int → Int → fS → Option (Int × fS)
  | 0, _, _, _ => none
  | n + 1, l4, l6, s =>
    if l6 < 0 then
      some (1, s)
    else
      (uRI s 126 l4).bind fun x4 =>
      (uRI s 122 l4).bind fun x10 =>
      (uQI s 131 l6 x10).bind fun σ12 =>
      if ¬ (x4 = 0) then
        (uRI σ12 122 x4).bind fun x23 =>
        (uRI σ12 115 x23).bind fun x25 =>
        FX21_run_b198 N (FX21_run_b137 N n) l6 x4 l6 x25 σ12
      else
        FX21_run_b198 N (FX21_run_b137 N n) l6 x4 l6 0 σ12
theorem SX21_run_b137 {m b : Nat} {φ0 : Nat → Nat} {σo : fS} {N : Nat} {q : Int × fS} : ∀ {n : Nat} {φ : Nat → Nat} {h : eH} {s : fS} {l4' : Int32} {l4 : Int} {l6' : Int32} {l6 : Int}, fC m b φ0 σo φ h s → l4' = iI l4 → r32 l4 → l6' = iI l6 → r32 l6 → FX21_run_b137 N n l4 l6 s = some q → gG m b φ0 σo lI q (fX21_run_b137 N n 103 l4' 121 l6' h) := by
  intro n
  induction n with
 | zero => intro φ h s l4' l4 l6' l6 R el4 rl4 el6 rl6 hF; simp [FX21_run_b137] at hF
  | succ n ih =>
    intro φ h s l4' l4 l6' l6 R el4 rl4 el6 rl6 hF
    subst el4; subst el6
    rw [FX21_run_b137] at hF
    rw [fX21_run_b137]
    refine s_if (i_lt rfl (c_lit 0 0 rfl) rl6 ⟨by decide, by decide⟩) hF (fun c1 hF => ?_) (fun c1 hF => ?_)
    ·
      exact g_ret R hF ⟨(c_lit 1 1 rfl), ⟨by decide, by decide⟩⟩
    ·
      refine s_gAs R (t_121 R.S) (Nat.le_of_ble_eq_true rfl) rfl (o_121_4 R.S) (a_126 R) ?_
      refine s_rI R (u_126 R.S).1 (u_126 R.S).2 (by decide) (a_126 R) rfl rl4 hF (fun x4 ra3 hF => ?_)
      refine s_gAs R (t_103 R.S) (Nat.le_of_ble_eq_true rfl) rfl (o_103_8 R.S) (a_131 R) ?_
      refine s_gAs R (t_121 R.S) (Nat.le_of_ble_eq_true rfl) rfl (o_121_0 R.S) (a_122 R) ?_
      refine s_rI R (u_122 R.S).1 (u_122 R.S).2 (by decide) (a_122 R) rfl rl4 hF (fun x10 ra6 hF => ?_)
      refine s_qI R (u_131 R.S).1 (u_131 R.S).2 (by decide) (a_131 R) rfl rl6 rfl ra6 hF (fun h7 σ12 R7 T7 hF => ?_)
      refine s_gAs R7 (t_103 R7.S) (Nat.le_of_ble_eq_true rfl) rfl (o_103_9 R7.S) (a_132 R7) ?_
      refine s_if (not_congr (i_eq rfl (c_lit 0 0 rfl) ra3 ⟨by decide, by decide⟩)) hF (fun c9 hF => ?_) (fun c9 hF => ?_)
      ·
        refine s_gO R7 (t_103 R7.S) (Nat.le_of_ble_eq_true rfl) rfl (o_103_1 R7.S) ?_
        refine s_gAs R7 (t_110 R7.S) (Nat.le_of_ble_eq_true rfl) rfl (o_110_4 R7.S) (a_115 R7) ?_
        refine s_gAs R7 (t_121 R7.S) (Nat.le_of_ble_eq_true rfl) rfl (o_121_0 R7.S) (a_122 R7) ?_
        refine s_rI R7 (u_122 R7.S).1 (u_122 R7.S).2 (by decide) (a_122 R7) rfl ra3 hF (fun x23 ra13 hF => ?_)
        refine s_rI R7 (u_115 R7.S).1 (u_115 R7.S).2 (by decide) (a_115 R7) rfl ra13 hF (fun x25 ra14 hF => ?_)
        exact SX21_run_b198 (N := N) (k137 := fX21_run_b137 N n) (K137 := FX21_run_b137 N n) @ih R7 rfl rl6 rfl ra3 rfl rl6 rfl ra14 hF
      ·
        exact SX21_run_b198 (N := N) (k137 := fX21_run_b137 N n) (K137 := FX21_run_b137 N n) @ih R7 rfl rl6 rfl ra3 rfl rl6 (c_lit 0 0 rfl) ⟨by decide, by decide⟩ hF
def FX21_run (N : Nat) (s : fS) : Option (Int × fS) :=
  (FX22_add 4 10000 0 0 0 s).bind fun q4 =>
  (uRI q4.2 119 8).bind fun x9 =>
  (uRI q4.2 119 9).bind fun x13 =>
  (uRI q4.2 119 10).bind fun x17 =>
  (uRI q4.2 119 11).bind fun x21 =>
  (FX22_add 1 x9 x13 x17 x21 q4.2).bind fun q24 =>
  (FX22_add 4 (-10000) 0 0 0 q24.2).bind fun q28 =>
  (FX23_take N q28.2).bind fun q34 =>
  (FX21_takeAround N q34.2).bind fun q36 =>
  (FX21_runAll N q36.2).bind fun q38 =>
  if ¬ (q38.1 = (-2)) then
    (uRI q38.2 123 q38.1).bind fun x46 =>
    (uPI q38.2 103 7 x46).bind fun σ48 =>
    (uPI σ48 103 6 (isub (σ48.i 121 6) 1)).bind fun σ52 =>
    FX21_run_b137 N N q38.1 (isub (σ52.i 103 7) 1) σ52
  else
    some (0, q38.2)
theorem SX21_run {m b : Nat} {φ0 : Nat → Nat} {σo : fS} {N : Nat} {q : Int × fS} {φ : Nat → Nat} {h : eH} {s : fS} (R : fC m b φ0 σo φ h s) (hF : FX21_run N s = some q) : gG m b φ0 σo lI q (fX21_run N 103 h) := by
  unfold FX21_run at hF
  unfold fX21_run
  refine s_gO R (t_103 R.S) (Nat.le_of_ble_eq_true rfl) rfl (o_103_0 R.S) ?_
  refine s_kok R (t_104 R.S) (Nat.le_of_ble_eq_true rfl) ?_
  refine s_call R (Nat.zero_le _) (fun _ hq => SX22_add (b := 0) (R.rf) (c_lit 4 4 rfl) ⟨by decide, by decide⟩ (c_lit 10000 10000 rfl) ⟨by decide, by decide⟩ (c_lit 0 0 rfl) ⟨by decide, by decide⟩ (c_lit 0 0 rfl) ⟨by decide, by decide⟩ (c_lit 0 0 rfl) ⟨by decide, by decide⟩ hq) hF (fun f3 rv3 h3 q4 R3 e3 E3 hF => ?_)
  refine s_gO R3 (t_103 R3.S) (Nat.le_of_ble_eq_true rfl) rfl (o_103_0 R3.S) ?_
  refine s_gAs R3 (t_103 R3.S) (Nat.le_of_ble_eq_true rfl) rfl (o_103_4 R3.S) (a_119 R3) ?_
  refine s_rI R3 (u_119 R3.S).1 (u_119 R3.S).2 (by decide) (a_119 R3) (c_lit 8 8 rfl) ⟨by decide, by decide⟩ hF (fun x9 ra6 hF => ?_)
  refine s_gAs R3 (t_103 R3.S) (Nat.le_of_ble_eq_true rfl) rfl (o_103_4 R3.S) (a_119 R3) ?_
  refine s_rI R3 (u_119 R3.S).1 (u_119 R3.S).2 (by decide) (a_119 R3) (c_lit 9 9 rfl) ⟨by decide, by decide⟩ hF (fun x13 ra8 hF => ?_)
  refine s_gAs R3 (t_103 R3.S) (Nat.le_of_ble_eq_true rfl) rfl (o_103_4 R3.S) (a_119 R3) ?_
  refine s_rI R3 (u_119 R3.S).1 (u_119 R3.S).2 (by decide) (a_119 R3) (c_lit 10 10 rfl) ⟨by decide, by decide⟩ hF (fun x17 ra10 hF => ?_)
  refine s_gAs R3 (t_103 R3.S) (Nat.le_of_ble_eq_true rfl) rfl (o_103_4 R3.S) (a_119 R3) ?_
  refine s_rI R3 (u_119 R3.S).1 (u_119 R3.S).2 (by decide) (a_119 R3) (c_lit 11 11 rfl) ⟨by decide, by decide⟩ hF (fun x21 ra12 hF => ?_)
  refine s_kok R3 (t_104 R3.S) (Nat.le_of_ble_eq_true rfl) ?_
  refine s_call R3 (Nat.zero_le _) (fun _ hq => SX22_add (b := 0) (R3.rf) (c_lit 1 1 rfl) ⟨by decide, by decide⟩ rfl ra6 rfl ra8 rfl ra10 rfl ra12 hq) hF (fun f14 rv14 h14 q24 R14 e14 E14 hF => ?_)
  refine s_gO R14 (t_103 R14.S) (Nat.le_of_ble_eq_true rfl) rfl (o_103_0 R14.S) ?_
  refine s_kok R14 (t_104 R14.S) (Nat.le_of_ble_eq_true rfl) ?_
  refine s_call R14 (Nat.zero_le _) (fun _ hq => SX22_add (b := 0) (R14.rf) (c_lit 4 4 rfl) ⟨by decide, by decide⟩ (c_lit (-10000) (-10000) rfl) ⟨by decide, by decide⟩ (c_lit 0 0 rfl) ⟨by decide, by decide⟩ (c_lit 0 0 rfl) ⟨by decide, by decide⟩ (c_lit 0 0 rfl) ⟨by decide, by decide⟩ hq) hF (fun f17 rv17 h17 q28 R17 e17 E17 hF => ?_)
  refine s_gO R17 (t_103 R17.S) (Nat.le_of_ble_eq_true rfl) rfl (o_103_1 R17.S) ?_
  refine s_gO R17 (t_103 R17.S) (Nat.le_of_ble_eq_true rfl) rfl (o_103_0 R17.S) ?_
  refine s_kok R17 (t_110 R17.S) (Nat.le_of_ble_eq_true rfl) ?_
  refine s_call R17 (Nat.zero_le _) (fun _ hq => SX23_take (b := 0) (N := N) (R17.rf) hq) hF (fun f21 rv21 h21 q34 R21 e21 E21 hF => ?_)
  refine s_kok R21 (t_103 R21.S) (Nat.le_of_ble_eq_true rfl) ?_
  refine s_call R21 (Nat.zero_le _) (fun _ hq => SX21_takeAround (b := 0) (N := N) (R21.rf) hq) hF (fun f23 rv23 h23 q36 R23 e23 E23 hF => ?_)
  refine s_kok R23 (t_103 R23.S) (Nat.le_of_ble_eq_true rfl) ?_
  refine s_call R23 (Nat.zero_le _) (fun _ hq => SX21_runAll (b := 0) (N := N) (R23.rf) hq) hF (fun f25 rv25 h25 q38 R25 e25 E25 hF => ?_)
  refine s_if (not_congr (i_eq e25.1 (c_lit (-2) (-2) rfl) e25.2 ⟨by decide, by decide⟩)) hF (fun c26 hF => ?_) (fun c26 hF => ?_)
  ·
    refine s_gO R25 (t_103 R25.S) (Nat.le_of_ble_eq_true rfl) rfl (o_103_5 R25.S) ?_
    refine s_gO R25 (t_120 R25.S) (Nat.le_of_ble_eq_true rfl) rfl (o_120_4 R25.S) ?_
    refine s_gAs R25 (t_121 R25.S) (Nat.le_of_ble_eq_true rfl) rfl (o_121_1 R25.S) (a_123 R25) ?_
    refine s_rI R25 (u_123 R25.S).1 (u_123 R25.S).2 (by decide) (a_123 R25) e25.1 e25.2 hF (fun x46 ra30 hF => ?_)
    refine s_pI R25 (t_103 R25.S) (Nat.le_of_ble_eq_true rfl) rfl rfl ra30 hF (fun h31 σ48 R31 T31 hF => ?_)
    refine s_gI R31 (t_121 R31.S) (Nat.le_of_ble_eq_true rfl) rfl ?_
    refine s_pI R31 (t_103 R31.S) (Nat.le_of_ble_eq_true rfl) rfl (c_sub rfl (c_lit 1 1 rfl)) (rr_I _) hF (fun h33 σ52 R33 T33 hF => ?_)
    refine s_gI R33 (t_103 R33.S) (Nat.le_of_ble_eq_true rfl) rfl ?_
    exact SX21_run_b137 (N := N) R33 e25.1 e25.2 (c_sub rfl (c_lit 1 1 rfl)) (rr_I _) hF
  ·
    exact g_ret R25 hF ⟨(c_lit 0 0 rfl), ⟨by decide, by decide⟩⟩
def FX21_isHyphen_b23 (s0 : Int) (s : fS) : Option (Int × fS) :=
  uZ s0 (s0, s)
theorem SX21_isHyphen_b23 {m b : Nat} {φ0 : Nat → Nat} {σo : fS} {q : Int × fS} {φ : Nat → Nat} {h : eH} {s : fS} {s0' : Int32} {s0 : Int} (R : fC m b φ0 σo φ h s) (es0 : s0' = iI s0) (rs0 : r32 s0) (hF : FX21_isHyphen_b23 s0 s = some q) : gG m b φ0 σo lI q (fX21_isHyphen_b23 s0' h) := by
  subst es0
  unfold FX21_isHyphen_b23 at hF
  unfold fX21_isHyphen_b23
  exact g_z R rfl hF ⟨rfl, rs0⟩
def FX21_isHyphen (p0 : Int) (s : fS) : Option (Int × fS) :=
  (uRI s 131 p0).bind fun x7 =>
  (uRI s 105 x7).bind fun x9 =>
  if ¬ (x9 = 5) then
    FX21_isHyphen_b23 0 s
  else
    FX21_isHyphen_b23 1 s
theorem SX21_isHyphen {m b : Nat} {φ0 : Nat → Nat} {σo : fS} {q : Int × fS} {φ : Nat → Nat} {h : eH} {s : fS} {p0' : Int32} {p0 : Int} (R : fC m b φ0 σo φ h s) (ep0 : p0' = iI p0) (rp0 : r32 p0) (hF : FX21_isHyphen p0 s = some q) : gG m b φ0 σo lI q (fX21_isHyphen 103 p0' h) := by
  subst ep0
  unfold FX21_isHyphen at hF
  unfold fX21_isHyphen
  refine s_gO R (t_103 R.S) (Nat.le_of_ble_eq_true rfl) rfl (o_103_0 R.S) ?_
  refine s_gAs R (t_104 R.S) (Nat.le_of_ble_eq_true rfl) rfl (o_104_0 R.S) (a_105 R) ?_
  refine s_gAs R (t_103 R.S) (Nat.le_of_ble_eq_true rfl) rfl (o_103_8 R.S) (a_131 R) ?_
  refine s_rI R (u_131 R.S).1 (u_131 R.S).2 (by decide) (a_131 R) rfl rp0 hF (fun x7 ra4 hF => ?_)
  refine s_rI R (u_105 R.S).1 (u_105 R.S).2 (by decide) (a_105 R) rfl ra4 hF (fun x9 ra5 hF => ?_)
  refine s_if (not_congr (i_eq rfl (c_lit 5 5 rfl) ra5 ⟨by decide, by decide⟩)) hF (fun c6 hF => ?_) (fun c6 hF => ?_)
  ·
    exact SX21_isHyphen_b23 R (c_lit 0 0 rfl) ⟨by decide, by decide⟩ hF
  ·
    exact SX21_isHyphen_b23 R (c_lit 1 1 rfl) ⟨by decide, by decide⟩ hF
def FX3_rowGlue (p0 : Int) (s : fS) : Option (Unit × fS) :=
  (uRI s 119 p0).bind fun x7 =>
  (uRI s 119 (iadd p0 1)).bind fun x9 =>
  (uRI s 119 (iadd p0 2)).bind fun x11 =>
  (uRI s 119 (iadd p0 3)).bind fun x13 =>
  (FX34_add 174 2 x7 x9 x11 x13 0 s).bind fun q16 =>
  some ((), q16.2)
theorem SX3_rowGlue {m b : Nat} {φ0 : Nat → Nat} {σo : fS} (hb : 1 ≤ b) {q : Unit × fS} {φ : Nat → Nat} {h : eH} {s : fS} {p0' : Int32} {p0 : Int} (R : fC m b φ0 σo φ h s) (ep0 : p0' = iI p0) (rp0 : r32 p0) (hF : FX3_rowGlue p0 s = some q) : gG m b φ0 σo lU q (fX3_rowGlue 4 p0' h) := by
  subst ep0
  unfold FX3_rowGlue at hF
  unfold fX3_rowGlue
  refine s_gO R (t_4 R.S) (Nat.le_of_ble_eq_true rfl) rfl (o_4_11 R.S) ?_
  refine s_gAs R (t_103 R.S) (Nat.le_of_ble_eq_true rfl) rfl (o_103_4 R.S) (a_119 R) ?_
  refine s_gO R (t_4 R.S) (Nat.le_of_ble_eq_true rfl) rfl (o_4_18 R.S) ?_
  refine s_rI R (u_119 R.S).1 (u_119 R.S).2 (by decide) (a_119 R) rfl rp0 hF (fun x7 ra4 hF => ?_)
  refine s_rI R (u_119 R.S).1 (u_119 R.S).2 (by decide) (a_119 R) (c_add rfl (c_lit 1 1 rfl)) (rr_I _) hF (fun x9 ra5 hF => ?_)
  refine s_rI R (u_119 R.S).1 (u_119 R.S).2 (by decide) (a_119 R) (c_add rfl (c_lit 2 2 rfl)) (rr_I _) hF (fun x11 ra6 hF => ?_)
  refine s_rI R (u_119 R.S).1 (u_119 R.S).2 (by decide) (a_119 R) (c_add rfl (c_lit 3 3 rfl)) (rr_I _) hF (fun x13 ra7 hF => ?_)
  refine s_kok R (t_174 R.S) (Nat.le_of_ble_eq_true rfl) ?_
  refine s_call R hb (fun _ hq => SX34_add (b := 1) (Nat.le_of_ble_eq_true rfl) (R.rf) (c_lit 2 2 rfl) ⟨by decide, by decide⟩ rfl ra4 rfl ra5 rfl ra6 rfl ra7 (c_lit 0 0 rfl) ⟨by decide, by decide⟩ hq) hF (fun f9 rv9 h9 q16 R9 e9 E9 hF => ?_)
  exact g_ret R9 hF trivial
def FX3_addBetween_b81 (N : Nat) (s : fS) : Option ((Unit ⊕ Nat) × fS) :=
  some (.inl (), s)
theorem SX3_addBetween_b81 {m b : Nat} {φ0 : Nat → Nat} {σo : fS} {N : Nat} {q : (Unit ⊕ Nat) × fS} {φ : Nat → Nat} {h : eH} {s : fS} (R : fC m b φ0 σo φ h s) (hF : FX3_addBetween_b81 N s = some q) : gG m b φ0 σo (lT lU) q (fX3_addBetween_b81 N h) := by
  unfold FX3_addBetween_b81 at hF
  unfold fX3_addBetween_b81
  exact g_ret R hF trivial
def FX3_addBetween_b25 (N : Nat) (l1 : Int) (s1 : Int) (s : fS) : Option ((Unit ⊕ Nat) × fS) :=
  tB (FX4_want s1 16 s) fun x2 σ3 =>
  (uRI σ3 27 528).bind fun x8 =>
  if x8 ≤ l1 then
    (uRI σ3 27 1560).bind fun x11 =>
    (uRI σ3 27 1561).bind fun x13 =>
    (uRI σ3 27 1562).bind fun x15 =>
    tB (FX3_addVertical N 2 (l2i l1) x11 x13 x15 σ3) fun x18 σ19 =>
    FX3_addBetween_b81 N σ19
  else
    tB (FX3_addGlue N 1563 σ3) fun x21 σ22 =>
    FX3_addBetween_b81 N σ22
theorem SX3_addBetween_b25 {m b : Nat} {φ0 : Nat → Nat} {σo : fS} (hb : 1 ≤ b) {N : Nat} {q : (Unit ⊕ Nat) × fS} {φ : Nat → Nat} {h : eH} {s : fS} {l1' : Int64} {l1 : Int} {s1' : Int32} {s1 : Int} (R : fC m b φ0 σo φ h s) (el1 : l1' = iJ l1) (rl1 : r64 l1) (es1 : s1' = iI s1) (rs1 : r32 s1) (hF : FX3_addBetween_b25 N l1 s1 s = some q) : gG m b φ0 σo (lT lU) q (fX3_addBetween_b25 N 4 l1' 5 s1' h) := by
  subst el1; subst es1
  unfold FX3_addBetween_b25 at hF
  unfold fX3_addBetween_b25
  refine s_kok R (t_5 R.S) (Nat.le_of_ble_eq_true rfl) ?_
  refine s_tB R (Nat.zero_le _) (fun _ hq => SX4_want (b := 0) (R.rf) rfl rs1 (c_lit 16 16 rfl) ⟨by decide, by decide⟩ hq) hF (fun f2 rv2 h2 x2 σ3 R2 e2 E2 hF => ?_)
  refine s_gO R2 (t_4 R2.S) (Nat.le_of_ble_eq_true rfl) rfl (o_4_6 R2.S) ?_
  refine s_gAs R2 (t_23 R2.S) (Nat.le_of_ble_eq_true rfl) rfl (o_23_3 R2.S) (a_27 R2) ?_
  refine s_rI R2 (u_27 R2.S).1 (u_27 R2.S).2 (by decide) (a_27 R2) (c_lit 528 528 rfl) ⟨by decide, by decide⟩ hF (fun x8 ra5 hF => ?_)
  refine s_if ((lg_cmp_ge _ _).trans (j_le (c_2l rfl ra5) rfl (r32.w ra5) rl1)) hF (fun c6 hF => ?_) (fun c6 hF => ?_)
  ·
    refine s_rI R2 (u_27 R2.S).1 (u_27 R2.S).2 (by decide) (a_27 R2) (c_lit 1560 1560 rfl) ⟨by decide, by decide⟩ hF (fun x11 ra7 hF => ?_)
    refine s_rI R2 (u_27 R2.S).1 (u_27 R2.S).2 (by decide) (a_27 R2) (c_lit 1561 1561 rfl) ⟨by decide, by decide⟩ hF (fun x13 ra8 hF => ?_)
    refine s_rI R2 (u_27 R2.S).1 (u_27 R2.S).2 (by decide) (a_27 R2) (c_lit 1562 1562 rfl) ⟨by decide, by decide⟩ hF (fun x15 ra9 hF => ?_)
    refine s_kok R2 (t_4 R2.S) (Nat.le_of_ble_eq_true rfl) ?_
    refine s_tB R2 hb (fun _ hq => SX3_addVertical (b := 1) (N := N) (Nat.le_of_ble_eq_true rfl) (R2.rf) (c_lit 2 2 rfl) ⟨by decide, by decide⟩ (d_2i rfl) (rr_I _) rfl ra7 rfl ra8 rfl ra9 hq) hF (fun f11 rv11 h11 x18 σ19 R11 e11 E11 hF => ?_)
    exact SX3_addBetween_b81 (N := N) R11 hF
  ·
    refine s_kok R2 (t_4 R2.S) (Nat.le_of_ble_eq_true rfl) ?_
    refine s_tB R2 hb (fun _ hq => SX3_addGlue (b := 1) (N := N) (Nat.le_of_ble_eq_true rfl) (R2.rf) (c_lit 1563 1563 rfl) ⟨by decide, by decide⟩ hq) hF (fun f13 rv13 h13 x21 σ22 R13 e13 E13 hF => ?_)
    exact SX3_addBetween_b81 (N := N) R13 hF
def FX3_addBetween_b24 (N : Nat) (l1 : Int) (s : fS) : Option ((Unit ⊕ Nat) × fS) :=
  FX3_addBetween_b25 N l1 0 s
theorem SX3_addBetween_b24 {m b : Nat} {φ0 : Nat → Nat} {σo : fS} (hb : 1 ≤ b) {N : Nat} {q : (Unit ⊕ Nat) × fS} {φ : Nat → Nat} {h : eH} {s : fS} {l1' : Int64} {l1 : Int} (R : fC m b φ0 σo φ h s) (el1 : l1' = iJ l1) (rl1 : r64 l1) (hF : FX3_addBetween_b24 N l1 s = some q) : gG m b φ0 σo (lT lU) q (fX3_addBetween_b24 N 4 l1' 5 h) := by
  subst el1
  unfold FX3_addBetween_b24 at hF
  unfold fX3_addBetween_b24
  exact SX3_addBetween_b25 (N := N) hb R rfl rl1 (c_lit 0 0 rfl) ⟨by decide, by decide⟩ hF
def FX3_addBetween (N : Nat) (p0 : Int) (s : fS) : Option ((Unit ⊕ Nat) × fS) :=
  if p0 < (-1073741823) then
    FX3_addBetween_b24 N p0 s
  else
    if 1073741823 < p0 then
      FX3_addBetween_b24 N p0 s
    else
      FX3_addBetween_b25 N p0 1 s
theorem SX3_addBetween {m b : Nat} {φ0 : Nat → Nat} {σo : fS} (hb : 1 ≤ b) {N : Nat} {q : (Unit ⊕ Nat) × fS} {φ : Nat → Nat} {h : eH} {s : fS} {p0' : Int64} {p0 : Int} (R : fC m b φ0 σo φ h s) (ep0 : p0' = iJ p0) (rp0 : r64 p0) (hF : FX3_addBetween N p0 s = some q) : gG m b φ0 σo (lT lU) q (fX3_addBetween N 4 p0' h) := by
  subst ep0
  unfold FX3_addBetween at hF
  unfold fX3_addBetween
  refine s_gO R (t_4 R.S) (Nat.le_of_ble_eq_true rfl) rfl (o_4_0 R.S) ?_
  refine s_if (lg_lt.trans (j_lt rfl (d_lit (-1073741823) (-1073741823) rfl) rp0 ⟨by decide, by decide⟩)) hF (fun c2 hF => ?_) (fun c2 hF => ?_)
  ·
    exact SX3_addBetween_b24 (N := N) hb R rfl rp0 hF
  ·
    refine s_if ((lg_cmp_gt _ _).trans (j_lt (d_lit 1073741823 1073741823 rfl) rfl ⟨by decide, by decide⟩ rp0)) hF (fun c3 hF => ?_) (fun c3 hF => ?_)
    ·
      exact SX3_addBetween_b24 (N := N) hb R rfl rp0 hF
    ·
      exact SX3_addBetween_b25 (N := N) hb R rfl rp0 (c_lit 1 1 rfl) ⟨by decide, by decide⟩ hF
def FX3_add_b33 (N : Nat) (s : fS) : Option ((Unit ⊕ Nat) × fS) :=
  some (.inl (), s)
theorem SX3_add_b33 {m b : Nat} {φ0 : Nat → Nat} {σo : fS} {N : Nat} {q : (Unit ⊕ Nat) × fS} {φ : Nat → Nat} {h : eH} {s : fS} (R : fC m b φ0 σo φ h s) (hF : FX3_add_b33 N s = some q) : gG m b φ0 σo (lT lU) q (fX3_add_b33 N h) := by
  unfold FX3_add_b33 at hF
  unfold fX3_add_b33
  exact g_ret R hF trivial
def FX3_add (N : Nat) (p0 : Int) (p1 : Int) (p2 : Int) (p3 : Int) (p4 : Int) (s : fS) : Option ((Unit ⊕ Nat) × fS) :=
  (FX3_isVertical s).bind fun q2 =>
  if q2.1 = 0 then
    tB (FX3_put p0 p1 p2 p3 p4 0 q2.2) fun x5 σ6 =>
    FX3_add_b33 N σ6
  else
    tB (FX3_addVertical N p0 p1 p2 p3 p4 q2.2) fun x8 σ9 =>
    FX3_add_b33 N σ9
theorem SX3_add {m b : Nat} {φ0 : Nat → Nat} {σo : fS} (hb : 1 ≤ b) {N : Nat} {q : (Unit ⊕ Nat) × fS} {φ : Nat → Nat} {h : eH} {s : fS} {p0' : Int32} {p0 : Int} {p1' : Int32} {p1 : Int} {p2' : Int32} {p2 : Int} {p3' : Int32} {p3 : Int} {p4' : Int32} {p4 : Int} (R : fC m b φ0 σo φ h s) (ep0 : p0' = iI p0) (rp0 : r32 p0) (ep1 : p1' = iI p1) (rp1 : r32 p1) (ep2 : p2' = iI p2) (rp2 : r32 p2) (ep3 : p3' = iI p3) (rp3 : r32 p3) (ep4 : p4' = iI p4) (rp4 : r32 p4) (hF : FX3_add N p0 p1 p2 p3 p4 s = some q) : gG m b φ0 σo (lT lU) q (fX3_add N 4 p0' p1' p2' p3' p4' h) := by
  subst ep0; subst ep1; subst ep2; subst ep3; subst ep4
  unfold FX3_add at hF
  unfold fX3_add
  refine s_kok R (t_4 R.S) (Nat.le_of_ble_eq_true rfl) ?_
  refine s_call R (Nat.zero_le _) (fun _ hq => SX3_isVertical (b := 0) (R.rf) hq) hF (fun f2 rv2 h2 q2 R2 e2 E2 hF => ?_)
  refine s_if (i_eq e2.1 (c_lit 0 0 rfl) e2.2 ⟨by decide, by decide⟩) hF (fun c3 hF => ?_) (fun c3 hF => ?_)
  ·
    refine s_kok R2 (t_4 R2.S) (Nat.le_of_ble_eq_true rfl) ?_
    refine s_tB R2 hb (fun _ hq => SX3_put (b := 1) (Nat.le_of_ble_eq_true rfl) (R2.rf) rfl rp0 rfl rp1 rfl rp2 rfl rp3 rfl rp4 (c_lit 0 0 rfl) ⟨by decide, by decide⟩ hq) hF (fun f5 rv5 h5 x5 σ6 R5 e5 E5 hF => ?_)
    exact SX3_add_b33 (N := N) R5 hF
  ·
    refine s_kok R2 (t_4 R2.S) (Nat.le_of_ble_eq_true rfl) ?_
    refine s_tB R2 hb (fun _ hq => SX3_addVertical (b := 1) (N := N) (Nat.le_of_ble_eq_true rfl) (R2.rf) rfl rp0 rfl rp1 rfl rp2 rfl rp3 rfl rp4 hq) hF (fun f7 rv7 h7 x8 σ9 R7 e7 E7 hF => ?_)
    exact SX3_add_b33 (N := N) R7 hF
def FX3_addBox_b71 (N : Nat) (l1 : Int) (l2 : Int) (s : fS) : Option ((Unit ⊕ Nat) × fS) :=
  tB (FX3_add N 4 l1 l2 0 0 s) fun x2 σ3 =>
  some (.inl (), σ3)
theorem SX3_addBox_b71 {m b : Nat} {φ0 : Nat → Nat} {σo : fS} (hb : 1 ≤ b) {N : Nat} {q : (Unit ⊕ Nat) × fS} {φ : Nat → Nat} {h : eH} {s : fS} {l1' : Int32} {l1 : Int} {l2' : Int32} {l2 : Int} (R : fC m b φ0 σo φ h s) (el1 : l1' = iI l1) (rl1 : r32 l1) (el2 : l2' = iI l2) (rl2 : r32 l2) (hF : FX3_addBox_b71 N l1 l2 s = some q) : gG m b φ0 σo (lT lU) q (fX3_addBox_b71 N 4 l1' l2' h) := by
  subst el1; subst el2
  unfold FX3_addBox_b71 at hF
  unfold fX3_addBox_b71
  refine s_kok R (t_4 R.S) (Nat.le_of_ble_eq_true rfl) ?_
  refine s_tB R hb (fun _ hq => SX3_add (b := 1) (N := N) (Nat.le_of_ble_eq_true rfl) (R.rf) (c_lit 4 4 rfl) ⟨by decide, by decide⟩ rfl rl1 rfl rl2 (c_lit 0 0 rfl) ⟨by decide, by decide⟩ (c_lit 0 0 rfl) ⟨by decide, by decide⟩ hq) hF (fun f2 rv2 h2 x2 σ3 R2 e2 E2 hF => ?_)
  exact g_ret R2 hF trivial
def FX3_addBox_b53 (N : Nat) (l1 : Int) (l2 : Int) (s : fS) : Option ((Unit ⊕ Nat) × fS) :=
  (uRO s 21 l1).bind fun a7 =>
  (uK 41 s a7).bind fun _ =>
  (uQI s 178 (s.i 4 27) (s.i a7 5)).bind fun σ11 =>
  FX3_addBox_b71 N l1 l2 σ11
theorem SX3_addBox_b53 {m b : Nat} {φ0 : Nat → Nat} {σo : fS} (hb : 1 ≤ b) {N : Nat} {q : (Unit ⊕ Nat) × fS} {φ : Nat → Nat} {h : eH} {s : fS} {l1' : Int32} {l1 : Int} {l2' : Int32} {l2 : Int} (R : fC m b φ0 σo φ h s) (el1 : l1' = iI l1) (rl1 : r32 l1) (el2 : l2' = iI l2) (rl2 : r32 l2) (hF : FX3_addBox_b53 N l1 l2 s = some q) : gG m b φ0 σo (lT lU) q (fX3_addBox_b53 N 4 l1' l2' h) := by
  subst el1; subst el2
  unfold FX3_addBox_b53 at hF
  unfold fX3_addBox_b53
  refine s_gAs R (t_4 R.S) (Nat.le_of_ble_eq_true rfl) rfl (o_4_21 R.S) (a_178 R) ?_
  refine s_gI R (t_4 R.S) (Nat.le_of_ble_eq_true rfl) rfl ?_
  refine s_gAs R (t_4 R.S) (Nat.le_of_ble_eq_true rfl) rfl (o_4_3 R.S) (a_21 R) ?_
  refine s_rO R (u_21 R.S).1 (u_21 R.S).2 rfl (fun _ => rfl) (Nat.le_of_ble_eq_true rfl) (a_21 R) rfl rl1 hF (fun a7 y4 hF => ?_)
  refine s_K hF (fun t6 hF => ?_)
  refine s_gI R t6 (Nat.le_of_ble_eq_true rfl) rfl ?_
  refine s_qI R (u_178 R.S).1 (u_178 R.S).2 (by decide) (a_178 R) rfl (R.ri (t_4 R.S) (Nat.le_of_ble_eq_true rfl) rfl) rfl (R.ri t6 (Nat.le_of_ble_eq_true rfl) rfl) hF (fun h7 σ11 R7 T7 hF => ?_)
  exact SX3_addBox_b71 (N := N) hb R7 rfl rl1 rfl rl2 hF
def FX3_addBox (N : Nat) (p0 : Int) (p1 : Int) (s : fS) : Option ((Unit ⊕ Nat) × fS) :=
  (FX3_isVertical s).bind fun q2 =>
  if q2.1 = 0 then
    FX3_addBox_b71 N p0 p1 q2.2
  else
    (uRI q2.2 178 (q2.2.i 4 27)).bind fun x8 =>
    if x8 = (-2147483648) then
      FX3_addBox_b53 N p0 p1 q2.2
    else
      (uRI q2.2 27 1559).bind fun x15 =>
      (uRO q2.2 21 p0).bind fun a19 =>
      (uK 41 q2.2 a19).bind fun _ =>
      tB (FX3_addBetween N (lsub (lsub x15 x8) (q2.2.i a19 4)) q2.2) fun x24 σ25 =>
      FX3_addBox_b53 N p0 p1 σ25
theorem SX3_addBox {m b : Nat} {φ0 : Nat → Nat} {σo : fS} (hb : 1 ≤ b) {N : Nat} {q : (Unit ⊕ Nat) × fS} {φ : Nat → Nat} {h : eH} {s : fS} {p0' : Int32} {p0 : Int} {p1' : Int32} {p1 : Int} (R : fC m b φ0 σo φ h s) (ep0 : p0' = iI p0) (rp0 : r32 p0) (ep1 : p1' = iI p1) (rp1 : r32 p1) (hF : FX3_addBox N p0 p1 s = some q) : gG m b φ0 σo (lT lU) q (fX3_addBox N 4 p0' p1' h) := by
  subst ep0; subst ep1
  unfold FX3_addBox at hF
  unfold fX3_addBox
  refine s_kok R (t_4 R.S) (Nat.le_of_ble_eq_true rfl) ?_
  refine s_call R (Nat.zero_le _) (fun _ hq => SX3_isVertical (b := 0) (R.rf) hq) hF (fun f2 rv2 h2 q2 R2 e2 E2 hF => ?_)
  refine s_if (i_eq e2.1 (c_lit 0 0 rfl) e2.2 ⟨by decide, by decide⟩) hF (fun c3 hF => ?_) (fun c3 hF => ?_)
  ·
    exact SX3_addBox_b71 (N := N) hb R2 rfl rp0 rfl rp1 hF
  ·
    refine s_gAs R2 (t_4 R2.S) (Nat.le_of_ble_eq_true rfl) rfl (o_4_21 R2.S) (a_178 R2) ?_
    refine s_gI R2 (t_4 R2.S) (Nat.le_of_ble_eq_true rfl) rfl ?_
    refine s_rI R2 (u_178 R2.S).1 (u_178 R2.S).2 (by decide) (a_178 R2) rfl (R2.ri (t_4 R2.S) (Nat.le_of_ble_eq_true rfl) rfl) hF (fun x8 ra6 hF => ?_)
    refine s_if (i_eq rfl (c_lit (-2147483648) (-2147483648) rfl) ra6 ⟨by decide, by decide⟩) hF (fun c7 hF => ?_) (fun c7 hF => ?_)
    ·
      exact SX3_addBox_b53 (N := N) hb R2 rfl rp0 rfl rp1 hF
    ·
      refine s_gO R2 (t_4 R2.S) (Nat.le_of_ble_eq_true rfl) rfl (o_4_6 R2.S) ?_
      refine s_gAs R2 (t_23 R2.S) (Nat.le_of_ble_eq_true rfl) rfl (o_23_3 R2.S) (a_27 R2) ?_
      refine s_rI R2 (u_27 R2.S).1 (u_27 R2.S).2 (by decide) (a_27 R2) (c_lit 1559 1559 rfl) ⟨by decide, by decide⟩ hF (fun x15 ra10 hF => ?_)
      refine s_gAs R2 (t_4 R2.S) (Nat.le_of_ble_eq_true rfl) rfl (o_4_3 R2.S) (a_21 R2) ?_
      refine s_rO R2 (u_21 R2.S).1 (u_21 R2.S).2 rfl (fun _ => rfl) (Nat.le_of_ble_eq_true rfl) (a_21 R2) rfl rp0 hF (fun a19 y12 hF => ?_)
      refine s_K hF (fun t14 hF => ?_)
      refine s_gI R2 t14 (Nat.le_of_ble_eq_true rfl) rfl ?_
      refine s_kok R2 (t_4 R2.S) (Nat.le_of_ble_eq_true rfl) ?_
      refine s_tB R2 hb (fun _ hq => SX3_addBetween (b := 1) (N := N) (Nat.le_of_ble_eq_true rfl) (R2.rf) (d_sub (d_sub (c_2l rfl ra10) (c_2l rfl ra6)) (c_2l rfl (R2.ri t14 (Nat.le_of_ble_eq_true rfl) rfl))) (rr_J _) hq) hF (fun f16 rv16 h16 x24 σ25 R16 e16 E16 hF => ?_)
      exact SX3_addBox_b53 (N := N) hb R16 rfl rp0 rfl rp1 hF
def FX3_line_b83 (N : Nat) (K33 : Int → Int → fS → Option ((Unit ⊕ Nat) × fS)) (l2 : Int) (l3 : Int) (s : fS) : Option ((Unit ⊕ Nat) × fS) :=
  K33 l2 (iadd l3 1) s
theorem SX3_line_b83 {m b : Nat} {φ0 : Nat → Nat} {σo : fS} (hb : 1 ≤ b) {N : Nat} {k33 : Nat → Int32 → Int32 → eH → Option ((Unit ⊕ Nat) × eH)} {K33 : Int → Int → fS → Option ((Unit ⊕ Nat) × fS)} {q : (Unit ⊕ Nat) × fS} (hk33 : ∀ {φ : Nat → Nat} {h : eH} {s : fS} {l2' : Int32} {l2 : Int} {l3' : Int32} {l3 : Int}, fC m b φ0 σo φ h s → l2' = iI l2 → r32 l2 → l3' = iI l3 → r32 l3 → K33 l2 l3 s = some q → gG m b φ0 σo (lT lU) q (k33 4 l2' l3' h)) {φ : Nat → Nat} {h : eH} {s : fS} {l2' : Int32} {l2 : Int} {l3' : Int32} {l3 : Int} (R : fC m b φ0 σo φ h s) (el2 : l2' = iI l2) (rl2 : r32 l2) (el3 : l3' = iI l3) (rl3 : r32 l3) (hF : FX3_line_b83 N K33 l2 l3 s = some q) : gG m b φ0 σo (lT lU) q (fX3_line_b83 N k33 4 l2' l3' h) := by
  subst el2; subst el3
  unfold FX3_line_b83 at hF
  unfold fX3_line_b83
  exact hk33 R rfl rl2 (c_add rfl (c_lit 1 1 rfl)) (rr_I _) hF
def FX3_line_b184 (N : Nat) (s : fS) : Option ((Unit ⊕ Nat) × fS) :=
  (FX3_rowGlue 4 s).bind fun q2 =>
  (uRI q2.2 118 0).bind fun x9 =>
  tB (FX3_pack N 174 0 0 1 x9 q2.2) fun x12 σ13 =>
  tB (FX3_addBox N x12 0 σ13) fun x15 σ16 =>
  some (.inl (), σ16)
theorem SX3_line_b184 {m b : Nat} {φ0 : Nat → Nat} {σo : fS} (hb : 1 ≤ b) {N : Nat} {q : (Unit ⊕ Nat) × fS} {φ : Nat → Nat} {h : eH} {s : fS} (R : fC m b φ0 σo φ h s) (hF : FX3_line_b184 N s = some q) : gG m b φ0 σo (lT lU) q (fX3_line_b184 N 4 h) := by
  unfold FX3_line_b184 at hF
  unfold fX3_line_b184
  refine s_kok R (t_4 R.S) (Nat.le_of_ble_eq_true rfl) ?_
  refine s_call R hb (fun _ hq => SX3_rowGlue (b := 1) (Nat.le_of_ble_eq_true rfl) (R.rf) (c_lit 4 4 rfl) ⟨by decide, by decide⟩ hq) hF (fun f2 rv2 h2 q2 R2 e2 E2 hF => ?_)
  refine s_gO R2 (t_4 R2.S) (Nat.le_of_ble_eq_true rfl) rfl (o_4_18 R2.S) ?_
  refine s_gO R2 (t_4 R2.S) (Nat.le_of_ble_eq_true rfl) rfl (o_4_11 R2.S) ?_
  refine s_gAs R2 (t_103 R2.S) (Nat.le_of_ble_eq_true rfl) rfl (o_103_3 R2.S) (a_118 R2) ?_
  refine s_rI R2 (u_118 R2.S).1 (u_118 R2.S).2 (by decide) (a_118 R2) (c_lit 0 0 rfl) ⟨by decide, by decide⟩ hF (fun x9 ra6 hF => ?_)
  refine s_kok R2 (t_4 R2.S) (Nat.le_of_ble_eq_true rfl) ?_
  refine s_tB R2 hb (fun _ hq => SX3_pack (b := 1) (N := N) (Nat.le_of_ble_eq_true rfl) (R2.rf) (c_lit 0 0 rfl) ⟨by decide, by decide⟩ (c_lit 0 0 rfl) ⟨by decide, by decide⟩ (c_lit 1 1 rfl) ⟨by decide, by decide⟩ rfl ra6 hq) hF (fun f8 rv8 h8 x12 σ13 R8 e8 E8 hF => ?_)
  refine s_kok R8 (t_4 R8.S) (Nat.le_of_ble_eq_true rfl) ?_
  refine s_tB R8 hb (fun _ hq => SX3_addBox (b := 1) (N := N) (Nat.le_of_ble_eq_true rfl) (R8.rf) e8.1 e8.2 (c_lit 0 0 rfl) ⟨by decide, by decide⟩ hq) hF (fun f10 rv10 h10 x15 σ16 R10 e10 E10 hF => ?_)
  exact g_ret R10 hF trivial
def FX3_line_b33 (N : Nat) : Nat → Int → Int → fS → Option ((Unit ⊕ Nat) × fS)
  | 0, _, _, _ => none
  | n + 1, l2, l3, s =>
    if l2 ≤ l3 then
      if (s.i 172 1) ≤ l2 then
        FX3_line_b184 N s
      else
        (FX34_kind 172 l2 s).bind fun q10 =>
        if ¬ (q10.1 = 6) then
          FX3_line_b184 N q10.2
        else
          (FX34_of 172 l2 3 q10.2).bind fun q15 =>
          if ¬ (q15.1 = 1) then
            FX3_line_b184 N q15.2
          else
            (FX34_of 172 l2 1 q15.2).bind fun q20 =>
            (uRO q20.2 8 (ishr q20.1 8)).bind fun a25 =>
            (uK 5 q20.2 a25).bind fun _ =>
            (FX6_of a25 45 0 q20.2).bind fun q30 =>
            (uK 5 q30.2 a25).bind fun _ =>
            (FX6_of a25 45 1 q30.2).bind fun q32 =>
            (uK 5 q32.2 a25).bind fun _ =>
            (FX6_of a25 45 2 q32.2).bind fun q34 =>
            (FX34_add 174 0 q20.1 q30.1 q32.1 q34.1 0 q34.2).bind fun q36 =>
            FX3_line_b184 N q36.2
    else
      if (s.i 172 1) ≤ l3 then
        if ¬ (l3 = (iadd (s.i 172 1) 1)) then
          FX3_line_b83 N (FX3_line_b33 N n) l2 l3 s
        else
          (FX3_rowGlue 8 s).bind fun q48 =>
          FX3_line_b83 N (FX3_line_b33 N n) l2 l3 q48.2
      else
        (FX34_copy 174 172 l3 s).bind fun q54 =>
        FX3_line_b83 N (FX3_line_b33 N n) l2 l3 q54.2
theorem SX3_line_b33 {m b : Nat} {φ0 : Nat → Nat} {σo : fS} (hb : 1 ≤ b) {N : Nat} {q : (Unit ⊕ Nat) × fS} : ∀ {n : Nat} {φ : Nat → Nat} {h : eH} {s : fS} {l2' : Int32} {l2 : Int} {l3' : Int32} {l3 : Int}, fC m b φ0 σo φ h s → l2' = iI l2 → r32 l2 → l3' = iI l3 → r32 l3 → FX3_line_b33 N n l2 l3 s = some q → gG m b φ0 σo (lT lU) q (fX3_line_b33 N n 4 l2' l3' h) := by
  intro n
  induction n with
 | zero => intro φ h s l2' l2 l3' l3 R el2 rl2 el3 rl3 hF; simp [FX3_line_b33] at hF
  | succ n ih =>
    intro φ h s l2' l2 l3' l3 R el2 rl2 el3 rl3 hF
    subst el2; subst el3
    rw [FX3_line_b33] at hF
    rw [fX3_line_b33]
    refine s_if (i_le rfl rfl rl2 rl3) hF (fun c1 hF => ?_) (fun c1 hF => ?_)
    ·
      refine s_gO R (t_4 R.S) (Nat.le_of_ble_eq_true rfl) rfl (o_4_17 R.S) ?_
      refine s_gI R (t_172 R.S) (Nat.le_of_ble_eq_true rfl) rfl ?_
      refine s_if (i_le rfl rfl (R.ri (t_172 R.S) (Nat.le_of_ble_eq_true rfl) rfl) rl2) hF (fun c4 hF => ?_) (fun c4 hF => ?_)
      ·
        exact SX3_line_b184 (N := N) hb R hF
      ·
        refine s_gO R (t_4 R.S) (Nat.le_of_ble_eq_true rfl) rfl (o_4_17 R.S) ?_
        refine s_kok R (t_172 R.S) (Nat.le_of_ble_eq_true rfl) ?_
        refine s_call R (Nat.zero_le _) (fun _ hq => SX34_kind (b := 0) (R.rf) rfl rl2 hq) hF (fun f7 rv7 h7 q10 R7 e7 E7 hF => ?_)
        refine s_if (not_congr (i_eq e7.1 (c_lit 6 6 rfl) e7.2 ⟨by decide, by decide⟩)) hF (fun c8 hF => ?_) (fun c8 hF => ?_)
        ·
          exact SX3_line_b184 (N := N) hb R7 hF
        ·
          refine s_gO R7 (t_4 R7.S) (Nat.le_of_ble_eq_true rfl) rfl (o_4_17 R7.S) ?_
          refine s_kok R7 (t_172 R7.S) (Nat.le_of_ble_eq_true rfl) ?_
          refine s_call R7 (Nat.zero_le _) (fun _ hq => SX34_of (b := 0) (R7.rf) rfl rl2 (c_lit 3 3 rfl) ⟨by decide, by decide⟩ hq) hF (fun f11 rv11 h11 q15 R11 e11 E11 hF => ?_)
          refine s_if (not_congr (i_eq e11.1 (c_lit 1 1 rfl) e11.2 ⟨by decide, by decide⟩)) hF (fun c12 hF => ?_) (fun c12 hF => ?_)
          ·
            exact SX3_line_b184 (N := N) hb R11 hF
          ·
            refine s_gO R11 (t_4 R11.S) (Nat.le_of_ble_eq_true rfl) rfl (o_4_17 R11.S) ?_
            refine s_kok R11 (t_172 R11.S) (Nat.le_of_ble_eq_true rfl) ?_
            refine s_call R11 (Nat.zero_le _) (fun _ hq => SX34_of (b := 0) (R11.rf) rfl rl2 (c_lit 1 1 rfl) ⟨by decide, by decide⟩ hq) hF (fun f15 rv15 h15 q20 R15 e15 E15 hF => ?_)
            refine s_gO R15 (t_4 R15.S) (Nat.le_of_ble_eq_true rfl) rfl (o_4_1 R15.S) ?_
            refine s_gAs R15 (t_6 R15.S) (Nat.le_of_ble_eq_true rfl) rfl (o_6_1 R15.S) (a_8 R15) ?_
            refine s_rO R15 (u_8 R15.S).1 (u_8 R15.S).2 rfl (fun _ => rfl) (Nat.le_of_ble_eq_true rfl) (a_8 R15) (c_shr e15.1 (c_lit 8 8 rfl)) (rr_I _) hF (fun a25 y18 hF => ?_)
            refine s_gO R15 (t_4 R15.S) (Nat.le_of_ble_eq_true rfl) rfl (o_4_18 R15.S) ?_
            refine s_K hF (fun t21 hF => ?_)
            refine s_kok R15 t21 (Nat.le_of_ble_eq_true rfl) ?_
            refine s_call R15 (Nat.zero_le _) (fun _ hq => SX6_of (b := 0) (R15.rf) (c_lit 45 45 rfl) ⟨by decide, by decide⟩ (c_lit 0 0 rfl) ⟨by decide, by decide⟩ hq) hF (fun f22 rv22 h22 q30 R22 e22 E22 hF => ?_)
            refine s_K hF (fun t24 hF => ?_)
            refine s_kok R22 t24 (Nat.le_of_ble_eq_true rfl) ?_
            refine s_call R22 (Nat.zero_le _) (fun _ hq => SX6_of (b := 0) (R22.rf) (c_lit 45 45 rfl) ⟨by decide, by decide⟩ (c_lit 1 1 rfl) ⟨by decide, by decide⟩ hq) hF (fun f25 rv25 h25 q32 R25 e25 E25 hF => ?_)
            refine s_K hF (fun t27 hF => ?_)
            refine s_kok R25 t27 (Nat.le_of_ble_eq_true rfl) ?_
            refine s_call R25 (Nat.zero_le _) (fun _ hq => SX6_of (b := 0) (R25.rf) (c_lit 45 45 rfl) ⟨by decide, by decide⟩ (c_lit 2 2 rfl) ⟨by decide, by decide⟩ hq) hF (fun f28 rv28 h28 q34 R28 e28 E28 hF => ?_)
            refine s_kok R28 (t_174 R28.S) (Nat.le_of_ble_eq_true rfl) ?_
            refine s_call R28 hb (fun _ hq => SX34_add (b := 1) (Nat.le_of_ble_eq_true rfl) (R28.rf) (c_lit 0 0 rfl) ⟨by decide, by decide⟩ e15.1 e15.2 e22.1 e22.2 e25.1 e25.2 e28.1 e28.2 (c_lit 0 0 rfl) ⟨by decide, by decide⟩ hq) hF (fun f30 rv30 h30 q36 R30 e30 E30 hF => ?_)
            exact SX3_line_b184 (N := N) hb R30 hF
    ·
      refine s_gO R (t_4 R.S) (Nat.le_of_ble_eq_true rfl) rfl (o_4_17 R.S) ?_
      refine s_gI R (t_172 R.S) (Nat.le_of_ble_eq_true rfl) rfl ?_
      refine s_if (i_le rfl rfl (R.ri (t_172 R.S) (Nat.le_of_ble_eq_true rfl) rfl) rl3) hF (fun c33 hF => ?_) (fun c33 hF => ?_)
      ·
        refine s_gO R (t_4 R.S) (Nat.le_of_ble_eq_true rfl) rfl (o_4_17 R.S) ?_
        refine s_gI R (t_172 R.S) (Nat.le_of_ble_eq_true rfl) rfl ?_
        refine s_if (not_congr (i_eq rfl (c_add rfl (c_lit 1 1 rfl)) rl3 (rr_I _))) hF (fun c36 hF => ?_) (fun c36 hF => ?_)
        ·
          exact SX3_line_b83 (N := N) (k33 := fX3_line_b33 N n) (K33 := FX3_line_b33 N n) hb @ih R rfl rl2 rfl rl3 hF
        ·
          refine s_kok R (t_4 R.S) (Nat.le_of_ble_eq_true rfl) ?_
          refine s_call R hb (fun _ hq => SX3_rowGlue (b := 1) (Nat.le_of_ble_eq_true rfl) (R.rf) (c_lit 8 8 rfl) ⟨by decide, by decide⟩ hq) hF (fun f38 rv38 h38 q48 R38 e38 E38 hF => ?_)
          exact SX3_line_b83 (N := N) (k33 := fX3_line_b33 N n) (K33 := FX3_line_b33 N n) hb @ih R38 rfl rl2 rfl rl3 hF
      ·
        refine s_gO R (t_4 R.S) (Nat.le_of_ble_eq_true rfl) rfl (o_4_18 R.S) ?_
        refine s_gO R (t_4 R.S) (Nat.le_of_ble_eq_true rfl) rfl (o_4_17 R.S) ?_
        refine s_kok R (t_174 R.S) (Nat.le_of_ble_eq_true rfl) ?_
        refine s_call R hb (fun _ hq => SX34_copy (b := 1) (Nat.le_of_ble_eq_true rfl) (R.rf) rfl rl3 hq) hF (fun f42 rv42 h42 q54 R42 e42 E42 hF => ?_)
        exact SX3_line_b83 (N := N) (k33 := fX3_line_b33 N n) (K33 := FX3_line_b33 N n) hb @ih R42 rfl rl2 rfl rl3 hF
def FX3_line (N : Nat) (p0 : Int) (s : fS) : Option ((Unit ⊕ Nat) × fS) :=
  (uPI s 174 1 0).bind fun σ3 =>
  (FX3_rowGlue 0 σ3).bind fun q6 =>
  (uRI q6.2 131 p0).bind fun x11 =>
  (uRI q6.2 132 p0).bind fun x17 =>
  FX3_line_b33 N N x11 x17 q6.2
theorem SX3_line {m b : Nat} {φ0 : Nat → Nat} {σo : fS} (hb : 1 ≤ b) {N : Nat} {q : (Unit ⊕ Nat) × fS} {φ : Nat → Nat} {h : eH} {s : fS} {p0' : Int32} {p0 : Int} (R : fC m b φ0 σo φ h s) (ep0 : p0' = iI p0) (rp0 : r32 p0) (hF : FX3_line N p0 s = some q) : gG m b φ0 σo (lT lU) q (fX3_line N 4 p0' h) := by
  subst ep0
  unfold FX3_line at hF
  unfold fX3_line
  refine s_gO R (t_4 R.S) (Nat.le_of_ble_eq_true rfl) rfl (o_4_18 R.S) ?_
  refine s_pI R (t_174 R.S) (Nat.le_of_ble_eq_true rfl) rfl (c_lit 0 0 rfl) ⟨by decide, by decide⟩ hF (fun h2 σ3 R2 T2 hF => ?_)
  refine s_kok R2 (t_4 R2.S) (Nat.le_of_ble_eq_true rfl) ?_
  refine s_call R2 hb (fun _ hq => SX3_rowGlue (b := 1) (Nat.le_of_ble_eq_true rfl) (R2.rf) (c_lit 0 0 rfl) ⟨by decide, by decide⟩ hq) hF (fun f4 rv4 h4 q6 R4 e4 E4 hF => ?_)
  refine s_gO R4 (t_4 R4.S) (Nat.le_of_ble_eq_true rfl) rfl (o_4_11 R4.S) ?_
  refine s_gAs R4 (t_103 R4.S) (Nat.le_of_ble_eq_true rfl) rfl (o_103_8 R4.S) (a_131 R4) ?_
  refine s_rI R4 (u_131 R4.S).1 (u_131 R4.S).2 (by decide) (a_131 R4) rfl rp0 hF (fun x11 ra7 hF => ?_)
  refine s_gO R4 (t_4 R4.S) (Nat.le_of_ble_eq_true rfl) rfl (o_4_11 R4.S) ?_
  refine s_gAs R4 (t_103 R4.S) (Nat.le_of_ble_eq_true rfl) rfl (o_103_9 R4.S) (a_132 R4) ?_
  refine s_rI R4 (u_132 R4.S).1 (u_132 R4.S).2 (by decide) (a_132 R4) rfl rp0 hF (fun x17 ra10 hF => ?_)
  exact SX3_line_b33 (N := N) hb R4 rfl ra7 rfl ra10 hF
def FX3_clipped (p0 : Int) (s : fS) : Option (Int × fS) :=
  some ((l2i (lmax (-10000) (lmin 10000 p0))), s)
theorem SX3_clipped {m b : Nat} {φ0 : Nat → Nat} {σo : fS} {q : Int × fS} {φ : Nat → Nat} {h : eH} {s : fS} {p0' : Int64} {p0 : Int} (R : fC m b φ0 σo φ h s) (ep0 : p0' = iJ p0) (rp0 : r64 p0) (hF : FX3_clipped p0 s = some q) : gG m b φ0 σo lI q (fX3_clipped p0' h) := by
  subst ep0
  unfold FX3_clipped at hF
  unfold fX3_clipped
  exact g_ret R hF ⟨(d_2i (d_max (d_lit (-10000) (-10000) rfl) (d_min (d_lit 10000 10000 rfl) rfl ⟨by decide, by decide⟩ rp0) ⟨by decide, by decide⟩ (q_min ⟨by decide, by decide⟩ rp0))), (rr_I _)⟩
def FX3_between_b100 (N : Nat) (s : fS) : Option ((Unit ⊕ Nat) × fS) :=
  some (.inl (), s)
theorem SX3_between_b100 {m b : Nat} {φ0 : Nat → Nat} {σo : fS} {N : Nat} {q : (Unit ⊕ Nat) × fS} {φ : Nat → Nat} {h : eH} {s : fS} (R : fC m b φ0 σo φ h s) (hF : FX3_between_b100 N s = some q) : gG m b φ0 σo (lT lU) q (fX3_between_b100 N h) := by
  unfold FX3_between_b100 at hF
  unfold fX3_between_b100
  exact g_ret R hF trivial
def FX3_between_b80 (N : Nat) (s0 : Int) (s1 : Int) (s : fS) : Option ((Unit ⊕ Nat) × fS) :=
  if (ladd s0 s1) = 0 then
    FX3_between_b100 N s
  else
    (FX3_clipped (ladd s0 s1) s).bind fun q2 =>
    tB (FX3_addVertical N 5 q2.1 0 0 0 q2.2) fun x4 σ5 =>
    FX3_between_b100 N σ5
theorem SX3_between_b80 {m b : Nat} {φ0 : Nat → Nat} {σo : fS} (hb : 1 ≤ b) {N : Nat} {q : (Unit ⊕ Nat) × fS} {φ : Nat → Nat} {h : eH} {s : fS} {s0' : Int64} {s0 : Int} {s1' : Int64} {s1 : Int} (R : fC m b φ0 σo φ h s) (es0 : s0' = iJ s0) (rs0 : r64 s0) (es1 : s1' = iJ s1) (rs1 : r64 s1) (hF : FX3_between_b80 N s0 s1 s = some q) : gG m b φ0 σo (lT lU) q (fX3_between_b80 N 4 s0' s1' h) := by
  subst es0; subst es1
  unfold FX3_between_b80 at hF
  unfold fX3_between_b80
  refine s_if (lg_eq.trans (j_eq (d_add rfl rfl) (d_lit 0 0 rfl) (rr_J _) ⟨by decide, by decide⟩)) hF (fun c1 hF => ?_) (fun c1 hF => ?_)
  ·
    exact SX3_between_b100 (N := N) R hF
  ·
    refine s_call R (Nat.zero_le _) (fun _ hq => SX3_clipped (b := 0) (R.rf) (d_add rfl rfl) (rr_J _) hq) hF (fun f2 rv2 h2 q2 R2 e2 E2 hF => ?_)
    refine s_kok R2 (t_4 R2.S) (Nat.le_of_ble_eq_true rfl) ?_
    refine s_tB R2 hb (fun _ hq => SX3_addVertical (b := 1) (N := N) (Nat.le_of_ble_eq_true rfl) (R2.rf) (c_lit 5 5 rfl) ⟨by decide, by decide⟩ e2.1 e2.2 (c_lit 0 0 rfl) ⟨by decide, by decide⟩ (c_lit 0 0 rfl) ⟨by decide, by decide⟩ (c_lit 0 0 rfl) ⟨by decide, by decide⟩ hq) hF (fun f4 rv4 h4 x4 σ5 R4 e4 E4 hF => ?_)
    exact SX3_between_b100 (N := N) R4 hF
def FX3_between_b56 (N : Nat) (l1 : Int) (s0 : Int) (s1 : Int) (s : fS) : Option ((Unit ⊕ Nat) × fS) :=
  (FX21_isHyphen l1 s).bind fun q4 =>
  if q4.1 = 0 then
    FX3_between_b80 N (ladd s0 s1) 0 q4.2
  else
    (uRI q4.2 27 263).bind fun x6 =>
    FX3_between_b80 N (ladd s0 s1) x6 q4.2
theorem SX3_between_b56 {m b : Nat} {φ0 : Nat → Nat} {σo : fS} (hb : 1 ≤ b) {N : Nat} {q : (Unit ⊕ Nat) × fS} {φ : Nat → Nat} {h : eH} {s : fS} {l1' : Int32} {l1 : Int} {s0' : Int64} {s0 : Int} {s1' : Int64} {s1 : Int} (R : fC m b φ0 σo φ h s) (el1 : l1' = iI l1) (rl1 : r32 l1) (es0 : s0' = iJ s0) (rs0 : r64 s0) (es1 : s1' = iJ s1) (rs1 : r64 s1) (hF : FX3_between_b56 N l1 s0 s1 s = some q) : gG m b φ0 σo (lT lU) q (fX3_between_b56 N 4 l1' 27 s0' s1' h) := by
  subst el1; subst es0; subst es1
  unfold FX3_between_b56 at hF
  unfold fX3_between_b56
  refine s_gO R (t_4 R.S) (Nat.le_of_ble_eq_true rfl) rfl (o_4_11 R.S) ?_
  refine s_kok R (t_103 R.S) (Nat.le_of_ble_eq_true rfl) ?_
  refine s_call R (Nat.zero_le _) (fun _ hq => SX21_isHyphen (b := 0) (R.rf) rfl rl1 hq) hF (fun f3 rv3 h3 q4 R3 e3 E3 hF => ?_)
  refine s_if (i_eq e3.1 (c_lit 0 0 rfl) e3.2 ⟨by decide, by decide⟩) hF (fun c4 hF => ?_) (fun c4 hF => ?_)
  ·
    exact SX3_between_b80 (N := N) hb R3 (d_add rfl rfl) (rr_J _) (d_lit 0 0 rfl) ⟨by decide, by decide⟩ hF
  ·
    refine s_rI R3 (u_27 R3.S).1 (u_27 R3.S).2 (by decide) (a_27 R3) (c_lit 263 263 rfl) ⟨by decide, by decide⟩ hF (fun x6 ra5 hF => ?_)
    exact SX3_between_b80 (N := N) hb R3 (d_add rfl rfl) (rr_J _) (c_2l rfl ra5) (r32.w ra5) hF
def FX3_between_b30 (N : Nat) (l1 : Int) (s0 : Int) (s1 : Int) (s : fS) : Option ((Unit ⊕ Nat) × fS) :=
  if ¬ (l1 = (isub (s.i 103 7) 2)) then
    FX3_between_b56 N l1 (ladd s0 s1) 0 s
  else
    (uRI s 27 262).bind fun x6 =>
    FX3_between_b56 N l1 (ladd s0 s1) x6 s
theorem SX3_between_b30 {m b : Nat} {φ0 : Nat → Nat} {σo : fS} (hb : 1 ≤ b) {N : Nat} {q : (Unit ⊕ Nat) × fS} {φ : Nat → Nat} {h : eH} {s : fS} {l1' : Int32} {l1 : Int} {s0' : Int64} {s0 : Int} {s1' : Int64} {s1 : Int} (R : fC m b φ0 σo φ h s) (el1 : l1' = iI l1) (rl1 : r32 l1) (es0 : s0' = iJ s0) (rs0 : r64 s0) (es1 : s1' = iJ s1) (rs1 : r64 s1) (hF : FX3_between_b30 N l1 s0 s1 s = some q) : gG m b φ0 σo (lT lU) q (fX3_between_b30 N 4 l1' 27 s0' s1' h) := by
  subst el1; subst es0; subst es1
  unfold FX3_between_b30 at hF
  unfold fX3_between_b30
  refine s_gO R (t_4 R.S) (Nat.le_of_ble_eq_true rfl) rfl (o_4_11 R.S) ?_
  refine s_gI R (t_103 R.S) (Nat.le_of_ble_eq_true rfl) rfl ?_
  refine s_if (not_congr (i_eq rfl (c_sub rfl (c_lit 2 2 rfl)) rl1 (rr_I _))) hF (fun c3 hF => ?_) (fun c3 hF => ?_)
  ·
    exact SX3_between_b56 (N := N) hb R rfl rl1 (d_add rfl rfl) (rr_J _) (d_lit 0 0 rfl) ⟨by decide, by decide⟩ hF
  ·
    refine s_rI R (u_27 R.S).1 (u_27 R.S).2 (by decide) (a_27 R) (c_lit 262 262 rfl) ⟨by decide, by decide⟩ hF (fun x6 ra4 hF => ?_)
    exact SX3_between_b56 (N := N) hb R rfl rl1 (d_add rfl rfl) (rr_J _) (c_2l rfl ra4) (r32.w ra4) hF
def FX3_between (N : Nat) (p0 : Int) (s : fS) : Option ((Unit ⊕ Nat) × fS) :=
  (uRI s 27 264).bind fun x5 =>
  if ¬ (p0 = 0) then
    FX3_between_b30 N p0 x5 0 s
  else
    (uRI s 27 261).bind fun x8 =>
    FX3_between_b30 N p0 x5 x8 s
theorem SX3_between {m b : Nat} {φ0 : Nat → Nat} {σo : fS} (hb : 1 ≤ b) {N : Nat} {q : (Unit ⊕ Nat) × fS} {φ : Nat → Nat} {h : eH} {s : fS} {p0' : Int32} {p0 : Int} (R : fC m b φ0 σo φ h s) (ep0 : p0' = iI p0) (rp0 : r32 p0) (hF : FX3_between N p0 s = some q) : gG m b φ0 σo (lT lU) q (fX3_between N 4 p0' h) := by
  subst ep0
  unfold FX3_between at hF
  unfold fX3_between
  refine s_gO R (t_4 R.S) (Nat.le_of_ble_eq_true rfl) rfl (o_4_6 R.S) ?_
  refine s_gAs R (t_23 R.S) (Nat.le_of_ble_eq_true rfl) rfl (o_23_3 R.S) (a_27 R) ?_
  refine s_rI R (u_27 R.S).1 (u_27 R.S).2 (by decide) (a_27 R) (c_lit 264 264 rfl) ⟨by decide, by decide⟩ hF (fun x5 ra3 hF => ?_)
  refine s_if (not_congr (i_eq rfl (c_lit 0 0 rfl) rp0 ⟨by decide, by decide⟩)) hF (fun c4 hF => ?_) (fun c4 hF => ?_)
  ·
    exact SX3_between_b30 (N := N) hb R rfl rp0 (c_2l rfl ra3) (r32.w ra3) (d_lit 0 0 rfl) ⟨by decide, by decide⟩ hF
  ·
    refine s_rI R (u_27 R.S).1 (u_27 R.S).2 (by decide) (a_27 R) (c_lit 261 261 rfl) ⟨by decide, by decide⟩ hF (fun x8 ra5 hF => ?_)
    exact SX3_between_b30 (N := N) hb R rfl rp0 (c_2l rfl ra3) (r32.w ra3) (c_2l rfl ra5) (r32.w ra5) hF
def FX3_endParagraph_b298 (N : Nat) (K263 : Int → fS → Option ((Unit ⊕ Nat) × fS)) (l2 : Int) (s1 : Int) (s2 : Int) (s3 : Int) (s : fS) : Option ((Unit ⊕ Nat) × fS) :=
  (uQI s 191 s1 (iadd s2 s3)).bind fun σ1 =>
  K263 (iadd l2 1) σ1
theorem SX3_endParagraph_b298 {m b : Nat} {φ0 : Nat → Nat} {σo : fS} (hb : 1 ≤ b) {N : Nat} {k263 : Nat → Int32 → eH → Option ((Unit ⊕ Nat) × eH)} {K263 : Int → fS → Option ((Unit ⊕ Nat) × fS)} {q : (Unit ⊕ Nat) × fS} (hk263 : ∀ {φ : Nat → Nat} {h : eH} {s : fS} {l2' : Int32} {l2 : Int}, fC m b φ0 σo φ h s → l2' = iI l2 → r32 l2 → K263 l2 s = some q → gG m b φ0 σo (lT lU) q (k263 4 l2' h)) {φ : Nat → Nat} {h : eH} {s : fS} {l2' : Int32} {l2 : Int} {s1' : Int32} {s1 : Int} {s2' : Int32} {s2 : Int} {s3' : Int32} {s3 : Int} (R : fC m b φ0 σo φ h s) (el2 : l2' = iI l2) (rl2 : r32 l2) (es1 : s1' = iI s1) (rs1 : r32 s1) (es2 : s2' = iI s2) (rs2 : r32 s2) (es3 : s3' = iI s3) (rs3 : r32 s3) (hF : FX3_endParagraph_b298 N K263 l2 s1 s2 s3 s = some q) : gG m b φ0 σo (lT lU) q (fX3_endParagraph_b298 N k263 4 l2' 191 s1' s2' s3' h) := by
  subst el2; subst es1; subst es2; subst es3
  unfold FX3_endParagraph_b298 at hF
  unfold fX3_endParagraph_b298
  refine s_qI R (u_191 R.S).1 (u_191 R.S).2 (by decide) (a_191 R) rfl rs1 (c_add rfl rfl) (rr_I _) hF (fun h1 σ1 R1 T1 hF => ?_)
  exact hk263 R1 (c_add rfl (c_lit 1 1 rfl)) (rr_I _) hF
def FX3_endParagraph_b342 (N : Nat) (K308 : Int → fS → Option ((Unit ⊕ Nat) × fS)) (l2 : Int) (s : fS) : Option ((Unit ⊕ Nat) × fS) :=
  K308 (iadd l2 1) s
theorem SX3_endParagraph_b342 {m b : Nat} {φ0 : Nat → Nat} {σo : fS} (hb : 1 ≤ b) {N : Nat} {k308 : Nat → Int32 → eH → Option ((Unit ⊕ Nat) × eH)} {K308 : Int → fS → Option ((Unit ⊕ Nat) × fS)} {q : (Unit ⊕ Nat) × fS} (hk308 : ∀ {φ : Nat → Nat} {h : eH} {s : fS} {l2' : Int32} {l2 : Int}, fC m b φ0 σo φ h s → l2' = iI l2 → r32 l2 → K308 l2 s = some q → gG m b φ0 σo (lT lU) q (k308 4 l2' h)) {φ : Nat → Nat} {h : eH} {s : fS} {l2' : Int32} {l2 : Int} (R : fC m b φ0 σo φ h s) (el2 : l2' = iI l2) (rl2 : r32 l2) (hF : FX3_endParagraph_b342 N K308 l2 s = some q) : gG m b φ0 σo (lT lU) q (fX3_endParagraph_b342 N k308 4 l2' h) := by
  subst el2
  unfold FX3_endParagraph_b342 at hF
  unfold fX3_endParagraph_b342
  exact hk308 R (c_add rfl (c_lit 1 1 rfl)) (rr_I _) hF
def FX3_endParagraph_b308 (N : Nat) : Nat → Int → fS → Option ((Unit ⊕ Nat) × fS)
  | 0, _, _ => none
  | n + 1, l2, s =>
    if (s.i 103 7) ≤ l2 then
      some (.inl (), s)
    else
      tB (FX3_line N l2 s) fun x7 σ8 =>
      if (isub (σ8.i 103 7) 1) ≤ l2 then
        FX3_endParagraph_b342 N (FX3_endParagraph_b308 N n) l2 σ8
      else
        tB (FX3_between N l2 σ8) fun x15 σ16 =>
        FX3_endParagraph_b342 N (FX3_endParagraph_b308 N n) l2 σ16
theorem SX3_endParagraph_b308 {m b : Nat} {φ0 : Nat → Nat} {σo : fS} (hb : 1 ≤ b) {N : Nat} {q : (Unit ⊕ Nat) × fS} : ∀ {n : Nat} {φ : Nat → Nat} {h : eH} {s : fS} {l2' : Int32} {l2 : Int}, fC m b φ0 σo φ h s → l2' = iI l2 → r32 l2 → FX3_endParagraph_b308 N n l2 s = some q → gG m b φ0 σo (lT lU) q (fX3_endParagraph_b308 N n 4 l2' h) := by
  intro n
  induction n with
 | zero => intro φ h s l2' l2 R el2 rl2 hF; simp [FX3_endParagraph_b308] at hF
  | succ n ih =>
    intro φ h s l2' l2 R el2 rl2 hF
    subst el2
    rw [FX3_endParagraph_b308] at hF
    rw [fX3_endParagraph_b308]
    refine s_gO R (t_4 R.S) (Nat.le_of_ble_eq_true rfl) rfl (o_4_11 R.S) ?_
    refine s_gI R (t_103 R.S) (Nat.le_of_ble_eq_true rfl) rfl ?_
    refine s_if (i_le rfl rfl (R.ri (t_103 R.S) (Nat.le_of_ble_eq_true rfl) rfl) rl2) hF (fun c3 hF => ?_) (fun c3 hF => ?_)
    ·
      exact g_ret R hF trivial
    ·
      refine s_kok R (t_4 R.S) (Nat.le_of_ble_eq_true rfl) ?_
      refine s_tB R hb (fun _ hq => SX3_line (b := 1) (N := N) (Nat.le_of_ble_eq_true rfl) (R.rf) rfl rl2 hq) hF (fun f5 rv5 h5 x7 σ8 R5 e5 E5 hF => ?_)
      refine s_gO R5 (t_4 R5.S) (Nat.le_of_ble_eq_true rfl) rfl (o_4_11 R5.S) ?_
      refine s_gI R5 (t_103 R5.S) (Nat.le_of_ble_eq_true rfl) rfl ?_
      refine s_if (i_le (c_sub rfl (c_lit 1 1 rfl)) rfl (rr_I _) rl2) hF (fun c8 hF => ?_) (fun c8 hF => ?_)
      ·
        exact SX3_endParagraph_b342 (N := N) (k308 := fX3_endParagraph_b308 N n) (K308 := FX3_endParagraph_b308 N n) hb @ih R5 rfl rl2 hF
      ·
        refine s_kok R5 (t_4 R5.S) (Nat.le_of_ble_eq_true rfl) ?_
        refine s_tB R5 hb (fun _ hq => SX3_between (b := 1) (N := N) (Nat.le_of_ble_eq_true rfl) (R5.rf) rfl rl2 hq) hF (fun f10 rv10 h10 x15 σ16 R10 e10 E10 hF => ?_)
        exact SX3_endParagraph_b342 (N := N) (k308 := fX3_endParagraph_b308 N n) (K308 := FX3_endParagraph_b308 N n) hb @ih R10 rfl rl2 hF
def FX3_endParagraph_b263 (N : Nat) : Nat → Int → fS → Option ((Unit ⊕ Nat) × fS)
  | 0, _, _ => none
  | n + 1, l2, s =>
    if (s.i 103 7) ≤ l2 then
      FX3_endParagraph_b308 N N 0 s
    else
      (uRI s 191 6).bind fun x8 =>
      (FX21_isHyphen l2 s).bind fun q13 =>
      if q13.1 = 0 then
        FX3_endParagraph_b298 N (FX3_endParagraph_b263 N n) l2 6 x8 0 q13.2
      else
        FX3_endParagraph_b298 N (FX3_endParagraph_b263 N n) l2 6 x8 1 q13.2
theorem SX3_endParagraph_b263 {m b : Nat} {φ0 : Nat → Nat} {σo : fS} (hb : 1 ≤ b) {N : Nat} {q : (Unit ⊕ Nat) × fS} : ∀ {n : Nat} {φ : Nat → Nat} {h : eH} {s : fS} {l2' : Int32} {l2 : Int}, fC m b φ0 σo φ h s → l2' = iI l2 → r32 l2 → FX3_endParagraph_b263 N n l2 s = some q → gG m b φ0 σo (lT lU) q (fX3_endParagraph_b263 N n 4 l2' h) := by
  intro n
  induction n with
 | zero => intro φ h s l2' l2 R el2 rl2 hF; simp [FX3_endParagraph_b263] at hF
  | succ n ih =>
    intro φ h s l2' l2 R el2 rl2 hF
    subst el2
    rw [FX3_endParagraph_b263] at hF
    rw [fX3_endParagraph_b263]
    refine s_gO R (t_4 R.S) (Nat.le_of_ble_eq_true rfl) rfl (o_4_11 R.S) ?_
    refine s_gI R (t_103 R.S) (Nat.le_of_ble_eq_true rfl) rfl ?_
    refine s_if (i_le rfl rfl (R.ri (t_103 R.S) (Nat.le_of_ble_eq_true rfl) rfl) rl2) hF (fun c3 hF => ?_) (fun c3 hF => ?_)
    ·
      exact SX3_endParagraph_b308 (N := N) hb R (c_lit 0 0 rfl) ⟨by decide, by decide⟩ hF
    ·
      refine s_gAs R (t_4 R.S) (Nat.le_of_ble_eq_true rfl) rfl (o_4_36 R.S) (a_191 R) ?_
      refine s_rI R (u_191 R.S).1 (u_191 R.S).2 (by decide) (a_191 R) (c_lit 6 6 rfl) ⟨by decide, by decide⟩ hF (fun x8 ra5 hF => ?_)
      refine s_gO R (t_4 R.S) (Nat.le_of_ble_eq_true rfl) rfl (o_4_11 R.S) ?_
      refine s_kok R (t_103 R.S) (Nat.le_of_ble_eq_true rfl) ?_
      refine s_call R (Nat.zero_le _) (fun _ hq => SX21_isHyphen (b := 0) (R.rf) rfl rl2 hq) hF (fun f8 rv8 h8 q13 R8 e8 E8 hF => ?_)
      refine s_if (i_eq e8.1 (c_lit 0 0 rfl) e8.2 ⟨by decide, by decide⟩) hF (fun c9 hF => ?_) (fun c9 hF => ?_)
      ·
        exact SX3_endParagraph_b298 (N := N) (k263 := fX3_endParagraph_b263 N n) (K263 := FX3_endParagraph_b263 N n) hb @ih R8 rfl rl2 (c_lit 6 6 rfl) ⟨by decide, by decide⟩ rfl ra5 (c_lit 0 0 rfl) ⟨by decide, by decide⟩ hF
      ·
        exact SX3_endParagraph_b298 (N := N) (k263 := fX3_endParagraph_b263 N n) (K263 := FX3_endParagraph_b263 N n) hb @ih R8 rfl rl2 (c_lit 6 6 rfl) ⟨by decide, by decide⟩ rfl ra5 (c_lit 1 1 rfl) ⟨by decide, by decide⟩ hF
def FX3_endParagraph_b171 (N : Nat) (s0 : Int) (s : fS) : Option ((Unit ⊕ Nat) × fS) :=
  (uPI s 172 1 (isub (s.i 172 1) s0)).bind fun σ5 =>
  (uPI σ5 104 5 (isub (σ5.i 104 5) s0)).bind fun σ13 =>
  (FX21_run N σ13).bind fun q20 =>
  tB (FX4_want q20.1 2 q20.2) fun x22 σ23 =>
  (FX9_set N 268 0 0 σ23).bind fun q27 =>
  (uRI q27.2 191 4).bind fun x30 =>
  (uQI q27.2 191 4 (iadd x30 (q27.2.i 103 7))).bind fun σ36 =>
  (uRI σ36 191 7).bind fun x40 =>
  (uQI σ36 191 7 (iadd x40 (σ36.i 103 6))).bind fun σ46 =>
  FX3_endParagraph_b263 N N 0 σ46
theorem SX3_endParagraph_b171 {m b : Nat} {φ0 : Nat → Nat} {σo : fS} (hb : 1 ≤ b) {N : Nat} {q : (Unit ⊕ Nat) × fS} {φ : Nat → Nat} {h : eH} {s : fS} {s0' : Int32} {s0 : Int} (R : fC m b φ0 σo φ h s) (es0 : s0' = iI s0) (rs0 : r32 s0) (hF : FX3_endParagraph_b171 N s0 s = some q) : gG m b φ0 σo (lT lU) q (fX3_endParagraph_b171 N 4 s0' h) := by
  subst es0
  unfold FX3_endParagraph_b171 at hF
  unfold fX3_endParagraph_b171
  refine s_gO R (t_4 R.S) (Nat.le_of_ble_eq_true rfl) rfl (o_4_17 R.S) ?_
  refine s_gI R (t_172 R.S) (Nat.le_of_ble_eq_true rfl) rfl ?_
  refine s_pI R (t_172 R.S) (Nat.le_of_ble_eq_true rfl) rfl (c_sub rfl rfl) (rr_I _) hF (fun h3 σ5 R3 T3 hF => ?_)
  refine s_gO R3 (t_4 R3.S) (Nat.le_of_ble_eq_true rfl) rfl (o_4_11 R3.S) ?_
  refine s_gO R3 (t_103 R3.S) (Nat.le_of_ble_eq_true rfl) rfl (o_103_0 R3.S) ?_
  refine s_gI R3 (t_104 R3.S) (Nat.le_of_ble_eq_true rfl) rfl ?_
  refine s_pI R3 (t_104 R3.S) (Nat.le_of_ble_eq_true rfl) rfl (c_sub rfl rfl) (rr_I _) hF (fun h7 σ13 R7 T7 hF => ?_)
  refine s_gO R7 (t_4 R7.S) (Nat.le_of_ble_eq_true rfl) rfl (o_4_0 R7.S) ?_
  refine s_gO R7 (t_4 R7.S) (Nat.le_of_ble_eq_true rfl) rfl (o_4_11 R7.S) ?_
  refine s_kok R7 (t_103 R7.S) (Nat.le_of_ble_eq_true rfl) ?_
  refine s_call R7 (Nat.zero_le _) (fun _ hq => SX21_run (b := 0) (N := N) (R7.rf) hq) hF (fun f11 rv11 h11 q20 R11 e11 E11 hF => ?_)
  refine s_kok R11 (t_5 R11.S) (Nat.le_of_ble_eq_true rfl) ?_
  refine s_tB R11 (Nat.zero_le _) (fun _ hq => SX4_want (b := 0) (R11.rf) e11.1 e11.2 (c_lit 2 2 rfl) ⟨by decide, by decide⟩ hq) hF (fun f13 rv13 h13 x22 σ23 R13 e13 E13 hF => ?_)
  refine s_gO R13 (t_4 R13.S) (Nat.le_of_ble_eq_true rfl) rfl (o_4_6 R13.S) ?_
  refine s_kok R13 (t_23 R13.S) (Nat.le_of_ble_eq_true rfl) ?_
  refine s_call R13 hb (fun _ hq => SX9_set (b := 1) (N := N) (Nat.le_of_ble_eq_true rfl) (R13.rf) (c_lit 268 268 rfl) ⟨by decide, by decide⟩ (c_lit 0 0 rfl) ⟨by decide, by decide⟩ (c_lit 0 0 rfl) ⟨by decide, by decide⟩ hq) hF (fun f16 rv16 h16 q27 R16 e16 E16 hF => ?_)
  refine s_gAs R16 (t_4 R16.S) (Nat.le_of_ble_eq_true rfl) rfl (o_4_36 R16.S) (a_191 R16) ?_
  refine s_rI R16 (u_191 R16.S).1 (u_191 R16.S).2 (by decide) (a_191 R16) (c_lit 4 4 rfl) ⟨by decide, by decide⟩ hF (fun x30 ra18 hF => ?_)
  refine s_gO R16 (t_4 R16.S) (Nat.le_of_ble_eq_true rfl) rfl (o_4_11 R16.S) ?_
  refine s_gI R16 (t_103 R16.S) (Nat.le_of_ble_eq_true rfl) rfl ?_
  refine s_qI R16 (u_191 R16.S).1 (u_191 R16.S).2 (by decide) (a_191 R16) (c_lit 4 4 rfl) ⟨by decide, by decide⟩ (c_add rfl rfl) (rr_I _) hF (fun h21 σ36 R21 T21 hF => ?_)
  refine s_gAs R21 (t_4 R21.S) (Nat.le_of_ble_eq_true rfl) rfl (o_4_36 R21.S) (a_191 R21) ?_
  refine s_rI R21 (u_191 R21.S).1 (u_191 R21.S).2 (by decide) (a_191 R21) (c_lit 7 7 rfl) ⟨by decide, by decide⟩ hF (fun x40 ra23 hF => ?_)
  refine s_gO R21 (t_4 R21.S) (Nat.le_of_ble_eq_true rfl) rfl (o_4_11 R21.S) ?_
  refine s_gI R21 (t_103 R21.S) (Nat.le_of_ble_eq_true rfl) rfl ?_
  refine s_qI R21 (u_191 R21.S).1 (u_191 R21.S).2 (by decide) (a_191 R21) (c_lit 7 7 rfl) ⟨by decide, by decide⟩ (c_add rfl rfl) (rr_I _) hF (fun h26 σ46 R26 T26 hF => ?_)
  exact SX3_endParagraph_b263 (N := N) hb R26 (c_lit 0 0 rfl) ⟨by decide, by decide⟩ hF
def FX3_endParagraph_b104 (N : Nat) : Nat → Int → fS → Option ((Unit ⊕ Nat) × fS)
  | 0, _, _ => none
  | n + 1, l1, s =>
    if (s.i 172 1) ≤ l1 then
      (FX21_areSizes N s).bind fun q11 =>
      tB (FX4_want q11.1 16 q11.2) fun x13 σ14 =>
      (FX34_kind 172 (isub (σ14.i 172 1) 1) σ14).bind fun q22 =>
      if ¬ (q22.1 = 2) then
        FX3_endParagraph_b171 N 0 q22.2
      else
        FX3_endParagraph_b171 N 1 q22.2
    else
      (FX3_takeItem l1 s).bind fun q27 =>
      FX3_endParagraph_b104 N n (iadd l1 1) q27.2
theorem SX3_endParagraph_b104 {m b : Nat} {φ0 : Nat → Nat} {σo : fS} (hb : 1 ≤ b) {N : Nat} {q : (Unit ⊕ Nat) × fS} : ∀ {n : Nat} {φ : Nat → Nat} {h : eH} {s : fS} {l1' : Int32} {l1 : Int}, fC m b φ0 σo φ h s → l1' = iI l1 → r32 l1 → FX3_endParagraph_b104 N n l1 s = some q → gG m b φ0 σo (lT lU) q (fX3_endParagraph_b104 N n 4 l1' h) := by
  intro n
  induction n with
 | zero => intro φ h s l1' l1 R el1 rl1 hF; simp [FX3_endParagraph_b104] at hF
  | succ n ih =>
    intro φ h s l1' l1 R el1 rl1 hF
    subst el1
    rw [FX3_endParagraph_b104] at hF
    rw [fX3_endParagraph_b104]
    refine s_gO R (t_4 R.S) (Nat.le_of_ble_eq_true rfl) rfl (o_4_17 R.S) ?_
    refine s_gI R (t_172 R.S) (Nat.le_of_ble_eq_true rfl) rfl ?_
    refine s_if (i_le rfl rfl (R.ri (t_172 R.S) (Nat.le_of_ble_eq_true rfl) rfl) rl1) hF (fun c3 hF => ?_) (fun c3 hF => ?_)
    ·
      refine s_gO R (t_4 R.S) (Nat.le_of_ble_eq_true rfl) rfl (o_4_0 R.S) ?_
      refine s_gO R (t_4 R.S) (Nat.le_of_ble_eq_true rfl) rfl (o_4_11 R.S) ?_
      refine s_kok R (t_103 R.S) (Nat.le_of_ble_eq_true rfl) ?_
      refine s_call R (Nat.zero_le _) (fun _ hq => SX21_areSizes (b := 0) (N := N) (R.rf) hq) hF (fun f7 rv7 h7 q11 R7 e7 E7 hF => ?_)
      refine s_kok R7 (t_5 R7.S) (Nat.le_of_ble_eq_true rfl) ?_
      refine s_tB R7 (Nat.zero_le _) (fun _ hq => SX4_want (b := 0) (R7.rf) e7.1 e7.2 (c_lit 16 16 rfl) ⟨by decide, by decide⟩ hq) hF (fun f9 rv9 h9 x13 σ14 R9 e9 E9 hF => ?_)
      refine s_gO R9 (t_4 R9.S) (Nat.le_of_ble_eq_true rfl) rfl (o_4_17 R9.S) ?_
      refine s_gO R9 (t_4 R9.S) (Nat.le_of_ble_eq_true rfl) rfl (o_4_17 R9.S) ?_
      refine s_gI R9 (t_172 R9.S) (Nat.le_of_ble_eq_true rfl) rfl ?_
      refine s_kok R9 (t_172 R9.S) (Nat.le_of_ble_eq_true rfl) ?_
      refine s_call R9 (Nat.zero_le _) (fun _ hq => SX34_kind (b := 0) (R9.rf) (c_sub rfl (c_lit 1 1 rfl)) (rr_I _) hq) hF (fun f14 rv14 h14 q22 R14 e14 E14 hF => ?_)
      refine s_if (not_congr (i_eq e14.1 (c_lit 2 2 rfl) e14.2 ⟨by decide, by decide⟩)) hF (fun c15 hF => ?_) (fun c15 hF => ?_)
      ·
        exact SX3_endParagraph_b171 (N := N) hb R14 (c_lit 0 0 rfl) ⟨by decide, by decide⟩ hF
      ·
        exact SX3_endParagraph_b171 (N := N) hb R14 (c_lit 1 1 rfl) ⟨by decide, by decide⟩ hF
    ·
      refine s_gO R (t_4 R.S) (Nat.le_of_ble_eq_true rfl) rfl (o_4_17 R.S) ?_
      refine s_kok R (t_4 R.S) (Nat.le_of_ble_eq_true rfl) ?_
      refine s_call R (Nat.zero_le _) (fun _ hq => SX3_takeItem (b := 0) (R.rf) rfl rl1 hq) hF (fun f18 rv18 h18 q27 R18 e18 E18 hF => ?_)
      exact ih R18 (c_add rfl (c_lit 1 1 rfl)) (rr_I _) hF
def FX3_endParagraph_b84 (N : Nat) (s1 : Int) (s : fS) : Option ((Unit ⊕ Nat) × fS) :=
  tB (FX4_want s1 2 s) fun x2 σ3 =>
  (FX21_prepare N σ3).bind fun q11 =>
  FX3_endParagraph_b104 N N 0 q11.2
theorem SX3_endParagraph_b84 {m b : Nat} {φ0 : Nat → Nat} {σo : fS} (hb : 1 ≤ b) {N : Nat} {q : (Unit ⊕ Nat) × fS} {φ : Nat → Nat} {h : eH} {s : fS} {s1' : Int32} {s1 : Int} (R : fC m b φ0 σo φ h s) (es1 : s1' = iI s1) (rs1 : r32 s1) (hF : FX3_endParagraph_b84 N s1 s = some q) : gG m b φ0 σo (lT lU) q (fX3_endParagraph_b84 N 4 5 s1' h) := by
  subst es1
  unfold FX3_endParagraph_b84 at hF
  unfold fX3_endParagraph_b84
  refine s_kok R (t_5 R.S) (Nat.le_of_ble_eq_true rfl) ?_
  refine s_tB R (Nat.zero_le _) (fun _ hq => SX4_want (b := 0) (R.rf) rfl rs1 (c_lit 2 2 rfl) ⟨by decide, by decide⟩ hq) hF (fun f2 rv2 h2 x2 σ3 R2 e2 E2 hF => ?_)
  refine s_gO R2 (t_4 R2.S) (Nat.le_of_ble_eq_true rfl) rfl (o_4_11 R2.S) ?_
  refine s_gO R2 (t_4 R2.S) (Nat.le_of_ble_eq_true rfl) rfl (o_4_6 R2.S) ?_
  refine s_gAs R2 (t_23 R2.S) (Nat.le_of_ble_eq_true rfl) rfl (o_23_3 R2.S) (a_27 R2) ?_
  refine s_kok R2 (t_103 R2.S) (Nat.le_of_ble_eq_true rfl) ?_
  refine s_call R2 (Nat.zero_le _) (fun _ hq => SX21_prepare (b := 0) (N := N) (R2.rf) hq) hF (fun f7 rv7 h7 q11 R7 e7 E7 hF => ?_)
  exact SX3_endParagraph_b104 (N := N) hb R7 (c_lit 0 0 rfl) ⟨by decide, by decide⟩ hF
def FX3_endParagraph_b18 (N : Nat) : Nat → Int → fS → Option ((Unit ⊕ Nat) × fS)
  | 0, _, _ => none
  | n + 1, l1, s =>
    if (s.i 170 1) ≤ l1 then
      (FX3_pop s).bind fun q7 =>
      if ¬ ((q7.2.i 172 1) = 0) then
        if 2000 < (q7.2.i 172 1) then
          FX3_endParagraph_b84 N 0 q7.2
        else
          FX3_endParagraph_b84 N 1 q7.2
      else
        some (.inl (), q7.2)
    else
      (FX34_copy 172 170 l1 s).bind fun q25 =>
      FX3_endParagraph_b18 N n (iadd l1 1) q25.2
theorem SX3_endParagraph_b18 {m b : Nat} {φ0 : Nat → Nat} {σo : fS} (hb : 1 ≤ b) {N : Nat} {q : (Unit ⊕ Nat) × fS} : ∀ {n : Nat} {φ : Nat → Nat} {h : eH} {s : fS} {l1' : Int32} {l1 : Int}, fC m b φ0 σo φ h s → l1' = iI l1 → r32 l1 → FX3_endParagraph_b18 N n l1 s = some q → gG m b φ0 σo (lT lU) q (fX3_endParagraph_b18 N n 4 l1' h) := by
  intro n
  induction n with
 | zero => intro φ h s l1' l1 R el1 rl1 hF; simp [FX3_endParagraph_b18] at hF
  | succ n ih =>
    intro φ h s l1' l1 R el1 rl1 hF
    subst el1
    rw [FX3_endParagraph_b18] at hF
    rw [fX3_endParagraph_b18]
    refine s_gO R (t_4 R.S) (Nat.le_of_ble_eq_true rfl) rfl (o_4_16 R.S) ?_
    refine s_gI R (t_170 R.S) (Nat.le_of_ble_eq_true rfl) rfl ?_
    refine s_if (i_le rfl rfl (R.ri (t_170 R.S) (Nat.le_of_ble_eq_true rfl) rfl) rl1) hF (fun c3 hF => ?_) (fun c3 hF => ?_)
    ·
      refine s_kok R (t_4 R.S) (Nat.le_of_ble_eq_true rfl) ?_
      refine s_call R (Nat.zero_le _) (fun _ hq => SX3_pop (b := 0) (R.rf) hq) hF (fun f5 rv5 h5 q7 R5 e5 E5 hF => ?_)
      refine s_gO R5 (t_4 R5.S) (Nat.le_of_ble_eq_true rfl) rfl (o_4_17 R5.S) ?_
      refine s_gI R5 (t_172 R5.S) (Nat.le_of_ble_eq_true rfl) rfl ?_
      refine s_if (not_congr (i_eq rfl (c_lit 0 0 rfl) (R5.ri (t_172 R5.S) (Nat.le_of_ble_eq_true rfl) rfl) ⟨by decide, by decide⟩)) hF (fun c8 hF => ?_) (fun c8 hF => ?_)
      ·
        refine s_gO R5 (t_4 R5.S) (Nat.le_of_ble_eq_true rfl) rfl (o_4_0 R5.S) ?_
        refine s_gO R5 (t_4 R5.S) (Nat.le_of_ble_eq_true rfl) rfl (o_4_17 R5.S) ?_
        refine s_gI R5 (t_172 R5.S) (Nat.le_of_ble_eq_true rfl) rfl ?_
        refine s_if (i_lt (c_lit 2000 2000 rfl) rfl ⟨by decide, by decide⟩ (R5.ri (t_172 R5.S) (Nat.le_of_ble_eq_true rfl) rfl)) hF (fun c12 hF => ?_) (fun c12 hF => ?_)
        ·
          exact SX3_endParagraph_b84 (N := N) hb R5 (c_lit 0 0 rfl) ⟨by decide, by decide⟩ hF
        ·
          exact SX3_endParagraph_b84 (N := N) hb R5 (c_lit 1 1 rfl) ⟨by decide, by decide⟩ hF
      ·
        exact g_ret R5 hF trivial
    ·
      refine s_gO R (t_4 R.S) (Nat.le_of_ble_eq_true rfl) rfl (o_4_17 R.S) ?_
      refine s_gO R (t_4 R.S) (Nat.le_of_ble_eq_true rfl) rfl (o_4_16 R.S) ?_
      refine s_kok R (t_172 R.S) (Nat.le_of_ble_eq_true rfl) ?_
      refine s_call R hb (fun _ hq => SX34_copy (b := 1) (Nat.le_of_ble_eq_true rfl) (R.rf) rfl rl1 hq) hF (fun f16 rv16 h16 q25 R16 e16 E16 hF => ?_)
      exact ih R16 (c_add rfl (c_lit 1 1 rfl)) (rr_I _) hF
def FX3_endParagraph (N : Nat) (s : fS) : Option ((Unit ⊕ Nat) × fS) :=
  (uPI s 172 1 0).bind fun σ3 =>
  (uRI σ3 177 (σ3.i 4 27)).bind fun x9 =>
  FX3_endParagraph_b18 N N x9 σ3
theorem SX3_endParagraph {m b : Nat} {φ0 : Nat → Nat} {σo : fS} (hb : 1 ≤ b) {N : Nat} {q : (Unit ⊕ Nat) × fS} {φ : Nat → Nat} {h : eH} {s : fS} (R : fC m b φ0 σo φ h s) (hF : FX3_endParagraph N s = some q) : gG m b φ0 σo (lT lU) q (fX3_endParagraph N 4 h) := by
  unfold FX3_endParagraph at hF
  unfold fX3_endParagraph
  refine s_gO R (t_4 R.S) (Nat.le_of_ble_eq_true rfl) rfl (o_4_17 R.S) ?_
  refine s_pI R (t_172 R.S) (Nat.le_of_ble_eq_true rfl) rfl (c_lit 0 0 rfl) ⟨by decide, by decide⟩ hF (fun h2 σ3 R2 T2 hF => ?_)
  refine s_gAs R2 (t_4 R2.S) (Nat.le_of_ble_eq_true rfl) rfl (o_4_20 R2.S) (a_177 R2) ?_
  refine s_gI R2 (t_4 R2.S) (Nat.le_of_ble_eq_true rfl) rfl ?_
  refine s_rI R2 (u_177 R2.S).1 (u_177 R2.S).2 (by decide) (a_177 R2) rfl (R2.ri (t_4 R2.S) (Nat.le_of_ble_eq_true rfl) rfl) hF (fun x9 ra5 hF => ?_)
  exact SX3_endParagraph_b18 (N := N) hb R2 rfl ra5 hF
def FX9_close_b161 (N : Nat) (K10 : fS → Option (Unit × fS)) (s : fS) : Option (Unit × fS) :=
  K10 s
theorem SX9_close_b161 {m b : Nat} {φ0 : Nat → Nat} {σo : fS} {N : Nat} {k10 : Nat → eH → Option (Unit × eH)} {K10 : fS → Option (Unit × fS)} {q : Unit × fS} (hk10 : ∀ {φ : Nat → Nat} {h : eH} {s : fS} , fC m b φ0 σo φ h s → K10 s = some q → gG m b φ0 σo lU q (k10 23 h)) {φ : Nat → Nat} {h : eH} {s : fS} (R : fC m b φ0 σo φ h s) (hF : FX9_close_b161 N K10 s = some q) : gG m b φ0 σo lU q (fX9_close_b161 N k10 23 h) := by
  unfold FX9_close_b161 at hF
  unfold fX9_close_b161
  exact hk10 R hF
def FX9_close_b121 (N : Nat) (K10 : fS → Option (Unit × fS)) (l1 : Int) (l2 : Int) (l3 : Int) (s : fS) : Option (Unit × fS) :=
  if 0 ≤ l2 then
    FX9_close_b161 N K10 s
  else
    (uRI s 28 (isub (-1) l2)).bind fun x4 =>
    if x4 ≤ 0 then
      FX9_close_b161 N K10 s
    else
      (uRI s 29 (iadd l1 1)).bind fun x11 =>
      (uQI s 27 (isub (-1) l2) x11).bind fun σ13 =>
      (uQI σ13 28 (isub (-1) l2) l3).bind fun σ17 =>
      FX9_close_b161 N K10 σ17
theorem SX9_close_b121 {m b : Nat} {φ0 : Nat → Nat} {σo : fS} {N : Nat} {k10 : Nat → eH → Option (Unit × eH)} {K10 : fS → Option (Unit × fS)} {q : Unit × fS} (hk10 : ∀ {φ : Nat → Nat} {h : eH} {s : fS} , fC m b φ0 σo φ h s → K10 s = some q → gG m b φ0 σo lU q (k10 23 h)) {φ : Nat → Nat} {h : eH} {s : fS} {l1' : Int32} {l1 : Int} {l2' : Int32} {l2 : Int} {l3' : Int32} {l3 : Int} (R : fC m b φ0 σo φ h s) (el1 : l1' = iI l1) (rl1 : r32 l1) (el2 : l2' = iI l2) (rl2 : r32 l2) (el3 : l3' = iI l3) (rl3 : r32 l3) (hF : FX9_close_b121 N K10 l1 l2 l3 s = some q) : gG m b φ0 σo lU q (fX9_close_b121 N k10 23 l1' l2' l3' h) := by
  subst el1; subst el2; subst el3
  unfold FX9_close_b121 at hF
  unfold fX9_close_b121
  refine s_if (i_le (c_lit 0 0 rfl) rfl ⟨by decide, by decide⟩ rl2) hF (fun c1 hF => ?_) (fun c1 hF => ?_)
  ·
    exact SX9_close_b161 (N := N) (k10 := k10) (K10 := K10) @hk10 R hF
  ·
    refine s_gAs R (t_23 R.S) (Nat.le_of_ble_eq_true rfl) rfl (o_23_4 R.S) (a_28 R) ?_
    refine s_rI R (u_28 R.S).1 (u_28 R.S).2 (by decide) (a_28 R) (c_sub (c_lit (-1) (-1) rfl) rfl) (rr_I _) hF (fun x4 ra3 hF => ?_)
    refine s_if (i_le rfl (c_lit 0 0 rfl) ra3 ⟨by decide, by decide⟩) hF (fun c4 hF => ?_) (fun c4 hF => ?_)
    ·
      exact SX9_close_b161 (N := N) (k10 := k10) (K10 := K10) @hk10 R hF
    ·
      refine s_gAs R (t_23 R.S) (Nat.le_of_ble_eq_true rfl) rfl (o_23_3 R.S) (a_27 R) ?_
      refine s_gA R (t_23 R.S) (Nat.le_of_ble_eq_true rfl) rfl (o_23_5 R.S) (fun _ _ => ?_)
      refine s_rI R (u_29 R.S).1 (u_29 R.S).2 (by decide) rfl (c_add rfl (c_lit 1 1 rfl)) (rr_I _) hF (fun x11 ra7 hF => ?_)
      refine s_qI R (u_27 R.S).1 (u_27 R.S).2 (by decide) (a_27 R) (c_sub (c_lit (-1) (-1) rfl) rfl) (rr_I _) rfl ra7 hF (fun h8 σ13 R8 T8 hF => ?_)
      refine s_gAs R8 (t_23 R8.S) (Nat.le_of_ble_eq_true rfl) rfl (o_23_4 R8.S) (a_28 R8) ?_
      refine s_qI R8 (u_28 R8.S).1 (u_28 R8.S).2 (by decide) (a_28 R8) (c_sub (c_lit (-1) (-1) rfl) rfl) (rr_I _) rfl rl3 hF (fun h10 σ17 R10 T10 hF => ?_)
      exact SX9_close_b161 (N := N) (k10 := k10) (K10 := K10) @hk10 R10 hF
def FX9_close_b10 (N : Nat) : Nat → fS → Option (Unit × fS)
  | 0, _ => none
  | n + 1, s =>
    (uRI s 33 (s.i 23 11)).bind fun x7 =>
    if (s.i 23 6) ≤ x7 then
      some ((), s)
    else
      (uPI s 23 6 (isub (s.i 23 6) 1)).bind fun σ12 =>
      (uRI σ12 29 (imul 2 (σ12.i 23 6))).bind fun x18 =>
      (uRI σ12 29 (imul 2 (σ12.i 23 6))).bind fun x22 =>
      if (isub (ishr x18 10) 2200) < 0 then
        FX9_close_b121 N (FX9_close_b10 N n) (imul 2 (σ12.i 23 6)) (isub (ishr x18 10) 2200) (iand (ishr x22 3) 127) σ12
      else
        (uRI σ12 26 (isub (ishr x18 10) 2200)).bind fun x27 =>
        if x27 ≤ 0 then
          FX9_close_b121 N (FX9_close_b10 N n) (imul 2 (σ12.i 23 6)) (isub (ishr x18 10) 2200) (iand (ishr x22 3) 127) σ12
        else
          (uRI σ12 29 (imul 2 (σ12.i 23 6))).bind fun x34 =>
          (uQI σ12 24 (isub (ishr x18 10) 2200) (iand x34 7)).bind fun σ36 =>
          (uRI σ36 29 (iadd (imul 2 (σ12.i 23 6)) 1)).bind fun x42 =>
          (uQI σ36 25 (isub (ishr x18 10) 2200) x42).bind fun σ44 =>
          (uQI σ44 26 (isub (ishr x18 10) 2200) (iand (ishr x22 3) 127)).bind fun σ48 =>
          FX9_close_b161 N (FX9_close_b10 N n) σ48
theorem SX9_close_b10 {m b : Nat} {φ0 : Nat → Nat} {σo : fS} {N : Nat} {q : Unit × fS} : ∀ {n : Nat} {φ : Nat → Nat} {h : eH} {s : fS} , fC m b φ0 σo φ h s → FX9_close_b10 N n s = some q → gG m b φ0 σo lU q (fX9_close_b10 N n 23 h) := by
  intro n
  induction n with
 | zero => intro φ h s R hF; simp [FX9_close_b10] at hF
  | succ n ih =>
    intro φ h s  R  hF
    rw [FX9_close_b10] at hF
    rw [fX9_close_b10]
    refine s_gI R (t_23 R.S) (Nat.le_of_ble_eq_true rfl) rfl ?_
    refine s_gAs R (t_23 R.S) (Nat.le_of_ble_eq_true rfl) rfl (o_23_10 R.S) (a_33 R) ?_
    refine s_gI R (t_23 R.S) (Nat.le_of_ble_eq_true rfl) rfl ?_
    refine s_rI R (u_33 R.S).1 (u_33 R.S).2 (by decide) (a_33 R) rfl (R.ri (t_23 R.S) (Nat.le_of_ble_eq_true rfl) rfl) hF (fun x7 ra4 hF => ?_)
    refine s_if (i_le rfl rfl (R.ri (t_23 R.S) (Nat.le_of_ble_eq_true rfl) rfl) ra4) hF (fun c5 hF => ?_) (fun c5 hF => ?_)
    ·
      exact g_ret R hF trivial
    ·
      refine s_gI R (t_23 R.S) (Nat.le_of_ble_eq_true rfl) rfl ?_
      refine s_pI R (t_23 R.S) (Nat.le_of_ble_eq_true rfl) rfl (c_sub rfl (c_lit 1 1 rfl)) (rr_I _) hF (fun h7 σ12 R7 T7 hF => ?_)
      refine s_gI R7 (t_23 R7.S) (Nat.le_of_ble_eq_true rfl) rfl ?_
      refine s_gA R7 (t_23 R7.S) (Nat.le_of_ble_eq_true rfl) rfl (o_23_5 R7.S) (fun _ _ => ?_)
      refine s_rI R7 (u_29 R7.S).1 (u_29 R7.S).2 (by decide) rfl (c_mul (c_lit 2 2 rfl) rfl) (rr_I _) hF (fun x18 ra10 hF => ?_)
      refine s_gA R7 (t_23 R7.S) (Nat.le_of_ble_eq_true rfl) rfl (o_23_5 R7.S) (fun _ _ => ?_)
      refine s_rI R7 (u_29 R7.S).1 (u_29 R7.S).2 (by decide) rfl (c_mul (c_lit 2 2 rfl) rfl) (rr_I _) hF (fun x22 ra12 hF => ?_)
      refine s_if (i_lt (c_sub (c_shr rfl (c_lit 10 10 rfl)) (c_lit 2200 2200 rfl)) (c_lit 0 0 rfl) (rr_I _) ⟨by decide, by decide⟩) hF (fun c13 hF => ?_) (fun c13 hF => ?_)
      ·
        exact SX9_close_b121 (N := N) (k10 := fX9_close_b10 N n) (K10 := FX9_close_b10 N n) @ih R7 (c_mul (c_lit 2 2 rfl) rfl) (rr_I _) (c_sub (c_shr rfl (c_lit 10 10 rfl)) (c_lit 2200 2200 rfl)) (rr_I _) (c_and (c_shr rfl (c_lit 3 3 rfl)) (c_lit 127 127 rfl)) (rr_I _) hF
      ·
        refine s_gA R7 (t_23 R7.S) (Nat.le_of_ble_eq_true rfl) rfl (o_23_2 R7.S) (fun _ _ => ?_)
        refine s_rI R7 (u_26 R7.S).1 (u_26 R7.S).2 (by decide) rfl (c_sub (c_shr rfl (c_lit 10 10 rfl)) (c_lit 2200 2200 rfl)) (rr_I _) hF (fun x27 ra15 hF => ?_)
        refine s_if (i_le rfl (c_lit 0 0 rfl) ra15 ⟨by decide, by decide⟩) hF (fun c16 hF => ?_) (fun c16 hF => ?_)
        ·
          exact SX9_close_b121 (N := N) (k10 := fX9_close_b10 N n) (K10 := FX9_close_b10 N n) @ih R7 (c_mul (c_lit 2 2 rfl) rfl) (rr_I _) (c_sub (c_shr rfl (c_lit 10 10 rfl)) (c_lit 2200 2200 rfl)) (rr_I _) (c_and (c_shr rfl (c_lit 3 3 rfl)) (c_lit 127 127 rfl)) (rr_I _) hF
        ·
          refine s_gA R7 (t_23 R7.S) (Nat.le_of_ble_eq_true rfl) rfl (o_23_0 R7.S) (fun _ _ => ?_)
          refine s_gA R7 (t_23 R7.S) (Nat.le_of_ble_eq_true rfl) rfl (o_23_5 R7.S) (fun _ _ => ?_)
          refine s_rI R7 (u_29 R7.S).1 (u_29 R7.S).2 (by decide) rfl (c_mul (c_lit 2 2 rfl) rfl) (rr_I _) hF (fun x34 ra19 hF => ?_)
          refine s_qI R7 (u_24 R7.S).1 (u_24 R7.S).2 (by decide) rfl (c_sub (c_shr rfl (c_lit 10 10 rfl)) (c_lit 2200 2200 rfl)) (rr_I _) (c_and rfl (c_lit 7 7 rfl)) (rr_I _) hF (fun h20 σ36 R20 T20 hF => ?_)
          refine s_gA R20 (t_23 R20.S) (Nat.le_of_ble_eq_true rfl) rfl (o_23_1 R20.S) (fun _ _ => ?_)
          refine s_gA R20 (t_23 R20.S) (Nat.le_of_ble_eq_true rfl) rfl (o_23_5 R20.S) (fun _ _ => ?_)
          refine s_rI R20 (u_29 R20.S).1 (u_29 R20.S).2 (by decide) rfl (c_add (c_mul (c_lit 2 2 rfl) rfl) (c_lit 1 1 rfl)) (rr_I _) hF (fun x42 ra23 hF => ?_)
          refine s_qI R20 (u_25 R20.S).1 (u_25 R20.S).2 (by decide) rfl (c_sub (c_shr rfl (c_lit 10 10 rfl)) (c_lit 2200 2200 rfl)) (rr_I _) rfl ra23 hF (fun h24 σ44 R24 T24 hF => ?_)
          refine s_gA R24 (t_23 R24.S) (Nat.le_of_ble_eq_true rfl) rfl (o_23_2 R24.S) (fun _ _ => ?_)
          refine s_qI R24 (u_26 R24.S).1 (u_26 R24.S).2 (by decide) rfl (c_sub (c_shr rfl (c_lit 10 10 rfl)) (c_lit 2200 2200 rfl)) (rr_I _) (c_and (c_shr rfl (c_lit 3 3 rfl)) (c_lit 127 127 rfl)) (rr_I _) hF (fun h26 σ48 R26 T26 hF => ?_)
          exact SX9_close_b161 (N := N) (k10 := fX9_close_b10 N n) (K10 := FX9_close_b10 N n) @ih R26 hF
def FX9_close (N : Nat) (s : fS) : Option (Unit × fS) :=
  (uPI s 23 11 (isub (s.i 23 11) 1)).bind fun σ3 =>
  FX9_close_b10 N N σ3
theorem SX9_close {m b : Nat} {φ0 : Nat → Nat} {σo : fS} {N : Nat} {q : Unit × fS} {φ : Nat → Nat} {h : eH} {s : fS} (R : fC m b φ0 σo φ h s) (hF : FX9_close N s = some q) : gG m b φ0 σo lU q (fX9_close N 23 h) := by
  unfold FX9_close at hF
  unfold fX9_close
  refine s_gI R (t_23 R.S) (Nat.le_of_ble_eq_true rfl) rfl ?_
  refine s_pI R (t_23 R.S) (Nat.le_of_ble_eq_true rfl) rfl (c_sub rfl (c_lit 1 1 rfl)) (rr_I _) hF (fun h2 σ3 R2 T2 hF => ?_)
  exact SX9_close_b10 (N := N) R2 hF
def FX3_deliver_b33 (N : Nat) (s : fS) : Option ((Unit ⊕ Nat) × fS) :=
  some (.inl (), s)
theorem SX3_deliver_b33 {m b : Nat} {φ0 : Nat → Nat} {σo : fS} {N : Nat} {q : (Unit ⊕ Nat) × fS} {φ : Nat → Nat} {h : eH} {s : fS} (R : fC m b φ0 σo φ h s) (hF : FX3_deliver_b33 N s = some q) : gG m b φ0 σo (lT lU) q (fX3_deliver_b33 N h) := by
  unfold FX3_deliver_b33 at hF
  unfold fX3_deliver_b33
  exact g_ret R hF trivial
def FX3_deliver (N : Nat) (p0 : Int) (p1 : Int) (p2 : Int) (p3 : Int) (s : fS) : Option ((Unit ⊕ Nat) × fS) :=
  if p1 < 0 then
    if p0 = (-1) then
      FX3_deliver_b33 N s
    else
      tB (FX3_addBox N p0 p2 s) fun x4 σ5 =>
      FX3_deliver_b33 N σ5
  else
    (FX9_set N (iadd 1583 p1) p0 p3 s).bind fun q9 =>
    FX3_deliver_b33 N q9.2
theorem SX3_deliver {m b : Nat} {φ0 : Nat → Nat} {σo : fS} (hb : 1 ≤ b) {N : Nat} {q : (Unit ⊕ Nat) × fS} {φ : Nat → Nat} {h : eH} {s : fS} {p0' : Int32} {p0 : Int} {p1' : Int32} {p1 : Int} {p2' : Int32} {p2 : Int} {p3' : Int32} {p3 : Int} (R : fC m b φ0 σo φ h s) (ep0 : p0' = iI p0) (rp0 : r32 p0) (ep1 : p1' = iI p1) (rp1 : r32 p1) (ep2 : p2' = iI p2) (rp2 : r32 p2) (ep3 : p3' = iI p3) (rp3 : r32 p3) (hF : FX3_deliver N p0 p1 p2 p3 s = some q) : gG m b φ0 σo (lT lU) q (fX3_deliver N 4 p0' p1' p2' p3' h) := by
  subst ep0; subst ep1; subst ep2; subst ep3
  unfold FX3_deliver at hF
  unfold fX3_deliver
  refine s_if (i_lt rfl (c_lit 0 0 rfl) rp1 ⟨by decide, by decide⟩) hF (fun c1 hF => ?_) (fun c1 hF => ?_)
  ·
    refine s_if (i_eq rfl (c_lit (-1) (-1) rfl) rp0 ⟨by decide, by decide⟩) hF (fun c2 hF => ?_) (fun c2 hF => ?_)
    ·
      exact SX3_deliver_b33 (N := N) R hF
    ·
      refine s_kok R (t_4 R.S) (Nat.le_of_ble_eq_true rfl) ?_
      refine s_tB R hb (fun _ hq => SX3_addBox (b := 1) (N := N) (Nat.le_of_ble_eq_true rfl) (R.rf) rfl rp0 rfl rp2 hq) hF (fun f4 rv4 h4 x4 σ5 R4 e4 E4 hF => ?_)
      exact SX3_deliver_b33 (N := N) R4 hF
  ·
    refine s_gO R (t_4 R.S) (Nat.le_of_ble_eq_true rfl) rfl (o_4_6 R.S) ?_
    refine s_kok R (t_23 R.S) (Nat.le_of_ble_eq_true rfl) ?_
    refine s_call R hb (fun _ hq => SX9_set (b := 1) (N := N) (Nat.le_of_ble_eq_true rfl) (R.rf) (c_add (c_lit 1583 1583 rfl) rfl) (rr_I _) rfl rp0 rfl rp3 hq) hF (fun f7 rv7 h7 q9 R7 e7 E7 hF => ?_)
    exact SX3_deliver_b33 (N := N) R7 hF
def FX3_closeBox_b49 (N : Nat) (s2 : Int) (s3 : Int) (s : fS) : Option ((Unit ⊕ Nat) × fS) :=
  (uRI s 179 (s.i 4 27)).bind fun x5 =>
  (uRI s 180 (s.i 4 27)).bind fun x11 =>
  tB (FX3_pack N 170 s2 s3 x5 x11 s) fun x14 σ15 =>
  (FX3_pop σ15).bind fun q17 =>
  (FX9_close N q17.2).bind fun q21 =>
  (uRI q21.2 181 (iadd (q21.2.i 4 27) 1)).bind fun x26 =>
  (uRI q21.2 182 (iadd (q21.2.i 4 27) 1)).bind fun x32 =>
  (uRI q21.2 183 (iadd (q21.2.i 4 27) 1)).bind fun x38 =>
  tB (FX3_deliver N x14 x26 x32 x38 q21.2) fun x41 σ42 =>
  some (.inl (), σ42)
theorem SX3_closeBox_b49 {m b : Nat} {φ0 : Nat → Nat} {σo : fS} (hb : 1 ≤ b) {N : Nat} {q : (Unit ⊕ Nat) × fS} {φ : Nat → Nat} {h : eH} {s : fS} {s2' : Int32} {s2 : Int} {s3' : Int32} {s3 : Int} (R : fC m b φ0 σo φ h s) (es2 : s2' = iI s2) (rs2 : r32 s2) (es3 : s3' = iI s3) (rs3 : r32 s3) (hF : FX3_closeBox_b49 N s2 s3 s = some q) : gG m b φ0 σo (lT lU) q (fX3_closeBox_b49 N 4 4 170 s2' s3' h) := by
  subst es2; subst es3
  unfold FX3_closeBox_b49 at hF
  unfold fX3_closeBox_b49
  refine s_gAs R (t_4 R.S) (Nat.le_of_ble_eq_true rfl) rfl (o_4_22 R.S) (a_179 R) ?_
  refine s_gI R (t_4 R.S) (Nat.le_of_ble_eq_true rfl) rfl ?_
  refine s_rI R (u_179 R.S).1 (u_179 R.S).2 (by decide) (a_179 R) rfl (R.ri (t_4 R.S) (Nat.le_of_ble_eq_true rfl) rfl) hF (fun x5 ra3 hF => ?_)
  refine s_gAs R (t_4 R.S) (Nat.le_of_ble_eq_true rfl) rfl (o_4_23 R.S) (a_180 R) ?_
  refine s_gI R (t_4 R.S) (Nat.le_of_ble_eq_true rfl) rfl ?_
  refine s_rI R (u_180 R.S).1 (u_180 R.S).2 (by decide) (a_180 R) rfl (R.ri (t_4 R.S) (Nat.le_of_ble_eq_true rfl) rfl) hF (fun x11 ra6 hF => ?_)
  refine s_kok R (t_4 R.S) (Nat.le_of_ble_eq_true rfl) ?_
  refine s_tB R hb (fun _ hq => SX3_pack (b := 1) (N := N) (Nat.le_of_ble_eq_true rfl) (R.rf) rfl rs2 rfl rs3 rfl ra3 rfl ra6 hq) hF (fun f8 rv8 h8 x14 σ15 R8 e8 E8 hF => ?_)
  refine s_kok R8 (t_4 R8.S) (Nat.le_of_ble_eq_true rfl) ?_
  refine s_call R8 (Nat.zero_le _) (fun _ hq => SX3_pop (b := 0) (R8.rf) hq) hF (fun f10 rv10 h10 q17 R10 e10 E10 hF => ?_)
  refine s_gO R10 (t_4 R10.S) (Nat.le_of_ble_eq_true rfl) rfl (o_4_6 R10.S) ?_
  refine s_kok R10 (t_23 R10.S) (Nat.le_of_ble_eq_true rfl) ?_
  refine s_call R10 (Nat.zero_le _) (fun _ hq => SX9_close (b := 0) (N := N) (R10.rf) hq) hF (fun f13 rv13 h13 q21 R13 e13 E13 hF => ?_)
  refine s_gAs R13 (t_4 R13.S) (Nat.le_of_ble_eq_true rfl) rfl (o_4_24 R13.S) (a_181 R13) ?_
  refine s_gI R13 (t_4 R13.S) (Nat.le_of_ble_eq_true rfl) rfl ?_
  refine s_rI R13 (u_181 R13.S).1 (u_181 R13.S).2 (by decide) (a_181 R13) (c_add rfl (c_lit 1 1 rfl)) (rr_I _) hF (fun x26 ra16 hF => ?_)
  refine s_gAs R13 (t_4 R13.S) (Nat.le_of_ble_eq_true rfl) rfl (o_4_25 R13.S) (a_182 R13) ?_
  refine s_gI R13 (t_4 R13.S) (Nat.le_of_ble_eq_true rfl) rfl ?_
  refine s_rI R13 (u_182 R13.S).1 (u_182 R13.S).2 (by decide) (a_182 R13) (c_add rfl (c_lit 1 1 rfl)) (rr_I _) hF (fun x32 ra19 hF => ?_)
  refine s_gAs R13 (t_4 R13.S) (Nat.le_of_ble_eq_true rfl) rfl (o_4_26 R13.S) (a_183 R13) ?_
  refine s_gI R13 (t_4 R13.S) (Nat.le_of_ble_eq_true rfl) rfl ?_
  refine s_rI R13 (u_183 R13.S).1 (u_183 R13.S).2 (by decide) (a_183 R13) (c_add rfl (c_lit 1 1 rfl)) (rr_I _) hF (fun x38 ra22 hF => ?_)
  refine s_kok R13 (t_4 R13.S) (Nat.le_of_ble_eq_true rfl) ?_
  refine s_tB R13 hb (fun _ hq => SX3_deliver (b := 1) (N := N) (Nat.le_of_ble_eq_true rfl) (R13.rf) e8.1 e8.2 rfl ra16 rfl ra19 rfl ra22 hq) hF (fun f24 rv24 h24 x41 σ42 R24 e24 E24 hF => ?_)
  exact g_ret R24 hF trivial
def FX3_closeBox_b17 (N : Nat) (s : fS) : Option ((Unit ⊕ Nat) × fS) :=
  (uRI s 177 (s.i 4 27)).bind fun x7 =>
  (uRI s 176 (s.i 4 27)).bind fun x13 =>
  if ¬ (x13 = 1) then
    FX3_closeBox_b49 N x7 0 s
  else
    FX3_closeBox_b49 N x7 1 s
theorem SX3_closeBox_b17 {m b : Nat} {φ0 : Nat → Nat} {σo : fS} (hb : 1 ≤ b) {N : Nat} {q : (Unit ⊕ Nat) × fS} {φ : Nat → Nat} {h : eH} {s : fS} (R : fC m b φ0 σo φ h s) (hF : FX3_closeBox_b17 N s = some q) : gG m b φ0 σo (lT lU) q (fX3_closeBox_b17 N 4 h) := by
  unfold FX3_closeBox_b17 at hF
  unfold fX3_closeBox_b17
  refine s_gO R (t_4 R.S) (Nat.le_of_ble_eq_true rfl) rfl (o_4_16 R.S) ?_
  refine s_gAs R (t_4 R.S) (Nat.le_of_ble_eq_true rfl) rfl (o_4_20 R.S) (a_177 R) ?_
  refine s_gI R (t_4 R.S) (Nat.le_of_ble_eq_true rfl) rfl ?_
  refine s_rI R (u_177 R.S).1 (u_177 R.S).2 (by decide) (a_177 R) rfl (R.ri (t_4 R.S) (Nat.le_of_ble_eq_true rfl) rfl) hF (fun x7 ra4 hF => ?_)
  refine s_gAs R (t_4 R.S) (Nat.le_of_ble_eq_true rfl) rfl (o_4_19 R.S) (a_176 R) ?_
  refine s_gI R (t_4 R.S) (Nat.le_of_ble_eq_true rfl) rfl ?_
  refine s_rI R (u_176 R.S).1 (u_176 R.S).2 (by decide) (a_176 R) rfl (R.ri (t_4 R.S) (Nat.le_of_ble_eq_true rfl) rfl) hF (fun x13 ra7 hF => ?_)
  refine s_if (not_congr (i_eq rfl (c_lit 1 1 rfl) ra7 ⟨by decide, by decide⟩)) hF (fun c8 hF => ?_) (fun c8 hF => ?_)
  ·
    exact SX3_closeBox_b49 (N := N) hb R rfl ra4 (c_lit 0 0 rfl) ⟨by decide, by decide⟩ hF
  ·
    exact SX3_closeBox_b49 (N := N) hb R rfl ra4 (c_lit 1 1 rfl) ⟨by decide, by decide⟩ hF
def FX3_closeBox (N : Nat) (s : fS) : Option ((Unit ⊕ Nat) × fS) :=
  (uRI s 176 (s.i 4 27)).bind fun x5 =>
  if ¬ (x5 = 2) then
    FX3_closeBox_b17 N s
  else
    tB (FX3_endParagraph N s) fun x9 σ10 =>
    FX3_closeBox_b17 N σ10
theorem SX3_closeBox {m b : Nat} {φ0 : Nat → Nat} {σo : fS} (hb : 1 ≤ b) {N : Nat} {q : (Unit ⊕ Nat) × fS} {φ : Nat → Nat} {h : eH} {s : fS} (R : fC m b φ0 σo φ h s) (hF : FX3_closeBox N s = some q) : gG m b φ0 σo (lT lU) q (fX3_closeBox N 4 h) := by
  unfold FX3_closeBox at hF
  unfold fX3_closeBox
  refine s_gAs R (t_4 R.S) (Nat.le_of_ble_eq_true rfl) rfl (o_4_19 R.S) (a_176 R) ?_
  refine s_gI R (t_4 R.S) (Nat.le_of_ble_eq_true rfl) rfl ?_
  refine s_rI R (u_176 R.S).1 (u_176 R.S).2 (by decide) (a_176 R) rfl (R.ri (t_4 R.S) (Nat.le_of_ble_eq_true rfl) rfl) hF (fun x5 ra3 hF => ?_)
  refine s_if (not_congr (i_eq rfl (c_lit 2 2 rfl) ra3 ⟨by decide, by decide⟩)) hF (fun c4 hF => ?_) (fun c4 hF => ?_)
  ·
    exact SX3_closeBox_b17 (N := N) hb R hF
  ·
    refine s_kok R (t_4 R.S) (Nat.le_of_ble_eq_true rfl) ?_
    refine s_tB R hb (fun _ hq => SX3_endParagraph (b := 1) (N := N) (Nat.le_of_ble_eq_true rfl) (R.rf) hq) hF (fun f6 rv6 h6 x9 σ10 R6 e6 E6 hF => ?_)
    exact SX3_closeBox_b17 (N := N) hb R6 hF
def FX3_close_b40 (N : Nat) (s1 : Int) (s : fS) : Option ((Unit ⊕ Nat) × fS) :=
  tB (FX4_want s1 13 s) fun x2 σ3 =>
  (FX9_close N σ3).bind fun q7 =>
  some (.inl (), q7.2)
theorem SX3_close_b40 {m b : Nat} {φ0 : Nat → Nat} {σo : fS} {N : Nat} {q : (Unit ⊕ Nat) × fS} {φ : Nat → Nat} {h : eH} {s : fS} {s1' : Int32} {s1 : Int} (R : fC m b φ0 σo φ h s) (es1 : s1' = iI s1) (rs1 : r32 s1) (hF : FX3_close_b40 N s1 s = some q) : gG m b φ0 σo (lT lU) q (fX3_close_b40 N 4 5 s1' h) := by
  subst es1
  unfold FX3_close_b40 at hF
  unfold fX3_close_b40
  refine s_kok R (t_5 R.S) (Nat.le_of_ble_eq_true rfl) ?_
  refine s_tB R (Nat.zero_le _) (fun _ hq => SX4_want (b := 0) (R.rf) rfl rs1 (c_lit 13 13 rfl) ⟨by decide, by decide⟩ hq) hF (fun f2 rv2 h2 x2 σ3 R2 e2 E2 hF => ?_)
  refine s_gO R2 (t_4 R2.S) (Nat.le_of_ble_eq_true rfl) rfl (o_4_6 R2.S) ?_
  refine s_kok R2 (t_23 R2.S) (Nat.le_of_ble_eq_true rfl) ?_
  refine s_call R2 (Nat.zero_le _) (fun _ hq => SX9_close (b := 0) (N := N) (R2.rf) hq) hF (fun f5 rv5 h5 q7 R5 e5 E5 hF => ?_)
  exact g_ret R5 hF trivial
def FX3_close_b39 (N : Nat) (s : fS) : Option ((Unit ⊕ Nat) × fS) :=
  FX3_close_b40 N 0 s
theorem SX3_close_b39 {m b : Nat} {φ0 : Nat → Nat} {σo : fS} {N : Nat} {q : (Unit ⊕ Nat) × fS} {φ : Nat → Nat} {h : eH} {s : fS} (R : fC m b φ0 σo φ h s) (hF : FX3_close_b39 N s = some q) : gG m b φ0 σo (lT lU) q (fX3_close_b39 N 4 5 h) := by
  unfold FX3_close_b39 at hF
  unfold fX3_close_b39
  exact SX3_close_b40 (N := N) R (c_lit 0 0 rfl) ⟨by decide, by decide⟩ hF
def FX3_close (N : Nat) (p0 : Int) (s : fS) : Option ((Unit ⊕ Nat) × fS) :=
  if (s.i 23 11) ≤ 0 then
    FX3_close_b39 N s
  else
    (uRI s 32 (isub (s.i 23 11) 1)).bind fun x16 =>
    if ¬ (x16 = p0) then
      FX3_close_b39 N s
    else
      FX3_close_b40 N 1 s
theorem SX3_close {m b : Nat} {φ0 : Nat → Nat} {σo : fS} {N : Nat} {q : (Unit ⊕ Nat) × fS} {φ : Nat → Nat} {h : eH} {s : fS} {p0' : Int32} {p0 : Int} (R : fC m b φ0 σo φ h s) (ep0 : p0' = iI p0) (rp0 : r32 p0) (hF : FX3_close N p0 s = some q) : gG m b φ0 σo (lT lU) q (fX3_close N 4 p0' h) := by
  subst ep0
  unfold FX3_close at hF
  unfold fX3_close
  refine s_gO R (t_4 R.S) (Nat.le_of_ble_eq_true rfl) rfl (o_4_0 R.S) ?_
  refine s_gO R (t_4 R.S) (Nat.le_of_ble_eq_true rfl) rfl (o_4_6 R.S) ?_
  refine s_gI R (t_23 R.S) (Nat.le_of_ble_eq_true rfl) rfl ?_
  refine s_if (i_le rfl (c_lit 0 0 rfl) (R.ri (t_23 R.S) (Nat.le_of_ble_eq_true rfl) rfl) ⟨by decide, by decide⟩) hF (fun c4 hF => ?_) (fun c4 hF => ?_)
  ·
    exact SX3_close_b39 (N := N) R hF
  ·
    refine s_gO R (t_4 R.S) (Nat.le_of_ble_eq_true rfl) rfl (o_4_6 R.S) ?_
    refine s_gAs R (t_23 R.S) (Nat.le_of_ble_eq_true rfl) rfl (o_23_9 R.S) (a_32 R) ?_
    refine s_gO R (t_4 R.S) (Nat.le_of_ble_eq_true rfl) rfl (o_4_6 R.S) ?_
    refine s_gI R (t_23 R.S) (Nat.le_of_ble_eq_true rfl) rfl ?_
    refine s_rI R (u_32 R.S).1 (u_32 R.S).2 (by decide) (a_32 R) (c_sub rfl (c_lit 1 1 rfl)) (rr_I _) hF (fun x16 ra9 hF => ?_)
    refine s_if (not_congr (i_eq rfl rfl ra9 rp0)) hF (fun c10 hF => ?_) (fun c10 hF => ?_)
    ·
      exact SX3_close_b39 (N := N) R hF
    ·
      exact SX3_close_b40 (N := N) R (c_lit 1 1 rfl) ⟨by decide, by decide⟩ hF
def FX5_parameter_b38 (s0 : Int) (s : fS) : Option (Int × fS) :=
  some (s0, s)
theorem SX5_parameter_b38 {m b : Nat} {φ0 : Nat → Nat} {σo : fS} {q : Int × fS} {φ : Nat → Nat} {h : eH} {s : fS} {s0' : Int32} {s0 : Int} (R : fC m b φ0 σo φ h s) (es0 : s0' = iI s0) (rs0 : r32 s0) (hF : FX5_parameter_b38 s0 s = some q) : gG m b φ0 σo lI q (fX5_parameter_b38 s0' h) := by
  subst es0
  unfold FX5_parameter_b38 at hF
  unfold fX5_parameter_b38
  exact g_ret R hF ⟨rfl, rs0⟩
def FX5_parameter (p0 : Int) (p1 : Int) (s : fS) : Option (Int × fS) :=
  (uRO s 8 p0).bind fun a3 =>
  (uK 5 s a3).bind fun _ =>
  (s.o a3 3).bind fun a5 =>
  (uKA 100 s a5).bind fun _ =>
  (uRI s a5 9).bind fun x7 =>
  if p1 ≤ x7 then
    (uK 5 s a3).bind fun _ =>
    (s.o a3 1).bind fun a10 =>
    (uK 5 s a3).bind fun _ =>
    (s.o a3 2).bind fun a12 =>
    (uKA 100 s a12).bind fun _ =>
    (uRI s a12 9).bind fun x14 =>
    (uKA 100 s a10).bind fun _ =>
    (uRI s a10 (isub (iadd x14 p1) 1)).bind fun x16 =>
    FX5_parameter_b38 x16 s
  else
    FX5_parameter_b38 0 s
theorem SX5_parameter {m b : Nat} {φ0 : Nat → Nat} {σo : fS} {q : Int × fS} {φ : Nat → Nat} {h : eH} {s : fS} {p0' : Int32} {p0 : Int} {p1' : Int32} {p1 : Int} (R : fC m b φ0 σo φ h s) (ep0 : p0' = iI p0) (rp0 : r32 p0) (ep1 : p1' = iI p1) (rp1 : r32 p1) (hF : FX5_parameter p0 p1 s = some q) : gG m b φ0 σo lI q (fX5_parameter 6 p0' p1' h) := by
  subst ep0; subst ep1
  unfold FX5_parameter at hF
  unfold fX5_parameter
  refine s_gAs R (t_6 R.S) (Nat.le_of_ble_eq_true rfl) rfl (o_6_1 R.S) (a_8 R) ?_
  refine s_rO R (u_8 R.S).1 (u_8 R.S).2 rfl (fun _ => rfl) (Nat.le_of_ble_eq_true rfl) (a_8 R) rfl rp0 hF (fun a3 y2 hF => ?_)
  refine s_K hF (fun t4 hF => ?_)
  refine s_oo hF (fun a5 e3 hF => ?_)
  refine s_gA R t4 (Nat.le_of_ble_eq_true rfl) rfl e3 (fun x3_ y3_ => ?_)
  refine s_KA hF (fun y6 z6 hF => ?_)
  refine s_rI R y6 z6 (by decide) rfl (c_lit 9 9 rfl) ⟨by decide, by decide⟩ hF (fun x7 ra5 hF => ?_)
  refine s_if (i_le rfl rfl rp1 ra5) hF (fun c7 hF => ?_) (fun c7 hF => ?_)
  ·
    refine s_K hF (fun t9 hF => ?_)
    refine s_oo hF (fun a10 e8 hF => ?_)
    refine s_gA R t9 (Nat.le_of_ble_eq_true rfl) rfl e8 (fun x8_ y8_ => ?_)
    refine s_K hF (fun t11 hF => ?_)
    refine s_oo hF (fun a12 e10 hF => ?_)
    refine s_gA R t11 (Nat.le_of_ble_eq_true rfl) rfl e10 (fun x10_ y10_ => ?_)
    refine s_KA hF (fun y13 z13 hF => ?_)
    refine s_rI R y13 z13 (by decide) rfl (c_lit 9 9 rfl) ⟨by decide, by decide⟩ hF (fun x14 ra12 hF => ?_)
    refine s_KA hF (fun y15 z15 hF => ?_)
    refine s_rI R y15 z15 (by decide) rfl (c_sub (c_add rfl rfl) (c_lit 1 1 rfl)) (rr_I _) hF (fun x16 ra14 hF => ?_)
    exact SX5_parameter_b38 R rfl ra14 hF
  ·
    exact SX5_parameter_b38 R (c_lit 0 0 rfl) ⟨by decide, by decide⟩ hF
def FX3_space_b26 (l1 : Int) (s1 : Int) (s : fS) : Option ((Unit ⊕ Nat) × fS) :=
  tB (FX4_want s1 14 s) fun x2 σ3 =>
  (FX5_parameter l1 2 σ3).bind fun q7 =>
  (FX5_parameter l1 3 q7.2).bind fun q11 =>
  (FX5_parameter l1 4 q11.2).bind fun q15 =>
  tB (FX3_put 2 q7.1 (imax 0 q11.1) 0 (imax 0 q15.1) 0 q15.2) fun x17 σ18 =>
  some (.inl (), σ18)
theorem SX3_space_b26 {m b : Nat} {φ0 : Nat → Nat} {σo : fS} (hb : 1 ≤ b) {q : (Unit ⊕ Nat) × fS} {φ : Nat → Nat} {h : eH} {s : fS} {l1' : Int32} {l1 : Int} {s1' : Int32} {s1 : Int} (R : fC m b φ0 σo φ h s) (el1 : l1' = iI l1) (rl1 : r32 l1) (es1 : s1' = iI s1) (rs1 : r32 s1) (hF : FX3_space_b26 l1 s1 s = some q) : gG m b φ0 σo (lT lU) q (fX3_space_b26 4 l1' 5 s1' h) := by
  subst el1; subst es1
  unfold FX3_space_b26 at hF
  unfold fX3_space_b26
  refine s_kok R (t_5 R.S) (Nat.le_of_ble_eq_true rfl) ?_
  refine s_tB R (Nat.zero_le _) (fun _ hq => SX4_want (b := 0) (R.rf) rfl rs1 (c_lit 14 14 rfl) ⟨by decide, by decide⟩ hq) hF (fun f2 rv2 h2 x2 σ3 R2 e2 E2 hF => ?_)
  refine s_gO R2 (t_4 R2.S) (Nat.le_of_ble_eq_true rfl) rfl (o_4_1 R2.S) ?_
  refine s_kok R2 (t_6 R2.S) (Nat.le_of_ble_eq_true rfl) ?_
  refine s_call R2 (Nat.zero_le _) (fun _ hq => SX5_parameter (b := 0) (R2.rf) rfl rl1 (c_lit 2 2 rfl) ⟨by decide, by decide⟩ hq) hF (fun f5 rv5 h5 q7 R5 e5 E5 hF => ?_)
  refine s_gO R5 (t_4 R5.S) (Nat.le_of_ble_eq_true rfl) rfl (o_4_1 R5.S) ?_
  refine s_kok R5 (t_6 R5.S) (Nat.le_of_ble_eq_true rfl) ?_
  refine s_call R5 (Nat.zero_le _) (fun _ hq => SX5_parameter (b := 0) (R5.rf) rfl rl1 (c_lit 3 3 rfl) ⟨by decide, by decide⟩ hq) hF (fun f8 rv8 h8 q11 R8 e8 E8 hF => ?_)
  refine s_gO R8 (t_4 R8.S) (Nat.le_of_ble_eq_true rfl) rfl (o_4_1 R8.S) ?_
  refine s_kok R8 (t_6 R8.S) (Nat.le_of_ble_eq_true rfl) ?_
  refine s_call R8 (Nat.zero_le _) (fun _ hq => SX5_parameter (b := 0) (R8.rf) rfl rl1 (c_lit 4 4 rfl) ⟨by decide, by decide⟩ hq) hF (fun f11 rv11 h11 q15 R11 e11 E11 hF => ?_)
  refine s_kok R11 (t_4 R11.S) (Nat.le_of_ble_eq_true rfl) ?_
  refine s_tB R11 hb (fun _ hq => SX3_put (b := 1) (Nat.le_of_ble_eq_true rfl) (R11.rf) (c_lit 2 2 rfl) ⟨by decide, by decide⟩ e5.1 e5.2 (c_max (c_lit 0 0 rfl) e8.1 ⟨by decide, by decide⟩ e8.2) (r_max ⟨by decide, by decide⟩ e8.2) (c_lit 0 0 rfl) ⟨by decide, by decide⟩ (c_max (c_lit 0 0 rfl) e11.1 ⟨by decide, by decide⟩ e11.2) (r_max ⟨by decide, by decide⟩ e11.2) (c_lit 0 0 rfl) ⟨by decide, by decide⟩ hq) hF (fun f13 rv13 h13 x17 σ18 R13 e13 E13 hF => ?_)
  exact g_ret R13 hF trivial
def FX3_space (s : fS) : Option ((Unit ⊕ Nat) × fS) :=
  (uRI s 27 2095).bind fun x5 =>
  if x5 = (-1) then
    FX3_space_b26 x5 0 s
  else
    FX3_space_b26 x5 1 s
theorem SX3_space {m b : Nat} {φ0 : Nat → Nat} {σo : fS} (hb : 1 ≤ b) {q : (Unit ⊕ Nat) × fS} {φ : Nat → Nat} {h : eH} {s : fS} (R : fC m b φ0 σo φ h s) (hF : FX3_space s = some q) : gG m b φ0 σo (lT lU) q (fX3_space 4 h) := by
  unfold FX3_space at hF
  unfold fX3_space
  refine s_gO R (t_4 R.S) (Nat.le_of_ble_eq_true rfl) rfl (o_4_6 R.S) ?_
  refine s_gAs R (t_23 R.S) (Nat.le_of_ble_eq_true rfl) rfl (o_23_3 R.S) (a_27 R) ?_
  refine s_rI R (u_27 R.S).1 (u_27 R.S).2 (by decide) (a_27 R) (c_lit 2095 2095 rfl) ⟨by decide, by decide⟩ hF (fun x5 ra3 hF => ?_)
  refine s_gO R (t_4 R.S) (Nat.le_of_ble_eq_true rfl) rfl (o_4_0 R.S) ?_
  refine s_if (i_eq rfl (c_lit (-1) (-1) rfl) ra3 ⟨by decide, by decide⟩) hF (fun c5 hF => ?_) (fun c5 hF => ?_)
  ·
    exact SX3_space_b26 hb R rfl ra3 (c_lit 0 0 rfl) ⟨by decide, by decide⟩ hF
  ·
    exact SX3_space_b26 hb R rfl ra3 (c_lit 1 1 rfl) ⟨by decide, by decide⟩ hF
def FX3_actCharacter_b145 (N : Nat) (s : fS) : Option ((Unit ⊕ Nat) × fS) :=
  some (.inl (), s)
theorem SX3_actCharacter_b145 {m b : Nat} {φ0 : Nat → Nat} {σo : fS} {N : Nat} {q : (Unit ⊕ Nat) × fS} {φ : Nat → Nat} {h : eH} {s : fS} (R : fC m b φ0 σo φ h s) (hF : FX3_actCharacter_b145 N s = some q) : gG m b φ0 σo (lT lU) q (fX3_actCharacter_b145 N h) := by
  unfold FX3_actCharacter_b145 at hF
  unfold fX3_actCharacter_b145
  exact g_ret R hF trivial
def FX3_actCharacter_b102 (N : Nat) (s : fS) : Option ((Unit ⊕ Nat) × fS) :=
  tB (FX3_close N 1 s) fun x2 σ3 =>
  FX3_actCharacter_b145 N σ3
theorem SX3_actCharacter_b102 {m b : Nat} {φ0 : Nat → Nat} {σo : fS} {N : Nat} {q : (Unit ⊕ Nat) × fS} {φ : Nat → Nat} {h : eH} {s : fS} (R : fC m b φ0 σo φ h s) (hF : FX3_actCharacter_b102 N s = some q) : gG m b φ0 σo (lT lU) q (fX3_actCharacter_b102 N 4 h) := by
  unfold FX3_actCharacter_b102 at hF
  unfold fX3_actCharacter_b102
  refine s_kok R (t_4 R.S) (Nat.le_of_ble_eq_true rfl) ?_
  refine s_tB R (Nat.zero_le _) (fun _ hq => SX3_close (b := 0) (N := N) (R.rf) (c_lit 1 1 rfl) ⟨by decide, by decide⟩ hq) hF (fun f2 rv2 h2 x2 σ3 R2 e2 E2 hF => ?_)
  exact SX3_actCharacter_b145 (N := N) R2 hF
def FX3_actCharacter (N : Nat) (p0 : Int) (s : fS) : Option ((Unit ⊕ Nat) × fS) :=
  if p0 = 1 then
    tB (FX3_open 1 s) fun x3 σ4 =>
    FX3_actCharacter_b145 N σ4
  else
    if p0 = 2 then
      if (s.i 23 11) ≤ 0 then
        FX3_actCharacter_b102 N s
      else
        (uRI s 32 (isub (s.i 23 11) 1)).bind fun x19 =>
        if ¬ (x19 = 3) then
          FX3_actCharacter_b102 N s
        else
          tB (FX3_closeBox N s) fun x23 σ24 =>
          FX3_actCharacter_b145 N σ24
    else
      if p0 = 3 then
        tB (FX4_fail 15 s) fun x29 σ30 =>
        FX3_actCharacter_b145 N σ30
      else
        if p0 = 4 then
          tB (FX4_fail 15 s) fun x35 σ36 =>
          FX3_actCharacter_b145 N σ36
        else
          if p0 = 5 then
            tB (FX4_fail 15 s) fun x41 σ42 =>
            FX3_actCharacter_b145 N σ42
          else
            if p0 = 6 then
              tB (FX4_fail 12 s) fun x47 σ48 =>
              FX3_actCharacter_b145 N σ48
            else
              if p0 = 7 then
                tB (FX4_fail 15 s) fun x53 σ54 =>
                FX3_actCharacter_b145 N σ54
              else
                if p0 = 8 then
                  tB (FX4_fail 15 s) fun x59 σ60 =>
                  FX3_actCharacter_b145 N σ60
                else
                  if p0 = 9 then
                    tB (FX4_fail 15 s) fun x65 σ66 =>
                    FX3_actCharacter_b145 N σ66
                  else
                    if p0 = 10 then
                      (FX3_isVertical s).bind fun q69 =>
                      if ¬ (q69.1 = 0) then
                        FX3_actCharacter_b145 N q69.2
                      else
                        tB (FX3_space q69.2) fun x72 σ73 =>
                        FX3_actCharacter_b145 N σ73
                    else
                      tB (FX4_fail 15 s) fun x77 σ78 =>
                      FX3_actCharacter_b145 N σ78
theorem SX3_actCharacter {m b : Nat} {φ0 : Nat → Nat} {σo : fS} (hb : 1 ≤ b) {N : Nat} {q : (Unit ⊕ Nat) × fS} {φ : Nat → Nat} {h : eH} {s : fS} {p0' : Int32} {p0 : Int} (R : fC m b φ0 σo φ h s) (ep0 : p0' = iI p0) (rp0 : r32 p0) (hF : FX3_actCharacter N p0 s = some q) : gG m b φ0 σo (lT lU) q (fX3_actCharacter N 4 p0' h) := by
  subst ep0
  unfold FX3_actCharacter at hF
  unfold fX3_actCharacter
  refine s_if (i_eq rfl (c_lit 1 1 rfl) rp0 ⟨by decide, by decide⟩) hF (fun c1 hF => ?_) (fun c1 hF => ?_)
  ·
    refine s_kok R (t_4 R.S) (Nat.le_of_ble_eq_true rfl) ?_
    refine s_tB R (Nat.zero_le _) (fun _ hq => SX3_open (b := 0) (R.rf) (c_lit 1 1 rfl) ⟨by decide, by decide⟩ hq) hF (fun f3 rv3 h3 x3 σ4 R3 e3 E3 hF => ?_)
    exact SX3_actCharacter_b145 (N := N) R3 hF
  ·
    refine s_if (i_eq rfl (c_lit 2 2 rfl) rp0 ⟨by decide, by decide⟩) hF (fun c4 hF => ?_) (fun c4 hF => ?_)
    ·
      refine s_gO R (t_4 R.S) (Nat.le_of_ble_eq_true rfl) rfl (o_4_6 R.S) ?_
      refine s_gI R (t_23 R.S) (Nat.le_of_ble_eq_true rfl) rfl ?_
      refine s_if (i_le rfl (c_lit 0 0 rfl) (R.ri (t_23 R.S) (Nat.le_of_ble_eq_true rfl) rfl) ⟨by decide, by decide⟩) hF (fun c7 hF => ?_) (fun c7 hF => ?_)
      ·
        exact SX3_actCharacter_b102 (N := N) R hF
      ·
        refine s_gO R (t_4 R.S) (Nat.le_of_ble_eq_true rfl) rfl (o_4_6 R.S) ?_
        refine s_gAs R (t_23 R.S) (Nat.le_of_ble_eq_true rfl) rfl (o_23_9 R.S) (a_32 R) ?_
        refine s_gO R (t_4 R.S) (Nat.le_of_ble_eq_true rfl) rfl (o_4_6 R.S) ?_
        refine s_gI R (t_23 R.S) (Nat.le_of_ble_eq_true rfl) rfl ?_
        refine s_rI R (u_32 R.S).1 (u_32 R.S).2 (by decide) (a_32 R) (c_sub rfl (c_lit 1 1 rfl)) (rr_I _) hF (fun x19 ra12 hF => ?_)
        refine s_if (not_congr (i_eq rfl (c_lit 3 3 rfl) ra12 ⟨by decide, by decide⟩)) hF (fun c13 hF => ?_) (fun c13 hF => ?_)
        ·
          exact SX3_actCharacter_b102 (N := N) R hF
        ·
          refine s_kok R (t_4 R.S) (Nat.le_of_ble_eq_true rfl) ?_
          refine s_tB R hb (fun _ hq => SX3_closeBox (b := 1) (N := N) (Nat.le_of_ble_eq_true rfl) (R.rf) hq) hF (fun f15 rv15 h15 x23 σ24 R15 e15 E15 hF => ?_)
          exact SX3_actCharacter_b145 (N := N) R15 hF
    ·
      refine s_if (i_eq rfl (c_lit 3 3 rfl) rp0 ⟨by decide, by decide⟩) hF (fun c16 hF => ?_) (fun c16 hF => ?_)
      ·
        refine s_gO R (t_4 R.S) (Nat.le_of_ble_eq_true rfl) rfl (o_4_0 R.S) ?_
        refine s_kok R (t_5 R.S) (Nat.le_of_ble_eq_true rfl) ?_
        refine s_tB R (Nat.zero_le _) (fun _ hq => SX4_fail (b := 0) (R.rf) (c_lit 15 15 rfl) ⟨by decide, by decide⟩ hq) hF (fun f19 rv19 h19 x29 σ30 R19 e19 E19 hF => ?_)
        exact SX3_actCharacter_b145 (N := N) R19 hF
      ·
        refine s_if (i_eq rfl (c_lit 4 4 rfl) rp0 ⟨by decide, by decide⟩) hF (fun c20 hF => ?_) (fun c20 hF => ?_)
        ·
          refine s_gO R (t_4 R.S) (Nat.le_of_ble_eq_true rfl) rfl (o_4_0 R.S) ?_
          refine s_kok R (t_5 R.S) (Nat.le_of_ble_eq_true rfl) ?_
          refine s_tB R (Nat.zero_le _) (fun _ hq => SX4_fail (b := 0) (R.rf) (c_lit 15 15 rfl) ⟨by decide, by decide⟩ hq) hF (fun f23 rv23 h23 x35 σ36 R23 e23 E23 hF => ?_)
          exact SX3_actCharacter_b145 (N := N) R23 hF
        ·
          refine s_if (i_eq rfl (c_lit 5 5 rfl) rp0 ⟨by decide, by decide⟩) hF (fun c24 hF => ?_) (fun c24 hF => ?_)
          ·
            refine s_gO R (t_4 R.S) (Nat.le_of_ble_eq_true rfl) rfl (o_4_0 R.S) ?_
            refine s_kok R (t_5 R.S) (Nat.le_of_ble_eq_true rfl) ?_
            refine s_tB R (Nat.zero_le _) (fun _ hq => SX4_fail (b := 0) (R.rf) (c_lit 15 15 rfl) ⟨by decide, by decide⟩ hq) hF (fun f27 rv27 h27 x41 σ42 R27 e27 E27 hF => ?_)
            exact SX3_actCharacter_b145 (N := N) R27 hF
          ·
            refine s_if (i_eq rfl (c_lit 6 6 rfl) rp0 ⟨by decide, by decide⟩) hF (fun c28 hF => ?_) (fun c28 hF => ?_)
            ·
              refine s_gO R (t_4 R.S) (Nat.le_of_ble_eq_true rfl) rfl (o_4_0 R.S) ?_
              refine s_kok R (t_5 R.S) (Nat.le_of_ble_eq_true rfl) ?_
              refine s_tB R (Nat.zero_le _) (fun _ hq => SX4_fail (b := 0) (R.rf) (c_lit 12 12 rfl) ⟨by decide, by decide⟩ hq) hF (fun f31 rv31 h31 x47 σ48 R31 e31 E31 hF => ?_)
              exact SX3_actCharacter_b145 (N := N) R31 hF
            ·
              refine s_if (i_eq rfl (c_lit 7 7 rfl) rp0 ⟨by decide, by decide⟩) hF (fun c32 hF => ?_) (fun c32 hF => ?_)
              ·
                refine s_gO R (t_4 R.S) (Nat.le_of_ble_eq_true rfl) rfl (o_4_0 R.S) ?_
                refine s_kok R (t_5 R.S) (Nat.le_of_ble_eq_true rfl) ?_
                refine s_tB R (Nat.zero_le _) (fun _ hq => SX4_fail (b := 0) (R.rf) (c_lit 15 15 rfl) ⟨by decide, by decide⟩ hq) hF (fun f35 rv35 h35 x53 σ54 R35 e35 E35 hF => ?_)
                exact SX3_actCharacter_b145 (N := N) R35 hF
              ·
                refine s_if (i_eq rfl (c_lit 8 8 rfl) rp0 ⟨by decide, by decide⟩) hF (fun c36 hF => ?_) (fun c36 hF => ?_)
                ·
                  refine s_gO R (t_4 R.S) (Nat.le_of_ble_eq_true rfl) rfl (o_4_0 R.S) ?_
                  refine s_kok R (t_5 R.S) (Nat.le_of_ble_eq_true rfl) ?_
                  refine s_tB R (Nat.zero_le _) (fun _ hq => SX4_fail (b := 0) (R.rf) (c_lit 15 15 rfl) ⟨by decide, by decide⟩ hq) hF (fun f39 rv39 h39 x59 σ60 R39 e39 E39 hF => ?_)
                  exact SX3_actCharacter_b145 (N := N) R39 hF
                ·
                  refine s_if (i_eq rfl (c_lit 9 9 rfl) rp0 ⟨by decide, by decide⟩) hF (fun c40 hF => ?_) (fun c40 hF => ?_)
                  ·
                    refine s_gO R (t_4 R.S) (Nat.le_of_ble_eq_true rfl) rfl (o_4_0 R.S) ?_
                    refine s_kok R (t_5 R.S) (Nat.le_of_ble_eq_true rfl) ?_
                    refine s_tB R (Nat.zero_le _) (fun _ hq => SX4_fail (b := 0) (R.rf) (c_lit 15 15 rfl) ⟨by decide, by decide⟩ hq) hF (fun f43 rv43 h43 x65 σ66 R43 e43 E43 hF => ?_)
                    exact SX3_actCharacter_b145 (N := N) R43 hF
                  ·
                    refine s_if (i_eq rfl (c_lit 10 10 rfl) rp0 ⟨by decide, by decide⟩) hF (fun c44 hF => ?_) (fun c44 hF => ?_)
                    ·
                      refine s_kok R (t_4 R.S) (Nat.le_of_ble_eq_true rfl) ?_
                      refine s_call R (Nat.zero_le _) (fun _ hq => SX3_isVertical (b := 0) (R.rf) hq) hF (fun f46 rv46 h46 q69 R46 e46 E46 hF => ?_)
                      refine s_if (not_congr (i_eq e46.1 (c_lit 0 0 rfl) e46.2 ⟨by decide, by decide⟩)) hF (fun c47 hF => ?_) (fun c47 hF => ?_)
                      ·
                        exact SX3_actCharacter_b145 (N := N) R46 hF
                      ·
                        refine s_kok R46 (t_4 R46.S) (Nat.le_of_ble_eq_true rfl) ?_
                        refine s_tB R46 hb (fun _ hq => SX3_space (b := 1) (Nat.le_of_ble_eq_true rfl) (R46.rf) hq) hF (fun f49 rv49 h49 x72 σ73 R49 e49 E49 hF => ?_)
                        exact SX3_actCharacter_b145 (N := N) R49 hF
                    ·
                      refine s_gO R (t_4 R.S) (Nat.le_of_ble_eq_true rfl) rfl (o_4_0 R.S) ?_
                      refine s_kok R (t_5 R.S) (Nat.le_of_ble_eq_true rfl) ?_
                      refine s_tB R (Nat.zero_le _) (fun _ hq => SX4_fail (b := 0) (R.rf) (c_lit 15 15 rfl) ⟨by decide, by decide⟩ hq) hF (fun f52 rv52 h52 x77 σ78 R52 e52 E52 hF => ?_)
                      exact SX3_actCharacter_b145 (N := N) R52 hF
def FX8_within_b23 (RN : fS → Option ((Int ⊕ Nat) × fS)) (l2 : Int) (s1 : Int) (s : fS) : Option ((Int ⊕ Nat) × fS) :=
  tB (FX4_want s1 7 s) fun x2 σ3 =>
  some (.inl l2, σ3)
theorem SX8_within_b23 {m b : Nat} {φ0 : Nat → Nat} {σo : fS} {rN : Nat → eH → Option ((Int32 ⊕ Nat) × eH)} {RN : fS → Option ((Int ⊕ Nat) × fS)} {q : (Int ⊕ Nat) × fS} (hrN : ∀ {φ : Nat → Nat} {h : eH} {s : fS} {q}, fC m 3 φ s φ h s → RN s = some q → gG m 3 φ s (lT lI) q (rN 22 h)) {φ : Nat → Nat} {h : eH} {s : fS} {l2' : Int32} {l2 : Int} {s1' : Int32} {s1 : Int} (R : fC m b φ0 σo φ h s) (el2 : l2' = iI l2) (rl2 : r32 l2) (es1 : s1' = iI s1) (rs1 : r32 s1) (hF : FX8_within_b23 RN l2 s1 s = some q) : gG m b φ0 σo (lT lI) q (fX8_within_b23 rN l2' 5 s1' h) := by
  subst el2; subst es1
  unfold FX8_within_b23 at hF
  unfold fX8_within_b23
  refine s_kok R (t_5 R.S) (Nat.le_of_ble_eq_true rfl) ?_
  refine s_tB R (Nat.zero_le _) (fun _ hq => SX4_want (b := 0) (R.rf) rfl rs1 (c_lit 7 7 rfl) ⟨by decide, by decide⟩ hq) hF (fun f2 rv2 h2 x2 σ3 R2 e2 E2 hF => ?_)
  exact g_ret R2 hF ⟨rfl, rl2⟩
def FX8_within_b22 (RN : fS → Option ((Int ⊕ Nat) × fS)) (l2 : Int) (s : fS) : Option ((Int ⊕ Nat) × fS) :=
  FX8_within_b23 RN l2 0 s
theorem SX8_within_b22 {m b : Nat} {φ0 : Nat → Nat} {σo : fS} {rN : Nat → eH → Option ((Int32 ⊕ Nat) × eH)} {RN : fS → Option ((Int ⊕ Nat) × fS)} {q : (Int ⊕ Nat) × fS} (hrN : ∀ {φ : Nat → Nat} {h : eH} {s : fS} {q}, fC m 3 φ s φ h s → RN s = some q → gG m 3 φ s (lT lI) q (rN 22 h)) {φ : Nat → Nat} {h : eH} {s : fS} {l2' : Int32} {l2 : Int} (R : fC m b φ0 σo φ h s) (el2 : l2' = iI l2) (rl2 : r32 l2) (hF : FX8_within_b22 RN l2 s = some q) : gG m b φ0 σo (lT lI) q (fX8_within_b22 rN l2' 5 h) := by
  subst el2
  unfold FX8_within_b22 at hF
  unfold fX8_within_b22
  exact SX8_within_b23 (rN := rN) (RN := RN) @hrN R rfl rl2 (c_lit 0 0 rfl) ⟨by decide, by decide⟩ hF
def FX8_within (RN : fS → Option ((Int ⊕ Nat) × fS)) (p0 : Int) (s : fS) : Option ((Int ⊕ Nat) × fS) :=
  tB (RN s) fun x2 σ3 =>
  if x2 < 0 then
    FX8_within_b22 RN x2 σ3
  else
    if p0 < x2 then
      FX8_within_b22 RN x2 σ3
    else
      FX8_within_b23 RN x2 1 σ3
theorem SX8_within {m b : Nat} {φ0 : Nat → Nat} {σo : fS} (hb : 3 ≤ b) {rN : Nat → eH → Option ((Int32 ⊕ Nat) × eH)} {RN : fS → Option ((Int ⊕ Nat) × fS)} {q : (Int ⊕ Nat) × fS} (hrN : ∀ {φ : Nat → Nat} {h : eH} {s : fS} {q}, fC m 3 φ s φ h s → RN s = some q → gG m 3 φ s (lT lI) q (rN 22 h)) {φ : Nat → Nat} {h : eH} {s : fS} {p0' : Int32} {p0 : Int} (R : fC m b φ0 σo φ h s) (ep0 : p0' = iI p0) (rp0 : r32 p0) (hF : FX8_within RN p0 s = some q) : gG m b φ0 σo (lT lI) q (fX8_within rN 22 p0' h) := by
  subst ep0
  unfold FX8_within at hF
  unfold fX8_within
  refine s_kok R (t_22 R.S) (Nat.le_of_ble_eq_true rfl) ?_
  refine s_tB R hb (fun _ hq => hrN (R.rf)  hq) hF (fun f2 rv2 h2 x2 σ3 R2 e2 E2 hF => ?_)
  refine s_gO R2 (t_22 R2.S) (Nat.le_of_ble_eq_true rfl) rfl (o_22_0 R2.S) ?_
  refine s_if (i_lt e2.1 (c_lit 0 0 rfl) e2.2 ⟨by decide, by decide⟩) hF (fun c4 hF => ?_) (fun c4 hF => ?_)
  ·
    exact SX8_within_b22 (rN := rN) (RN := RN) @hrN R2 e2.1 e2.2 hF
  ·
    refine s_if (i_lt rfl e2.1 rp0 e2.2) hF (fun c5 hF => ?_) (fun c5 hF => ?_)
    ·
      exact SX8_within_b22 (rN := rN) (RN := RN) @hrN R2 e2.1 e2.2 hF
    ·
      exact SX8_within_b23 (rN := rN) (RN := RN) @hrN R2 e2.1 e2.2 (c_lit 1 1 rfl) ⟨by decide, by decide⟩ hF
def FX8_needExpanded_b19 (N : Nat) (RE : Int → fS → Option ((Unit ⊕ Nat) × fS)) (l1 : Int) (s1 : Int) (s : fS) : Option ((Int ⊕ Nat) × fS) :=
  tB (FX4_want s1 9 s) fun x2 σ3 =>
  some (.inl l1, σ3)
theorem SX8_needExpanded_b19 {m b : Nat} {φ0 : Nat → Nat} {σo : fS} {N : Nat} {rE : Nat → Int32 → eH → Option ((Unit ⊕ Nat) × eH)} {RE : Int → fS → Option ((Unit ⊕ Nat) × fS)} {q : (Int ⊕ Nat) × fS} (hrE : ∀ {φ : Nat → Nat} {h : eH} {s : fS} {x1' : Int32} {x1 : Int} {q}, fC m 3 φ s φ h s → x1' = iI x1 → r32 x1 → RE x1 s = some q → gG m 3 φ s (lT lU) q (rE 22 x1' h)) {φ : Nat → Nat} {h : eH} {s : fS} {l1' : Int32} {l1 : Int} {s1' : Int32} {s1 : Int} (R : fC m b φ0 σo φ h s) (el1 : l1' = iI l1) (rl1 : r32 l1) (es1 : s1' = iI s1) (rs1 : r32 s1) (hF : FX8_needExpanded_b19 N RE l1 s1 s = some q) : gG m b φ0 σo (lT lI) q (fX8_needExpanded_b19 N rE l1' 5 s1' h) := by
  subst el1; subst es1
  unfold FX8_needExpanded_b19 at hF
  unfold fX8_needExpanded_b19
  refine s_kok R (t_5 R.S) (Nat.le_of_ble_eq_true rfl) ?_
  refine s_tB R (Nat.zero_le _) (fun _ hq => SX4_want (b := 0) (R.rf) rfl rs1 (c_lit 9 9 rfl) ⟨by decide, by decide⟩ hq) hF (fun f2 rv2 h2 x2 σ3 R2 e2 E2 hF => ?_)
  exact g_ret R2 hF ⟨rfl, rl1⟩
def FX8_needExpanded (N : Nat) (RE : Int → fS → Option ((Unit ⊕ Nat) × fS)) (s : fS) : Option ((Int ⊕ Nat) × fS) :=
  tB (FX8_getExpanded N RE s) fun x2 σ3 =>
  if x2 = (-1) then
    FX8_needExpanded_b19 N RE x2 0 σ3
  else
    FX8_needExpanded_b19 N RE x2 1 σ3
theorem SX8_needExpanded {m b : Nat} {φ0 : Nat → Nat} {σo : fS} (hb : 3 ≤ b) {N : Nat} {rE : Nat → Int32 → eH → Option ((Unit ⊕ Nat) × eH)} {RE : Int → fS → Option ((Unit ⊕ Nat) × fS)} {q : (Int ⊕ Nat) × fS} (hrE : ∀ {φ : Nat → Nat} {h : eH} {s : fS} {x1' : Int32} {x1 : Int} {q}, fC m 3 φ s φ h s → x1' = iI x1 → r32 x1 → RE x1 s = some q → gG m 3 φ s (lT lU) q (rE 22 x1' h)) {φ : Nat → Nat} {h : eH} {s : fS} (R : fC m b φ0 σo φ h s) (hF : FX8_needExpanded N RE s = some q) : gG m b φ0 σo (lT lI) q (fX8_needExpanded N rE 22 h) := by
  unfold FX8_needExpanded at hF
  unfold fX8_needExpanded
  refine s_kok R (t_22 R.S) (Nat.le_of_ble_eq_true rfl) ?_
  refine s_tB R hb (fun _ hq => SX8_getExpanded (b := 3) (N := N) (rE := rE) (RE := RE) (Nat.le_of_ble_eq_true rfl) @hrE (R.rf) hq) hF (fun f2 rv2 h2 x2 σ3 R2 e2 E2 hF => ?_)
  refine s_gO R2 (t_22 R2.S) (Nat.le_of_ble_eq_true rfl) rfl (o_22_0 R2.S) ?_
  refine s_if (i_eq e2.1 (c_lit (-1) (-1) rfl) e2.2 ⟨by decide, by decide⟩) hF (fun c4 hF => ?_) (fun c4 hF => ?_)
  ·
    exact SX8_needExpanded_b19 (N := N) (rE := rE) (RE := RE) @hrE R2 e2.1 e2.2 (c_lit 0 0 rfl) ⟨by decide, by decide⟩ hF
  ·
    exact SX8_needExpanded_b19 (N := N) (rE := rE) (RE := RE) @hrE R2 e2.1 e2.2 (c_lit 1 1 rfl) ⟨by decide, by decide⟩ hF
def FX1_is_b20 (s0 : Int) (s : fS) : Option (Int × fS) :=
  uZ s0 (s0, s)
theorem SX1_is_b20 {m b : Nat} {φ0 : Nat → Nat} {σo : fS} {q : Int × fS} {φ : Nat → Nat} {h : eH} {s : fS} {s0' : Int32} {s0 : Int} (R : fC m b φ0 σo φ h s) (es0 : s0' = iI s0) (rs0 : r32 s0) (hF : FX1_is_b20 s0 s = some q) : gG m b φ0 σo lI q (fX1_is_b20 s0' h) := by
  subst es0
  unfold FX1_is_b20 at hF
  unfold fX1_is_b20
  exact g_z R rfl hF ⟨rfl, rs0⟩
def FX1_is_b19 (s : fS) : Option (Int × fS) :=
  FX1_is_b20 0 s
theorem SX1_is_b19 {m b : Nat} {φ0 : Nat → Nat} {σo : fS} {q : Int × fS} {φ : Nat → Nat} {h : eH} {s : fS} (R : fC m b φ0 σo φ h s) (hF : FX1_is_b19 s = some q) : gG m b φ0 σo lI q (fX1_is_b19 h) := by
  unfold FX1_is_b19 at hF
  unfold fX1_is_b19
  exact SX1_is_b20 R (c_lit 0 0 rfl) ⟨by decide, by decide⟩ hF
def FX1_is (p0 : Int) (p1 : Int) (s : fS) : Option (Int × fS) :=
  (FX1_isCharacter p0 s).bind fun q1 =>
  if q1.1 = 0 then
    FX1_is_b19 q1.2
  else
    (FX1_category p0 q1.2).bind fun q3 =>
    if ¬ (q3.1 = p1) then
      FX1_is_b19 q3.2
    else
      FX1_is_b20 1 q3.2
theorem SX1_is {m b : Nat} {φ0 : Nat → Nat} {σo : fS} {q : Int × fS} {φ : Nat → Nat} {h : eH} {s : fS} {p0' : Int32} {p0 : Int} {p1' : Int32} {p1 : Int} (R : fC m b φ0 σo φ h s) (ep0 : p0' = iI p0) (rp0 : r32 p0) (ep1 : p1' = iI p1) (rp1 : r32 p1) (hF : FX1_is p0 p1 s = some q) : gG m b φ0 σo lI q (fX1_is p0' p1' h) := by
  subst ep0; subst ep1
  unfold FX1_is at hF
  unfold fX1_is
  refine s_call R (Nat.zero_le _) (fun _ hq => SX1_isCharacter (b := 0) (R.rf) rfl rp0 hq) hF (fun f1 rv1 h1 q1 R1 e1 E1 hF => ?_)
  refine s_if (i_eq e1.1 (c_lit 0 0 rfl) e1.2 ⟨by decide, by decide⟩) hF (fun c2 hF => ?_) (fun c2 hF => ?_)
  ·
    exact SX1_is_b19 R1 hF
  ·
    refine s_call R1 (Nat.zero_le _) (fun _ hq => SX1_category (b := 0) (R1.rf) rfl rp0 hq) hF (fun f3 rv3 h3 q3 R3 e3 E3 hF => ?_)
    refine s_if (not_congr (i_eq e3.1 rfl e3.2 rp1)) hF (fun c4 hF => ?_) (fun c4 hF => ?_)
    ·
      exact SX1_is_b19 R3 hF
    ·
      exact SX1_is_b20 R3 (c_lit 1 1 rfl) ⟨by decide, by decide⟩ hF
def FX8_primitive_b23 (s0 : Int) (s : fS) : Option (Int × fS) :=
  some (s0, s)
theorem SX8_primitive_b23 {m b : Nat} {φ0 : Nat → Nat} {σo : fS} {q : Int × fS} {φ : Nat → Nat} {h : eH} {s : fS} {s0' : Int32} {s0 : Int} (R : fC m b φ0 σo φ h s) (es0 : s0' = iI s0) (rs0 : r32 s0) (hF : FX8_primitive_b23 s0 s = some q) : gG m b φ0 σo lI q (fX8_primitive_b23 s0' h) := by
  subst es0
  unfold FX8_primitive_b23 at hF
  unfold fX8_primitive_b23
  exact g_ret R hF ⟨rfl, rs0⟩
def FX8_primitive_b22 (s : fS) : Option (Int × fS) :=
  FX8_primitive_b23 (-1) s
theorem SX8_primitive_b22 {m b : Nat} {φ0 : Nat → Nat} {σo : fS} {q : Int × fS} {φ : Nat → Nat} {h : eH} {s : fS} (R : fC m b φ0 σo φ h s) (hF : FX8_primitive_b22 s = some q) : gG m b φ0 σo lI q (fX8_primitive_b22 h) := by
  unfold FX8_primitive_b22 at hF
  unfold fX8_primitive_b22
  exact SX8_primitive_b23 R (c_lit (-1) (-1) rfl) ⟨by decide, by decide⟩ hF
def FX8_primitive (p0 : Int) (s : fS) : Option (Int × fS) :=
  if p0 = (-1) then
    FX8_primitive_b22 s
  else
    (FX8_kind p0 s).bind fun q3 =>
    if ¬ (q3.1 = 1) then
      FX8_primitive_b22 q3.2
    else
      (FX8_value p0 q3.2).bind fun q6 =>
      FX8_primitive_b23 q6.1 q6.2
theorem SX8_primitive {m b : Nat} {φ0 : Nat → Nat} {σo : fS} {q : Int × fS} {φ : Nat → Nat} {h : eH} {s : fS} {p0' : Int32} {p0 : Int} (R : fC m b φ0 σo φ h s) (ep0 : p0' = iI p0) (rp0 : r32 p0) (hF : FX8_primitive p0 s = some q) : gG m b φ0 σo lI q (fX8_primitive 22 p0' h) := by
  subst ep0
  unfold FX8_primitive at hF
  unfold fX8_primitive
  refine s_if (i_eq rfl (c_lit (-1) (-1) rfl) rp0 ⟨by decide, by decide⟩) hF (fun c1 hF => ?_) (fun c1 hF => ?_)
  ·
    exact SX8_primitive_b22 R hF
  ·
    refine s_kok R (t_22 R.S) (Nat.le_of_ble_eq_true rfl) ?_
    refine s_call R (Nat.zero_le _) (fun _ hq => SX8_kind (b := 0) (R.rf) rfl rp0 hq) hF (fun f3 rv3 h3 q3 R3 e3 E3 hF => ?_)
    refine s_if (not_congr (i_eq e3.1 (c_lit 1 1 rfl) e3.2 ⟨by decide, by decide⟩)) hF (fun c4 hF => ?_) (fun c4 hF => ?_)
    ·
      exact SX8_primitive_b22 R3 hF
    ·
      refine s_kok R3 (t_22 R3.S) (Nat.le_of_ble_eq_true rfl) ?_
      refine s_call R3 (Nat.zero_le _) (fun _ hq => SX8_value (b := 0) (R3.rf) rfl rp0 hq) hF (fun f6 rv6 h6 q6 R6 e6 E6 hF => ?_)
      exact SX8_primitive_b23 R6 e6.1 e6.2 hF
def FX3_solid_b30 (N : Nat) (RE : Int → fS → Option ((Unit ⊕ Nat) × fS)) (K8 : Int → fS → Option ((Int ⊕ Nat) × fS)) (s : fS) : Option ((Int ⊕ Nat) × fS) :=
  tB (FX8_needExpanded N RE s) fun x4 σ5 =>
  K8 x4 σ5
theorem SX3_solid_b30 {m b : Nat} {φ0 : Nat → Nat} {σo : fS} (hb : 3 ≤ b) {N : Nat} {rE : Nat → Int32 → eH → Option ((Unit ⊕ Nat) × eH)} {RE : Int → fS → Option ((Unit ⊕ Nat) × fS)} {k8 : Nat → Int32 → eH → Option ((Int32 ⊕ Nat) × eH)} {K8 : Int → fS → Option ((Int ⊕ Nat) × fS)} {q : (Int ⊕ Nat) × fS} (hrE : ∀ {φ : Nat → Nat} {h : eH} {s : fS} {x1' : Int32} {x1 : Int} {q}, fC m 3 φ s φ h s → x1' = iI x1 → r32 x1 → RE x1 s = some q → gG m 3 φ s (lT lU) q (rE 22 x1' h)) (hk8 : ∀ {φ : Nat → Nat} {h : eH} {s : fS} {l1' : Int32} {l1 : Int}, fC m b φ0 σo φ h s → l1' = iI l1 → r32 l1 → K8 l1 s = some q → gG m b φ0 σo (lT lI) q (k8 4 l1' h)) {φ : Nat → Nat} {h : eH} {s : fS} (R : fC m b φ0 σo φ h s) (hF : FX3_solid_b30 N RE K8 s = some q) : gG m b φ0 σo (lT lI) q (fX3_solid_b30 N rE k8 4 h) := by
  unfold FX3_solid_b30 at hF
  unfold fX3_solid_b30
  refine s_gO R (t_4 R.S) (Nat.le_of_ble_eq_true rfl) rfl (o_4_5 R.S) ?_
  refine s_kok R (t_22 R.S) (Nat.le_of_ble_eq_true rfl) ?_
  refine s_tB R hb (fun _ hq => SX8_needExpanded (b := 3) (N := N) (rE := rE) (RE := RE) (Nat.le_of_ble_eq_true rfl) @hrE (R.rf) hq) hF (fun f3 rv3 h3 x4 σ5 R3 e3 E3 hF => ?_)
  exact hk8 R3 e3.1 e3.2 hF
def FX3_solid_b8 (N : Nat) (RE : Int → fS → Option ((Unit ⊕ Nat) × fS)) : Nat → Int → fS → Option ((Int ⊕ Nat) × fS)
  | 0, _, _ => none
  | n + 1, l1, s =>
    (FX1_is l1 10 s).bind fun q1 =>
    if ¬ (q1.1 = 0) then
      FX3_solid_b30 N RE (FX3_solid_b8 N RE n) q1.2
    else
      (FX8_primitive l1 q1.2).bind fun q6 =>
      if ¬ (q6.1 = 22) then
        some (.inl l1, q6.2)
      else
        FX3_solid_b30 N RE (FX3_solid_b8 N RE n) q6.2
theorem SX3_solid_b8 {m b : Nat} {φ0 : Nat → Nat} {σo : fS} (hb : 3 ≤ b) {N : Nat} {rE : Nat → Int32 → eH → Option ((Unit ⊕ Nat) × eH)} {RE : Int → fS → Option ((Unit ⊕ Nat) × fS)} {q : (Int ⊕ Nat) × fS} (hrE : ∀ {φ : Nat → Nat} {h : eH} {s : fS} {x1' : Int32} {x1 : Int} {q}, fC m 3 φ s φ h s → x1' = iI x1 → r32 x1 → RE x1 s = some q → gG m 3 φ s (lT lU) q (rE 22 x1' h)) : ∀ {n : Nat} {φ : Nat → Nat} {h : eH} {s : fS} {l1' : Int32} {l1 : Int}, fC m b φ0 σo φ h s → l1' = iI l1 → r32 l1 → FX3_solid_b8 N RE n l1 s = some q → gG m b φ0 σo (lT lI) q (fX3_solid_b8 N rE n 4 l1' h) := by
  intro n
  induction n with
 | zero => intro φ h s l1' l1 R el1 rl1 hF; simp [FX3_solid_b8] at hF
  | succ n ih =>
    intro φ h s l1' l1 R el1 rl1 hF
    subst el1
    rw [FX3_solid_b8] at hF
    rw [fX3_solid_b8]
    refine s_call R (Nat.zero_le _) (fun _ hq => SX1_is (b := 0) (R.rf) rfl rl1 (c_lit 10 10 rfl) ⟨by decide, by decide⟩ hq) hF (fun f1 rv1 h1 q1 R1 e1 E1 hF => ?_)
    refine s_if (not_congr (i_eq e1.1 (c_lit 0 0 rfl) e1.2 ⟨by decide, by decide⟩)) hF (fun c2 hF => ?_) (fun c2 hF => ?_)
    ·
      exact SX3_solid_b30 (N := N) (rE := rE) (RE := RE) (k8 := fX3_solid_b8 N rE n) (K8 := FX3_solid_b8 N RE n) hb @hrE @ih R1 hF
    ·
      refine s_gO R1 (t_4 R1.S) (Nat.le_of_ble_eq_true rfl) rfl (o_4_5 R1.S) ?_
      refine s_kok R1 (t_22 R1.S) (Nat.le_of_ble_eq_true rfl) ?_
      refine s_call R1 (Nat.zero_le _) (fun _ hq => SX8_primitive (b := 0) (R1.rf) rfl rl1 hq) hF (fun f5 rv5 h5 q6 R5 e5 E5 hF => ?_)
      refine s_if (not_congr (i_eq e5.1 (c_lit 22 22 rfl) e5.2 ⟨by decide, by decide⟩)) hF (fun c6 hF => ?_) (fun c6 hF => ?_)
      ·
        exact g_ret R5 hF ⟨rfl, rl1⟩
      ·
        exact SX3_solid_b30 (N := N) (rE := rE) (RE := RE) (k8 := fX3_solid_b8 N rE n) (K8 := FX3_solid_b8 N RE n) hb @hrE @ih R5 hF
def FX3_solid (N : Nat) (RE : Int → fS → Option ((Unit ⊕ Nat) × fS)) (s : fS) : Option ((Int ⊕ Nat) × fS) :=
  tB (FX8_needExpanded N RE s) fun x4 σ5 =>
  FX3_solid_b8 N RE N x4 σ5
theorem SX3_solid {m b : Nat} {φ0 : Nat → Nat} {σo : fS} (hb : 3 ≤ b) {N : Nat} {rE : Nat → Int32 → eH → Option ((Unit ⊕ Nat) × eH)} {RE : Int → fS → Option ((Unit ⊕ Nat) × fS)} {q : (Int ⊕ Nat) × fS} (hrE : ∀ {φ : Nat → Nat} {h : eH} {s : fS} {x1' : Int32} {x1 : Int} {q}, fC m 3 φ s φ h s → x1' = iI x1 → r32 x1 → RE x1 s = some q → gG m 3 φ s (lT lU) q (rE 22 x1' h)) {φ : Nat → Nat} {h : eH} {s : fS} (R : fC m b φ0 σo φ h s) (hF : FX3_solid N RE s = some q) : gG m b φ0 σo (lT lI) q (fX3_solid N rE 4 h) := by
  unfold FX3_solid at hF
  unfold fX3_solid
  refine s_gO R (t_4 R.S) (Nat.le_of_ble_eq_true rfl) rfl (o_4_5 R.S) ?_
  refine s_kok R (t_22 R.S) (Nat.le_of_ble_eq_true rfl) ?_
  refine s_tB R hb (fun _ hq => SX8_needExpanded (b := 3) (N := N) (rE := rE) (RE := RE) (Nat.le_of_ble_eq_true rfl) @hrE (R.rf) hq) hF (fun f3 rv3 h3 x4 σ5 R3 e3 E3 hF => ?_)
  exact SX3_solid_b8 (N := N) (rE := rE) (RE := RE) hb @hrE R3 e3.1 e3.2 hF
def FX8_need_b19 (N : Nat) (l1 : Int) (s1 : Int) (s : fS) : Option ((Int ⊕ Nat) × fS) :=
  tB (FX4_want s1 9 s) fun x2 σ3 =>
  some (.inl l1, σ3)
theorem SX8_need_b19 {m b : Nat} {φ0 : Nat → Nat} {σo : fS} {N : Nat} {q : (Int ⊕ Nat) × fS} {φ : Nat → Nat} {h : eH} {s : fS} {l1' : Int32} {l1 : Int} {s1' : Int32} {s1 : Int} (R : fC m b φ0 σo φ h s) (el1 : l1' = iI l1) (rl1 : r32 l1) (es1 : s1' = iI s1) (rs1 : r32 s1) (hF : FX8_need_b19 N l1 s1 s = some q) : gG m b φ0 σo (lT lI) q (fX8_need_b19 N l1' 5 s1' h) := by
  subst el1; subst es1
  unfold FX8_need_b19 at hF
  unfold fX8_need_b19
  refine s_kok R (t_5 R.S) (Nat.le_of_ble_eq_true rfl) ?_
  refine s_tB R (Nat.zero_le _) (fun _ hq => SX4_want (b := 0) (R.rf) rfl rs1 (c_lit 9 9 rfl) ⟨by decide, by decide⟩ hq) hF (fun f2 rv2 h2 x2 σ3 R2 e2 E2 hF => ?_)
  exact g_ret R2 hF ⟨rfl, rl1⟩
def FX8_need (N : Nat) (s : fS) : Option ((Int ⊕ Nat) × fS) :=
  tB (FX8_get N s) fun x2 σ3 =>
  if x2 = (-1) then
    FX8_need_b19 N x2 0 σ3
  else
    FX8_need_b19 N x2 1 σ3
theorem SX8_need {m b : Nat} {φ0 : Nat → Nat} {σo : fS} (hb : 2 ≤ b) {N : Nat} {q : (Int ⊕ Nat) × fS} {φ : Nat → Nat} {h : eH} {s : fS} (R : fC m b φ0 σo φ h s) (hF : FX8_need N s = some q) : gG m b φ0 σo (lT lI) q (fX8_need N 22 h) := by
  unfold FX8_need at hF
  unfold fX8_need
  refine s_kok R (t_22 R.S) (Nat.le_of_ble_eq_true rfl) ?_
  refine s_tB R hb (fun _ hq => SX8_get (b := 2) (N := N) (Nat.le_of_ble_eq_true rfl) (R.rf) hq) hF (fun f2 rv2 h2 x2 σ3 R2 e2 E2 hF => ?_)
  refine s_gO R2 (t_22 R2.S) (Nat.le_of_ble_eq_true rfl) rfl (o_22_0 R2.S) ?_
  refine s_if (i_eq e2.1 (c_lit (-1) (-1) rfl) e2.2 ⟨by decide, by decide⟩) hF (fun c4 hF => ?_) (fun c4 hF => ?_)
  ·
    exact SX8_need_b19 (N := N) R2 e2.1 e2.2 (c_lit 0 0 rfl) ⟨by decide, by decide⟩ hF
  ·
    exact SX8_need_b19 (N := N) R2 e2.1 e2.2 (c_lit 1 1 rfl) ⟨by decide, by decide⟩ hF
def FX8_bare_b13 (s0 : Int) (s : fS) : Option (Int × fS) :=
  some (s0, s)
theorem SX8_bare_b13 {m b : Nat} {φ0 : Nat → Nat} {σo : fS} {q : Int × fS} {φ : Nat → Nat} {h : eH} {s : fS} {s0' : Int32} {s0 : Int} (R : fC m b φ0 σo φ h s) (es0 : s0' = iI s0) (rs0 : r32 s0) (hF : FX8_bare_b13 s0 s = some q) : gG m b φ0 σo lI q (fX8_bare_b13 s0' h) := by
  subst es0
  unfold FX8_bare_b13 at hF
  unfold fX8_bare_b13
  exact g_ret R hF ⟨rfl, rs0⟩
def FX8_bare (p0 : Int) (s : fS) : Option (Int × fS) :=
  if ¬ (p0 = (-1)) then
    FX8_bare_b13 (iand p0 1048575) s
  else
    FX8_bare_b13 p0 s
theorem SX8_bare {m b : Nat} {φ0 : Nat → Nat} {σo : fS} {q : Int × fS} {φ : Nat → Nat} {h : eH} {s : fS} {p0' : Int32} {p0 : Int} (R : fC m b φ0 σo φ h s) (ep0 : p0' = iI p0) (rp0 : r32 p0) (hF : FX8_bare p0 s = some q) : gG m b φ0 σo lI q (fX8_bare p0' h) := by
  subst ep0
  unfold FX8_bare at hF
  unfold fX8_bare
  refine s_if (not_congr (i_eq rfl (c_lit (-1) (-1) rfl) rp0 ⟨by decide, by decide⟩)) hF (fun c1 hF => ?_) (fun c1 hF => ?_)
  ·
    exact SX8_bare_b13 R (c_and rfl (c_lit 1048575 1048575 rfl)) (rr_I _) hF
  ·
    exact SX8_bare_b13 R rfl rp0 hF
