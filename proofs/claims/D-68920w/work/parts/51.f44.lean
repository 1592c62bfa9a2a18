set_option maxRecDepth 100000
set_option maxHeartbeats 4000000
def FX36_readWords_b107 (N : Nat) (l3 : Int) (s : fS) : Option (Int × fS) :=
  (FX36_fault 4 l3 s).bind fun q1 =>
  some (q1.1, q1.2)
theorem SX36_readWords_b107 {m b : Nat} {φ0 : Nat → Nat} {σo : fS} (hm : 1 ≤ m) {N : Nat} {q : Int × fS} {φ : Nat → Nat} {h : eH} {s : fS} {l3' : Int32} {l3 : Int} (R : fC m b φ0 σo φ h s) (el3 : l3' = iI l3) (rl3 : r32 l3) (hF : FX36_readWords_b107 N l3 s = some q) : gG m b φ0 σo lI q (fX36_readWords_b107 N l3' h) := by
  subst el3
  unfold FX36_readWords_b107 at hF
  unfold fX36_readWords_b107
  refine s_call R (Nat.zero_le _) (fun _ hq => SX36_fault (b := 0) hm (R.rf) (c_lit 4 4 rfl) ⟨by decide, by decide⟩ rfl rl3 hq) hF (fun f1 rv1 h1 q1 R1 e1 E1 hF => ?_)
  exact g_ret R1 hF ⟨e1.1, e1.2⟩
def FX36_readWords_b256 (N : Nat) (K11 : Int → Int → fS → Option (Int × fS)) (l1 : Int) (l2 : Int) (s : fS) : Option (Int × fS) :=
  (FX36_spaces N s).bind fun q2 =>
  K11 l1 (iadd l2 1) q2.2
theorem SX36_readWords_b256 {m b : Nat} {φ0 : Nat → Nat} {σo : fS} (hm : 1 ≤ m) {N : Nat} {k11 : Nat → Int32 → Int32 → eH → Option (Int32 × eH)} {K11 : Int → Int → fS → Option (Int × fS)} {q : Int × fS} (hk11 : ∀ {φ : Nat → Nat} {h : eH} {s : fS} {l1' : Int32} {l1 : Int} {l2' : Int32} {l2 : Int}, fC m b φ0 σo φ h s → l1' = iI l1 → r32 l1 → l2' = iI l2 → r32 l2 → K11 l1 l2 s = some q → gG m b φ0 σo lI q (k11 195 l1' l2' h)) {φ : Nat → Nat} {h : eH} {s : fS} {l1' : Int32} {l1 : Int} {l2' : Int32} {l2 : Int} (R : fC m b φ0 σo φ h s) (el1 : l1' = iI l1) (rl1 : r32 l1) (el2 : l2' = iI l2) (rl2 : r32 l2) (hF : FX36_readWords_b256 N K11 l1 l2 s = some q) : gG m b φ0 σo lI q (fX36_readWords_b256 N k11 195 l1' l2' h) := by
  subst el1; subst el2
  unfold FX36_readWords_b256 at hF
  unfold fX36_readWords_b256
  refine s_kok R (t_195 hm R.S) (Nat.le_of_ble_eq_true rfl) ?_
  refine s_call R (Nat.zero_le _) (fun _ hq => SX36_spaces (b := 0) (N := N) hm (R.rf) hq) hF (fun f2 rv2 h2 q2 R2 e2 E2 hF => ?_)
  exact hk11 R2 rfl rl1 (c_add rfl (c_lit 1 1 rfl)) (rr_I _) hF
def FX36_readWords_b215 (N : Nat) (K11 : Int → Int → fS → Option (Int × fS)) : Nat → Int → Int → Int → Int → fS → Option (Int × fS)
  | 0, _, _, _, _, _ => none
  | n + 1, l1, l2, l4, l5, s =>
    if (s.i 195 17) ≤ l5 then
      FX36_readWords_b256 N K11 l1 l2 s
    else
      if l1 = 0 then
        FX36_readWords_b256 N K11 l1 l2 s
      else
        (uRI s 204 l4).bind fun x9 =>
        (uRI s 209 l5).bind fun x13 =>
        (uQI s 206 (iadd x9 l5) (iand x13 1)).bind fun σ15 =>
        FX36_readWords_b215 N K11 n l1 l2 l4 (iadd l5 1) σ15
theorem SX36_readWords_b215 {m b : Nat} {φ0 : Nat → Nat} {σo : fS} (hm : 1 ≤ m) {N : Nat} {k11 : Nat → Int32 → Int32 → eH → Option (Int32 × eH)} {K11 : Int → Int → fS → Option (Int × fS)} {q : Int × fS} (hk11 : ∀ {φ : Nat → Nat} {h : eH} {s : fS} {l1' : Int32} {l1 : Int} {l2' : Int32} {l2 : Int}, fC m b φ0 σo φ h s → l1' = iI l1 → r32 l1 → l2' = iI l2 → r32 l2 → K11 l1 l2 s = some q → gG m b φ0 σo lI q (k11 195 l1' l2' h)) : ∀ {n : Nat} {φ : Nat → Nat} {h : eH} {s : fS} {l1' : Int32} {l1 : Int} {l2' : Int32} {l2 : Int} {l4' : Int32} {l4 : Int} {l5' : Int32} {l5 : Int}, fC m b φ0 σo φ h s → l1' = iI l1 → r32 l1 → l2' = iI l2 → r32 l2 → l4' = iI l4 → r32 l4 → l5' = iI l5 → r32 l5 → FX36_readWords_b215 N K11 n l1 l2 l4 l5 s = some q → gG m b φ0 σo lI q (fX36_readWords_b215 N k11 n 195 l1' l2' l4' l5' h) := by
  intro n
  induction n with
 | zero => intro φ h s l1' l1 l2' l2 l4' l4 l5' l5 R el1 rl1 el2 rl2 el4 rl4 el5 rl5 hF; simp [FX36_readWords_b215] at hF
  | succ n ih =>
    intro φ h s l1' l1 l2' l2 l4' l4 l5' l5 R el1 rl1 el2 rl2 el4 rl4 el5 rl5 hF
    subst el1; subst el2; subst el4; subst el5
    rw [FX36_readWords_b215] at hF
    rw [fX36_readWords_b215]
    refine s_gI R (t_195 hm R.S) (Nat.le_of_ble_eq_true rfl) rfl ?_
    refine s_if (i_le rfl rfl (R.ri (t_195 hm R.S) (Nat.le_of_ble_eq_true rfl) rfl) rl5) hF (fun c2 hF => ?_) (fun c2 hF => ?_)
    ·
      exact SX36_readWords_b256 (N := N) (k11 := k11) (K11 := K11) hm @hk11 R rfl rl1 rfl rl2 hF
    ·
      refine s_if (i_eq rfl (c_lit 0 0 rfl) rl1 ⟨by decide, by decide⟩) hF (fun c3 hF => ?_) (fun c3 hF => ?_)
      ·
        exact SX36_readWords_b256 (N := N) (k11 := k11) (K11 := K11) hm @hk11 R rfl rl1 rfl rl2 hF
      ·
        refine s_gAs R (t_195 hm R.S) (Nat.le_of_ble_eq_true rfl) rfl (o_195_15 hm R.S) (a_206 hm R) ?_
        refine s_gAs R (t_195 hm R.S) (Nat.le_of_ble_eq_true rfl) rfl (o_195_13 hm R.S) (a_204 hm R) ?_
        refine s_rI R (u_204 hm R.S).1 (u_204 hm R.S).2 (by decide) (a_204 hm R) rfl rl4 hF (fun x9 ra6 hF => ?_)
        refine s_gAs R (t_195 hm R.S) (Nat.le_of_ble_eq_true rfl) rfl (o_195_22 hm R.S) (a_209 hm R) ?_
        refine s_rI R (u_209 hm R.S).1 (u_209 hm R.S).2 (by decide) (a_209 hm R) rfl rl5 hF (fun x13 ra8 hF => ?_)
        refine s_qI R (u_206 hm R.S).1 (u_206 hm R.S).2 (by decide) (a_206 hm R) (c_add rfl rfl) (rr_I _) (c_and rfl (c_lit 1 1 rfl)) (rr_I _) hF (fun h9 σ15 R9 T9 hF => ?_)
        exact ih R9 rfl rl1 rfl rl2 rfl rl4 (c_add rfl (c_lit 1 1 rfl)) (rr_I _) hF
def FX36_readWords_b212 (N : Nat) (K11 : Int → Int → fS → Option (Int × fS)) (l1 : Int) (l2 : Int) (l4 : Int) (s : fS) : Option (Int × fS) :=
  FX36_readWords_b215 N K11 N l1 l2 l4 0 s
theorem SX36_readWords_b212 {m b : Nat} {φ0 : Nat → Nat} {σo : fS} (hm : 1 ≤ m) {N : Nat} {k11 : Nat → Int32 → Int32 → eH → Option (Int32 × eH)} {K11 : Int → Int → fS → Option (Int × fS)} {q : Int × fS} (hk11 : ∀ {φ : Nat → Nat} {h : eH} {s : fS} {l1' : Int32} {l1 : Int} {l2' : Int32} {l2 : Int}, fC m b φ0 σo φ h s → l1' = iI l1 → r32 l1 → l2' = iI l2 → r32 l2 → K11 l1 l2 s = some q → gG m b φ0 σo lI q (k11 195 l1' l2' h)) {φ : Nat → Nat} {h : eH} {s : fS} {l1' : Int32} {l1 : Int} {l2' : Int32} {l2 : Int} {l4' : Int32} {l4 : Int} (R : fC m b φ0 σo φ h s) (el1 : l1' = iI l1) (rl1 : r32 l1) (el2 : l2' = iI l2) (rl2 : r32 l2) (el4 : l4' = iI l4) (rl4 : r32 l4) (hF : FX36_readWords_b212 N K11 l1 l2 l4 s = some q) : gG m b φ0 σo lI q (fX36_readWords_b212 N k11 195 l1' l2' l4' h) := by
  subst el1; subst el2; subst el4
  unfold FX36_readWords_b212 at hF
  unfold fX36_readWords_b212
  exact SX36_readWords_b215 (N := N) (k11 := k11) (K11 := K11) hm @hk11 R rfl rl1 rfl rl2 rfl rl4 (c_lit 0 0 rfl) ⟨by decide, by decide⟩ hF
def FX36_readWords_b122 (N : Nat) (K11 : Int → Int → fS → Option (Int × fS)) : Nat → Int → Int → Int → Int → fS → Option (Int × fS)
  | 0, _, _, _, _, _ => none
  | n + 1, l1, l2, l4, l5, s =>
    if (s.i 195 17) ≤ l5 then
      (uPI s 195 12 (iadd (s.i 195 12) 1)).bind fun σ6 =>
      (uRI σ6 204 l4).bind fun x14 =>
      (uQI σ6 204 (σ6.i 195 12) (iadd x14 (σ6.i 195 17))).bind fun σ18 =>
      FX36_readWords_b212 N K11 l1 l2 l4 σ18
    else
      (uRI s 204 l4).bind fun x24 =>
      (uRI s 207 l5).bind fun x28 =>
      (uQI s 205 (iadd x24 l5) x28).bind fun σ30 =>
      (uRI σ30 204 l4).bind fun x36 =>
      (uRI σ30 209 l5).bind fun x40 =>
      (uQI σ30 206 (iadd x36 l5) (iand x40 1)).bind fun σ42 =>
      FX36_readWords_b122 N K11 n l1 l2 l4 (iadd l5 1) σ42
theorem SX36_readWords_b122 {m b : Nat} {φ0 : Nat → Nat} {σo : fS} (hm : 1 ≤ m) {N : Nat} {k11 : Nat → Int32 → Int32 → eH → Option (Int32 × eH)} {K11 : Int → Int → fS → Option (Int × fS)} {q : Int × fS} (hk11 : ∀ {φ : Nat → Nat} {h : eH} {s : fS} {l1' : Int32} {l1 : Int} {l2' : Int32} {l2 : Int}, fC m b φ0 σo φ h s → l1' = iI l1 → r32 l1 → l2' = iI l2 → r32 l2 → K11 l1 l2 s = some q → gG m b φ0 σo lI q (k11 195 l1' l2' h)) : ∀ {n : Nat} {φ : Nat → Nat} {h : eH} {s : fS} {l1' : Int32} {l1 : Int} {l2' : Int32} {l2 : Int} {l4' : Int32} {l4 : Int} {l5' : Int32} {l5 : Int}, fC m b φ0 σo φ h s → l1' = iI l1 → r32 l1 → l2' = iI l2 → r32 l2 → l4' = iI l4 → r32 l4 → l5' = iI l5 → r32 l5 → FX36_readWords_b122 N K11 n l1 l2 l4 l5 s = some q → gG m b φ0 σo lI q (fX36_readWords_b122 N k11 n 195 l1' l2' l4' l5' h) := by
  intro n
  induction n with
 | zero => intro φ h s l1' l1 l2' l2 l4' l4 l5' l5 R el1 rl1 el2 rl2 el4 rl4 el5 rl5 hF; simp [FX36_readWords_b122] at hF
  | succ n ih =>
    intro φ h s l1' l1 l2' l2 l4' l4 l5' l5 R el1 rl1 el2 rl2 el4 rl4 el5 rl5 hF
    subst el1; subst el2; subst el4; subst el5
    rw [FX36_readWords_b122] at hF
    rw [fX36_readWords_b122]
    refine s_gI R (t_195 hm R.S) (Nat.le_of_ble_eq_true rfl) rfl ?_
    refine s_if (i_le rfl rfl (R.ri (t_195 hm R.S) (Nat.le_of_ble_eq_true rfl) rfl) rl5) hF (fun c2 hF => ?_) (fun c2 hF => ?_)
    ·
      refine s_gI R (t_195 hm R.S) (Nat.le_of_ble_eq_true rfl) rfl ?_
      refine s_pI R (t_195 hm R.S) (Nat.le_of_ble_eq_true rfl) rfl (c_add rfl (c_lit 1 1 rfl)) (rr_I _) hF (fun h4 σ6 R4 T4 hF => ?_)
      refine s_gAs R4 (t_195 hm R4.S) (Nat.le_of_ble_eq_true rfl) rfl (o_195_13 hm R4.S) (a_204 hm R4) ?_
      refine s_gI R4 (t_195 hm R4.S) (Nat.le_of_ble_eq_true rfl) rfl ?_
      refine s_gAs R4 (t_195 hm R4.S) (Nat.le_of_ble_eq_true rfl) rfl (o_195_13 hm R4.S) (a_204 hm R4) ?_
      refine s_rI R4 (u_204 hm R4.S).1 (u_204 hm R4.S).2 (by decide) (a_204 hm R4) rfl rl4 hF (fun x14 ra8 hF => ?_)
      refine s_gI R4 (t_195 hm R4.S) (Nat.le_of_ble_eq_true rfl) rfl ?_
      refine s_qI R4 (u_204 hm R4.S).1 (u_204 hm R4.S).2 (by decide) (a_204 hm R4) rfl (R4.ri (t_195 hm R4.S) (Nat.le_of_ble_eq_true rfl) rfl) (c_add rfl rfl) (rr_I _) hF (fun h10 σ18 R10 T10 hF => ?_)
      exact SX36_readWords_b212 (N := N) (k11 := k11) (K11 := K11) hm @hk11 R10 rfl rl1 rfl rl2 rfl rl4 hF
    ·
      refine s_gAs R (t_195 hm R.S) (Nat.le_of_ble_eq_true rfl) rfl (o_195_14 hm R.S) (a_205 hm R) ?_
      refine s_gAs R (t_195 hm R.S) (Nat.le_of_ble_eq_true rfl) rfl (o_195_13 hm R.S) (a_204 hm R) ?_
      refine s_rI R (u_204 hm R.S).1 (u_204 hm R.S).2 (by decide) (a_204 hm R) rfl rl4 hF (fun x24 ra13 hF => ?_)
      refine s_gAs R (t_195 hm R.S) (Nat.le_of_ble_eq_true rfl) rfl (o_195_20 hm R.S) (a_207 hm R) ?_
      refine s_rI R (u_207 hm R.S).1 (u_207 hm R.S).2 (by decide) (a_207 hm R) rfl rl5 hF (fun x28 ra15 hF => ?_)
      refine s_qI R (u_205 hm R.S).1 (u_205 hm R.S).2 (by decide) (a_205 hm R) (c_add rfl rfl) (rr_I _) rfl ra15 hF (fun h16 σ30 R16 T16 hF => ?_)
      refine s_gAs R16 (t_195 hm R16.S) (Nat.le_of_ble_eq_true rfl) rfl (o_195_15 hm R16.S) (a_206 hm R16) ?_
      refine s_gAs R16 (t_195 hm R16.S) (Nat.le_of_ble_eq_true rfl) rfl (o_195_13 hm R16.S) (a_204 hm R16) ?_
      refine s_rI R16 (u_204 hm R16.S).1 (u_204 hm R16.S).2 (by decide) (a_204 hm R16) rfl rl4 hF (fun x36 ra19 hF => ?_)
      refine s_gAs R16 (t_195 hm R16.S) (Nat.le_of_ble_eq_true rfl) rfl (o_195_22 hm R16.S) (a_209 hm R16) ?_
      refine s_rI R16 (u_209 hm R16.S).1 (u_209 hm R16.S).2 (by decide) (a_209 hm R16) rfl rl5 hF (fun x40 ra21 hF => ?_)
      refine s_qI R16 (u_206 hm R16.S).1 (u_206 hm R16.S).2 (by decide) (a_206 hm R16) (c_add rfl rfl) (rr_I _) (c_and rfl (c_lit 1 1 rfl)) (rr_I _) hF (fun h22 σ42 R22 T22 hF => ?_)
      exact ih R22 rfl rl1 rfl rl2 rfl rl4 (c_add rfl (c_lit 1 1 rfl)) (rr_I _) hF
def FX36_readWords_b11 (N : Nat) : Nat → Int → Int → fS → Option (Int × fS)
  | 0, _, _, _ => none
  | n + 1, l1, l2, s =>
    if (s.i 195 3) ≤ (s.i 195 16) then
      some (l2, s)
    else
      (FX36_readWord N s).bind fun q9 =>
      if ¬ (q9.1 = 0) then
        if (q9.2.i 195 17) ≤ 63 then
          (FX36_toldAt N 207 (q9.2.i 195 17) q9.2).bind fun q19 =>
          if 0 ≤ q19.1 then
            FX36_readWords_b212 N (FX36_readWords_b11 N n) l1 l2 q19.1 q19.2
          else
            if (q19.2.i 195 12) = 300 then
              FX36_readWords_b107 N (s.i 195 16) q19.2
            else
              (uRI q19.2 204 (q19.2.i 195 12)).bind fun x28 =>
              if (iadd x28 (q19.2.i 195 17)) ≤ 8000 then
                FX36_readWords_b122 N (FX36_readWords_b11 N n) N l1 l2 (q19.2.i 195 12) 0 q19.2
              else
                FX36_readWords_b107 N (s.i 195 16) q19.2
        else
          (FX36_fault 2 (s.i 195 16) q9.2).bind fun q35 =>
          some (q35.1, q35.2)
      else
        (FX36_fault 1 (q9.2.i 195 16) q9.2).bind fun q38 =>
        some (q38.1, q38.2)
theorem SX36_readWords_b11 {m b : Nat} {φ0 : Nat → Nat} {σo : fS} (hm : 1 ≤ m) {N : Nat} {q : Int × fS} : ∀ {n : Nat} {φ : Nat → Nat} {h : eH} {s : fS} {l1' : Int32} {l1 : Int} {l2' : Int32} {l2 : Int}, fC m b φ0 σo φ h s → l1' = iI l1 → r32 l1 → l2' = iI l2 → r32 l2 → FX36_readWords_b11 N n l1 l2 s = some q → gG m b φ0 σo lI q (fX36_readWords_b11 N n 195 l1' l2' h) := by
  intro n
  induction n with
 | zero => intro φ h s l1' l1 l2' l2 R el1 rl1 el2 rl2 hF; simp [FX36_readWords_b11] at hF
  | succ n ih =>
    intro φ h s l1' l1 l2' l2 R el1 rl1 el2 rl2 hF
    subst el1; subst el2
    rw [FX36_readWords_b11] at hF
    rw [fX36_readWords_b11]
    refine s_gI R (t_195 hm R.S) (Nat.le_of_ble_eq_true rfl) rfl ?_
    refine s_gI R (t_195 hm R.S) (Nat.le_of_ble_eq_true rfl) rfl ?_
    refine s_if (i_le rfl rfl (R.ri (t_195 hm R.S) (Nat.le_of_ble_eq_true rfl) rfl) (R.ri (t_195 hm R.S) (Nat.le_of_ble_eq_true rfl) rfl)) hF (fun c3 hF => ?_) (fun c3 hF => ?_)
    ·
      exact g_ret R hF ⟨rfl, rl2⟩
    ·
      refine s_gI R (t_195 hm R.S) (Nat.le_of_ble_eq_true rfl) rfl ?_
      refine s_kok R (t_195 hm R.S) (Nat.le_of_ble_eq_true rfl) ?_
      refine s_call R (Nat.zero_le _) (fun _ hq => SX36_readWord (b := 0) (N := N) hm (R.rf) hq) hF (fun f6 rv6 h6 q9 R6 e6 E6 hF => ?_)
      refine s_if (not_congr (i_eq e6.1 (c_lit 0 0 rfl) e6.2 ⟨by decide, by decide⟩)) hF (fun c7 hF => ?_) (fun c7 hF => ?_)
      ·
        refine s_gI R6 (t_195 hm R6.S) (Nat.le_of_ble_eq_true rfl) rfl ?_
        refine s_if (i_le rfl (c_lit 63 63 rfl) (R6.ri (t_195 hm R6.S) (Nat.le_of_ble_eq_true rfl) rfl) ⟨by decide, by decide⟩) hF (fun c9 hF => ?_) (fun c9 hF => ?_)
        ·
          refine s_gAs R6 (t_195 hm R6.S) (Nat.le_of_ble_eq_true rfl) rfl (o_195_20 hm R6.S) (a_207 hm R6) ?_
          refine s_gI R6 (t_195 hm R6.S) (Nat.le_of_ble_eq_true rfl) rfl ?_
          refine s_kok R6 (t_195 hm R6.S) (Nat.le_of_ble_eq_true rfl) ?_
          refine s_call R6 (Nat.zero_le _) (fun _ hq => SX36_toldAt (b := 0) (N := N) hm (R6.rf) (a_207 hm R6) (u_207 hm R6.S).1 rfl (R6.ri (t_195 hm R6.S) (Nat.le_of_ble_eq_true rfl) rfl) hq) hF (fun f13 rv13 h13 q19 R13 e13 E13 hF => ?_)
          refine s_if (i_le (c_lit 0 0 rfl) e13.1 ⟨by decide, by decide⟩ e13.2) hF (fun c14 hF => ?_) (fun c14 hF => ?_)
          ·
            exact SX36_readWords_b212 (N := N) (k11 := fX36_readWords_b11 N n) (K11 := FX36_readWords_b11 N n) hm @ih R13 rfl rl1 rfl rl2 e13.1 e13.2 hF
          ·
            refine s_gI R13 (t_195 hm R13.S) (Nat.le_of_ble_eq_true rfl) rfl ?_
            refine s_if (i_eq rfl (c_lit 300 300 rfl) (R13.ri (t_195 hm R13.S) (Nat.le_of_ble_eq_true rfl) rfl) ⟨by decide, by decide⟩) hF (fun c16 hF => ?_) (fun c16 hF => ?_)
            ·
              exact SX36_readWords_b107 (N := N) hm R13 rfl (R.ri (t_195 hm R.S) (Nat.le_of_ble_eq_true rfl) rfl) hF
            ·
              refine s_gAs R13 (t_195 hm R13.S) (Nat.le_of_ble_eq_true rfl) rfl (o_195_13 hm R13.S) (a_204 hm R13) ?_
              refine s_gI R13 (t_195 hm R13.S) (Nat.le_of_ble_eq_true rfl) rfl ?_
              refine s_rI R13 (u_204 hm R13.S).1 (u_204 hm R13.S).2 (by decide) (a_204 hm R13) rfl (R13.ri (t_195 hm R13.S) (Nat.le_of_ble_eq_true rfl) rfl) hF (fun x28 ra19 hF => ?_)
              refine s_gI R13 (t_195 hm R13.S) (Nat.le_of_ble_eq_true rfl) rfl ?_
              refine s_if (i_le (c_add rfl rfl) (c_lit 8000 8000 rfl) (rr_I _) ⟨by decide, by decide⟩) hF (fun c21 hF => ?_) (fun c21 hF => ?_)
              ·
                refine s_gI R13 (t_195 hm R13.S) (Nat.le_of_ble_eq_true rfl) rfl ?_
                exact SX36_readWords_b122 (N := N) (k11 := fX36_readWords_b11 N n) (K11 := FX36_readWords_b11 N n) hm @ih R13 rfl rl1 rfl rl2 rfl (R13.ri (t_195 hm R13.S) (Nat.le_of_ble_eq_true rfl) rfl) (c_lit 0 0 rfl) ⟨by decide, by decide⟩ hF
              ·
                exact SX36_readWords_b107 (N := N) hm R13 rfl (R.ri (t_195 hm R.S) (Nat.le_of_ble_eq_true rfl) rfl) hF
        ·
          refine s_call R6 (Nat.zero_le _) (fun _ hq => SX36_fault (b := 0) hm (R6.rf) (c_lit 2 2 rfl) ⟨by decide, by decide⟩ rfl (R.ri (t_195 hm R.S) (Nat.le_of_ble_eq_true rfl) rfl) hq) hF (fun f23 rv23 h23 q35 R23 e23 E23 hF => ?_)
          exact g_ret R23 hF ⟨e23.1, e23.2⟩
      ·
        refine s_gI R6 (t_195 hm R6.S) (Nat.le_of_ble_eq_true rfl) rfl ?_
        refine s_call R6 (Nat.zero_le _) (fun _ hq => SX36_fault (b := 0) hm (R6.rf) (c_lit 1 1 rfl) ⟨by decide, by decide⟩ rfl (R6.ri (t_195 hm R6.S) (Nat.le_of_ble_eq_true rfl) rfl) hq) hF (fun f25 rv25 h25 q38 R25 e25 E25 hF => ?_)
        exact g_ret R25 hF ⟨e25.1, e25.2⟩
def FX36_readWords (N : Nat) (p0 : Int) (s : fS) : Option (Int × fS) :=
  (uPI s 195 16 0).bind fun σ1 =>
  (FX36_spaces N σ1).bind fun q4 =>
  FX36_readWords_b11 N N p0 0 q4.2
theorem SX36_readWords {m b : Nat} {φ0 : Nat → Nat} {σo : fS} (hm : 1 ≤ m) {N : Nat} {q : Int × fS} {φ : Nat → Nat} {h : eH} {s : fS} {p0' : Int32} {p0 : Int} (R : fC m b φ0 σo φ h s) (ep0 : p0' = iI p0) (rp0 : r32 p0) (hF : FX36_readWords N p0 s = some q) : gG m b φ0 σo lI q (fX36_readWords N 195 p0' h) := by
  subst ep0
  unfold FX36_readWords at hF
  unfold fX36_readWords
  refine s_pI R (t_195 hm R.S) (Nat.le_of_ble_eq_true rfl) rfl (c_lit 0 0 rfl) ⟨by decide, by decide⟩ hF (fun h1 σ1 R1 T1 hF => ?_)
  refine s_kok R1 (t_195 hm R1.S) (Nat.le_of_ble_eq_true rfl) ?_
  refine s_call R1 (Nat.zero_le _) (fun _ hq => SX36_spaces (b := 0) (N := N) hm (R1.rf) hq) hF (fun f3 rv3 h3 q4 R3 e3 E3 hF => ?_)
  exact SX36_readWords_b11 (N := N) hm R3 rfl rp0 (c_lit 0 0 rfl) ⟨by decide, by decide⟩ hF
def FX36_words_b26 (N : Nat) (l2 : Int) (s : fS) : Option (Int × fS) :=
  (uPI s 195 3 0).bind fun σ1 =>
  some (l2, σ1)
theorem SX36_words_b26 {m b : Nat} {φ0 : Nat → Nat} {σo : fS} (hm : 1 ≤ m) {N : Nat} {q : Int × fS} {φ : Nat → Nat} {h : eH} {s : fS} {l2' : Int32} {l2 : Int} (R : fC m b φ0 σo φ h s) (el2 : l2' = iI l2) (rl2 : r32 l2) (hF : FX36_words_b26 N l2 s = some q) : gG m b φ0 σo lI q (fX36_words_b26 N 195 l2' h) := by
  subst el2
  unfold FX36_words_b26 at hF
  unfold fX36_words_b26
  refine s_pI R (t_195 hm R.S) (Nat.le_of_ble_eq_true rfl) rfl (c_lit 0 0 rfl) ⟨by decide, by decide⟩ hF (fun h1 σ1 R1 T1 hF => ?_)
  exact g_ret R1 hF ⟨rfl, rl2⟩
def FX36_words (N : Nat) (s : fS) : Option (Int × fS) :=
  (FX36_readWords N 0 s).bind fun q4 =>
  (uPI q4.2 195 12 (s.i 195 12)).bind fun σ5 =>
  if q4.1 < 0 then
    FX36_words_b26 N q4.1 σ5
  else
    (FX36_readWords N 1 σ5).bind fun q9 =>
    FX36_words_b26 N q9.1 q9.2
theorem SX36_words {m b : Nat} {φ0 : Nat → Nat} {σo : fS} (hm : 1 ≤ m) {N : Nat} {q : Int × fS} {φ : Nat → Nat} {h : eH} {s : fS} (R : fC m b φ0 σo φ h s) (hF : FX36_words N s = some q) : gG m b φ0 σo lI q (fX36_words N 195 h) := by
  unfold FX36_words at hF
  unfold fX36_words
  refine s_gI R (t_195 hm R.S) (Nat.le_of_ble_eq_true rfl) rfl ?_
  refine s_kok R (t_195 hm R.S) (Nat.le_of_ble_eq_true rfl) ?_
  refine s_call R (Nat.zero_le _) (fun _ hq => SX36_readWords (b := 0) (N := N) hm (R.rf) (c_lit 0 0 rfl) ⟨by decide, by decide⟩ hq) hF (fun f3 rv3 h3 q4 R3 e3 E3 hF => ?_)
  refine s_pI R3 (t_195 hm R3.S) (Nat.le_of_ble_eq_true rfl) rfl rfl (R.ri (t_195 hm R.S) (Nat.le_of_ble_eq_true rfl) rfl) hF (fun h4 σ5 R4 T4 hF => ?_)
  refine s_if (i_lt e3.1 (c_lit 0 0 rfl) e3.2 ⟨by decide, by decide⟩) hF (fun c5 hF => ?_) (fun c5 hF => ?_)
  ·
    exact SX36_words_b26 (N := N) hm R4 e3.1 e3.2 hF
  ·
    refine s_kok R4 (t_195 hm R4.S) (Nat.le_of_ble_eq_true rfl) ?_
    refine s_call R4 (Nat.zero_le _) (fun _ hq => SX36_readWords (b := 0) (N := N) hm (R4.rf) (c_lit 1 1 rfl) ⟨by decide, by decide⟩ hq) hF (fun f7 rv7 h7 q9 R7 e7 E7 hF => ?_)
    exact SX36_words_b26 (N := N) hm R7 e7.1 e7.2 hF
def FX38_open (N : Nat) (s : fS) : Option (Unit × fS) :=
  (FX38_lay 247 s).bind fun q2 =>
  (FX38_lay 2 q2.2).bind fun q4 =>
  (FX38_layNumber N 25400000 4 q4.2).bind fun q6 =>
  (FX38_layNumber N 473628672 4 q6.2).bind fun q8 =>
  (FX38_layNumber N 1000 4 q8.2).bind fun q10 =>
  (FX38_lay 0 q10.2).bind fun q12 =>
  some ((), q12.2)
theorem SX38_open {m b : Nat} {φ0 : Nat → Nat} {σo : fS} (hm : 1 ≤ m) {N : Nat} {q : Unit × fS} {φ : Nat → Nat} {h : eH} {s : fS} (R : fC m b φ0 σo φ h s) (hF : FX38_open N s = some q) : gG m b φ0 σo lU q (fX38_open N 243 h) := by
  unfold FX38_open at hF
  unfold fX38_open
  refine s_kok R (t_243 hm R.S) (Nat.le_of_ble_eq_true rfl) ?_
  refine s_call R (Nat.zero_le _) (fun _ hq => SX38_lay (b := 0) hm (R.rf) (c_lit 247 247 rfl) ⟨by decide, by decide⟩ hq) hF (fun f2 rv2 h2 q2 R2 e2 E2 hF => ?_)
  refine s_kok R2 (t_243 hm R2.S) (Nat.le_of_ble_eq_true rfl) ?_
  refine s_call R2 (Nat.zero_le _) (fun _ hq => SX38_lay (b := 0) hm (R2.rf) (c_lit 2 2 rfl) ⟨by decide, by decide⟩ hq) hF (fun f4 rv4 h4 q4 R4 e4 E4 hF => ?_)
  refine s_kok R4 (t_243 hm R4.S) (Nat.le_of_ble_eq_true rfl) ?_
  refine s_call R4 (Nat.zero_le _) (fun _ hq => SX38_layNumber (b := 0) (N := N) hm (R4.rf) (c_lit 25400000 25400000 rfl) ⟨by decide, by decide⟩ (c_lit 4 4 rfl) ⟨by decide, by decide⟩ hq) hF (fun f6 rv6 h6 q6 R6 e6 E6 hF => ?_)
  refine s_kok R6 (t_243 hm R6.S) (Nat.le_of_ble_eq_true rfl) ?_
  refine s_call R6 (Nat.zero_le _) (fun _ hq => SX38_layNumber (b := 0) (N := N) hm (R6.rf) (c_lit 473628672 473628672 rfl) ⟨by decide, by decide⟩ (c_lit 4 4 rfl) ⟨by decide, by decide⟩ hq) hF (fun f8 rv8 h8 q8 R8 e8 E8 hF => ?_)
  refine s_kok R8 (t_243 hm R8.S) (Nat.le_of_ble_eq_true rfl) ?_
  refine s_call R8 (Nat.zero_le _) (fun _ hq => SX38_layNumber (b := 0) (N := N) hm (R8.rf) (c_lit 1000 1000 rfl) ⟨by decide, by decide⟩ (c_lit 4 4 rfl) ⟨by decide, by decide⟩ hq) hF (fun f10 rv10 h10 q10 R10 e10 E10 hF => ?_)
  refine s_kok R10 (t_243 hm R10.S) (Nat.le_of_ble_eq_true rfl) ?_
  refine s_call R10 (Nat.zero_le _) (fun _ hq => SX38_lay (b := 0) hm (R10.rf) (c_lit 0 0 rfl) ⟨by decide, by decide⟩ hq) hF (fun f12 rv12 h12 q12 R12 e12 E12 hF => ?_)
  exact g_ret R12 hF trivial
def FX38_begin (N : Nat) (s : fS) : Option (Unit × fS) :=
  (uPI s 243 5 0).bind fun σ1 =>
  (uPI σ1 243 7 0).bind fun σ3 =>
  (uPI σ3 243 8 (-1)).bind fun σ5 =>
  (uPI σ5 243 9 0).bind fun σ7 =>
  (uPI σ7 243 10 0).bind fun σ9 =>
  (uPI σ9 243 11 0).bind fun σ11 =>
  (FX38_open N σ11).bind fun q14 =>
  some ((), q14.2)
theorem SX38_begin {m b : Nat} {φ0 : Nat → Nat} {σo : fS} (hm : 1 ≤ m) {N : Nat} {q : Unit × fS} {φ : Nat → Nat} {h : eH} {s : fS} (R : fC m b φ0 σo φ h s) (hF : FX38_begin N s = some q) : gG m b φ0 σo lU q (fX38_begin N 243 h) := by
  unfold FX38_begin at hF
  unfold fX38_begin
  refine s_pI R (t_243 hm R.S) (Nat.le_of_ble_eq_true rfl) rfl (c_lit 0 0 rfl) ⟨by decide, by decide⟩ hF (fun h1 σ1 R1 T1 hF => ?_)
  refine s_pI R1 (t_243 hm R1.S) (Nat.le_of_ble_eq_true rfl) rfl (c_lit 0 0 rfl) ⟨by decide, by decide⟩ hF (fun h2 σ3 R2 T2 hF => ?_)
  refine s_pI R2 (t_243 hm R2.S) (Nat.le_of_ble_eq_true rfl) rfl (c_lit (-1) (-1) rfl) ⟨by decide, by decide⟩ hF (fun h3 σ5 R3 T3 hF => ?_)
  refine s_pI R3 (t_243 hm R3.S) (Nat.le_of_ble_eq_true rfl) rfl (c_lit 0 0 rfl) ⟨by decide, by decide⟩ hF (fun h4 σ7 R4 T4 hF => ?_)
  refine s_pI R4 (t_243 hm R4.S) (Nat.le_of_ble_eq_true rfl) rfl (c_lit 0 0 rfl) ⟨by decide, by decide⟩ hF (fun h5 σ9 R5 T5 hF => ?_)
  refine s_pI R5 (t_243 hm R5.S) (Nat.le_of_ble_eq_true rfl) rfl (c_lit 0 0 rfl) ⟨by decide, by decide⟩ hF (fun h6 σ11 R6 T6 hF => ?_)
  refine s_kok R6 (t_243 hm R6.S) (Nat.le_of_ble_eq_true rfl) ?_
  refine s_call R6 (Nat.zero_le _) (fun _ hq => SX38_open (b := 0) (N := N) hm (R6.rf) hq) hF (fun f8 rv8 h8 q14 R8 e8 E8 hF => ?_)
  exact g_ret R8 hF trivial
def FX35_tick_b27 (s : fS) : Option (Unit × fS) :=
  some ((), s)
theorem SX35_tick_b27 {m b : Nat} {φ0 : Nat → Nat} {σo : fS} (hm : 1 ≤ m) {q : Unit × fS} {φ : Nat → Nat} {h : eH} {s : fS} (R : fC m b φ0 σo φ h s) (hF : FX35_tick_b27 s = some q) : gG m b φ0 σo lU q (fX35_tick_b27 h) := by
  unfold FX35_tick_b27 at hF
  unfold fX35_tick_b27
  exact g_ret R hF trivial
def FX35_tick (s : fS) : Option (Unit × fS) :=
  (uPI s 192 44 (iadd (s.i 192 44) 1)).bind fun σ3 =>
  if (σ3.i 192 44) ≤ (σ3.i 192 3) then
    FX35_tick_b27 σ3
  else
    (FX35_fail 10 σ3).bind fun q11 =>
    FX35_tick_b27 q11.2
theorem SX35_tick {m b : Nat} {φ0 : Nat → Nat} {σo : fS} (hm : 1 ≤ m) {q : Unit × fS} {φ : Nat → Nat} {h : eH} {s : fS} (R : fC m b φ0 σo φ h s) (hF : FX35_tick s = some q) : gG m b φ0 σo lU q (fX35_tick 192 h) := by
  unfold FX35_tick at hF
  unfold fX35_tick
  refine s_gI R (t_192 hm R.S) (Nat.le_of_ble_eq_true rfl) rfl ?_
  refine s_pI R (t_192 hm R.S) (Nat.le_of_ble_eq_true rfl) rfl (c_add rfl (c_lit 1 1 rfl)) (rr_I _) hF (fun h2 σ3 R2 T2 hF => ?_)
  refine s_gI R2 (t_192 hm R2.S) (Nat.le_of_ble_eq_true rfl) rfl ?_
  refine s_gI R2 (t_192 hm R2.S) (Nat.le_of_ble_eq_true rfl) rfl ?_
  refine s_if (i_le rfl rfl (R2.ri (t_192 hm R2.S) (Nat.le_of_ble_eq_true rfl) rfl) (R2.ri (t_192 hm R2.S) (Nat.le_of_ble_eq_true rfl) rfl)) hF (fun c5 hF => ?_) (fun c5 hF => ?_)
  ·
    exact SX35_tick_b27 hm R2 hF
  ·
    refine s_kok R2 (t_192 hm R2.S) (Nat.le_of_ble_eq_true rfl) ?_
    refine s_call R2 (Nat.zero_le _) (fun _ hq => SX35_fail (b := 0) hm (R2.rf) (c_lit 10 10 rfl) ⟨by decide, by decide⟩ hq) hF (fun f7 rv7 h7 q11 R7 e7 E7 hF => ?_)
    exact SX35_tick_b27 hm R7 hF
def FX38_close_b148 (N : Nat) (K134 : Int → fS → Option (Unit × fS)) (l2 : Int) (s : fS) : Option (Unit × fS) :=
  (FX38_lay 223 s).bind fun q2 =>
  K134 (iadd l2 1) q2.2
theorem SX38_close_b148 {m b : Nat} {φ0 : Nat → Nat} {σo : fS} (hm : 1 ≤ m) {N : Nat} {k134 : Nat → Int32 → eH → Option (Unit × eH)} {K134 : Int → fS → Option (Unit × fS)} {q : Unit × fS} (hk134 : ∀ {φ : Nat → Nat} {h : eH} {s : fS} {l2' : Int32} {l2 : Int}, fC m b φ0 σo φ h s → l2' = iI l2 → r32 l2 → K134 l2 s = some q → gG m b φ0 σo lU q (k134 243 l2' h)) {φ : Nat → Nat} {h : eH} {s : fS} {l2' : Int32} {l2 : Int} (R : fC m b φ0 σo φ h s) (el2 : l2' = iI l2) (rl2 : r32 l2) (hF : FX38_close_b148 N K134 l2 s = some q) : gG m b φ0 σo lU q (fX38_close_b148 N k134 243 l2' h) := by
  subst el2
  unfold FX38_close_b148 at hF
  unfold fX38_close_b148
  refine s_kok R (t_243 hm R.S) (Nat.le_of_ble_eq_true rfl) ?_
  refine s_call R (Nat.zero_le _) (fun _ hq => SX38_lay (b := 0) hm (R.rf) (c_lit 223 223 rfl) ⟨by decide, by decide⟩ hq) hF (fun f2 rv2 h2 q2 R2 e2 E2 hF => ?_)
  exact hk134 R2 (c_add rfl (c_lit 1 1 rfl)) (rr_I _) hF
def FX38_close_b134 (N : Nat) : Nat → Int → fS → Option (Unit × fS)
  | 0, _, _ => none
  | n + 1, l2, s =>
    if l2 < 4 then
      FX38_close_b148 N (FX38_close_b134 N n) l2 s
    else
      if (irem (s.i 243 5) 4) = 0 then
        some ((), s)
      else
        FX38_close_b148 N (FX38_close_b134 N n) l2 s
theorem SX38_close_b134 {m b : Nat} {φ0 : Nat → Nat} {σo : fS} (hm : 1 ≤ m) {N : Nat} {q : Unit × fS} : ∀ {n : Nat} {φ : Nat → Nat} {h : eH} {s : fS} {l2' : Int32} {l2 : Int}, fC m b φ0 σo φ h s → l2' = iI l2 → r32 l2 → FX38_close_b134 N n l2 s = some q → gG m b φ0 σo lU q (fX38_close_b134 N n 243 l2' h) := by
  intro n
  induction n with
 | zero => intro φ h s l2' l2 R el2 rl2 hF; simp [FX38_close_b134] at hF
  | succ n ih =>
    intro φ h s l2' l2 R el2 rl2 hF
    subst el2
    rw [FX38_close_b134] at hF
    rw [fX38_close_b134]
    refine s_if (i_lt rfl (c_lit 4 4 rfl) rl2 ⟨by decide, by decide⟩) hF (fun c1 hF => ?_) (fun c1 hF => ?_)
    ·
      exact SX38_close_b148 (N := N) (k134 := fX38_close_b134 N n) (K134 := FX38_close_b134 N n) hm @ih R rfl rl2 hF
    ·
      refine s_gI R (t_243 hm R.S) (Nat.le_of_ble_eq_true rfl) rfl ?_
      refine s_if (i_eq (c_rem rfl (c_lit 4 4 rfl)) (c_lit 0 0 rfl) (rr_I _) ⟨by decide, by decide⟩) hF (fun c3 hF => ?_) (fun c3 hF => ?_)
      ·
        exact g_ret R hF trivial
      ·
        exact SX38_close_b148 (N := N) (k134 := fX38_close_b134 N n) (K134 := FX38_close_b134 N n) hm @ih R rfl rl2 hF
def FX38_close_b94 (N : Nat) : Nat → Int → Int → fS → Option (Unit × fS)
  | 0, _, _, _ => none
  | n + 1, l1, l2, s =>
    if l2 < 0 then
      (FX38_lay 249 s).bind fun q3 =>
      (FX38_layNumber N l1 4 q3.2).bind fun q5 =>
      (FX38_lay 2 q5.2).bind fun q7 =>
      FX38_close_b134 N N 0 q7.2
    else
      (uRI s 250 l2).bind fun x10 =>
      (FX38_define N x10 s).bind fun q13 =>
      FX38_close_b94 N n l1 (iadd l2 (-1)) q13.2
theorem SX38_close_b94 {m b : Nat} {φ0 : Nat → Nat} {σo : fS} (hm : 1 ≤ m) {N : Nat} {q : Unit × fS} : ∀ {n : Nat} {φ : Nat → Nat} {h : eH} {s : fS} {l1' : Int32} {l1 : Int} {l2' : Int32} {l2 : Int}, fC m b φ0 σo φ h s → l1' = iI l1 → r32 l1 → l2' = iI l2 → r32 l2 → FX38_close_b94 N n l1 l2 s = some q → gG m b φ0 σo lU q (fX38_close_b94 N n 243 l1' l2' h) := by
  intro n
  induction n with
 | zero => intro φ h s l1' l1 l2' l2 R el1 rl1 el2 rl2 hF; simp [FX38_close_b94] at hF
  | succ n ih =>
    intro φ h s l1' l1 l2' l2 R el1 rl1 el2 rl2 hF
    subst el1; subst el2
    rw [FX38_close_b94] at hF
    rw [fX38_close_b94]
    refine s_if (i_lt rfl (c_lit 0 0 rfl) rl2 ⟨by decide, by decide⟩) hF (fun c1 hF => ?_) (fun c1 hF => ?_)
    ·
      refine s_kok R (t_243 hm R.S) (Nat.le_of_ble_eq_true rfl) ?_
      refine s_call R (Nat.zero_le _) (fun _ hq => SX38_lay (b := 0) hm (R.rf) (c_lit 249 249 rfl) ⟨by decide, by decide⟩ hq) hF (fun f3 rv3 h3 q3 R3 e3 E3 hF => ?_)
      refine s_kok R3 (t_243 hm R3.S) (Nat.le_of_ble_eq_true rfl) ?_
      refine s_call R3 (Nat.zero_le _) (fun _ hq => SX38_layNumber (b := 0) (N := N) hm (R3.rf) rfl rl1 (c_lit 4 4 rfl) ⟨by decide, by decide⟩ hq) hF (fun f5 rv5 h5 q5 R5 e5 E5 hF => ?_)
      refine s_kok R5 (t_243 hm R5.S) (Nat.le_of_ble_eq_true rfl) ?_
      refine s_call R5 (Nat.zero_le _) (fun _ hq => SX38_lay (b := 0) hm (R5.rf) (c_lit 2 2 rfl) ⟨by decide, by decide⟩ hq) hF (fun f7 rv7 h7 q7 R7 e7 E7 hF => ?_)
      exact SX38_close_b134 (N := N) hm R7 (c_lit 0 0 rfl) ⟨by decide, by decide⟩ hF
    ·
      refine s_gAs R (t_243 hm R.S) (Nat.le_of_ble_eq_true rfl) rfl (o_243_12 hm R.S) (a_250 hm R) ?_
      refine s_rI R (u_250 hm R.S).1 (u_250 hm R.S).2 (by decide) (a_250 hm R) rfl rl2 hF (fun x10 ra9 hF => ?_)
      refine s_kok R (t_243 hm R.S) (Nat.le_of_ble_eq_true rfl) ?_
      refine s_call R (Nat.zero_le _) (fun _ hq => SX38_define (b := 0) (N := N) hm (R.rf) rfl ra9 hq) hF (fun f11 rv11 h11 q13 R11 e11 E11 hF => ?_)
      exact ih R11 rfl rl1 (c_add rfl (c_lit (-1) (-1) rfl)) (rr_I _) hF
def FX38_close_b74 (N : Nat) (l1 : Int) (s1 : Int) (s : fS) : Option (Unit × fS) :=
  (FX38_layNumber N s1 2 s).bind fun q2 =>
  (FX38_layNumber N (q2.2.i 243 7) 2 q2.2).bind fun q6 =>
  FX38_close_b94 N N l1 (isub (q6.2.i 243 11) 1) q6.2
theorem SX38_close_b74 {m b : Nat} {φ0 : Nat → Nat} {σo : fS} (hm : 1 ≤ m) {N : Nat} {q : Unit × fS} {φ : Nat → Nat} {h : eH} {s : fS} {l1' : Int32} {l1 : Int} {s1' : Int32} {s1 : Int} (R : fC m b φ0 σo φ h s) (el1 : l1' = iI l1) (rl1 : r32 l1) (es1 : s1' = iI s1) (rs1 : r32 s1) (hF : FX38_close_b74 N l1 s1 s = some q) : gG m b φ0 σo lU q (fX38_close_b74 N 243 l1' 243 s1' h) := by
  subst el1; subst es1
  unfold FX38_close_b74 at hF
  unfold fX38_close_b74
  refine s_kok R (t_243 hm R.S) (Nat.le_of_ble_eq_true rfl) ?_
  refine s_call R (Nat.zero_le _) (fun _ hq => SX38_layNumber (b := 0) (N := N) hm (R.rf) rfl rs1 (c_lit 2 2 rfl) ⟨by decide, by decide⟩ hq) hF (fun f2 rv2 h2 q2 R2 e2 E2 hF => ?_)
  refine s_gI R2 (t_243 hm R2.S) (Nat.le_of_ble_eq_true rfl) rfl ?_
  refine s_kok R2 (t_243 hm R2.S) (Nat.le_of_ble_eq_true rfl) ?_
  refine s_call R2 (Nat.zero_le _) (fun _ hq => SX38_layNumber (b := 0) (N := N) hm (R2.rf) rfl (R2.ri (t_243 hm R2.S) (Nat.le_of_ble_eq_true rfl) rfl) (c_lit 2 2 rfl) ⟨by decide, by decide⟩ hq) hF (fun f5 rv5 h5 q6 R5 e5 E5 hF => ?_)
  refine s_gI R5 (t_243 hm R5.S) (Nat.le_of_ble_eq_true rfl) rfl ?_
  exact SX38_close_b94 (N := N) hm R5 rfl rl1 (c_sub rfl (c_lit 1 1 rfl)) (rr_I _) hF
def FX38_close (N : Nat) (s : fS) : Option (Unit × fS) :=
  (FX38_lay 248 s).bind fun q4 =>
  (FX38_layNumber N (q4.2.i 243 8) 4 q4.2).bind fun q8 =>
  (FX38_layNumber N 25400000 4 q8.2).bind fun q10 =>
  (FX38_layNumber N 473628672 4 q10.2).bind fun q12 =>
  (FX38_layNumber N 1000 4 q12.2).bind fun q14 =>
  (FX38_layNumber N (q14.2.i 243 9) 4 q14.2).bind fun q18 =>
  (FX38_layNumber N (q18.2.i 243 10) 4 q18.2).bind fun q22 =>
  if (q22.2.i 243 7) ≤ 0 then
    FX38_close_b74 N (s.i 243 5) 0 q22.2
  else
    FX38_close_b74 N (s.i 243 5) 1 q22.2
theorem SX38_close {m b : Nat} {φ0 : Nat → Nat} {σo : fS} (hm : 1 ≤ m) {N : Nat} {q : Unit × fS} {φ : Nat → Nat} {h : eH} {s : fS} (R : fC m b φ0 σo φ h s) (hF : FX38_close N s = some q) : gG m b φ0 σo lU q (fX38_close N 243 h) := by
  unfold FX38_close at hF
  unfold fX38_close
  refine s_gI R (t_243 hm R.S) (Nat.le_of_ble_eq_true rfl) rfl ?_
  refine s_kok R (t_243 hm R.S) (Nat.le_of_ble_eq_true rfl) ?_
  refine s_call R (Nat.zero_le _) (fun _ hq => SX38_lay (b := 0) hm (R.rf) (c_lit 248 248 rfl) ⟨by decide, by decide⟩ hq) hF (fun f3 rv3 h3 q4 R3 e3 E3 hF => ?_)
  refine s_gI R3 (t_243 hm R3.S) (Nat.le_of_ble_eq_true rfl) rfl ?_
  refine s_kok R3 (t_243 hm R3.S) (Nat.le_of_ble_eq_true rfl) ?_
  refine s_call R3 (Nat.zero_le _) (fun _ hq => SX38_layNumber (b := 0) (N := N) hm (R3.rf) rfl (R3.ri (t_243 hm R3.S) (Nat.le_of_ble_eq_true rfl) rfl) (c_lit 4 4 rfl) ⟨by decide, by decide⟩ hq) hF (fun f6 rv6 h6 q8 R6 e6 E6 hF => ?_)
  refine s_kok R6 (t_243 hm R6.S) (Nat.le_of_ble_eq_true rfl) ?_
  refine s_call R6 (Nat.zero_le _) (fun _ hq => SX38_layNumber (b := 0) (N := N) hm (R6.rf) (c_lit 25400000 25400000 rfl) ⟨by decide, by decide⟩ (c_lit 4 4 rfl) ⟨by decide, by decide⟩ hq) hF (fun f8 rv8 h8 q10 R8 e8 E8 hF => ?_)
  refine s_kok R8 (t_243 hm R8.S) (Nat.le_of_ble_eq_true rfl) ?_
  refine s_call R8 (Nat.zero_le _) (fun _ hq => SX38_layNumber (b := 0) (N := N) hm (R8.rf) (c_lit 473628672 473628672 rfl) ⟨by decide, by decide⟩ (c_lit 4 4 rfl) ⟨by decide, by decide⟩ hq) hF (fun f10 rv10 h10 q12 R10 e10 E10 hF => ?_)
  refine s_kok R10 (t_243 hm R10.S) (Nat.le_of_ble_eq_true rfl) ?_
  refine s_call R10 (Nat.zero_le _) (fun _ hq => SX38_layNumber (b := 0) (N := N) hm (R10.rf) (c_lit 1000 1000 rfl) ⟨by decide, by decide⟩ (c_lit 4 4 rfl) ⟨by decide, by decide⟩ hq) hF (fun f12 rv12 h12 q14 R12 e12 E12 hF => ?_)
  refine s_gI R12 (t_243 hm R12.S) (Nat.le_of_ble_eq_true rfl) rfl ?_
  refine s_kok R12 (t_243 hm R12.S) (Nat.le_of_ble_eq_true rfl) ?_
  refine s_call R12 (Nat.zero_le _) (fun _ hq => SX38_layNumber (b := 0) (N := N) hm (R12.rf) rfl (R12.ri (t_243 hm R12.S) (Nat.le_of_ble_eq_true rfl) rfl) (c_lit 4 4 rfl) ⟨by decide, by decide⟩ hq) hF (fun f15 rv15 h15 q18 R15 e15 E15 hF => ?_)
  refine s_gI R15 (t_243 hm R15.S) (Nat.le_of_ble_eq_true rfl) rfl ?_
  refine s_kok R15 (t_243 hm R15.S) (Nat.le_of_ble_eq_true rfl) ?_
  refine s_call R15 (Nat.zero_le _) (fun _ hq => SX38_layNumber (b := 0) (N := N) hm (R15.rf) rfl (R15.ri (t_243 hm R15.S) (Nat.le_of_ble_eq_true rfl) rfl) (c_lit 4 4 rfl) ⟨by decide, by decide⟩ hq) hF (fun f18 rv18 h18 q22 R18 e18 E18 hF => ?_)
  refine s_gI R18 (t_243 hm R18.S) (Nat.le_of_ble_eq_true rfl) rfl ?_
  refine s_if (i_le rfl (c_lit 0 0 rfl) (R18.ri (t_243 hm R18.S) (Nat.le_of_ble_eq_true rfl) rfl) ⟨by decide, by decide⟩) hF (fun c20 hF => ?_) (fun c20 hF => ?_)
  ·
    exact SX38_close_b74 (N := N) hm R18 rfl (R.ri (t_243 hm R.S) (Nat.le_of_ble_eq_true rfl) rfl) (c_lit 0 0 rfl) ⟨by decide, by decide⟩ hF
  ·
    exact SX38_close_b74 (N := N) hm R18 rfl (R.ri (t_243 hm R.S) (Nat.le_of_ble_eq_true rfl) rfl) (c_lit 1 1 rfl) ⟨by decide, by decide⟩ hF
def FX35_run_b59 (N : Nat) (SE : Int → fS → Option (Unit × fS)) (SL : Int → Int → Int → fS → Option (Int × fS)) (SN : fS → Option (Int × fS)) (K11 : fS → Option (Int × fS)) (s : fS) : Option (Int × fS) :=
  K11 s
theorem SX35_run_b59 {m b : Nat} {φ0 : Nat → Nat} {σo : fS} (hm : 1 ≤ m) (hb : 1 ≤ b) {N : Nat} {sE : Nat → Int32 → eH → Option (Unit × eH)} {SE : Int → fS → Option (Unit × fS)} {sL : Nat → Int32 → Int64 → Int64 → eH → Option (Int32 × eH)} {SL : Int → Int → Int → fS → Option (Int × fS)} {sN : Nat → eH → Option (Int32 × eH)} {SN : fS → Option (Int × fS)} {k11 : Nat → eH → Option (Int32 × eH)} {K11 : fS → Option (Int × fS)} {q : Int × fS} (hsE : ∀ {φ : Nat → Nat} {h : eH} {s : fS} {x1' : Int32} {x1 : Int} {q}, fC m 1 φ s φ h s → x1' = iI x1 → r32 x1 → SE x1 s = some q → gG m 1 φ s lU q (sE 192 x1' h)) (hsL : ∀ {φ : Nat → Nat} {h : eH} {s : fS} {x1' : Int32} {x1 : Int} {x2' : Int64} {x2 : Int} {x3' : Int64} {x3 : Int} {q}, fC m 1 φ s φ h s → x1' = iI x1 → r32 x1 → x2' = iJ x2 → r64 x2 → x3' = iJ x3 → r64 x3 → SL x1 x2 x3 s = some q → gG m 1 φ s lI q (sL 192 x1' x2' x3' h)) (hsN : ∀ {φ : Nat → Nat} {h : eH} {s : fS} {q}, fC m 1 φ s φ h s → SN s = some q → gG m 1 φ s lI q (sN 192 h)) (hk11 : ∀ {φ : Nat → Nat} {h : eH} {s : fS} , fC m b φ0 σo φ h s → K11 s = some q → gG m b φ0 σo lI q (k11 192 h)) {φ : Nat → Nat} {h : eH} {s : fS} (R : fC m b φ0 σo φ h s) (hF : FX35_run_b59 N SE SL SN K11 s = some q) : gG m b φ0 σo lI q (fX35_run_b59 N sE sL sN k11 192 h) := by
  unfold FX35_run_b59 at hF
  unfold fX35_run_b59
  exact hk11 R hF
def FX35_run_b174 (N : Nat) (SE : Int → fS → Option (Unit × fS)) (SL : Int → Int → Int → fS → Option (Int × fS)) (SN : fS → Option (Int × fS)) (s0 : Int) (s : fS) : Option (Int × fS) :=
  some (s0, s)
theorem SX35_run_b174 {m b : Nat} {φ0 : Nat → Nat} {σo : fS} (hm : 1 ≤ m) {N : Nat} {sE : Nat → Int32 → eH → Option (Unit × eH)} {SE : Int → fS → Option (Unit × fS)} {sL : Nat → Int32 → Int64 → Int64 → eH → Option (Int32 × eH)} {SL : Int → Int → Int → fS → Option (Int × fS)} {sN : Nat → eH → Option (Int32 × eH)} {SN : fS → Option (Int × fS)} {q : Int × fS} (hsE : ∀ {φ : Nat → Nat} {h : eH} {s : fS} {x1' : Int32} {x1 : Int} {q}, fC m 1 φ s φ h s → x1' = iI x1 → r32 x1 → SE x1 s = some q → gG m 1 φ s lU q (sE 192 x1' h)) (hsL : ∀ {φ : Nat → Nat} {h : eH} {s : fS} {x1' : Int32} {x1 : Int} {x2' : Int64} {x2 : Int} {x3' : Int64} {x3 : Int} {q}, fC m 1 φ s φ h s → x1' = iI x1 → r32 x1 → x2' = iJ x2 → r64 x2 → x3' = iJ x3 → r64 x3 → SL x1 x2 x3 s = some q → gG m 1 φ s lI q (sL 192 x1' x2' x3' h)) (hsN : ∀ {φ : Nat → Nat} {h : eH} {s : fS} {q}, fC m 1 φ s φ h s → SN s = some q → gG m 1 φ s lI q (sN 192 h)) {φ : Nat → Nat} {h : eH} {s : fS} {s0' : Int32} {s0 : Int} (R : fC m b φ0 σo φ h s) (es0 : s0' = iI s0) (rs0 : r32 s0) (hF : FX35_run_b174 N SE SL SN s0 s = some q) : gG m b φ0 σo lI q (fX35_run_b174 N sE sL sN s0' h) := by
  subst es0
  unfold FX35_run_b174 at hF
  unfold fX35_run_b174
  exact g_ret R hF ⟨rfl, rs0⟩
def FX35_run_b144 (N : Nat) (SE : Int → fS → Option (Unit × fS)) (SL : Int → Int → Int → fS → Option (Int × fS)) (SN : fS → Option (Int × fS)) (s : fS) : Option (Int × fS) :=
  (FX38_close N s).bind fun q4 =>
  if ¬ ((q4.2.i 192 46) = 0) then
    FX35_run_b174 N SE SL SN (iadd (imul 100000 (q4.2.i 192 46)) (q4.2.i 192 10)) q4.2
  else
    FX35_run_b174 N SE SL SN 0 q4.2
theorem SX35_run_b144 {m b : Nat} {φ0 : Nat → Nat} {σo : fS} (hm : 1 ≤ m) {N : Nat} {sE : Nat → Int32 → eH → Option (Unit × eH)} {SE : Int → fS → Option (Unit × fS)} {sL : Nat → Int32 → Int64 → Int64 → eH → Option (Int32 × eH)} {SL : Int → Int → Int → fS → Option (Int × fS)} {sN : Nat → eH → Option (Int32 × eH)} {SN : fS → Option (Int × fS)} {q : Int × fS} (hsE : ∀ {φ : Nat → Nat} {h : eH} {s : fS} {x1' : Int32} {x1 : Int} {q}, fC m 1 φ s φ h s → x1' = iI x1 → r32 x1 → SE x1 s = some q → gG m 1 φ s lU q (sE 192 x1' h)) (hsL : ∀ {φ : Nat → Nat} {h : eH} {s : fS} {x1' : Int32} {x1 : Int} {x2' : Int64} {x2 : Int} {x3' : Int64} {x3 : Int} {q}, fC m 1 φ s φ h s → x1' = iI x1 → r32 x1 → x2' = iJ x2 → r64 x2 → x3' = iJ x3 → r64 x3 → SL x1 x2 x3 s = some q → gG m 1 φ s lI q (sL 192 x1' x2' x3' h)) (hsN : ∀ {φ : Nat → Nat} {h : eH} {s : fS} {q}, fC m 1 φ s φ h s → SN s = some q → gG m 1 φ s lI q (sN 192 h)) {φ : Nat → Nat} {h : eH} {s : fS} (R : fC m b φ0 σo φ h s) (hF : FX35_run_b144 N SE SL SN s = some q) : gG m b φ0 σo lI q (fX35_run_b144 N sE sL sN 192 h) := by
  unfold FX35_run_b144 at hF
  unfold fX35_run_b144
  refine s_gO R (t_192 hm R.S) (Nat.le_of_ble_eq_true rfl) rfl (o_192_7 hm R.S) ?_
  refine s_kok R (t_243 hm R.S) (Nat.le_of_ble_eq_true rfl) ?_
  refine s_call R (Nat.zero_le _) (fun _ hq => SX38_close (b := 0) (N := N) hm (R.rf) hq) hF (fun f3 rv3 h3 q4 R3 e3 E3 hF => ?_)
  refine s_gI R3 (t_192 hm R3.S) (Nat.le_of_ble_eq_true rfl) rfl ?_
  refine s_if (not_congr (i_eq rfl (c_lit 0 0 rfl) (R3.ri (t_192 hm R3.S) (Nat.le_of_ble_eq_true rfl) rfl) ⟨by decide, by decide⟩)) hF (fun c5 hF => ?_) (fun c5 hF => ?_)
  ·
    refine s_gI R3 (t_192 hm R3.S) (Nat.le_of_ble_eq_true rfl) rfl ?_
    refine s_gI R3 (t_192 hm R3.S) (Nat.le_of_ble_eq_true rfl) rfl ?_
    exact SX35_run_b174 (N := N) (sE := sE) (SE := SE) (sL := sL) (SL := SL) (sN := sN) (SN := SN) hm @hsE @hsL @hsN R3 (c_add (c_mul (c_lit 100000 100000 rfl) rfl) rfl) (rr_I _) hF
  ·
    exact SX35_run_b174 (N := N) (sE := sE) (SE := SE) (sL := sL) (SL := SL) (sN := sN) (SN := SN) hm @hsE @hsL @hsN R3 (c_lit 0 0 rfl) ⟨by decide, by decide⟩ hF
def FX35_run_b112 (N : Nat) (SE : Int → fS → Option (Unit × fS)) (SL : Int → Int → Int → fS → Option (Int × fS)) (SN : fS → Option (Int × fS)) (s : fS) : Option (Int × fS) :=
  if ¬ ((s.i 192 46) = 0) then
    FX35_run_b144 N SE SL SN s
  else
    (FX35_outer N SL 2 0 65536 0 2 (-1) 0 s).bind fun q5 =>
    (FX35_outer N SL 4 (-10000) 0 0 0 (-1) 0 q5.2).bind fun q7 =>
    FX35_run_b144 N SE SL SN q7.2
theorem SX35_run_b112 {m b : Nat} {φ0 : Nat → Nat} {σo : fS} (hm : 1 ≤ m) (hb : 1 ≤ b) {N : Nat} {sE : Nat → Int32 → eH → Option (Unit × eH)} {SE : Int → fS → Option (Unit × fS)} {sL : Nat → Int32 → Int64 → Int64 → eH → Option (Int32 × eH)} {SL : Int → Int → Int → fS → Option (Int × fS)} {sN : Nat → eH → Option (Int32 × eH)} {SN : fS → Option (Int × fS)} {q : Int × fS} (hsE : ∀ {φ : Nat → Nat} {h : eH} {s : fS} {x1' : Int32} {x1 : Int} {q}, fC m 1 φ s φ h s → x1' = iI x1 → r32 x1 → SE x1 s = some q → gG m 1 φ s lU q (sE 192 x1' h)) (hsL : ∀ {φ : Nat → Nat} {h : eH} {s : fS} {x1' : Int32} {x1 : Int} {x2' : Int64} {x2 : Int} {x3' : Int64} {x3 : Int} {q}, fC m 1 φ s φ h s → x1' = iI x1 → r32 x1 → x2' = iJ x2 → r64 x2 → x3' = iJ x3 → r64 x3 → SL x1 x2 x3 s = some q → gG m 1 φ s lI q (sL 192 x1' x2' x3' h)) (hsN : ∀ {φ : Nat → Nat} {h : eH} {s : fS} {q}, fC m 1 φ s φ h s → SN s = some q → gG m 1 φ s lI q (sN 192 h)) {φ : Nat → Nat} {h : eH} {s : fS} (R : fC m b φ0 σo φ h s) (hF : FX35_run_b112 N SE SL SN s = some q) : gG m b φ0 σo lI q (fX35_run_b112 N sE sL sN 192 h) := by
  unfold FX35_run_b112 at hF
  unfold fX35_run_b112
  refine s_gI R (t_192 hm R.S) (Nat.le_of_ble_eq_true rfl) rfl ?_
  refine s_if (not_congr (i_eq rfl (c_lit 0 0 rfl) (R.ri (t_192 hm R.S) (Nat.le_of_ble_eq_true rfl) rfl) ⟨by decide, by decide⟩)) hF (fun c2 hF => ?_) (fun c2 hF => ?_)
  ·
    exact SX35_run_b144 (N := N) (sE := sE) (SE := SE) (sL := sL) (SL := SL) (sN := sN) (SN := SN) hm @hsE @hsL @hsN R hF
  ·
    refine s_kok R (t_192 hm R.S) (Nat.le_of_ble_eq_true rfl) ?_
    refine s_call R hb (fun _ hq => SX35_outer (b := 1) (N := N) (sL := sL) (SL := SL) hm (Nat.le_of_ble_eq_true rfl) @hsL (R.rf) (c_lit 2 2 rfl) ⟨by decide, by decide⟩ (c_lit 0 0 rfl) ⟨by decide, by decide⟩ (c_lit 65536 65536 rfl) ⟨by decide, by decide⟩ (c_lit 0 0 rfl) ⟨by decide, by decide⟩ (c_lit 2 2 rfl) ⟨by decide, by decide⟩ (c_lit (-1) (-1) rfl) ⟨by decide, by decide⟩ (c_lit 0 0 rfl) ⟨by decide, by decide⟩ hq) hF (fun f4 rv4 h4 q5 R4 e4 E4 hF => ?_)
    refine s_kok R4 (t_192 hm R4.S) (Nat.le_of_ble_eq_true rfl) ?_
    refine s_call R4 hb (fun _ hq => SX35_outer (b := 1) (N := N) (sL := sL) (SL := SL) hm (Nat.le_of_ble_eq_true rfl) @hsL (R4.rf) (c_lit 4 4 rfl) ⟨by decide, by decide⟩ (c_lit (-10000) (-10000) rfl) ⟨by decide, by decide⟩ (c_lit 0 0 rfl) ⟨by decide, by decide⟩ (c_lit 0 0 rfl) ⟨by decide, by decide⟩ (c_lit 0 0 rfl) ⟨by decide, by decide⟩ (c_lit (-1) (-1) rfl) ⟨by decide, by decide⟩ (c_lit 0 0 rfl) ⟨by decide, by decide⟩ hq) hF (fun f6 rv6 h6 q7 R6 e6 E6 hF => ?_)
    exact SX35_run_b144 (N := N) (sE := sE) (SE := SE) (sL := sL) (SL := SL) (sN := sN) (SN := SN) hm @hsE @hsL @hsN R6 hF
def FX35_run_b106 (N : Nat) (SE : Int → fS → Option (Unit × fS)) (SL : Int → Int → Int → fS → Option (Int × fS)) (SN : fS → Option (Int × fS)) (s : fS) : Option (Int × fS) :=
  (FX35_fail 9 s).bind fun q2 =>
  FX35_run_b112 N SE SL SN q2.2
theorem SX35_run_b106 {m b : Nat} {φ0 : Nat → Nat} {σo : fS} (hm : 1 ≤ m) (hb : 1 ≤ b) {N : Nat} {sE : Nat → Int32 → eH → Option (Unit × eH)} {SE : Int → fS → Option (Unit × fS)} {sL : Nat → Int32 → Int64 → Int64 → eH → Option (Int32 × eH)} {SL : Int → Int → Int → fS → Option (Int × fS)} {sN : Nat → eH → Option (Int32 × eH)} {SN : fS → Option (Int × fS)} {q : Int × fS} (hsE : ∀ {φ : Nat → Nat} {h : eH} {s : fS} {x1' : Int32} {x1 : Int} {q}, fC m 1 φ s φ h s → x1' = iI x1 → r32 x1 → SE x1 s = some q → gG m 1 φ s lU q (sE 192 x1' h)) (hsL : ∀ {φ : Nat → Nat} {h : eH} {s : fS} {x1' : Int32} {x1 : Int} {x2' : Int64} {x2 : Int} {x3' : Int64} {x3 : Int} {q}, fC m 1 φ s φ h s → x1' = iI x1 → r32 x1 → x2' = iJ x2 → r64 x2 → x3' = iJ x3 → r64 x3 → SL x1 x2 x3 s = some q → gG m 1 φ s lI q (sL 192 x1' x2' x3' h)) (hsN : ∀ {φ : Nat → Nat} {h : eH} {s : fS} {q}, fC m 1 φ s φ h s → SN s = some q → gG m 1 φ s lI q (sN 192 h)) {φ : Nat → Nat} {h : eH} {s : fS} (R : fC m b φ0 σo φ h s) (hF : FX35_run_b106 N SE SL SN s = some q) : gG m b φ0 σo lI q (fX35_run_b106 N sE sL sN 192 h) := by
  unfold FX35_run_b106 at hF
  unfold fX35_run_b106
  refine s_kok R (t_192 hm R.S) (Nat.le_of_ble_eq_true rfl) ?_
  refine s_call R (Nat.zero_le _) (fun _ hq => SX35_fail (b := 0) hm (R.rf) (c_lit 9 9 rfl) ⟨by decide, by decide⟩ hq) hF (fun f2 rv2 h2 q2 R2 e2 E2 hF => ?_)
  exact SX35_run_b112 (N := N) (sE := sE) (SE := SE) (sL := sL) (SL := SL) (sN := sN) (SN := SN) hm hb @hsE @hsL @hsN R2 hF
def FX35_run_b85 (N : Nat) (SE : Int → fS → Option (Unit × fS)) (SL : Int → Int → Int → fS → Option (Int × fS)) (SN : fS → Option (Int × fS)) (s : fS) : Option (Int × fS) :=
  if ¬ ((s.i 192 46) = 0) then
    FX35_run_b112 N SE SL SN s
  else
    if 0 < (s.i 192 21) then
      FX35_run_b106 N SE SL SN s
    else
      if (s.i 192 41) ≤ 0 then
        FX35_run_b112 N SE SL SN s
      else
        FX35_run_b106 N SE SL SN s
theorem SX35_run_b85 {m b : Nat} {φ0 : Nat → Nat} {σo : fS} (hm : 1 ≤ m) (hb : 1 ≤ b) {N : Nat} {sE : Nat → Int32 → eH → Option (Unit × eH)} {SE : Int → fS → Option (Unit × fS)} {sL : Nat → Int32 → Int64 → Int64 → eH → Option (Int32 × eH)} {SL : Int → Int → Int → fS → Option (Int × fS)} {sN : Nat → eH → Option (Int32 × eH)} {SN : fS → Option (Int × fS)} {q : Int × fS} (hsE : ∀ {φ : Nat → Nat} {h : eH} {s : fS} {x1' : Int32} {x1 : Int} {q}, fC m 1 φ s φ h s → x1' = iI x1 → r32 x1 → SE x1 s = some q → gG m 1 φ s lU q (sE 192 x1' h)) (hsL : ∀ {φ : Nat → Nat} {h : eH} {s : fS} {x1' : Int32} {x1 : Int} {x2' : Int64} {x2 : Int} {x3' : Int64} {x3 : Int} {q}, fC m 1 φ s φ h s → x1' = iI x1 → r32 x1 → x2' = iJ x2 → r64 x2 → x3' = iJ x3 → r64 x3 → SL x1 x2 x3 s = some q → gG m 1 φ s lI q (sL 192 x1' x2' x3' h)) (hsN : ∀ {φ : Nat → Nat} {h : eH} {s : fS} {q}, fC m 1 φ s φ h s → SN s = some q → gG m 1 φ s lI q (sN 192 h)) {φ : Nat → Nat} {h : eH} {s : fS} (R : fC m b φ0 σo φ h s) (hF : FX35_run_b85 N SE SL SN s = some q) : gG m b φ0 σo lI q (fX35_run_b85 N sE sL sN 192 h) := by
  unfold FX35_run_b85 at hF
  unfold fX35_run_b85
  refine s_gI R (t_192 hm R.S) (Nat.le_of_ble_eq_true rfl) rfl ?_
  refine s_if (not_congr (i_eq rfl (c_lit 0 0 rfl) (R.ri (t_192 hm R.S) (Nat.le_of_ble_eq_true rfl) rfl) ⟨by decide, by decide⟩)) hF (fun c2 hF => ?_) (fun c2 hF => ?_)
  ·
    exact SX35_run_b112 (N := N) (sE := sE) (SE := SE) (sL := sL) (SL := SL) (sN := sN) (SN := SN) hm hb @hsE @hsL @hsN R hF
  ·
    refine s_gI R (t_192 hm R.S) (Nat.le_of_ble_eq_true rfl) rfl ?_
    refine s_if (i_lt (c_lit 0 0 rfl) rfl ⟨by decide, by decide⟩ (R.ri (t_192 hm R.S) (Nat.le_of_ble_eq_true rfl) rfl)) hF (fun c4 hF => ?_) (fun c4 hF => ?_)
    ·
      exact SX35_run_b106 (N := N) (sE := sE) (SE := SE) (sL := sL) (SL := SL) (sN := sN) (SN := SN) hm hb @hsE @hsL @hsN R hF
    ·
      refine s_gI R (t_192 hm R.S) (Nat.le_of_ble_eq_true rfl) rfl ?_
      refine s_if (i_le rfl (c_lit 0 0 rfl) (R.ri (t_192 hm R.S) (Nat.le_of_ble_eq_true rfl) rfl) ⟨by decide, by decide⟩) hF (fun c6 hF => ?_) (fun c6 hF => ?_)
      ·
        exact SX35_run_b112 (N := N) (sE := sE) (SE := SE) (sL := sL) (SL := SL) (sN := sN) (SN := SN) hm hb @hsE @hsL @hsN R hF
      ·
        exact SX35_run_b106 (N := N) (sE := sE) (SE := SE) (sL := sL) (SL := SL) (sN := sN) (SN := SN) hm hb @hsE @hsL @hsN R hF
def FX35_run_b62 (N : Nat) (SE : Int → fS → Option (Unit × fS)) (SL : Int → Int → Int → fS → Option (Int × fS)) (SN : fS → Option (Int × fS)) (s : fS) : Option (Int × fS) :=
  (FX35_endWord N s).bind fun q2 =>
  if ¬ ((q2.2.i 192 46) = 0) then
    FX35_run_b85 N SE SL SN q2.2
  else
    (FX35_mode q2.2).bind fun q7 =>
    if ¬ (q7.1 = 2) then
      FX35_run_b85 N SE SL SN q7.2
    else
      (FX35_endParagraph N SL q7.2).bind fun q10 =>
      FX35_run_b85 N SE SL SN q10.2
theorem SX35_run_b62 {m b : Nat} {φ0 : Nat → Nat} {σo : fS} (hm : 1 ≤ m) (hb : 1 ≤ b) {N : Nat} {sE : Nat → Int32 → eH → Option (Unit × eH)} {SE : Int → fS → Option (Unit × fS)} {sL : Nat → Int32 → Int64 → Int64 → eH → Option (Int32 × eH)} {SL : Int → Int → Int → fS → Option (Int × fS)} {sN : Nat → eH → Option (Int32 × eH)} {SN : fS → Option (Int × fS)} {q : Int × fS} (hsE : ∀ {φ : Nat → Nat} {h : eH} {s : fS} {x1' : Int32} {x1 : Int} {q}, fC m 1 φ s φ h s → x1' = iI x1 → r32 x1 → SE x1 s = some q → gG m 1 φ s lU q (sE 192 x1' h)) (hsL : ∀ {φ : Nat → Nat} {h : eH} {s : fS} {x1' : Int32} {x1 : Int} {x2' : Int64} {x2 : Int} {x3' : Int64} {x3 : Int} {q}, fC m 1 φ s φ h s → x1' = iI x1 → r32 x1 → x2' = iJ x2 → r64 x2 → x3' = iJ x3 → r64 x3 → SL x1 x2 x3 s = some q → gG m 1 φ s lI q (sL 192 x1' x2' x3' h)) (hsN : ∀ {φ : Nat → Nat} {h : eH} {s : fS} {q}, fC m 1 φ s φ h s → SN s = some q → gG m 1 φ s lI q (sN 192 h)) {φ : Nat → Nat} {h : eH} {s : fS} (R : fC m b φ0 σo φ h s) (hF : FX35_run_b62 N SE SL SN s = some q) : gG m b φ0 σo lI q (fX35_run_b62 N sE sL sN 192 h) := by
  unfold FX35_run_b62 at hF
  unfold fX35_run_b62
  refine s_kok R (t_192 hm R.S) (Nat.le_of_ble_eq_true rfl) ?_
  refine s_call R hb (fun _ hq => SX35_endWord (b := 1) (N := N) hm (Nat.le_of_ble_eq_true rfl) (R.rf) hq) hF (fun f2 rv2 h2 q2 R2 e2 E2 hF => ?_)
  refine s_gI R2 (t_192 hm R2.S) (Nat.le_of_ble_eq_true rfl) rfl ?_
  refine s_if (not_congr (i_eq rfl (c_lit 0 0 rfl) (R2.ri (t_192 hm R2.S) (Nat.le_of_ble_eq_true rfl) rfl) ⟨by decide, by decide⟩)) hF (fun c4 hF => ?_) (fun c4 hF => ?_)
  ·
    exact SX35_run_b85 (N := N) (sE := sE) (SE := SE) (sL := sL) (SL := SL) (sN := sN) (SN := SN) hm hb @hsE @hsL @hsN R2 hF
  ·
    refine s_kok R2 (t_192 hm R2.S) (Nat.le_of_ble_eq_true rfl) ?_
    refine s_call R2 (Nat.zero_le _) (fun _ hq => SX35_mode (b := 0) hm (R2.rf) hq) hF (fun f6 rv6 h6 q7 R6 e6 E6 hF => ?_)
    refine s_if (not_congr (i_eq e6.1 (c_lit 2 2 rfl) e6.2 ⟨by decide, by decide⟩)) hF (fun c7 hF => ?_) (fun c7 hF => ?_)
    ·
      exact SX35_run_b85 (N := N) (sE := sE) (SE := SE) (sL := sL) (SL := SL) (sN := sN) (SN := SN) hm hb @hsE @hsL @hsN R6 hF
    ·
      refine s_kok R6 (t_192 hm R6.S) (Nat.le_of_ble_eq_true rfl) ?_
      refine s_call R6 hb (fun _ hq => SX35_endParagraph (b := 1) (N := N) (sL := sL) (SL := SL) hm (Nat.le_of_ble_eq_true rfl) @hsL (R6.rf) hq) hF (fun f9 rv9 h9 q10 R9 e9 E9 hF => ?_)
      exact SX35_run_b85 (N := N) (sE := sE) (SE := SE) (sL := sL) (SL := SL) (sN := sN) (SN := SN) hm hb @hsE @hsL @hsN R9 hF
def FX35_run_b11 (N : Nat) (SE : Int → fS → Option (Unit × fS)) (SL : Int → Int → Int → fS → Option (Int × fS)) (SN : fS → Option (Int × fS)) : Nat → fS → Option (Int × fS)
  | 0, _ => none
  | n + 1, s =>
    if ¬ ((s.i 192 46) = 0) then
      FX35_run_b62 N SE SL SN s
    else
      if ¬ ((s.i 192 47) = 0) then
        FX35_run_b62 N SE SL SN s
      else
        (FX35_getExpanded N SE s).bind fun q8 =>
        if ¬ (q8.1 = (-1)) then
          (FX35_tick q8.2).bind fun q11 =>
          if ¬ ((q11.2.i 192 46) = 0) then
            FX35_run_b59 N SE SL SN (FX35_run_b11 N SE SL SN n) q11.2
          else
            (FX35_done N SE SL SN q8.1 q11.2).bind fun q16 =>
            FX35_run_b59 N SE SL SN (FX35_run_b11 N SE SL SN n) q16.2
        else
          (uPZ q8.2 192 47 1).bind fun σ17 =>
          FX35_run_b59 N SE SL SN (FX35_run_b11 N SE SL SN n) σ17
theorem SX35_run_b11 {m b : Nat} {φ0 : Nat → Nat} {σo : fS} (hm : 1 ≤ m) (hb : 1 ≤ b) {N : Nat} {sE : Nat → Int32 → eH → Option (Unit × eH)} {SE : Int → fS → Option (Unit × fS)} {sL : Nat → Int32 → Int64 → Int64 → eH → Option (Int32 × eH)} {SL : Int → Int → Int → fS → Option (Int × fS)} {sN : Nat → eH → Option (Int32 × eH)} {SN : fS → Option (Int × fS)} {q : Int × fS} (hsE : ∀ {φ : Nat → Nat} {h : eH} {s : fS} {x1' : Int32} {x1 : Int} {q}, fC m 1 φ s φ h s → x1' = iI x1 → r32 x1 → SE x1 s = some q → gG m 1 φ s lU q (sE 192 x1' h)) (hsL : ∀ {φ : Nat → Nat} {h : eH} {s : fS} {x1' : Int32} {x1 : Int} {x2' : Int64} {x2 : Int} {x3' : Int64} {x3 : Int} {q}, fC m 1 φ s φ h s → x1' = iI x1 → r32 x1 → x2' = iJ x2 → r64 x2 → x3' = iJ x3 → r64 x3 → SL x1 x2 x3 s = some q → gG m 1 φ s lI q (sL 192 x1' x2' x3' h)) (hsN : ∀ {φ : Nat → Nat} {h : eH} {s : fS} {q}, fC m 1 φ s φ h s → SN s = some q → gG m 1 φ s lI q (sN 192 h)) : ∀ {n : Nat} {φ : Nat → Nat} {h : eH} {s : fS} , fC m b φ0 σo φ h s → FX35_run_b11 N SE SL SN n s = some q → gG m b φ0 σo lI q (fX35_run_b11 N sE sL sN n 192 h) := by
  intro n
  induction n with
 | zero => intro φ h s R hF; simp [FX35_run_b11] at hF
  | succ n ih =>
    intro φ h s  R  hF
    rw [FX35_run_b11] at hF
    rw [fX35_run_b11]
    refine s_gI R (t_192 hm R.S) (Nat.le_of_ble_eq_true rfl) rfl ?_
    refine s_if (not_congr (i_eq rfl (c_lit 0 0 rfl) (R.ri (t_192 hm R.S) (Nat.le_of_ble_eq_true rfl) rfl) ⟨by decide, by decide⟩)) hF (fun c2 hF => ?_) (fun c2 hF => ?_)
    ·
      exact SX35_run_b62 (N := N) (sE := sE) (SE := SE) (sL := sL) (SL := SL) (sN := sN) (SN := SN) hm hb @hsE @hsL @hsN R hF
    ·
      refine s_gI R (t_192 hm R.S) (Nat.le_of_ble_eq_true rfl) rfl ?_
      refine s_if (not_congr (i_eq rfl (c_lit 0 0 rfl) (R.ri (t_192 hm R.S) (Nat.le_of_ble_eq_true rfl) rfl) ⟨by decide, by decide⟩)) hF (fun c4 hF => ?_) (fun c4 hF => ?_)
      ·
        exact SX35_run_b62 (N := N) (sE := sE) (SE := SE) (sL := sL) (SL := SL) (sN := sN) (SN := SN) hm hb @hsE @hsL @hsN R hF
      ·
        refine s_kok R (t_192 hm R.S) (Nat.le_of_ble_eq_true rfl) ?_
        refine s_call R hb (fun _ hq => SX35_getExpanded (b := 1) (N := N) (sE := sE) (SE := SE) hm (Nat.le_of_ble_eq_true rfl) @hsE (R.rf) hq) hF (fun f6 rv6 h6 q8 R6 e6 E6 hF => ?_)
        refine s_if (not_congr (i_eq e6.1 (c_lit (-1) (-1) rfl) e6.2 ⟨by decide, by decide⟩)) hF (fun c7 hF => ?_) (fun c7 hF => ?_)
        ·
          refine s_kok R6 (t_192 hm R6.S) (Nat.le_of_ble_eq_true rfl) ?_
          refine s_call R6 (Nat.zero_le _) (fun _ hq => SX35_tick (b := 0) hm (R6.rf) hq) hF (fun f9 rv9 h9 q11 R9 e9 E9 hF => ?_)
          refine s_gI R9 (t_192 hm R9.S) (Nat.le_of_ble_eq_true rfl) rfl ?_
          refine s_if (not_congr (i_eq rfl (c_lit 0 0 rfl) (R9.ri (t_192 hm R9.S) (Nat.le_of_ble_eq_true rfl) rfl) ⟨by decide, by decide⟩)) hF (fun c11 hF => ?_) (fun c11 hF => ?_)
          ·
            exact SX35_run_b59 (N := N) (sE := sE) (SE := SE) (sL := sL) (SL := SL) (sN := sN) (SN := SN) (k11 := fX35_run_b11 N sE sL sN n) (K11 := FX35_run_b11 N SE SL SN n) hm hb @hsE @hsL @hsN @ih R9 hF
          ·
            refine s_kok R9 (t_192 hm R9.S) (Nat.le_of_ble_eq_true rfl) ?_
            refine s_call R9 hb (fun _ hq => SX35_done (b := 1) (N := N) (sE := sE) (SE := SE) (sL := sL) (SL := SL) (sN := sN) (SN := SN) hm (Nat.le_of_ble_eq_true rfl) @hsE @hsL @hsN (R9.rf) e6.1 e6.2 hq) hF (fun f13 rv13 h13 q16 R13 e13 E13 hF => ?_)
            exact SX35_run_b59 (N := N) (sE := sE) (SE := SE) (sL := sL) (SL := SL) (sN := sN) (SN := SN) (k11 := fX35_run_b11 N sE sL sN n) (K11 := FX35_run_b11 N SE SL SN n) hm hb @hsE @hsL @hsN @ih R13 hF
        ·
          refine s_pZ R6 (t_192 hm R6.S) (Nat.le_of_ble_eq_true rfl) rfl (c_lit 1 1 rfl) ⟨by decide, by decide⟩ hF (fun h14 σ17 R14 T14 hF => ?_)
          exact SX35_run_b59 (N := N) (sE := sE) (SE := SE) (sL := sL) (SL := SL) (sN := sN) (SN := SN) (k11 := fX35_run_b11 N sE sL sN n) (K11 := FX35_run_b11 N SE SL SN n) hm hb @hsE @hsL @hsN @ih R14 hF
def FX35_run (N : Nat) (SE : Int → fS → Option (Unit × fS)) (SL : Int → Int → Int → fS → Option (Int × fS)) (SN : fS → Option (Int × fS)) (s : fS) : Option (Int × fS) :=
  (FX35_clear N s).bind fun q2 =>
  (FX38_begin N q2.2).bind fun q6 =>
  FX35_run_b11 N SE SL SN N q6.2
theorem SX35_run {m b : Nat} {φ0 : Nat → Nat} {σo : fS} (hm : 1 ≤ m) (hb : 1 ≤ b) {N : Nat} {sE : Nat → Int32 → eH → Option (Unit × eH)} {SE : Int → fS → Option (Unit × fS)} {sL : Nat → Int32 → Int64 → Int64 → eH → Option (Int32 × eH)} {SL : Int → Int → Int → fS → Option (Int × fS)} {sN : Nat → eH → Option (Int32 × eH)} {SN : fS → Option (Int × fS)} {q : Int × fS} (hsE : ∀ {φ : Nat → Nat} {h : eH} {s : fS} {x1' : Int32} {x1 : Int} {q}, fC m 1 φ s φ h s → x1' = iI x1 → r32 x1 → SE x1 s = some q → gG m 1 φ s lU q (sE 192 x1' h)) (hsL : ∀ {φ : Nat → Nat} {h : eH} {s : fS} {x1' : Int32} {x1 : Int} {x2' : Int64} {x2 : Int} {x3' : Int64} {x3 : Int} {q}, fC m 1 φ s φ h s → x1' = iI x1 → r32 x1 → x2' = iJ x2 → r64 x2 → x3' = iJ x3 → r64 x3 → SL x1 x2 x3 s = some q → gG m 1 φ s lI q (sL 192 x1' x2' x3' h)) (hsN : ∀ {φ : Nat → Nat} {h : eH} {s : fS} {q}, fC m 1 φ s φ h s → SN s = some q → gG m 1 φ s lI q (sN 192 h)) {φ : Nat → Nat} {h : eH} {s : fS} (R : fC m b φ0 σo φ h s) (hF : FX35_run N SE SL SN s = some q) : gG m b φ0 σo lI q (fX35_run N sE sL sN 192 h) := by
  unfold FX35_run at hF
  unfold fX35_run
  refine s_kok R (t_192 hm R.S) (Nat.le_of_ble_eq_true rfl) ?_
  refine s_call R (Nat.zero_le _) (fun _ hq => SX35_clear (b := 0) (N := N) hm (R.rf) hq) hF (fun f2 rv2 h2 q2 R2 e2 E2 hF => ?_)
  refine s_gO R2 (t_192 hm R2.S) (Nat.le_of_ble_eq_true rfl) rfl (o_192_7 hm R2.S) ?_
  refine s_kok R2 (t_243 hm R2.S) (Nat.le_of_ble_eq_true rfl) ?_
  refine s_call R2 (Nat.zero_le _) (fun _ hq => SX38_begin (b := 0) (N := N) hm (R2.rf) hq) hF (fun f5 rv5 h5 q6 R5 e5 E5 hF => ?_)
  exact SX35_run_b11 (N := N) (sE := sE) (SE := SE) (sL := sL) (SL := SL) (sN := sN) (SN := SN) hm hb @hsE @hsL @hsN R5 hF
def FX35_end_b109 (N : Nat) (SE : Int → fS → Option (Unit × fS)) (SL : Int → Int → Int → fS → Option (Int × fS)) (SN : fS → Option (Int × fS)) (l3 : Int) (s : fS) : Option (Int × fS) :=
  some (l3, s)
theorem SX35_end_b109 {m b : Nat} {φ0 : Nat → Nat} {σo : fS} (hm : 1 ≤ m) {N : Nat} {sE : Nat → Int32 → eH → Option (Unit × eH)} {SE : Int → fS → Option (Unit × fS)} {sL : Nat → Int32 → Int64 → Int64 → eH → Option (Int32 × eH)} {SL : Int → Int → Int → fS → Option (Int × fS)} {sN : Nat → eH → Option (Int32 × eH)} {SN : fS → Option (Int × fS)} {q : Int × fS} (hsE : ∀ {φ : Nat → Nat} {h : eH} {s : fS} {x1' : Int32} {x1 : Int} {q}, fC m 1 φ s φ h s → x1' = iI x1 → r32 x1 → SE x1 s = some q → gG m 1 φ s lU q (sE 192 x1' h)) (hsL : ∀ {φ : Nat → Nat} {h : eH} {s : fS} {x1' : Int32} {x1 : Int} {x2' : Int64} {x2 : Int} {x3' : Int64} {x3 : Int} {q}, fC m 1 φ s φ h s → x1' = iI x1 → r32 x1 → x2' = iJ x2 → r64 x2 → x3' = iJ x3 → r64 x3 → SL x1 x2 x3 s = some q → gG m 1 φ s lI q (sL 192 x1' x2' x3' h)) (hsN : ∀ {φ : Nat → Nat} {h : eH} {s : fS} {q}, fC m 1 φ s φ h s → SN s = some q → gG m 1 φ s lI q (sN 192 h)) {φ : Nat → Nat} {h : eH} {s : fS} {l3' : Int32} {l3 : Int} (R : fC m b φ0 σo φ h s) (el3 : l3' = iI l3) (rl3 : r32 l3) (hF : FX35_end_b109 N SE SL SN l3 s = some q) : gG m b φ0 σo lI q (fX35_end_b109 N sE sL sN l3' h) := by
  subst el3
  unfold FX35_end_b109 at hF
  unfold fX35_end_b109
  exact g_ret R hF ⟨rfl, rl3⟩
def FX35_end_b94 (N : Nat) (SE : Int → fS → Option (Unit × fS)) (SL : Int → Int → Int → fS → Option (Int × fS)) (SN : fS → Option (Int × fS)) (l1 : Int) (l2 : Int) (l3 : Int) (s1 : Int) (s2 : Nat) (s : fS) : Option (Int × fS) :=
  (uK 42 s s2).bind fun _ =>
  (uQO s 194 s1 s2).bind fun σ1 =>
  (uRO σ1 194 l1).bind fun a5 =>
  (uK 42 σ1 a5).bind fun _ =>
  (FX40_take N a5 l2 σ1).bind fun q10 =>
  FX35_end_b109 N SE SL SN l3 q10.2
theorem SX35_end_b94 {m b : Nat} {φ0 : Nat → Nat} {σo : fS} (hm : 1 ≤ m) {N : Nat} {sE : Nat → Int32 → eH → Option (Unit × eH)} {SE : Int → fS → Option (Unit × fS)} {sL : Nat → Int32 → Int64 → Int64 → eH → Option (Int32 × eH)} {SL : Int → Int → Int → fS → Option (Int × fS)} {sN : Nat → eH → Option (Int32 × eH)} {SN : fS → Option (Int × fS)} {q : Int × fS} (hsE : ∀ {φ : Nat → Nat} {h : eH} {s : fS} {x1' : Int32} {x1 : Int} {q}, fC m 1 φ s φ h s → x1' = iI x1 → r32 x1 → SE x1 s = some q → gG m 1 φ s lU q (sE 192 x1' h)) (hsL : ∀ {φ : Nat → Nat} {h : eH} {s : fS} {x1' : Int32} {x1 : Int} {x2' : Int64} {x2 : Int} {x3' : Int64} {x3 : Int} {q}, fC m 1 φ s φ h s → x1' = iI x1 → r32 x1 → x2' = iJ x2 → r64 x2 → x3' = iJ x3 → r64 x3 → SL x1 x2 x3 s = some q → gG m 1 φ s lI q (sL 192 x1' x2' x3' h)) (hsN : ∀ {φ : Nat → Nat} {h : eH} {s : fS} {q}, fC m 1 φ s φ h s → SN s = some q → gG m 1 φ s lI q (sN 192 h)) {φ : Nat → Nat} {h : eH} {s : fS} {l1' : Int32} {l1 : Int} {l2' : Int32} {l2 : Int} {l3' : Int32} {l3 : Int} {s1' : Int32} {s1 : Int} {s2 : Nat} (R : fC m b φ0 σo φ h s) (el1 : l1' = iI l1) (rl1 : r32 l1) (el2 : l2' = iI l2) (rl2 : r32 l2) (el3 : l3' = iI l3) (rl3 : r32 l3) (es1 : s1' = iI s1) (rs1 : r32 s1) (hF : FX35_end_b94 N SE SL SN l1 l2 l3 s1 s2 s = some q) : gG m b φ0 σo lI q (fX35_end_b94 N sE sL sN 192 l1' l2' l3' 194 s1' s2 h) := by
  subst el1; subst el2; subst el3; subst es1
  unfold FX35_end_b94 at hF
  unfold fX35_end_b94
  refine s_K hF (fun t2 hF => ?_)
  refine s_qO R (by rw [(t_194 hm R.S)]; decide) (t_194 hm R.S) rfl (fun _ => rfl) (Nat.le_of_ble_eq_true rfl) (a_194 hm R) rfl rs1 t2 (Nat.le_of_ble_eq_true rfl) hF (fun h1 σ1 R1 T1 hF => ?_)
  refine s_gAs R1 (t_192 hm R1.S) (Nat.le_of_ble_eq_true rfl) rfl (o_192_4 hm R1.S) (a_194 hm R1) ?_
  refine s_rO R1 (u_194 hm R1.S).1 (u_194 hm R1.S).2 rfl (fun _ => rfl) (Nat.le_of_ble_eq_true rfl) (a_194 hm R1) rfl rl1 hF (fun a5 y4 hF => ?_)
  refine s_gAs R1 (t_192 hm R1.S) (Nat.le_of_ble_eq_true rfl) rfl (o_192_2 hm R1.S) (a_193 hm R1) ?_
  refine s_K hF (fun t7 hF => ?_)
  refine s_kok R1 t7 (Nat.le_of_ble_eq_true rfl) ?_
  refine s_call R1 (Nat.zero_le _) (fun _ hq => SX40_take (b := 0) (N := N) hm (R1.rf) rfl rl2 hq) hF (fun f8 rv8 h8 q10 R8 e8 E8 hF => ?_)
  exact SX35_end_b109 (N := N) (sE := sE) (SE := SE) (sL := sL) (SL := SL) (sN := sN) (SN := SN) hm @hsE @hsL @hsN R8 rfl rl3 hF
def FX35_end_b180 (N : Nat) (SE : Int → fS → Option (Unit × fS)) (SL : Int → Int → Int → fS → Option (Int × fS)) (SN : fS → Option (Int × fS)) (s0 : Int) (s : fS) : Option (Int × fS) :=
  some (s0, s)
theorem SX35_end_b180 {m b : Nat} {φ0 : Nat → Nat} {σo : fS} (hm : 1 ≤ m) {N : Nat} {sE : Nat → Int32 → eH → Option (Unit × eH)} {SE : Int → fS → Option (Unit × fS)} {sL : Nat → Int32 → Int64 → Int64 → eH → Option (Int32 × eH)} {SL : Int → Int → Int → fS → Option (Int × fS)} {sN : Nat → eH → Option (Int32 × eH)} {SN : fS → Option (Int × fS)} {q : Int × fS} (hsE : ∀ {φ : Nat → Nat} {h : eH} {s : fS} {x1' : Int32} {x1 : Int} {q}, fC m 1 φ s φ h s → x1' = iI x1 → r32 x1 → SE x1 s = some q → gG m 1 φ s lU q (sE 192 x1' h)) (hsL : ∀ {φ : Nat → Nat} {h : eH} {s : fS} {x1' : Int32} {x1 : Int} {x2' : Int64} {x2 : Int} {x3' : Int64} {x3 : Int} {q}, fC m 1 φ s φ h s → x1' = iI x1 → r32 x1 → x2' = iJ x2 → r64 x2 → x3' = iJ x3 → r64 x3 → SL x1 x2 x3 s = some q → gG m 1 φ s lI q (sL 192 x1' x2' x3' h)) (hsN : ∀ {φ : Nat → Nat} {h : eH} {s : fS} {q}, fC m 1 φ s φ h s → SN s = some q → gG m 1 φ s lI q (sN 192 h)) {φ : Nat → Nat} {h : eH} {s : fS} {s0' : Int32} {s0 : Int} (R : fC m b φ0 σo φ h s) (es0 : s0' = iI s0) (rs0 : r32 s0) (hF : FX35_end_b180 N SE SL SN s0 s = some q) : gG m b φ0 σo lI q (fX35_end_b180 N sE sL sN s0' h) := by
  subst es0
  unfold FX35_end_b180 at hF
  unfold fX35_end_b180
  exact g_ret R hF ⟨rfl, rs0⟩
def FX35_end_b119 (N : Nat) (SE : Int → fS → Option (Unit × fS)) (SL : Int → Int → Int → fS → Option (Int × fS)) (SN : fS → Option (Int × fS)) : Nat → Int → Int → Int → fS → Option (Int × fS)
  | 0, _, _, _, _ => none
  | n + 1, l1, l2, l3, s =>
    if l2 ≤ l3 then
      (uPI s 195 3 l2).bind fun σ4 =>
      if ¬ (l1 = 16) then
        (FX36_words N σ4).bind fun q10 =>
        FX35_end_b180 N SE SL SN q10.1 q10.2
      else
        (FX36_patterns N σ4).bind fun q14 =>
        FX35_end_b180 N SE SL SN q14.1 q14.2
    else
      (uRI s 193 l3).bind fun x21 =>
      (uQI s 197 l3 (iand x21 255)).bind fun σ23 =>
      FX35_end_b119 N SE SL SN n l1 l2 (iadd l3 1) σ23
theorem SX35_end_b119 {m b : Nat} {φ0 : Nat → Nat} {σo : fS} (hm : 1 ≤ m) {N : Nat} {sE : Nat → Int32 → eH → Option (Unit × eH)} {SE : Int → fS → Option (Unit × fS)} {sL : Nat → Int32 → Int64 → Int64 → eH → Option (Int32 × eH)} {SL : Int → Int → Int → fS → Option (Int × fS)} {sN : Nat → eH → Option (Int32 × eH)} {SN : fS → Option (Int × fS)} {q : Int × fS} (hsE : ∀ {φ : Nat → Nat} {h : eH} {s : fS} {x1' : Int32} {x1 : Int} {q}, fC m 1 φ s φ h s → x1' = iI x1 → r32 x1 → SE x1 s = some q → gG m 1 φ s lU q (sE 192 x1' h)) (hsL : ∀ {φ : Nat → Nat} {h : eH} {s : fS} {x1' : Int32} {x1 : Int} {x2' : Int64} {x2 : Int} {x3' : Int64} {x3 : Int} {q}, fC m 1 φ s φ h s → x1' = iI x1 → r32 x1 → x2' = iJ x2 → r64 x2 → x3' = iJ x3 → r64 x3 → SL x1 x2 x3 s = some q → gG m 1 φ s lI q (sL 192 x1' x2' x3' h)) (hsN : ∀ {φ : Nat → Nat} {h : eH} {s : fS} {q}, fC m 1 φ s φ h s → SN s = some q → gG m 1 φ s lI q (sN 192 h)) : ∀ {n : Nat} {φ : Nat → Nat} {h : eH} {s : fS} {l1' : Int32} {l1 : Int} {l2' : Int32} {l2 : Int} {l3' : Int32} {l3 : Int}, fC m b φ0 σo φ h s → l1' = iI l1 → r32 l1 → l2' = iI l2 → r32 l2 → l3' = iI l3 → r32 l3 → FX35_end_b119 N SE SL SN n l1 l2 l3 s = some q → gG m b φ0 σo lI q (fX35_end_b119 N sE sL sN n 192 l1' l2' l3' h) := by
  intro n
  induction n with
 | zero => intro φ h s l1' l1 l2' l2 l3' l3 R el1 rl1 el2 rl2 el3 rl3 hF; simp [FX35_end_b119] at hF
  | succ n ih =>
    intro φ h s l1' l1 l2' l2 l3' l3 R el1 rl1 el2 rl2 el3 rl3 hF
    subst el1; subst el2; subst el3
    rw [FX35_end_b119] at hF
    rw [fX35_end_b119]
    refine s_if (i_le rfl rfl rl2 rl3) hF (fun c1 hF => ?_) (fun c1 hF => ?_)
    ·
      refine s_gO R (t_192 hm R.S) (Nat.le_of_ble_eq_true rfl) rfl (o_192_5 hm R.S) ?_
      refine s_pI R (t_195 hm R.S) (Nat.le_of_ble_eq_true rfl) rfl rfl rl2 hF (fun h3 σ4 R3 T3 hF => ?_)
      refine s_if (not_congr (i_eq rfl (c_lit 16 16 rfl) rl1 ⟨by decide, by decide⟩)) hF (fun c4 hF => ?_) (fun c4 hF => ?_)
      ·
        refine s_gO R3 (t_192 hm R3.S) (Nat.le_of_ble_eq_true rfl) rfl (o_192_5 hm R3.S) ?_
        refine s_kok R3 (t_195 hm R3.S) (Nat.le_of_ble_eq_true rfl) ?_
        refine s_call R3 (Nat.zero_le _) (fun _ hq => SX36_words (b := 0) (N := N) hm (R3.rf) hq) hF (fun f7 rv7 h7 q10 R7 e7 E7 hF => ?_)
        exact SX35_end_b180 (N := N) (sE := sE) (SE := SE) (sL := sL) (SL := SL) (sN := sN) (SN := SN) hm @hsE @hsL @hsN R7 e7.1 e7.2 hF
      ·
        refine s_gO R3 (t_192 hm R3.S) (Nat.le_of_ble_eq_true rfl) rfl (o_192_5 hm R3.S) ?_
        refine s_kok R3 (t_195 hm R3.S) (Nat.le_of_ble_eq_true rfl) ?_
        refine s_call R3 (Nat.zero_le _) (fun _ hq => SX36_patterns (b := 0) (N := N) hm (R3.rf) hq) hF (fun f10 rv10 h10 q14 R10 e10 E10 hF => ?_)
        exact SX35_end_b180 (N := N) (sE := sE) (SE := SE) (sL := sL) (SL := SL) (sN := sN) (SN := SN) hm @hsE @hsL @hsN R10 e10.1 e10.2 hF
    ·
      refine s_gO R (t_192 hm R.S) (Nat.le_of_ble_eq_true rfl) rfl (o_192_5 hm R.S) ?_
      refine s_gAs R (t_195 hm R.S) (Nat.le_of_ble_eq_true rfl) rfl (o_195_4 hm R.S) (a_197 hm R) ?_
      refine s_gAs R (t_192 hm R.S) (Nat.le_of_ble_eq_true rfl) rfl (o_192_2 hm R.S) (a_193 hm R) ?_
      refine s_rI R (u_193 hm R.S).1 (u_193 hm R.S).2 (by decide) (a_193 hm R) rfl rl3 hF (fun x21 ra14 hF => ?_)
      refine s_qI R (u_197 hm R.S).1 (u_197 hm R.S).2 (by decide) (a_197 hm R) rfl rl3 (c_and rfl (c_lit 255 255 rfl)) (rr_I _) hF (fun h15 σ23 R15 T15 hF => ?_)
      exact ih R15 rfl rl1 rfl rl2 (c_add rfl (c_lit 1 1 rfl)) (rr_I _) hF
def FX35_end_b28 (N : Nat) (SE : Int → fS → Option (Unit × fS)) (SL : Int → Int → Int → fS → Option (Int × fS)) (SN : fS → Option (Int × fS)) (l1 : Int) (l2 : Int) (s1 : Int) (s : fS) : Option (Int × fS) :=
  (uPI s 192 0 s1).bind fun σ1 =>
  if (σ1.i 192 0) ≤ 0 then
    (uPI σ1 192 1 0).bind fun σ6 =>
    if 16 ≤ l1 then
      if 18 ≤ l1 then
        (uPI σ6 192 8 l2).bind fun σ10 =>
        (FX35_run N SE SL SN σ10).bind fun q13 =>
        some (q13.1, q13.2)
      else
        FX35_end_b119 N SE SL SN N l1 l2 0 σ6
    else
      (FX40_fault N l2 σ6).bind fun q16 =>
      if ¬ (q16.1 = 0) then
        FX35_end_b109 N SE SL SN q16.1 q16.2
      else
        (uRQ q16.2 194 l1).bind fun a22 =>
        match a22 with
        | none =>
          (uNO 42 1 4 q16.2).bind fun q25 =>
          (FX40_init q25.1 q25.2).bind fun q27 =>
          FX35_end_b94 N SE SL SN l1 l2 q16.1 l1 q25.1 q27.2
        | some a24 =>
          (uRO q16.2 194 l1).bind fun a30 =>
          FX35_end_b94 N SE SL SN l1 l2 q16.1 l1 a30 q16.2
  else
    some (0, σ1)
theorem SX35_end_b28 {m b : Nat} {φ0 : Nat → Nat} {σo : fS} (hm : 1 ≤ m) (hb : 1 ≤ b) {N : Nat} {sE : Nat → Int32 → eH → Option (Unit × eH)} {SE : Int → fS → Option (Unit × fS)} {sL : Nat → Int32 → Int64 → Int64 → eH → Option (Int32 × eH)} {SL : Int → Int → Int → fS → Option (Int × fS)} {sN : Nat → eH → Option (Int32 × eH)} {SN : fS → Option (Int × fS)} {q : Int × fS} (hsE : ∀ {φ : Nat → Nat} {h : eH} {s : fS} {x1' : Int32} {x1 : Int} {q}, fC m 1 φ s φ h s → x1' = iI x1 → r32 x1 → SE x1 s = some q → gG m 1 φ s lU q (sE 192 x1' h)) (hsL : ∀ {φ : Nat → Nat} {h : eH} {s : fS} {x1' : Int32} {x1 : Int} {x2' : Int64} {x2 : Int} {x3' : Int64} {x3 : Int} {q}, fC m 1 φ s φ h s → x1' = iI x1 → r32 x1 → x2' = iJ x2 → r64 x2 → x3' = iJ x3 → r64 x3 → SL x1 x2 x3 s = some q → gG m 1 φ s lI q (sL 192 x1' x2' x3' h)) (hsN : ∀ {φ : Nat → Nat} {h : eH} {s : fS} {q}, fC m 1 φ s φ h s → SN s = some q → gG m 1 φ s lI q (sN 192 h)) {φ : Nat → Nat} {h : eH} {s : fS} {l1' : Int32} {l1 : Int} {l2' : Int32} {l2 : Int} {s1' : Int32} {s1 : Int} (R : fC m b φ0 σo φ h s) (el1 : l1' = iI l1) (rl1 : r32 l1) (el2 : l2' = iI l2) (rl2 : r32 l2) (es1 : s1' = iI s1) (rs1 : r32 s1) (hF : FX35_end_b28 N SE SL SN l1 l2 s1 s = some q) : gG m b φ0 σo lI q (fX35_end_b28 N sE sL sN 192 l1' l2' 192 s1' h) := by
  subst el1; subst el2; subst es1
  unfold FX35_end_b28 at hF
  unfold fX35_end_b28
  refine s_pI R (t_192 hm R.S) (Nat.le_of_ble_eq_true rfl) rfl rfl rs1 hF (fun h1 σ1 R1 T1 hF => ?_)
  refine s_gI R1 (t_192 hm R1.S) (Nat.le_of_ble_eq_true rfl) rfl ?_
  refine s_if (i_le rfl (c_lit 0 0 rfl) (R1.ri (t_192 hm R1.S) (Nat.le_of_ble_eq_true rfl) rfl) ⟨by decide, by decide⟩) hF (fun c3 hF => ?_) (fun c3 hF => ?_)
  ·
    refine s_pI R1 (t_192 hm R1.S) (Nat.le_of_ble_eq_true rfl) rfl (c_lit 0 0 rfl) ⟨by decide, by decide⟩ hF (fun h4 σ6 R4 T4 hF => ?_)
    refine s_if (i_le (c_lit 16 16 rfl) rfl ⟨by decide, by decide⟩ rl1) hF (fun c5 hF => ?_) (fun c5 hF => ?_)
    ·
      refine s_if (i_le (c_lit 18 18 rfl) rfl ⟨by decide, by decide⟩ rl1) hF (fun c6 hF => ?_) (fun c6 hF => ?_)
      ·
        refine s_pI R4 (t_192 hm R4.S) (Nat.le_of_ble_eq_true rfl) rfl rfl rl2 hF (fun h7 σ10 R7 T7 hF => ?_)
        refine s_kok R7 (t_192 hm R7.S) (Nat.le_of_ble_eq_true rfl) ?_
        refine s_call R7 hb (fun _ hq => SX35_run (b := 1) (N := N) (sE := sE) (SE := SE) (sL := sL) (SL := SL) (sN := sN) (SN := SN) hm (Nat.le_of_ble_eq_true rfl) @hsE @hsL @hsN (R7.rf) hq) hF (fun f9 rv9 h9 q13 R9 e9 E9 hF => ?_)
        exact g_ret R9 hF ⟨e9.1, e9.2⟩
      ·
        exact SX35_end_b119 (N := N) (sE := sE) (SE := SE) (sL := sL) (SL := SL) (sN := sN) (SN := SN) hm @hsE @hsL @hsN R4 rfl rl1 rfl rl2 (c_lit 0 0 rfl) ⟨by decide, by decide⟩ hF
    ·
      refine s_gAs R4 (t_192 hm R4.S) (Nat.le_of_ble_eq_true rfl) rfl (o_192_2 hm R4.S) (a_193 hm R4) ?_
      refine s_call R4 (Nat.zero_le _) (fun _ hq => SX40_fault (b := 0) (N := N) hm (R4.rf) rfl rl2 hq) hF (fun f11 rv11 h11 q16 R11 e11 E11 hF => ?_)
      refine s_if (not_congr (i_eq e11.1 (c_lit 0 0 rfl) e11.2 ⟨by decide, by decide⟩)) hF (fun c12 hF => ?_) (fun c12 hF => ?_)
      ·
        exact SX35_end_b109 (N := N) (sE := sE) (SE := SE) (sL := sL) (SL := SL) (sN := sN) (SN := SN) hm @hsE @hsL @hsN R11 e11.1 e11.2 hF
      ·
        refine s_gAs R11 (t_192 hm R11.S) (Nat.le_of_ble_eq_true rfl) rfl (o_192_4 hm R11.S) (a_194 hm R11) ?_
        refine s_gAs R11 (t_192 hm R11.S) (Nat.le_of_ble_eq_true rfl) rfl (o_192_4 hm R11.S) (a_194 hm R11) ?_
        refine s_rQ R11 (u_194 hm R11.S).1 (u_194 hm R11.S).2 rfl (fun _ => rfl) (Nat.le_of_ble_eq_true rfl) (a_194 hm R11) rfl rl1 hF (fun a22 y15 hF => ?_)
        cases a22 with
        | none =>
          dsimp only at hF ⊢
          refine s_nO R11 (Nat.le_of_ble_eq_true rfl) (by decide) (fun _ => rfl) hF (fun h17 s17_ R17 E17 z17 l17_ hF => ?_)
          refine s_call R17 (Nat.zero_le _) (fun _ hq => SX40_init (b := 0) hm l17_ (R17.rf) hq) hF (fun f18 rv18 h18 q27 R18 e18 E18 hF => ?_)
          exact SX35_end_b94 (N := N) (sE := sE) (SE := SE) (sL := sL) (SL := SL) (sN := sN) (SN := SN) hm @hsE @hsL @hsN R18 rfl rl1 rfl rl2 e11.1 e11.2 rfl rl1 hF
        | some a24 =>
          dsimp only at hF ⊢
          refine s_gAs R11 (t_192 hm R11.S) (Nat.le_of_ble_eq_true rfl) rfl (o_192_4 hm R11.S) (a_194 hm R11) ?_
          refine s_rO R11 (u_194 hm R11.S).1 (u_194 hm R11.S).2 rfl (fun _ => rfl) (Nat.le_of_ble_eq_true rfl) (a_194 hm R11) rfl rl1 hF (fun a30 y20 hF => ?_)
          exact SX35_end_b94 (N := N) (sE := sE) (SE := SE) (sL := sL) (SL := SL) (sN := sN) (SN := SN) hm @hsE @hsL @hsN R11 rfl rl1 rfl rl2 e11.1 e11.2 rfl rl1 hF
  ·
    exact g_ret R1 hF ⟨(c_lit 0 0 rfl), ⟨by decide, by decide⟩⟩
def FX35_end_b23 (N : Nat) (SE : Int → fS → Option (Unit × fS)) (SL : Int → Int → Int → fS → Option (Int × fS)) (SN : fS → Option (Int × fS)) (l1 : Int) (l2 : Int) (s : fS) : Option (Int × fS) :=
  FX35_end_b28 N SE SL SN l1 l2 1 s
theorem SX35_end_b23 {m b : Nat} {φ0 : Nat → Nat} {σo : fS} (hm : 1 ≤ m) (hb : 1 ≤ b) {N : Nat} {sE : Nat → Int32 → eH → Option (Unit × eH)} {SE : Int → fS → Option (Unit × fS)} {sL : Nat → Int32 → Int64 → Int64 → eH → Option (Int32 × eH)} {SL : Int → Int → Int → fS → Option (Int × fS)} {sN : Nat → eH → Option (Int32 × eH)} {SN : fS → Option (Int × fS)} {q : Int × fS} (hsE : ∀ {φ : Nat → Nat} {h : eH} {s : fS} {x1' : Int32} {x1 : Int} {q}, fC m 1 φ s φ h s → x1' = iI x1 → r32 x1 → SE x1 s = some q → gG m 1 φ s lU q (sE 192 x1' h)) (hsL : ∀ {φ : Nat → Nat} {h : eH} {s : fS} {x1' : Int32} {x1 : Int} {x2' : Int64} {x2 : Int} {x3' : Int64} {x3 : Int} {q}, fC m 1 φ s φ h s → x1' = iI x1 → r32 x1 → x2' = iJ x2 → r64 x2 → x3' = iJ x3 → r64 x3 → SL x1 x2 x3 s = some q → gG m 1 φ s lI q (sL 192 x1' x2' x3' h)) (hsN : ∀ {φ : Nat → Nat} {h : eH} {s : fS} {q}, fC m 1 φ s φ h s → SN s = some q → gG m 1 φ s lI q (sN 192 h)) {φ : Nat → Nat} {h : eH} {s : fS} {l1' : Int32} {l1 : Int} {l2' : Int32} {l2 : Int} (R : fC m b φ0 σo φ h s) (el1 : l1' = iI l1) (rl1 : r32 l1) (el2 : l2' = iI l2) (rl2 : r32 l2) (hF : FX35_end_b23 N SE SL SN l1 l2 s = some q) : gG m b φ0 σo lI q (fX35_end_b23 N sE sL sN 192 l1' l2' 192 h) := by
  subst el1; subst el2
  unfold FX35_end_b23 at hF
  unfold fX35_end_b23
  exact SX35_end_b28 (N := N) (sE := sE) (SE := SE) (sL := sL) (SL := SL) (sN := sN) (SN := SN) hm hb @hsE @hsL @hsN R rfl rl1 rfl rl2 (c_lit 1 1 rfl) ⟨by decide, by decide⟩ hF
def FX35_end (N : Nat) (SE : Int → fS → Option (Unit × fS)) (SL : Int → Int → Int → fS → Option (Int × fS)) (SN : fS → Option (Int × fS)) (p0 : Int) (p1 : Int) (s : fS) : Option (Int × fS) :=
  if p0 < 0 then
    FX35_end_b23 N SE SL SN p0 p1 s
  else
    if 18 < p0 then
      FX35_end_b23 N SE SL SN p0 p1 s
    else
      if p1 < 0 then
        FX35_end_b23 N SE SL SN p0 p1 s
      else
        if p1 ≤ (s.i 192 1) then
          FX35_end_b28 N SE SL SN p0 p1 0 s
        else
          FX35_end_b23 N SE SL SN p0 p1 s
theorem SX35_end {m b : Nat} {φ0 : Nat → Nat} {σo : fS} (hm : 1 ≤ m) (hb : 1 ≤ b) {N : Nat} {sE : Nat → Int32 → eH → Option (Unit × eH)} {SE : Int → fS → Option (Unit × fS)} {sL : Nat → Int32 → Int64 → Int64 → eH → Option (Int32 × eH)} {SL : Int → Int → Int → fS → Option (Int × fS)} {sN : Nat → eH → Option (Int32 × eH)} {SN : fS → Option (Int × fS)} {q : Int × fS} (hsE : ∀ {φ : Nat → Nat} {h : eH} {s : fS} {x1' : Int32} {x1 : Int} {q}, fC m 1 φ s φ h s → x1' = iI x1 → r32 x1 → SE x1 s = some q → gG m 1 φ s lU q (sE 192 x1' h)) (hsL : ∀ {φ : Nat → Nat} {h : eH} {s : fS} {x1' : Int32} {x1 : Int} {x2' : Int64} {x2 : Int} {x3' : Int64} {x3 : Int} {q}, fC m 1 φ s φ h s → x1' = iI x1 → r32 x1 → x2' = iJ x2 → r64 x2 → x3' = iJ x3 → r64 x3 → SL x1 x2 x3 s = some q → gG m 1 φ s lI q (sL 192 x1' x2' x3' h)) (hsN : ∀ {φ : Nat → Nat} {h : eH} {s : fS} {q}, fC m 1 φ s φ h s → SN s = some q → gG m 1 φ s lI q (sN 192 h)) {φ : Nat → Nat} {h : eH} {s : fS} {p0' : Int32} {p0 : Int} {p1' : Int32} {p1 : Int} (R : fC m b φ0 σo φ h s) (ep0 : p0' = iI p0) (rp0 : r32 p0) (ep1 : p1' = iI p1) (rp1 : r32 p1) (hF : FX35_end N SE SL SN p0 p1 s = some q) : gG m b φ0 σo lI q (fX35_end N sE sL sN 192 p0' p1' h) := by
  subst ep0; subst ep1
  unfold FX35_end at hF
  unfold fX35_end
  refine s_if (i_lt rfl (c_lit 0 0 rfl) rp0 ⟨by decide, by decide⟩) hF (fun c1 hF => ?_) (fun c1 hF => ?_)
  ·
    exact SX35_end_b23 (N := N) (sE := sE) (SE := SE) (sL := sL) (SL := SL) (sN := sN) (SN := SN) hm hb @hsE @hsL @hsN R rfl rp0 rfl rp1 hF
  ·
    refine s_if (i_lt (c_lit 18 18 rfl) rfl ⟨by decide, by decide⟩ rp0) hF (fun c2 hF => ?_) (fun c2 hF => ?_)
    ·
      exact SX35_end_b23 (N := N) (sE := sE) (SE := SE) (sL := sL) (SL := SL) (sN := sN) (SN := SN) hm hb @hsE @hsL @hsN R rfl rp0 rfl rp1 hF
    ·
      refine s_if (i_lt rfl (c_lit 0 0 rfl) rp1 ⟨by decide, by decide⟩) hF (fun c3 hF => ?_) (fun c3 hF => ?_)
      ·
        exact SX35_end_b23 (N := N) (sE := sE) (SE := SE) (sL := sL) (SL := SL) (sN := sN) (SN := SN) hm hb @hsE @hsL @hsN R rfl rp0 rfl rp1 hF
      ·
        refine s_gI R (t_192 hm R.S) (Nat.le_of_ble_eq_true rfl) rfl ?_
        refine s_if (i_le rfl rfl rp1 (R.ri (t_192 hm R.S) (Nat.le_of_ble_eq_true rfl) rfl)) hF (fun c5 hF => ?_) (fun c5 hF => ?_)
        ·
          exact SX35_end_b28 (N := N) (sE := sE) (SE := SE) (sL := sL) (SL := SL) (sN := sN) (SN := SN) hm hb @hsE @hsL @hsN R rfl rp0 rfl rp1 (c_lit 0 0 rfl) ⟨by decide, by decide⟩ hF
        ·
          exact SX35_end_b23 (N := N) (sE := sE) (SE := SE) (sL := sL) (SL := SL) (sN := sN) (SN := SN) hm hb @hsE @hsL @hsN R rfl rp0 rfl rp1 hF
def FX35_makeName_b76 (N : Nat) (SE : Int → fS → Option (Unit × fS)) (K7 : Int → Int → fS → Option (Unit × fS)) (l1 : Int) (s : fS) : Option (Unit × fS) :=
  (FX35_needExpanded N SE s).bind fun q2 =>
  K7 l1 q2.1 q2.2
theorem SX35_makeName_b76 {m b : Nat} {φ0 : Nat → Nat} {σo : fS} (hm : 1 ≤ m) (hb : 1 ≤ b) {N : Nat} {sE : Nat → Int32 → eH → Option (Unit × eH)} {SE : Int → fS → Option (Unit × fS)} {k7 : Nat → Int32 → Int32 → eH → Option (Unit × eH)} {K7 : Int → Int → fS → Option (Unit × fS)} {q : Unit × fS} (hsE : ∀ {φ : Nat → Nat} {h : eH} {s : fS} {x1' : Int32} {x1 : Int} {q}, fC m 1 φ s φ h s → x1' = iI x1 → r32 x1 → SE x1 s = some q → gG m 1 φ s lU q (sE 192 x1' h)) (hk7 : ∀ {φ : Nat → Nat} {h : eH} {s : fS} {l1' : Int32} {l1 : Int} {l2' : Int32} {l2 : Int}, fC m b φ0 σo φ h s → l1' = iI l1 → r32 l1 → l2' = iI l2 → r32 l2 → K7 l1 l2 s = some q → gG m b φ0 σo lU q (k7 192 l1' l2' h)) {φ : Nat → Nat} {h : eH} {s : fS} {l1' : Int32} {l1 : Int} (R : fC m b φ0 σo φ h s) (el1 : l1' = iI l1) (rl1 : r32 l1) (hF : FX35_makeName_b76 N SE K7 l1 s = some q) : gG m b φ0 σo lU q (fX35_makeName_b76 N sE k7 192 l1' h) := by
  subst el1
  unfold FX35_makeName_b76 at hF
  unfold fX35_makeName_b76
  refine s_kok R (t_192 hm R.S) (Nat.le_of_ble_eq_true rfl) ?_
  refine s_call R hb (fun _ hq => SX35_needExpanded (b := 1) (N := N) (sE := sE) (SE := SE) hm (Nat.le_of_ble_eq_true rfl) @hsE (R.rf) hq) hF (fun f2 rv2 h2 q2 R2 e2 E2 hF => ?_)
  exact hk7 R2 rfl rl1 e2.1 e2.2 hF
def FX35_makeName_b157 (N : Nat) (SE : Int → fS → Option (Unit × fS)) (l3 : Int) (s : fS) : Option (Unit × fS) :=
  (FX35_put l3 s).bind fun q2 =>
  some ((), q2.2)
theorem SX35_makeName_b157 {m b : Nat} {φ0 : Nat → Nat} {σo : fS} (hm : 1 ≤ m) {N : Nat} {sE : Nat → Int32 → eH → Option (Unit × eH)} {SE : Int → fS → Option (Unit × fS)} {q : Unit × fS} (hsE : ∀ {φ : Nat → Nat} {h : eH} {s : fS} {x1' : Int32} {x1 : Int} {q}, fC m 1 φ s φ h s → x1' = iI x1 → r32 x1 → SE x1 s = some q → gG m 1 φ s lU q (sE 192 x1' h)) {φ : Nat → Nat} {h : eH} {s : fS} {l3' : Int32} {l3 : Int} (R : fC m b φ0 σo φ h s) (el3 : l3' = iI l3) (rl3 : r32 l3) (hF : FX35_makeName_b157 N SE l3 s = some q) : gG m b φ0 σo lU q (fX35_makeName_b157 N sE 192 l3' h) := by
  subst el3
  unfold FX35_makeName_b157 at hF
  unfold fX35_makeName_b157
  refine s_kok R (t_192 hm R.S) (Nat.le_of_ble_eq_true rfl) ?_
  refine s_call R (Nat.zero_le _) (fun _ hq => SX35_put (b := 0) hm (R.rf) rfl rl3 hq) hF (fun f2 rv2 h2 q2 R2 e2 E2 hF => ?_)
  exact g_ret R2 hF trivial
def FX35_makeName_b99 (N : Nat) (SE : Int → fS → Option (Unit × fS)) : Nat → Int → Int → fS → Option (Unit × fS)
  | 0, _, _, _ => none
  | n + 1, l1, l3, s =>
    if l1 ≤ l3 then
      (FX35_nameToken N s).bind fun q3 =>
      if ¬ ((q3.2.i 192 46) = 0) then
        FX35_makeName_b157 N SE q3.1 q3.2
      else
        (FX35_meaning q3.1 q3.2).bind fun q8 =>
        if ¬ (q8.1 = 0) then
          FX35_makeName_b157 N SE q3.1 q8.2
        else
          (FX35_mean N q3.1 1022 0 q8.2).bind fun q11 =>
          FX35_makeName_b157 N SE q3.1 q11.2
    else
      (uRI s 264 (iadd (imul 41 (s.i 192 45)) l3)).bind fun x16 =>
      (FX35_spell x16 s).bind fun q19 =>
      FX35_makeName_b99 N SE n l1 (iadd l3 1) q19.2
theorem SX35_makeName_b99 {m b : Nat} {φ0 : Nat → Nat} {σo : fS} (hm : 1 ≤ m) {N : Nat} {sE : Nat → Int32 → eH → Option (Unit × eH)} {SE : Int → fS → Option (Unit × fS)} {q : Unit × fS} (hsE : ∀ {φ : Nat → Nat} {h : eH} {s : fS} {x1' : Int32} {x1 : Int} {q}, fC m 1 φ s φ h s → x1' = iI x1 → r32 x1 → SE x1 s = some q → gG m 1 φ s lU q (sE 192 x1' h)) : ∀ {n : Nat} {φ : Nat → Nat} {h : eH} {s : fS} {l1' : Int32} {l1 : Int} {l3' : Int32} {l3 : Int}, fC m b φ0 σo φ h s → l1' = iI l1 → r32 l1 → l3' = iI l3 → r32 l3 → FX35_makeName_b99 N SE n l1 l3 s = some q → gG m b φ0 σo lU q (fX35_makeName_b99 N sE n 192 l1' l3' h) := by
  intro n
  induction n with
 | zero => intro φ h s l1' l1 l3' l3 R el1 rl1 el3 rl3 hF; simp [FX35_makeName_b99] at hF
  | succ n ih =>
    intro φ h s l1' l1 l3' l3 R el1 rl1 el3 rl3 hF
    subst el1; subst el3
    rw [FX35_makeName_b99] at hF
    rw [fX35_makeName_b99]
    refine s_if (i_le rfl rfl rl1 rl3) hF (fun c1 hF => ?_) (fun c1 hF => ?_)
    ·
      refine s_kok R (t_192 hm R.S) (Nat.le_of_ble_eq_true rfl) ?_
      refine s_call R (Nat.zero_le _) (fun _ hq => SX35_nameToken (b := 0) (N := N) hm (R.rf) hq) hF (fun f3 rv3 h3 q3 R3 e3 E3 hF => ?_)
      refine s_gI R3 (t_192 hm R3.S) (Nat.le_of_ble_eq_true rfl) rfl ?_
      refine s_if (not_congr (i_eq rfl (c_lit 0 0 rfl) (R3.ri (t_192 hm R3.S) (Nat.le_of_ble_eq_true rfl) rfl) ⟨by decide, by decide⟩)) hF (fun c5 hF => ?_) (fun c5 hF => ?_)
      ·
        exact SX35_makeName_b157 (N := N) (sE := sE) (SE := SE) hm @hsE R3 e3.1 e3.2 hF
      ·
        refine s_kok R3 (t_192 hm R3.S) (Nat.le_of_ble_eq_true rfl) ?_
        refine s_call R3 (Nat.zero_le _) (fun _ hq => SX35_meaning (b := 0) hm (R3.rf) e3.1 e3.2 hq) hF (fun f7 rv7 h7 q8 R7 e7 E7 hF => ?_)
        refine s_if (not_congr (i_eq e7.1 (c_lit 0 0 rfl) e7.2 ⟨by decide, by decide⟩)) hF (fun c8 hF => ?_) (fun c8 hF => ?_)
        ·
          exact SX35_makeName_b157 (N := N) (sE := sE) (SE := SE) hm @hsE R7 e3.1 e3.2 hF
        ·
          refine s_kok R7 (t_192 hm R7.S) (Nat.le_of_ble_eq_true rfl) ?_
          refine s_call R7 (Nat.zero_le _) (fun _ hq => SX35_mean (b := 0) (N := N) hm (R7.rf) e3.1 e3.2 (c_lit 1022 1022 rfl) ⟨by decide, by decide⟩ (c_lit 0 0 rfl) ⟨by decide, by decide⟩ hq) hF (fun f10 rv10 h10 q11 R10 e10 E10 hF => ?_)
          exact SX35_makeName_b157 (N := N) (sE := sE) (SE := SE) hm @hsE R10 e3.1 e3.2 hF
    ·
      refine s_gAs R (t_192 hm R.S) (Nat.le_of_ble_eq_true rfl) rfl (o_192_20 hm R.S) (a_264 hm R) ?_
      refine s_gI R (t_192 hm R.S) (Nat.le_of_ble_eq_true rfl) rfl ?_
      refine s_rI R (u_264 hm R.S).1 (u_264 hm R.S).2 (by decide) (a_264 hm R) (c_add (c_mul (c_lit 41 41 rfl) rfl) rfl) (rr_I _) hF (fun x16 ra13 hF => ?_)
      refine s_kok R (t_192 hm R.S) (Nat.le_of_ble_eq_true rfl) ?_
      refine s_call R (Nat.zero_le _) (fun _ hq => SX35_spell (b := 0) hm (R.rf) rfl ra13 hq) hF (fun f15 rv15 h15 q19 R15 e15 E15 hF => ?_)
      exact ih R15 rfl rl1 (c_add rfl (c_lit 1 1 rfl)) (rr_I _) hF
def FX35_makeName_b84 (N : Nat) (SE : Int → fS → Option (Unit × fS)) (l1 : Int) (s : fS) : Option (Unit × fS) :=
  if (s.i 192 46) ≤ 0 then
    (uPI s 192 19 0).bind fun σ4 =>
    FX35_makeName_b99 N SE N l1 0 σ4
  else
    some ((), s)
theorem SX35_makeName_b84 {m b : Nat} {φ0 : Nat → Nat} {σo : fS} (hm : 1 ≤ m) {N : Nat} {sE : Nat → Int32 → eH → Option (Unit × eH)} {SE : Int → fS → Option (Unit × fS)} {q : Unit × fS} (hsE : ∀ {φ : Nat → Nat} {h : eH} {s : fS} {x1' : Int32} {x1 : Int} {q}, fC m 1 φ s φ h s → x1' = iI x1 → r32 x1 → SE x1 s = some q → gG m 1 φ s lU q (sE 192 x1' h)) {φ : Nat → Nat} {h : eH} {s : fS} {l1' : Int32} {l1 : Int} (R : fC m b φ0 σo φ h s) (el1 : l1' = iI l1) (rl1 : r32 l1) (hF : FX35_makeName_b84 N SE l1 s = some q) : gG m b φ0 σo lU q (fX35_makeName_b84 N sE 192 l1' h) := by
  subst el1
  unfold FX35_makeName_b84 at hF
  unfold fX35_makeName_b84
  refine s_gI R (t_192 hm R.S) (Nat.le_of_ble_eq_true rfl) rfl ?_
  refine s_if (i_le rfl (c_lit 0 0 rfl) (R.ri (t_192 hm R.S) (Nat.le_of_ble_eq_true rfl) rfl) ⟨by decide, by decide⟩) hF (fun c2 hF => ?_) (fun c2 hF => ?_)
  ·
    refine s_pI R (t_192 hm R.S) (Nat.le_of_ble_eq_true rfl) rfl (c_lit 0 0 rfl) ⟨by decide, by decide⟩ hF (fun h3 σ4 R3 T3 hF => ?_)
    exact SX35_makeName_b99 (N := N) (sE := sE) (SE := SE) hm @hsE R3 rfl rl1 (c_lit 0 0 rfl) ⟨by decide, by decide⟩ hF
  ·
    exact g_ret R hF trivial
def FX35_makeName_b7 (N : Nat) (SE : Int → fS → Option (Unit × fS)) : Nat → Int → Int → fS → Option (Unit × fS)
  | 0, _, _, _ => none
  | n + 1, l1, l2, s =>
    if ¬ ((s.i 192 46) = 0) then
      FX35_makeName_b84 N SE l1 s
    else
      (FX35_means l2 27 s).bind fun q5 =>
      if ¬ (q5.1 = 0) then
        FX35_makeName_b84 N SE l1 q5.2
      else
        (FX35_isCharacter l2 q5.2).bind fun q7 =>
        if ¬ (q7.1 = 0) then
          if ¬ (l1 = 40) then
            (uQI q7.2 264 (iadd (imul 41 (q7.2.i 192 45)) l1) (irem l2 256)).bind fun σ14 =>
            FX35_makeName_b76 N SE (FX35_makeName_b7 N SE n) (iadd l1 1) σ14
          else
            (FX35_fail 2 q7.2).bind fun q17 =>
            FX35_makeName_b76 N SE (FX35_makeName_b7 N SE n) l1 q17.2
        else
          (FX35_fail 6 q7.2).bind fun q19 =>
          FX35_makeName_b76 N SE (FX35_makeName_b7 N SE n) l1 q19.2
theorem SX35_makeName_b7 {m b : Nat} {φ0 : Nat → Nat} {σo : fS} (hm : 1 ≤ m) (hb : 1 ≤ b) {N : Nat} {sE : Nat → Int32 → eH → Option (Unit × eH)} {SE : Int → fS → Option (Unit × fS)} {q : Unit × fS} (hsE : ∀ {φ : Nat → Nat} {h : eH} {s : fS} {x1' : Int32} {x1 : Int} {q}, fC m 1 φ s φ h s → x1' = iI x1 → r32 x1 → SE x1 s = some q → gG m 1 φ s lU q (sE 192 x1' h)) : ∀ {n : Nat} {φ : Nat → Nat} {h : eH} {s : fS} {l1' : Int32} {l1 : Int} {l2' : Int32} {l2 : Int}, fC m b φ0 σo φ h s → l1' = iI l1 → r32 l1 → l2' = iI l2 → r32 l2 → FX35_makeName_b7 N SE n l1 l2 s = some q → gG m b φ0 σo lU q (fX35_makeName_b7 N sE n 192 l1' l2' h) := by
  intro n
  induction n with
 | zero => intro φ h s l1' l1 l2' l2 R el1 rl1 el2 rl2 hF; simp [FX35_makeName_b7] at hF
  | succ n ih =>
    intro φ h s l1' l1 l2' l2 R el1 rl1 el2 rl2 hF
    subst el1; subst el2
    rw [FX35_makeName_b7] at hF
    rw [fX35_makeName_b7]
    refine s_gI R (t_192 hm R.S) (Nat.le_of_ble_eq_true rfl) rfl ?_
    refine s_if (not_congr (i_eq rfl (c_lit 0 0 rfl) (R.ri (t_192 hm R.S) (Nat.le_of_ble_eq_true rfl) rfl) ⟨by decide, by decide⟩)) hF (fun c2 hF => ?_) (fun c2 hF => ?_)
    ·
      exact SX35_makeName_b84 (N := N) (sE := sE) (SE := SE) hm @hsE R rfl rl1 hF
    ·
      refine s_kok R (t_192 hm R.S) (Nat.le_of_ble_eq_true rfl) ?_
      refine s_call R (Nat.zero_le _) (fun _ hq => SX35_means (b := 0) hm (R.rf) rfl rl2 (c_lit 27 27 rfl) ⟨by decide, by decide⟩ hq) hF (fun f4 rv4 h4 q5 R4 e4 E4 hF => ?_)
      refine s_if (not_congr (i_eq e4.1 (c_lit 0 0 rfl) e4.2 ⟨by decide, by decide⟩)) hF (fun c5 hF => ?_) (fun c5 hF => ?_)
      ·
        exact SX35_makeName_b84 (N := N) (sE := sE) (SE := SE) hm @hsE R4 rfl rl1 hF
      ·
        refine s_call R4 (Nat.zero_le _) (fun _ hq => SX35_isCharacter (b := 0) hm (R4.rf) rfl rl2 hq) hF (fun f6 rv6 h6 q7 R6 e6 E6 hF => ?_)
        refine s_if (not_congr (i_eq e6.1 (c_lit 0 0 rfl) e6.2 ⟨by decide, by decide⟩)) hF (fun c7 hF => ?_) (fun c7 hF => ?_)
        ·
          refine s_if (not_congr (i_eq rfl (c_lit 40 40 rfl) rl1 ⟨by decide, by decide⟩)) hF (fun c8 hF => ?_) (fun c8 hF => ?_)
          ·
            refine s_gAs R6 (t_192 hm R6.S) (Nat.le_of_ble_eq_true rfl) rfl (o_192_20 hm R6.S) (a_264 hm R6) ?_
            refine s_gI R6 (t_192 hm R6.S) (Nat.le_of_ble_eq_true rfl) rfl ?_
            refine s_qI R6 (u_264 hm R6.S).1 (u_264 hm R6.S).2 (by decide) (a_264 hm R6) (c_add (c_mul (c_lit 41 41 rfl) rfl) rfl) (rr_I _) (c_rem rfl (c_lit 256 256 rfl)) (rr_I _) hF (fun h11 σ14 R11 T11 hF => ?_)
            exact SX35_makeName_b76 (N := N) (sE := sE) (SE := SE) (k7 := fX35_makeName_b7 N sE n) (K7 := FX35_makeName_b7 N SE n) hm hb @hsE @ih R11 (c_add rfl (c_lit 1 1 rfl)) (rr_I _) hF
          ·
            refine s_kok R6 (t_192 hm R6.S) (Nat.le_of_ble_eq_true rfl) ?_
            refine s_call R6 (Nat.zero_le _) (fun _ hq => SX35_fail (b := 0) hm (R6.rf) (c_lit 2 2 rfl) ⟨by decide, by decide⟩ hq) hF (fun f13 rv13 h13 q17 R13 e13 E13 hF => ?_)
            exact SX35_makeName_b76 (N := N) (sE := sE) (SE := SE) (k7 := fX35_makeName_b7 N sE n) (K7 := FX35_makeName_b7 N SE n) hm hb @hsE @ih R13 rfl rl1 hF
        ·
          refine s_kok R6 (t_192 hm R6.S) (Nat.le_of_ble_eq_true rfl) ?_
          refine s_call R6 (Nat.zero_le _) (fun _ hq => SX35_fail (b := 0) hm (R6.rf) (c_lit 6 6 rfl) ⟨by decide, by decide⟩ hq) hF (fun f15 rv15 h15 q19 R15 e15 E15 hF => ?_)
          exact SX35_makeName_b76 (N := N) (sE := sE) (SE := SE) (k7 := fX35_makeName_b7 N sE n) (K7 := FX35_makeName_b7 N SE n) hm hb @hsE @ih R15 rfl rl1 hF
def FX35_makeName (N : Nat) (SE : Int → fS → Option (Unit × fS)) (s : fS) : Option (Unit × fS) :=
  (FX35_needExpanded N SE s).bind fun q2 =>
  FX35_makeName_b7 N SE N 0 q2.1 q2.2
theorem SX35_makeName {m b : Nat} {φ0 : Nat → Nat} {σo : fS} (hm : 1 ≤ m) (hb : 1 ≤ b) {N : Nat} {sE : Nat → Int32 → eH → Option (Unit × eH)} {SE : Int → fS → Option (Unit × fS)} {q : Unit × fS} (hsE : ∀ {φ : Nat → Nat} {h : eH} {s : fS} {x1' : Int32} {x1 : Int} {q}, fC m 1 φ s φ h s → x1' = iI x1 → r32 x1 → SE x1 s = some q → gG m 1 φ s lU q (sE 192 x1' h)) {φ : Nat → Nat} {h : eH} {s : fS} (R : fC m b φ0 σo φ h s) (hF : FX35_makeName N SE s = some q) : gG m b φ0 σo lU q (fX35_makeName N sE 192 h) := by
  unfold FX35_makeName at hF
  unfold fX35_makeName
  refine s_kok R (t_192 hm R.S) (Nat.le_of_ble_eq_true rfl) ?_
  refine s_call R hb (fun _ hq => SX35_needExpanded (b := 1) (N := N) (sE := sE) (SE := SE) hm (Nat.le_of_ble_eq_true rfl) @hsE (R.rf) hq) hF (fun f2 rv2 h2 q2 R2 e2 E2 hF => ?_)
  exact SX35_makeName_b7 (N := N) (sE := sE) (SE := SE) hm hb @hsE R2 (c_lit 0 0 rfl) ⟨by decide, by decide⟩ e2.1 e2.2 hF
def FX35_putOther_b18 (s1 : Int) (s : fS) : Option (Unit × fS) :=
  (FX35_put s1 s).bind fun q2 =>
  some ((), q2.2)
theorem SX35_putOther_b18 {m b : Nat} {φ0 : Nat → Nat} {σo : fS} (hm : 1 ≤ m) {q : Unit × fS} {φ : Nat → Nat} {h : eH} {s : fS} {s1' : Int32} {s1 : Int} (R : fC m b φ0 σo φ h s) (es1 : s1' = iI s1) (rs1 : r32 s1) (hF : FX35_putOther_b18 s1 s = some q) : gG m b φ0 σo lU q (fX35_putOther_b18 192 s1' h) := by
  subst es1
  unfold FX35_putOther_b18 at hF
  unfold fX35_putOther_b18
  refine s_kok R (t_192 hm R.S) (Nat.le_of_ble_eq_true rfl) ?_
  refine s_call R (Nat.zero_le _) (fun _ hq => SX35_put (b := 0) hm (R.rf) rfl rs1 hq) hF (fun f2 rv2 h2 q2 R2 e2 E2 hF => ?_)
  exact g_ret R2 hF trivial
def FX35_putOther (p0 : Int) (s : fS) : Option (Unit × fS) :=
  if ¬ (p0 = 32) then
    FX35_putOther_b18 (iadd 3072 p0) s
  else
    FX35_putOther_b18 2592 s
theorem SX35_putOther {m b : Nat} {φ0 : Nat → Nat} {σo : fS} (hm : 1 ≤ m) {q : Unit × fS} {φ : Nat → Nat} {h : eH} {s : fS} {p0' : Int32} {p0 : Int} (R : fC m b φ0 σo φ h s) (ep0 : p0' = iI p0) (rp0 : r32 p0) (hF : FX35_putOther p0 s = some q) : gG m b φ0 σo lU q (fX35_putOther 192 p0' h) := by
  subst ep0
  unfold FX35_putOther at hF
  unfold fX35_putOther
  refine s_if (not_congr (i_eq rfl (c_lit 32 32 rfl) rp0 ⟨by decide, by decide⟩)) hF (fun c1 hF => ?_) (fun c1 hF => ?_)
  ·
    exact SX35_putOther_b18 hm R (c_add (c_lit 3072 3072 rfl) rfl) (rr_I _) hF
  ·
    exact SX35_putOther_b18 hm R (c_lit 2592 2592 rfl) ⟨by decide, by decide⟩ hF
def FX35_spellOut_b26 (N : Nat) (l2 : Int) (s : fS) : Option (Unit × fS) :=
  (FX35_putOther (irem l2 256) s).bind fun q2 =>
  some ((), q2.2)
theorem SX35_spellOut_b26 {m b : Nat} {φ0 : Nat → Nat} {σo : fS} (hm : 1 ≤ m) {N : Nat} {q : Unit × fS} {φ : Nat → Nat} {h : eH} {s : fS} {l2' : Int32} {l2 : Int} (R : fC m b φ0 σo φ h s) (el2 : l2' = iI l2) (rl2 : r32 l2) (hF : FX35_spellOut_b26 N l2 s = some q) : gG m b φ0 σo lU q (fX35_spellOut_b26 N 192 l2' h) := by
  subst el2
  unfold FX35_spellOut_b26 at hF
  unfold fX35_spellOut_b26
  refine s_kok R (t_192 hm R.S) (Nat.le_of_ble_eq_true rfl) ?_
  refine s_call R (Nat.zero_le _) (fun _ hq => SX35_putOther (b := 0) hm (R.rf) (c_rem rfl (c_lit 256 256 rfl)) (rr_I _) hq) hF (fun f2 rv2 h2 q2 R2 e2 E2 hF => ?_)
  exact g_ret R2 hF trivial
def FX35_spellOut_b51 (N : Nat) : Nat → Int → Int → fS → Option (Unit × fS)
  | 0, _, _, _ => none
  | n + 1, l3, l4, s =>
    if l4 < 0 then
      (FX35_putOther 92 s).bind fun q3 =>
      some ((), q3.2)
    else
      (uRI s 261 (iadd (imul 40 l3) l4)).bind fun x6 =>
      (FX35_putOther (iand x6 255) s).bind fun q9 =>
      FX35_spellOut_b51 N n l3 (iadd l4 (-1)) q9.2
theorem SX35_spellOut_b51 {m b : Nat} {φ0 : Nat → Nat} {σo : fS} (hm : 1 ≤ m) {N : Nat} {q : Unit × fS} : ∀ {n : Nat} {φ : Nat → Nat} {h : eH} {s : fS} {l3' : Int32} {l3 : Int} {l4' : Int32} {l4 : Int}, fC m b φ0 σo φ h s → l3' = iI l3 → r32 l3 → l4' = iI l4 → r32 l4 → FX35_spellOut_b51 N n l3 l4 s = some q → gG m b φ0 σo lU q (fX35_spellOut_b51 N n 192 l3' l4' h) := by
  intro n
  induction n with
 | zero => intro φ h s l3' l3 l4' l4 R el3 rl3 el4 rl4 hF; simp [FX35_spellOut_b51] at hF
  | succ n ih =>
    intro φ h s l3' l3 l4' l4 R el3 rl3 el4 rl4 hF
    subst el3; subst el4
    rw [FX35_spellOut_b51] at hF
    rw [fX35_spellOut_b51]
    refine s_if (i_lt rfl (c_lit 0 0 rfl) rl4 ⟨by decide, by decide⟩) hF (fun c1 hF => ?_) (fun c1 hF => ?_)
    ·
      refine s_kok R (t_192 hm R.S) (Nat.le_of_ble_eq_true rfl) ?_
      refine s_call R (Nat.zero_le _) (fun _ hq => SX35_putOther (b := 0) hm (R.rf) (c_lit 92 92 rfl) ⟨by decide, by decide⟩ hq) hF (fun f3 rv3 h3 q3 R3 e3 E3 hF => ?_)
      exact g_ret R3 hF trivial
    ·
      refine s_gAs R (t_192 hm R.S) (Nat.le_of_ble_eq_true rfl) rfl (o_192_16 hm R.S) (a_261 hm R) ?_
      refine s_rI R (u_261 hm R.S).1 (u_261 hm R.S).2 (by decide) (a_261 hm R) (c_add (c_mul (c_lit 40 40 rfl) rfl) rfl) (rr_I _) hF (fun x6 ra5 hF => ?_)
      refine s_kok R (t_192 hm R.S) (Nat.le_of_ble_eq_true rfl) ?_
      refine s_call R (Nat.zero_le _) (fun _ hq => SX35_putOther (b := 0) hm (R.rf) (c_and rfl (c_lit 255 255 rfl)) (rr_I _) hq) hF (fun f7 rv7 h7 q9 R7 e7 E7 hF => ?_)
      exact ih R7 rfl rl3 (c_add rfl (c_lit (-1) (-1) rfl)) (rr_I _) hF
def FX35_spellOut (N : Nat) (p0 : Int) (s : fS) : Option (Unit × fS) :=
  if (s.i 192 46) ≤ 0 then
    (FX35_bare p0 s).bind fun q4 =>
    if q4.1 < 65536 then
      FX35_spellOut_b26 N q4.1 q4.2
    else
      if q4.1 < 131072 then
        (uRI q4.2 262 (isub q4.1 65536)).bind fun x9 =>
        FX35_spellOut_b51 N N (isub q4.1 65536) (isub x9 1) q4.2
      else
        FX35_spellOut_b26 N q4.1 q4.2
  else
    some ((), s)
theorem SX35_spellOut {m b : Nat} {φ0 : Nat → Nat} {σo : fS} (hm : 1 ≤ m) {N : Nat} {q : Unit × fS} {φ : Nat → Nat} {h : eH} {s : fS} {p0' : Int32} {p0 : Int} (R : fC m b φ0 σo φ h s) (ep0 : p0' = iI p0) (rp0 : r32 p0) (hF : FX35_spellOut N p0 s = some q) : gG m b φ0 σo lU q (fX35_spellOut N 192 p0' h) := by
  subst ep0
  unfold FX35_spellOut at hF
  unfold fX35_spellOut
  refine s_gI R (t_192 hm R.S) (Nat.le_of_ble_eq_true rfl) rfl ?_
  refine s_if (i_le rfl (c_lit 0 0 rfl) (R.ri (t_192 hm R.S) (Nat.le_of_ble_eq_true rfl) rfl) ⟨by decide, by decide⟩) hF (fun c2 hF => ?_) (fun c2 hF => ?_)
  ·
    refine s_call R (Nat.zero_le _) (fun _ hq => SX35_bare (b := 0) hm (R.rf) rfl rp0 hq) hF (fun f3 rv3 h3 q4 R3 e3 E3 hF => ?_)
    refine s_if (i_lt e3.1 (c_lit 65536 65536 rfl) e3.2 ⟨by decide, by decide⟩) hF (fun c4 hF => ?_) (fun c4 hF => ?_)
    ·
      exact SX35_spellOut_b26 (N := N) hm R3 e3.1 e3.2 hF
    ·
      refine s_if (i_lt e3.1 (c_lit 131072 131072 rfl) e3.2 ⟨by decide, by decide⟩) hF (fun c5 hF => ?_) (fun c5 hF => ?_)
      ·
        refine s_gAs R3 (t_192 hm R3.S) (Nat.le_of_ble_eq_true rfl) rfl (o_192_17 hm R3.S) (a_262 hm R3) ?_
        refine s_rI R3 (u_262 hm R3.S).1 (u_262 hm R3.S).2 (by decide) (a_262 hm R3) (c_sub e3.1 (c_lit 65536 65536 rfl)) (rr_I _) hF (fun x9 ra7 hF => ?_)
        exact SX35_spellOut_b51 (N := N) hm R3 (c_sub e3.1 (c_lit 65536 65536 rfl)) (rr_I _) (c_sub rfl (c_lit 1 1 rfl)) (rr_I _) hF
      ·
        exact SX35_spellOut_b26 (N := N) hm R3 e3.1 e3.2 hF
  ·
    exact g_ret R hF trivial
def FX35_putDigits_b72 (N : Nat) (s : fS) : Option (Unit × fS) :=
  some ((), s)
theorem SX35_putDigits_b72 {m b : Nat} {φ0 : Nat → Nat} {σo : fS} (hm : 1 ≤ m) {N : Nat} {q : Unit × fS} {φ : Nat → Nat} {h : eH} {s : fS} (R : fC m b φ0 σo φ h s) (hF : FX35_putDigits_b72 N s = some q) : gG m b φ0 σo lU q (fX35_putDigits_b72 N h) := by
  unfold FX35_putDigits_b72 at hF
  unfold fX35_putDigits_b72
  exact g_ret R hF trivial
def FX35_putDigits_b33 (N : Nat) : Nat → Int → Int → fS → Option (Unit × fS)
  | 0, _, _, _ => none
  | n + 1, l1, l2, s =>
    if l2 ≤ 0 then
      if 0 ≤ l1 then
        FX35_putDigits_b72 N s
      else
        (FX35_putOther 45 s).bind fun q4 =>
        FX35_putDigits_b72 N q4.2
    else
      (FX35_putOther (l2i (ladd 48 (lrem l2 10))) s).bind fun q6 =>
      FX35_putDigits_b33 N n l1 (ldiv l2 10) q6.2
theorem SX35_putDigits_b33 {m b : Nat} {φ0 : Nat → Nat} {σo : fS} (hm : 1 ≤ m) {N : Nat} {q : Unit × fS} : ∀ {n : Nat} {φ : Nat → Nat} {h : eH} {s : fS} {l1' : Int32} {l1 : Int} {l2' : Int64} {l2 : Int}, fC m b φ0 σo φ h s → l1' = iI l1 → r32 l1 → l2' = iJ l2 → r64 l2 → FX35_putDigits_b33 N n l1 l2 s = some q → gG m b φ0 σo lU q (fX35_putDigits_b33 N n 192 l1' l2' h) := by
  intro n
  induction n with
 | zero => intro φ h s l1' l1 l2' l2 R el1 rl1 el2 rl2 hF; simp [FX35_putDigits_b33] at hF
  | succ n ih =>
    intro φ h s l1' l1 l2' l2 R el1 rl1 el2 rl2 hF
    subst el1; subst el2
    rw [FX35_putDigits_b33] at hF
    rw [fX35_putDigits_b33]
    refine s_if (lg_le.trans (j_le rfl (d_lit 0 0 rfl) rl2 ⟨by decide, by decide⟩)) hF (fun c1 hF => ?_) (fun c1 hF => ?_)
    ·
      refine s_if (i_le (c_lit 0 0 rfl) rfl ⟨by decide, by decide⟩ rl1) hF (fun c2 hF => ?_) (fun c2 hF => ?_)
      ·
        exact SX35_putDigits_b72 (N := N) hm R hF
      ·
        refine s_kok R (t_192 hm R.S) (Nat.le_of_ble_eq_true rfl) ?_
        refine s_call R (Nat.zero_le _) (fun _ hq => SX35_putOther (b := 0) hm (R.rf) (c_lit 45 45 rfl) ⟨by decide, by decide⟩ hq) hF (fun f4 rv4 h4 q4 R4 e4 E4 hF => ?_)
        exact SX35_putDigits_b72 (N := N) hm R4 hF
    ·
      refine s_kok R (t_192 hm R.S) (Nat.le_of_ble_eq_true rfl) ?_
      refine s_call R (Nat.zero_le _) (fun _ hq => SX35_putOther (b := 0) hm (R.rf) (d_2i (d_add (d_lit 48 48 rfl) (d_rem rfl (d_lit 10 10 rfl)))) (rr_I _) hq) hF (fun f6 rv6 h6 q6 R6 e6 E6 hF => ?_)
      exact ih R6 rfl rl1 (d_div rfl (d_lit 10 10 rfl)) (rr_J _) hF
def FX35_putDigits_b12 (N : Nat) (l1 : Int) (s0 : Int) (s : fS) : Option (Unit × fS) :=
  (FX35_putOther (l2i (ladd 48 (lrem s0 10))) s).bind fun q2 =>
  FX35_putDigits_b33 N N l1 (ldiv s0 10) q2.2
theorem SX35_putDigits_b12 {m b : Nat} {φ0 : Nat → Nat} {σo : fS} (hm : 1 ≤ m) {N : Nat} {q : Unit × fS} {φ : Nat → Nat} {h : eH} {s : fS} {l1' : Int32} {l1 : Int} {s0' : Int64} {s0 : Int} (R : fC m b φ0 σo φ h s) (el1 : l1' = iI l1) (rl1 : r32 l1) (es0 : s0' = iJ s0) (rs0 : r64 s0) (hF : FX35_putDigits_b12 N l1 s0 s = some q) : gG m b φ0 σo lU q (fX35_putDigits_b12 N 192 l1' s0' h) := by
  subst el1; subst es0
  unfold FX35_putDigits_b12 at hF
  unfold fX35_putDigits_b12
  refine s_kok R (t_192 hm R.S) (Nat.le_of_ble_eq_true rfl) ?_
  refine s_call R (Nat.zero_le _) (fun _ hq => SX35_putOther (b := 0) hm (R.rf) (d_2i (d_add (d_lit 48 48 rfl) (d_rem rfl (d_lit 10 10 rfl)))) (rr_I _) hq) hF (fun f2 rv2 h2 q2 R2 e2 E2 hF => ?_)
  exact SX35_putDigits_b33 (N := N) hm R2 rfl rl1 (d_div rfl (d_lit 10 10 rfl)) (rr_J _) hF
def FX35_putDigits (N : Nat) (p0 : Int) (s : fS) : Option (Unit × fS) :=
  if 0 ≤ p0 then
    FX35_putDigits_b12 N p0 p0 s
  else
    FX35_putDigits_b12 N p0 (lneg p0) s
theorem SX35_putDigits {m b : Nat} {φ0 : Nat → Nat} {σo : fS} (hm : 1 ≤ m) {N : Nat} {q : Unit × fS} {φ : Nat → Nat} {h : eH} {s : fS} {p0' : Int32} {p0 : Int} (R : fC m b φ0 σo φ h s) (ep0 : p0' = iI p0) (rp0 : r32 p0) (hF : FX35_putDigits N p0 s = some q) : gG m b φ0 σo lU q (fX35_putDigits N 192 p0' h) := by
  subst ep0
  unfold FX35_putDigits at hF
  unfold fX35_putDigits
  refine s_if (i_le (c_lit 0 0 rfl) rfl ⟨by decide, by decide⟩ rp0) hF (fun c1 hF => ?_) (fun c1 hF => ?_)
  ·
    exact SX35_putDigits_b12 (N := N) hm R rfl rp0 (c_2l rfl rp0) (r32.w rp0) hF
  ·
    exact SX35_putDigits_b12 (N := N) hm R rfl rp0 (d_neg (c_2l rfl rp0)) (rr_J _) hF
def FX35_romanDigit_b23 (N : Nat) (l2 : Int) (s1 : Int) (s : fS) : Option (Unit × fS) :=
  (FX35_putOther s1 s).bind fun q2 =>
  (FX35_putOther l2 q2.2).bind fun q4 =>
  some ((), q4.2)
theorem SX35_romanDigit_b23 {m b : Nat} {φ0 : Nat → Nat} {σo : fS} (hm : 1 ≤ m) {N : Nat} {q : Unit × fS} {φ : Nat → Nat} {h : eH} {s : fS} {l2' : Int32} {l2 : Int} {s1' : Int32} {s1 : Int} (R : fC m b φ0 σo φ h s) (el2 : l2' = iI l2) (rl2 : r32 l2) (es1 : s1' = iI s1) (rs1 : r32 s1) (hF : FX35_romanDigit_b23 N l2 s1 s = some q) : gG m b φ0 σo lU q (fX35_romanDigit_b23 N 192 l2' 192 s1' h) := by
  subst el2; subst es1
  unfold FX35_romanDigit_b23 at hF
  unfold fX35_romanDigit_b23
  refine s_kok R (t_192 hm R.S) (Nat.le_of_ble_eq_true rfl) ?_
  refine s_call R (Nat.zero_le _) (fun _ hq => SX35_putOther (b := 0) hm (R.rf) rfl rs1 hq) hF (fun f2 rv2 h2 q2 R2 e2 E2 hF => ?_)
  refine s_kok R2 (t_192 hm R2.S) (Nat.le_of_ble_eq_true rfl) ?_
  refine s_call R2 (Nat.zero_le _) (fun _ hq => SX35_putOther (b := 0) hm (R2.rf) rfl rl2 hq) hF (fun f4 rv4 h4 q4 R4 e4 E4 hF => ?_)
  exact g_ret R4 hF trivial
def FX35_romanDigit_b11 (N : Nat) (l1 : Int) (l2 : Int) (l3 : Int) (l4 : Int) (s : fS) : Option (Unit × fS) :=
  if ¬ (l1 = 4) then
    FX35_romanDigit_b23 N l2 l4 s
  else
    FX35_romanDigit_b23 N l2 l3 s
theorem SX35_romanDigit_b11 {m b : Nat} {φ0 : Nat → Nat} {σo : fS} (hm : 1 ≤ m) {N : Nat} {q : Unit × fS} {φ : Nat → Nat} {h : eH} {s : fS} {l1' : Int32} {l1 : Int} {l2' : Int32} {l2 : Int} {l3' : Int32} {l3 : Int} {l4' : Int32} {l4 : Int} (R : fC m b φ0 σo φ h s) (el1 : l1' = iI l1) (rl1 : r32 l1) (el2 : l2' = iI l2) (rl2 : r32 l2) (el3 : l3' = iI l3) (rl3 : r32 l3) (el4 : l4' = iI l4) (rl4 : r32 l4) (hF : FX35_romanDigit_b11 N l1 l2 l3 l4 s = some q) : gG m b φ0 σo lU q (fX35_romanDigit_b11 N 192 l1' l2' l3' l4' h) := by
  subst el1; subst el2; subst el3; subst el4
  unfold FX35_romanDigit_b11 at hF
  unfold fX35_romanDigit_b11
  refine s_if (not_congr (i_eq rfl (c_lit 4 4 rfl) rl1 ⟨by decide, by decide⟩)) hF (fun c1 hF => ?_) (fun c1 hF => ?_)
  ·
    exact SX35_romanDigit_b23 (N := N) hm R rfl rl2 rfl rl4 hF
  ·
    exact SX35_romanDigit_b23 (N := N) hm R rfl rl2 rfl rl3 hF
def FX35_romanDigit_b64 (N : Nat) (s : fS) : Option (Unit × fS) :=
  some ((), s)
theorem SX35_romanDigit_b64 {m b : Nat} {φ0 : Nat → Nat} {σo : fS} (hm : 1 ≤ m) {N : Nat} {q : Unit × fS} {φ : Nat → Nat} {h : eH} {s : fS} (R : fC m b φ0 σo φ h s) (hF : FX35_romanDigit_b64 N s = some q) : gG m b φ0 σo lU q (fX35_romanDigit_b64 N h) := by
  unfold FX35_romanDigit_b64 at hF
  unfold fX35_romanDigit_b64
  exact g_ret R hF trivial
def FX35_romanDigit_b35 (N : Nat) : Nat → Int → Int → Int → Int → fS → Option (Unit × fS)
  | 0, _, _, _, _, _ => none
  | n + 1, l1, l2, l3, l5, s =>
    if (irem l1 5) ≤ l5 then
      if l1 ≤ 4 then
        FX35_romanDigit_b64 N s
      else
        (FX35_putOther l3 s).bind fun q4 =>
        FX35_romanDigit_b64 N q4.2
    else
      (FX35_putOther l2 s).bind fun q6 =>
      FX35_romanDigit_b35 N n l1 l2 l3 (iadd l5 1) q6.2
theorem SX35_romanDigit_b35 {m b : Nat} {φ0 : Nat → Nat} {σo : fS} (hm : 1 ≤ m) {N : Nat} {q : Unit × fS} : ∀ {n : Nat} {φ : Nat → Nat} {h : eH} {s : fS} {l1' : Int32} {l1 : Int} {l2' : Int32} {l2 : Int} {l3' : Int32} {l3 : Int} {l5' : Int32} {l5 : Int}, fC m b φ0 σo φ h s → l1' = iI l1 → r32 l1 → l2' = iI l2 → r32 l2 → l3' = iI l3 → r32 l3 → l5' = iI l5 → r32 l5 → FX35_romanDigit_b35 N n l1 l2 l3 l5 s = some q → gG m b φ0 σo lU q (fX35_romanDigit_b35 N n 192 l1' l2' l3' l5' h) := by
  intro n
  induction n with
 | zero => intro φ h s l1' l1 l2' l2 l3' l3 l5' l5 R el1 rl1 el2 rl2 el3 rl3 el5 rl5 hF; simp [FX35_romanDigit_b35] at hF
  | succ n ih =>
    intro φ h s l1' l1 l2' l2 l3' l3 l5' l5 R el1 rl1 el2 rl2 el3 rl3 el5 rl5 hF
    subst el1; subst el2; subst el3; subst el5
    rw [FX35_romanDigit_b35] at hF
    rw [fX35_romanDigit_b35]
    refine s_if (i_le (c_rem rfl (c_lit 5 5 rfl)) rfl (rr_I _) rl5) hF (fun c1 hF => ?_) (fun c1 hF => ?_)
    ·
      refine s_if (i_le rfl (c_lit 4 4 rfl) rl1 ⟨by decide, by decide⟩) hF (fun c2 hF => ?_) (fun c2 hF => ?_)
      ·
        exact SX35_romanDigit_b64 (N := N) hm R hF
      ·
        refine s_kok R (t_192 hm R.S) (Nat.le_of_ble_eq_true rfl) ?_
        refine s_call R (Nat.zero_le _) (fun _ hq => SX35_putOther (b := 0) hm (R.rf) rfl rl3 hq) hF (fun f4 rv4 h4 q4 R4 e4 E4 hF => ?_)
        exact SX35_romanDigit_b64 (N := N) hm R4 hF
    ·
      refine s_kok R (t_192 hm R.S) (Nat.le_of_ble_eq_true rfl) ?_
      refine s_call R (Nat.zero_le _) (fun _ hq => SX35_putOther (b := 0) hm (R.rf) rfl rl2 hq) hF (fun f6 rv6 h6 q6 R6 e6 E6 hF => ?_)
      exact ih R6 rfl rl1 rfl rl2 rfl rl3 (c_add rfl (c_lit 1 1 rfl)) (rr_I _) hF
def FX35_romanDigit (N : Nat) (p0 : Int) (p1 : Int) (p2 : Int) (p3 : Int) (s : fS) : Option (Unit × fS) :=
  if p0 = 4 then
    FX35_romanDigit_b11 N p0 p1 p2 p3 s
  else
    if ¬ (p0 = 9) then
      FX35_romanDigit_b35 N N p0 p1 p2 0 s
    else
      FX35_romanDigit_b11 N p0 p1 p2 p3 s
theorem SX35_romanDigit {m b : Nat} {φ0 : Nat → Nat} {σo : fS} (hm : 1 ≤ m) {N : Nat} {q : Unit × fS} {φ : Nat → Nat} {h : eH} {s : fS} {p0' : Int32} {p0 : Int} {p1' : Int32} {p1 : Int} {p2' : Int32} {p2 : Int} {p3' : Int32} {p3 : Int} (R : fC m b φ0 σo φ h s) (ep0 : p0' = iI p0) (rp0 : r32 p0) (ep1 : p1' = iI p1) (rp1 : r32 p1) (ep2 : p2' = iI p2) (rp2 : r32 p2) (ep3 : p3' = iI p3) (rp3 : r32 p3) (hF : FX35_romanDigit N p0 p1 p2 p3 s = some q) : gG m b φ0 σo lU q (fX35_romanDigit N 192 p0' p1' p2' p3' h) := by
  subst ep0; subst ep1; subst ep2; subst ep3
  unfold FX35_romanDigit at hF
  unfold fX35_romanDigit
  refine s_if (i_eq rfl (c_lit 4 4 rfl) rp0 ⟨by decide, by decide⟩) hF (fun c1 hF => ?_) (fun c1 hF => ?_)
  ·
    exact SX35_romanDigit_b11 (N := N) hm R rfl rp0 rfl rp1 rfl rp2 rfl rp3 hF
  ·
    refine s_if (not_congr (i_eq rfl (c_lit 9 9 rfl) rp0 ⟨by decide, by decide⟩)) hF (fun c2 hF => ?_) (fun c2 hF => ?_)
    ·
      exact SX35_romanDigit_b35 (N := N) hm R rfl rp0 rfl rp1 rfl rp2 (c_lit 0 0 rfl) ⟨by decide, by decide⟩ hF
    ·
      exact SX35_romanDigit_b11 (N := N) hm R rfl rp0 rfl rp1 rfl rp2 rfl rp3 hF
def FX35_roman_b11 (N : Nat) (s : fS) : Option (Unit × fS) :=
  some ((), s)
theorem SX35_roman_b11 {m b : Nat} {φ0 : Nat → Nat} {σo : fS} (hm : 1 ≤ m) {N : Nat} {q : Unit × fS} {φ : Nat → Nat} {h : eH} {s : fS} (R : fC m b φ0 σo φ h s) (hF : FX35_roman_b11 N s = some q) : gG m b φ0 σo lU q (fX35_roman_b11 N h) := by
  unfold FX35_roman_b11 at hF
  unfold fX35_roman_b11
  exact g_ret R hF trivial
def FX35_roman_b76 (N : Nat) : Nat → Int → Int → fS → Option (Unit × fS)
  | 0, _, _, _ => none
  | n + 1, l1, l2, s =>
    if (idiv l1 1000) ≤ l2 then
      some ((), s)
    else
      (FX35_putOther 109 s).bind fun q3 =>
      FX35_roman_b76 N n l1 (iadd l2 1) q3.2
theorem SX35_roman_b76 {m b : Nat} {φ0 : Nat → Nat} {σo : fS} (hm : 1 ≤ m) {N : Nat} {q : Unit × fS} : ∀ {n : Nat} {φ : Nat → Nat} {h : eH} {s : fS} {l1' : Int32} {l1 : Int} {l2' : Int32} {l2 : Int}, fC m b φ0 σo φ h s → l1' = iI l1 → r32 l1 → l2' = iI l2 → r32 l2 → FX35_roman_b76 N n l1 l2 s = some q → gG m b φ0 σo lU q (fX35_roman_b76 N n 192 l1' l2' h) := by
  intro n
  induction n with
 | zero => intro φ h s l1' l1 l2' l2 R el1 rl1 el2 rl2 hF; simp [FX35_roman_b76] at hF
  | succ n ih =>
    intro φ h s l1' l1 l2' l2 R el1 rl1 el2 rl2 hF
    subst el1; subst el2
    rw [FX35_roman_b76] at hF
    rw [fX35_roman_b76]
    refine s_if (i_le (c_div rfl (c_lit 1000 1000 rfl)) rfl (rr_I _) rl2) hF (fun c1 hF => ?_) (fun c1 hF => ?_)
    ·
      exact g_ret R hF trivial
    ·
      refine s_kok R (t_192 hm R.S) (Nat.le_of_ble_eq_true rfl) ?_
      refine s_call R (Nat.zero_le _) (fun _ hq => SX35_putOther (b := 0) hm (R.rf) (c_lit 109 109 rfl) ⟨by decide, by decide⟩ hq) hF (fun f3 rv3 h3 q3 R3 e3 E3 hF => ?_)
      exact ih R3 rfl rl1 (c_add rfl (c_lit 1 1 rfl)) (rr_I _) hF
def FX35_roman (N : Nat) (p0 : Int) (s : fS) : Option (Unit × fS) :=
  if 0 < (s.i 192 46) then
    FX35_roman_b11 N s
  else
    if 0 < p0 then
      if p0 ≤ 9999 then
        (FX35_romanDigit N (irem p0 10) 105 118 120 s).bind fun q7 =>
        (FX35_romanDigit N (irem (idiv p0 10) 10) 120 108 99 q7.2).bind fun q9 =>
        (FX35_romanDigit N (irem (idiv p0 100) 10) 99 100 109 q9.2).bind fun q11 =>
        FX35_roman_b76 N N p0 0 q11.2
      else
        (FX35_fail 7 s).bind fun q13 =>
        some ((), q13.2)
    else
      FX35_roman_b11 N s
theorem SX35_roman {m b : Nat} {φ0 : Nat → Nat} {σo : fS} (hm : 1 ≤ m) {N : Nat} {q : Unit × fS} {φ : Nat → Nat} {h : eH} {s : fS} {p0' : Int32} {p0 : Int} (R : fC m b φ0 σo φ h s) (ep0 : p0' = iI p0) (rp0 : r32 p0) (hF : FX35_roman N p0 s = some q) : gG m b φ0 σo lU q (fX35_roman N 192 p0' h) := by
  subst ep0
  unfold FX35_roman at hF
  unfold fX35_roman
  refine s_gI R (t_192 hm R.S) (Nat.le_of_ble_eq_true rfl) rfl ?_
  refine s_if (i_lt (c_lit 0 0 rfl) rfl ⟨by decide, by decide⟩ (R.ri (t_192 hm R.S) (Nat.le_of_ble_eq_true rfl) rfl)) hF (fun c2 hF => ?_) (fun c2 hF => ?_)
  ·
    exact SX35_roman_b11 (N := N) hm R hF
  ·
    refine s_if (i_lt (c_lit 0 0 rfl) rfl ⟨by decide, by decide⟩ rp0) hF (fun c3 hF => ?_) (fun c3 hF => ?_)
    ·
      refine s_if (i_le rfl (c_lit 9999 9999 rfl) rp0 ⟨by decide, by decide⟩) hF (fun c4 hF => ?_) (fun c4 hF => ?_)
      ·
        refine s_kok R (t_192 hm R.S) (Nat.le_of_ble_eq_true rfl) ?_
        refine s_call R (Nat.zero_le _) (fun _ hq => SX35_romanDigit (b := 0) (N := N) hm (R.rf) (c_rem rfl (c_lit 10 10 rfl)) (rr_I _) (c_lit 105 105 rfl) ⟨by decide, by decide⟩ (c_lit 118 118 rfl) ⟨by decide, by decide⟩ (c_lit 120 120 rfl) ⟨by decide, by decide⟩ hq) hF (fun f6 rv6 h6 q7 R6 e6 E6 hF => ?_)
        refine s_kok R6 (t_192 hm R6.S) (Nat.le_of_ble_eq_true rfl) ?_
        refine s_call R6 (Nat.zero_le _) (fun _ hq => SX35_romanDigit (b := 0) (N := N) hm (R6.rf) (c_rem (c_div rfl (c_lit 10 10 rfl)) (c_lit 10 10 rfl)) (rr_I _) (c_lit 120 120 rfl) ⟨by decide, by decide⟩ (c_lit 108 108 rfl) ⟨by decide, by decide⟩ (c_lit 99 99 rfl) ⟨by decide, by decide⟩ hq) hF (fun f8 rv8 h8 q9 R8 e8 E8 hF => ?_)
        refine s_kok R8 (t_192 hm R8.S) (Nat.le_of_ble_eq_true rfl) ?_
        refine s_call R8 (Nat.zero_le _) (fun _ hq => SX35_romanDigit (b := 0) (N := N) hm (R8.rf) (c_rem (c_div rfl (c_lit 100 100 rfl)) (c_lit 10 10 rfl)) (rr_I _) (c_lit 99 99 rfl) ⟨by decide, by decide⟩ (c_lit 100 100 rfl) ⟨by decide, by decide⟩ (c_lit 109 109 rfl) ⟨by decide, by decide⟩ hq) hF (fun f10 rv10 h10 q11 R10 e10 E10 hF => ?_)
        exact SX35_roman_b76 (N := N) hm R10 rfl rp0 (c_lit 0 0 rfl) ⟨by decide, by decide⟩ hF
      ·
        refine s_kok R (t_192 hm R.S) (Nat.le_of_ble_eq_true rfl) ?_
        refine s_call R (Nat.zero_le _) (fun _ hq => SX35_fail (b := 0) hm (R.rf) (c_lit 7 7 rfl) ⟨by decide, by decide⟩ hq) hF (fun f12 rv12 h12 q13 R12 e12 E12 hF => ?_)
        exact g_ret R12 hF trivial
    ·
      exact SX35_roman_b11 (N := N) hm R hF
def FX35_told_b76 (N : Nat) (SN : fS → Option (Int × fS)) (s : fS) : Option (Unit × fS) :=
  some ((), s)
theorem SX35_told_b76 {m b : Nat} {φ0 : Nat → Nat} {σo : fS} (hm : 1 ≤ m) {N : Nat} {sN : Nat → eH → Option (Int32 × eH)} {SN : fS → Option (Int × fS)} {q : Unit × fS} (hsN : ∀ {φ : Nat → Nat} {h : eH} {s : fS} {q}, fC m 1 φ s φ h s → SN s = some q → gG m 1 φ s lI q (sN 192 h)) {φ : Nat → Nat} {h : eH} {s : fS} (R : fC m b φ0 σo φ h s) (hF : FX35_told_b76 N SN s = some q) : gG m b φ0 σo lU q (fX35_told_b76 N sN h) := by
  unfold FX35_told_b76 at hF
  unfold fX35_told_b76
  exact g_ret R hF trivial
def FX35_told_b44 (N : Nat) (SN : fS → Option (Int × fS)) (l1 : Int) (s : fS) : Option (Unit × fS) :=
  (FX35_lengthOf SN l1 s).bind fun q2 =>
  (FX35_putOther 112 q2.2).bind fun q4 =>
  (FX35_putOther 115 q4.2).bind fun q6 =>
  (FX35_putDigits N q2.1 q6.2).bind fun q8 =>
  FX35_told_b76 N SN q8.2
theorem SX35_told_b44 {m b : Nat} {φ0 : Nat → Nat} {σo : fS} (hm : 1 ≤ m) (hb : 1 ≤ b) {N : Nat} {sN : Nat → eH → Option (Int32 × eH)} {SN : fS → Option (Int × fS)} {q : Unit × fS} (hsN : ∀ {φ : Nat → Nat} {h : eH} {s : fS} {q}, fC m 1 φ s φ h s → SN s = some q → gG m 1 φ s lI q (sN 192 h)) {φ : Nat → Nat} {h : eH} {s : fS} {l1' : Int32} {l1 : Int} (R : fC m b φ0 σo φ h s) (el1 : l1' = iI l1) (rl1 : r32 l1) (hF : FX35_told_b44 N SN l1 s = some q) : gG m b φ0 σo lU q (fX35_told_b44 N sN 192 l1' h) := by
  subst el1
  unfold FX35_told_b44 at hF
  unfold fX35_told_b44
  refine s_kok R (t_192 hm R.S) (Nat.le_of_ble_eq_true rfl) ?_
  refine s_call R hb (fun _ hq => SX35_lengthOf (b := 1) (sN := sN) (SN := SN) hm (Nat.le_of_ble_eq_true rfl) @hsN (R.rf) rfl rl1 hq) hF (fun f2 rv2 h2 q2 R2 e2 E2 hF => ?_)
  refine s_kok R2 (t_192 hm R2.S) (Nat.le_of_ble_eq_true rfl) ?_
  refine s_call R2 (Nat.zero_le _) (fun _ hq => SX35_putOther (b := 0) hm (R2.rf) (c_lit 112 112 rfl) ⟨by decide, by decide⟩ hq) hF (fun f4 rv4 h4 q4 R4 e4 E4 hF => ?_)
  refine s_kok R4 (t_192 hm R4.S) (Nat.le_of_ble_eq_true rfl) ?_
  refine s_call R4 (Nat.zero_le _) (fun _ hq => SX35_putOther (b := 0) hm (R4.rf) (c_lit 115 115 rfl) ⟨by decide, by decide⟩ hq) hF (fun f6 rv6 h6 q6 R6 e6 E6 hF => ?_)
  refine s_kok R6 (t_192 hm R6.S) (Nat.le_of_ble_eq_true rfl) ?_
  refine s_call R6 (Nat.zero_le _) (fun _ hq => SX35_putDigits (b := 0) (N := N) hm (R6.rf) e2.1 e2.2 hq) hF (fun f8 rv8 h8 q8 R8 e8 E8 hF => ?_)
  exact SX35_told_b76 (N := N) (sN := sN) (SN := SN) hm @hsN R8 hF
def FX35_told (N : Nat) (SN : fS → Option (Int × fS)) (p0 : Int) (s : fS) : Option (Unit × fS) :=
  if (s.i 192 46) ≤ 0 then
    (FX35_hasValue p0 s).bind fun q5 =>
    if q5.1 = 0 then
      (FX35_hasLength p0 q5.2).bind fun q8 =>
      if ¬ (q8.1 = 0) then
        FX35_told_b44 N SN p0 q8.2
      else
        (FX35_hasGlue p0 q8.2).bind fun q11 =>
        if q11.1 = 0 then
          (FX35_fail 6 q11.2).bind fun q14 =>
          FX35_told_b76 N SN q14.2
        else
          FX35_told_b44 N SN p0 q11.2
    else
      (FX35_value SN p0 q5.2).bind fun q16 =>
      (FX35_putDigits N q16.1 q16.2).bind fun q18 =>
      FX35_told_b76 N SN q18.2
  else
    some ((), s)
theorem SX35_told {m b : Nat} {φ0 : Nat → Nat} {σo : fS} (hm : 1 ≤ m) (hb : 1 ≤ b) {N : Nat} {sN : Nat → eH → Option (Int32 × eH)} {SN : fS → Option (Int × fS)} {q : Unit × fS} (hsN : ∀ {φ : Nat → Nat} {h : eH} {s : fS} {q}, fC m 1 φ s φ h s → SN s = some q → gG m 1 φ s lI q (sN 192 h)) {φ : Nat → Nat} {h : eH} {s : fS} {p0' : Int32} {p0 : Int} (R : fC m b φ0 σo φ h s) (ep0 : p0' = iI p0) (rp0 : r32 p0) (hF : FX35_told N SN p0 s = some q) : gG m b φ0 σo lU q (fX35_told N sN 192 p0' h) := by
  subst ep0
  unfold FX35_told at hF
  unfold fX35_told
  refine s_gI R (t_192 hm R.S) (Nat.le_of_ble_eq_true rfl) rfl ?_
  refine s_if (i_le rfl (c_lit 0 0 rfl) (R.ri (t_192 hm R.S) (Nat.le_of_ble_eq_true rfl) rfl) ⟨by decide, by decide⟩) hF (fun c2 hF => ?_) (fun c2 hF => ?_)
  ·
    refine s_kok R (t_192 hm R.S) (Nat.le_of_ble_eq_true rfl) ?_
    refine s_call R (Nat.zero_le _) (fun _ hq => SX35_hasValue (b := 0) hm (R.rf) rfl rp0 hq) hF (fun f4 rv4 h4 q5 R4 e4 E4 hF => ?_)
    refine s_if (i_eq e4.1 (c_lit 0 0 rfl) e4.2 ⟨by decide, by decide⟩) hF (fun c5 hF => ?_) (fun c5 hF => ?_)
    ·
      refine s_kok R4 (t_192 hm R4.S) (Nat.le_of_ble_eq_true rfl) ?_
      refine s_call R4 (Nat.zero_le _) (fun _ hq => SX35_hasLength (b := 0) hm (R4.rf) rfl rp0 hq) hF (fun f7 rv7 h7 q8 R7 e7 E7 hF => ?_)
      refine s_if (not_congr (i_eq e7.1 (c_lit 0 0 rfl) e7.2 ⟨by decide, by decide⟩)) hF (fun c8 hF => ?_) (fun c8 hF => ?_)
      ·
        exact SX35_told_b44 (N := N) (sN := sN) (SN := SN) hm hb @hsN R7 rfl rp0 hF
      ·
        refine s_kok R7 (t_192 hm R7.S) (Nat.le_of_ble_eq_true rfl) ?_
        refine s_call R7 (Nat.zero_le _) (fun _ hq => SX35_hasGlue (b := 0) hm (R7.rf) rfl rp0 hq) hF (fun f10 rv10 h10 q11 R10 e10 E10 hF => ?_)
        refine s_if (i_eq e10.1 (c_lit 0 0 rfl) e10.2 ⟨by decide, by decide⟩) hF (fun c11 hF => ?_) (fun c11 hF => ?_)
        ·
          refine s_kok R10 (t_192 hm R10.S) (Nat.le_of_ble_eq_true rfl) ?_
          refine s_call R10 (Nat.zero_le _) (fun _ hq => SX35_fail (b := 0) hm (R10.rf) (c_lit 6 6 rfl) ⟨by decide, by decide⟩ hq) hF (fun f13 rv13 h13 q14 R13 e13 E13 hF => ?_)
          exact SX35_told_b76 (N := N) (sN := sN) (SN := SN) hm @hsN R13 hF
        ·
          exact SX35_told_b44 (N := N) (sN := sN) (SN := SN) hm hb @hsN R10 rfl rp0 hF
    ·
      refine s_kok R4 (t_192 hm R4.S) (Nat.le_of_ble_eq_true rfl) ?_
      refine s_call R4 hb (fun _ hq => SX35_value (b := 1) (sN := sN) (SN := SN) hm (Nat.le_of_ble_eq_true rfl) @hsN (R4.rf) rfl rp0 hq) hF (fun f15 rv15 h15 q16 R15 e15 E15 hF => ?_)
      refine s_kok R15 (t_192 hm R15.S) (Nat.le_of_ble_eq_true rfl) ?_
      refine s_call R15 (Nat.zero_le _) (fun _ hq => SX35_putDigits (b := 0) (N := N) hm (R15.rf) e15.1 e15.2 hq) hF (fun f17 rv17 h17 q18 R17 e17 E17 hF => ?_)
      exact SX35_told_b76 (N := N) (sN := sN) (SN := SN) hm @hsN R17 hF
  ·
    exact g_ret R hF trivial
def FX35_primitive_b245 (N : Nat) (SE : Int → fS → Option (Unit × fS)) (SN : fS → Option (Int × fS)) (s : fS) : Option (Unit × fS) :=
  some ((), s)
theorem SX35_primitive_b245 {m b : Nat} {φ0 : Nat → Nat} {σo : fS} (hm : 1 ≤ m) {N : Nat} {sE : Nat → Int32 → eH → Option (Unit × eH)} {SE : Int → fS → Option (Unit × fS)} {sN : Nat → eH → Option (Int32 × eH)} {SN : fS → Option (Int × fS)} {q : Unit × fS} (hsE : ∀ {φ : Nat → Nat} {h : eH} {s : fS} {x1' : Int32} {x1 : Int} {q}, fC m 1 φ s φ h s → x1' = iI x1 → r32 x1 → SE x1 s = some q → gG m 1 φ s lU q (sE 192 x1' h)) (hsN : ∀ {φ : Nat → Nat} {h : eH} {s : fS} {q}, fC m 1 φ s φ h s → SN s = some q → gG m 1 φ s lI q (sN 192 h)) {φ : Nat → Nat} {h : eH} {s : fS} (R : fC m b φ0 σo φ h s) (hF : FX35_primitive_b245 N SE SN s = some q) : gG m b φ0 σo lU q (fX35_primitive_b245 N sE sN h) := by
  unfold FX35_primitive_b245 at hF
  unfold fX35_primitive_b245
  exact g_ret R hF trivial
def FX35_primitive_b139 (N : Nat) (SE : Int → fS → Option (Unit × fS)) (SN : fS → Option (Int × fS)) (l3 : Int) (s : fS) : Option (Unit × fS) :=
  (FX35_put l3 s).bind fun q2 =>
  FX35_primitive_b245 N SE SN q2.2
theorem SX35_primitive_b139 {m b : Nat} {φ0 : Nat → Nat} {σo : fS} (hm : 1 ≤ m) {N : Nat} {sE : Nat → Int32 → eH → Option (Unit × eH)} {SE : Int → fS → Option (Unit × fS)} {sN : Nat → eH → Option (Int32 × eH)} {SN : fS → Option (Int × fS)} {q : Unit × fS} (hsE : ∀ {φ : Nat → Nat} {h : eH} {s : fS} {x1' : Int32} {x1 : Int} {q}, fC m 1 φ s φ h s → x1' = iI x1 → r32 x1 → SE x1 s = some q → gG m 1 φ s lU q (sE 192 x1' h)) (hsN : ∀ {φ : Nat → Nat} {h : eH} {s : fS} {q}, fC m 1 φ s φ h s → SN s = some q → gG m 1 φ s lI q (sN 192 h)) {φ : Nat → Nat} {h : eH} {s : fS} {l3' : Int32} {l3 : Int} (R : fC m b φ0 σo φ h s) (el3 : l3' = iI l3) (rl3 : r32 l3) (hF : FX35_primitive_b139 N SE SN l3 s = some q) : gG m b φ0 σo lU q (fX35_primitive_b139 N sE sN 192 l3' h) := by
  subst el3
  unfold FX35_primitive_b139 at hF
  unfold fX35_primitive_b139
  refine s_kok R (t_192 hm R.S) (Nat.le_of_ble_eq_true rfl) ?_
  refine s_call R (Nat.zero_le _) (fun _ hq => SX35_put (b := 0) hm (R.rf) rfl rl3 hq) hF (fun f2 rv2 h2 q2 R2 e2 E2 hF => ?_)
  exact SX35_primitive_b245 (N := N) (sE := sE) (SE := SE) (sN := sN) (SN := SN) hm @hsE @hsN R2 hF
def FX35_primitive_b174 (N : Nat) (SE : Int → fS → Option (Unit × fS)) (SN : fS → Option (Int × fS)) (s1 : Int) (s : fS) : Option (Unit × fS) :=
  (FX35_put s1 s).bind fun q2 =>
  FX35_primitive_b245 N SE SN q2.2
theorem SX35_primitive_b174 {m b : Nat} {φ0 : Nat → Nat} {σo : fS} (hm : 1 ≤ m) {N : Nat} {sE : Nat → Int32 → eH → Option (Unit × eH)} {SE : Int → fS → Option (Unit × fS)} {sN : Nat → eH → Option (Int32 × eH)} {SN : fS → Option (Int × fS)} {q : Unit × fS} (hsE : ∀ {φ : Nat → Nat} {h : eH} {s : fS} {x1' : Int32} {x1 : Int} {q}, fC m 1 φ s φ h s → x1' = iI x1 → r32 x1 → SE x1 s = some q → gG m 1 φ s lU q (sE 192 x1' h)) (hsN : ∀ {φ : Nat → Nat} {h : eH} {s : fS} {q}, fC m 1 φ s φ h s → SN s = some q → gG m 1 φ s lI q (sN 192 h)) {φ : Nat → Nat} {h : eH} {s : fS} {s1' : Int32} {s1 : Int} (R : fC m b φ0 σo φ h s) (es1 : s1' = iI s1) (rs1 : r32 s1) (hF : FX35_primitive_b174 N SE SN s1 s = some q) : gG m b φ0 σo lU q (fX35_primitive_b174 N sE sN 192 s1' h) := by
  subst es1
  unfold FX35_primitive_b174 at hF
  unfold fX35_primitive_b174
  refine s_kok R (t_192 hm R.S) (Nat.le_of_ble_eq_true rfl) ?_
  refine s_call R (Nat.zero_le _) (fun _ hq => SX35_put (b := 0) hm (R.rf) rfl rs1 hq) hF (fun f2 rv2 h2 q2 R2 e2 E2 hF => ?_)
  exact SX35_primitive_b245 (N := N) (sE := sE) (SE := SE) (sN := sN) (SN := SN) hm @hsE @hsN R2 hF
def FX35_primitive (N : Nat) (SE : Int → fS → Option (Unit × fS)) (SN : fS → Option (Int × fS)) (p0 : Int) (p1 : Int) (s : fS) : Option (Unit × fS) :=
  if p1 = 0 then
    (FX35_need N s).bind fun q3 =>
    (FX35_need N q3.2).bind fun q5 =>
    (FX35_isExpandable q5.1 q5.2).bind fun q7 =>
    if q7.1 = 0 then
      (FX35_put q5.1 q7.2).bind fun q10 =>
      FX35_primitive_b139 N SE SN q3.1 q10.2
    else
      (SE q5.1 q7.2).bind fun q12 =>
      FX35_primitive_b139 N SE SN q3.1 q12.2
  else
    if p1 = 1 then
      (FX35_need N s).bind fun q15 =>
      (FX35_isExpandable q15.1 q15.2).bind fun q17 =>
      if q17.1 = 0 then
        FX35_primitive_b174 N SE SN q15.1 q17.2
      else
        FX35_primitive_b174 N SE SN (iadd q15.1 524288) q17.2
    else
      if p1 = 2 then
        (FX35_makeName N SE s).bind fun q21 =>
        FX35_primitive_b245 N SE SN q21.2
      else
        if p1 = 3 then
          (FX35_need N s).bind fun q24 =>
          (FX35_spellOut N q24.1 q24.2).bind fun q26 =>
          FX35_primitive_b245 N SE SN q26.2
        else
          if p1 = 4 then
            (SN s).bind fun q29 =>
            (FX35_putDigits N q29.1 q29.2).bind fun q31 =>
            FX35_primitive_b245 N SE SN q31.2
          else
            if p1 = 5 then
              (SN s).bind fun q34 =>
              (FX35_roman N q34.1 q34.2).bind fun q36 =>
              FX35_primitive_b245 N SE SN q36.2
            else
              if p1 = 6 then
                (FX35_needExpanded N SE s).bind fun q39 =>
                (FX35_told N SN q39.1 q39.2).bind fun q41 =>
                FX35_primitive_b245 N SE SN q41.2
              else
                if p1 = 7 then
                  (FX35_condition N SE SN p1 s).bind fun q44 =>
                  FX35_primitive_b245 N SE SN q44.2
                else
                  if p1 = 8 then
                    (FX35_condition N SE SN p1 s).bind fun q47 =>
                    FX35_primitive_b245 N SE SN q47.2
                  else
                    if p1 = 9 then
                      (FX35_condition N SE SN p1 s).bind fun q50 =>
                      FX35_primitive_b245 N SE SN q50.2
                    else
                      if p1 = 10 then
                        (FX35_condition N SE SN p1 s).bind fun q53 =>
                        FX35_primitive_b245 N SE SN q53.2
                      else
                        if p1 = 11 then
                          (FX35_condition N SE SN p1 s).bind fun q56 =>
                          FX35_primitive_b245 N SE SN q56.2
                        else
                          if p1 = 12 then
                            (FX35_condition N SE SN p1 s).bind fun q59 =>
                            FX35_primitive_b245 N SE SN q59.2
                          else
                            if p1 = 13 then
                              (FX35_condition N SE SN p1 s).bind fun q62 =>
                              FX35_primitive_b245 N SE SN q62.2
                            else
                              if p1 = 14 then
                                (FX35_condition N SE SN p1 s).bind fun q65 =>
                                FX35_primitive_b245 N SE SN q65.2
                              else
                                if p1 = 15 then
                                  (FX35_condition N SE SN p1 s).bind fun q68 =>
                                  FX35_primitive_b245 N SE SN q68.2
                                else
                                  if p1 = 16 then
                                    (FX35_condition N SE SN p1 s).bind fun q71 =>
                                    FX35_primitive_b245 N SE SN q71.2
                                  else
                                    if p1 = 17 then
                                      (FX35_condition N SE SN p1 s).bind fun q74 =>
                                      FX35_primitive_b245 N SE SN q74.2
                                    else
                                      if p1 = 18 then
                                        (FX35_condition N SE SN p1 s).bind fun q77 =>
                                        FX35_primitive_b245 N SE SN q77.2
                                      else
                                        if p1 = 19 then
                                          (FX35_branch N p0 p1 s).bind fun q80 =>
                                          FX35_primitive_b245 N SE SN q80.2
                                        else
                                          if p1 = 20 then
                                            (FX35_branch N p0 p1 s).bind fun q83 =>
                                            FX35_primitive_b245 N SE SN q83.2
                                          else
                                            if p1 = 21 then
                                              (FX35_branch N p0 p1 s).bind fun q86 =>
                                              FX35_primitive_b245 N SE SN q86.2
                                            else
                                              (FX35_condition N SE SN p1 s).bind fun q88 =>
                                              FX35_primitive_b245 N SE SN q88.2
theorem SX35_primitive {m b : Nat} {φ0 : Nat → Nat} {σo : fS} (hm : 1 ≤ m) (hb : 1 ≤ b) {N : Nat} {sE : Nat → Int32 → eH → Option (Unit × eH)} {SE : Int → fS → Option (Unit × fS)} {sN : Nat → eH → Option (Int32 × eH)} {SN : fS → Option (Int × fS)} {q : Unit × fS} (hsE : ∀ {φ : Nat → Nat} {h : eH} {s : fS} {x1' : Int32} {x1 : Int} {q}, fC m 1 φ s φ h s → x1' = iI x1 → r32 x1 → SE x1 s = some q → gG m 1 φ s lU q (sE 192 x1' h)) (hsN : ∀ {φ : Nat → Nat} {h : eH} {s : fS} {q}, fC m 1 φ s φ h s → SN s = some q → gG m 1 φ s lI q (sN 192 h)) {φ : Nat → Nat} {h : eH} {s : fS} {p0' : Int32} {p0 : Int} {p1' : Int32} {p1 : Int} (R : fC m b φ0 σo φ h s) (ep0 : p0' = iI p0) (rp0 : r32 p0) (ep1 : p1' = iI p1) (rp1 : r32 p1) (hF : FX35_primitive N SE SN p0 p1 s = some q) : gG m b φ0 σo lU q (fX35_primitive N sE sN 192 p0' p1' h) := by
  subst ep0; subst ep1
  unfold FX35_primitive at hF
  unfold fX35_primitive
  refine s_if (i_eq rfl (c_lit 0 0 rfl) rp1 ⟨by decide, by decide⟩) hF (fun c1 hF => ?_) (fun c1 hF => ?_)
  ·
    refine s_kok R (t_192 hm R.S) (Nat.le_of_ble_eq_true rfl) ?_
    refine s_call R (Nat.zero_le _) (fun _ hq => SX35_need (b := 0) (N := N) hm (R.rf) hq) hF (fun f3 rv3 h3 q3 R3 e3 E3 hF => ?_)
    refine s_kok R3 (t_192 hm R3.S) (Nat.le_of_ble_eq_true rfl) ?_
    refine s_call R3 (Nat.zero_le _) (fun _ hq => SX35_need (b := 0) (N := N) hm (R3.rf) hq) hF (fun f5 rv5 h5 q5 R5 e5 E5 hF => ?_)
    refine s_kok R5 (t_192 hm R5.S) (Nat.le_of_ble_eq_true rfl) ?_
    refine s_call R5 (Nat.zero_le _) (fun _ hq => SX35_isExpandable (b := 0) hm (R5.rf) e5.1 e5.2 hq) hF (fun f7 rv7 h7 q7 R7 e7 E7 hF => ?_)
    refine s_if (i_eq e7.1 (c_lit 0 0 rfl) e7.2 ⟨by decide, by decide⟩) hF (fun c8 hF => ?_) (fun c8 hF => ?_)
    ·
      refine s_kok R7 (t_192 hm R7.S) (Nat.le_of_ble_eq_true rfl) ?_
      refine s_call R7 (Nat.zero_le _) (fun _ hq => SX35_put (b := 0) hm (R7.rf) e5.1 e5.2 hq) hF (fun f10 rv10 h10 q10 R10 e10 E10 hF => ?_)
      exact SX35_primitive_b139 (N := N) (sE := sE) (SE := SE) (sN := sN) (SN := SN) hm @hsE @hsN R10 e3.1 e3.2 hF
    ·
      refine s_kok R7 (t_192 hm R7.S) (Nat.le_of_ble_eq_true rfl) ?_
      refine s_call R7 hb (fun _ hq => hsE (R7.rf) e5.1 e5.2 hq) hF (fun f12 rv12 h12 q12 R12 e12 E12 hF => ?_)
      exact SX35_primitive_b139 (N := N) (sE := sE) (SE := SE) (sN := sN) (SN := SN) hm @hsE @hsN R12 e3.1 e3.2 hF
  ·
    refine s_if (i_eq rfl (c_lit 1 1 rfl) rp1 ⟨by decide, by decide⟩) hF (fun c13 hF => ?_) (fun c13 hF => ?_)
    ·
      refine s_kok R (t_192 hm R.S) (Nat.le_of_ble_eq_true rfl) ?_
      refine s_call R (Nat.zero_le _) (fun _ hq => SX35_need (b := 0) (N := N) hm (R.rf) hq) hF (fun f15 rv15 h15 q15 R15 e15 E15 hF => ?_)
      refine s_kok R15 (t_192 hm R15.S) (Nat.le_of_ble_eq_true rfl) ?_
      refine s_call R15 (Nat.zero_le _) (fun _ hq => SX35_isExpandable (b := 0) hm (R15.rf) e15.1 e15.2 hq) hF (fun f17 rv17 h17 q17 R17 e17 E17 hF => ?_)
      refine s_if (i_eq e17.1 (c_lit 0 0 rfl) e17.2 ⟨by decide, by decide⟩) hF (fun c18 hF => ?_) (fun c18 hF => ?_)
      ·
        exact SX35_primitive_b174 (N := N) (sE := sE) (SE := SE) (sN := sN) (SN := SN) hm @hsE @hsN R17 e15.1 e15.2 hF
      ·
        exact SX35_primitive_b174 (N := N) (sE := sE) (SE := SE) (sN := sN) (SN := SN) hm @hsE @hsN R17 (c_add e15.1 (c_lit 524288 524288 rfl)) (rr_I _) hF
    ·
      refine s_if (i_eq rfl (c_lit 2 2 rfl) rp1 ⟨by decide, by decide⟩) hF (fun c19 hF => ?_) (fun c19 hF => ?_)
      ·
        refine s_kok R (t_192 hm R.S) (Nat.le_of_ble_eq_true rfl) ?_
        refine s_call R hb (fun _ hq => SX35_makeName (b := 1) (N := N) (sE := sE) (SE := SE) hm (Nat.le_of_ble_eq_true rfl) @hsE (R.rf) hq) hF (fun f21 rv21 h21 q21 R21 e21 E21 hF => ?_)
        exact SX35_primitive_b245 (N := N) (sE := sE) (SE := SE) (sN := sN) (SN := SN) hm @hsE @hsN R21 hF
      ·
        refine s_if (i_eq rfl (c_lit 3 3 rfl) rp1 ⟨by decide, by decide⟩) hF (fun c22 hF => ?_) (fun c22 hF => ?_)
        ·
          refine s_kok R (t_192 hm R.S) (Nat.le_of_ble_eq_true rfl) ?_
          refine s_call R (Nat.zero_le _) (fun _ hq => SX35_need (b := 0) (N := N) hm (R.rf) hq) hF (fun f24 rv24 h24 q24 R24 e24 E24 hF => ?_)
          refine s_kok R24 (t_192 hm R24.S) (Nat.le_of_ble_eq_true rfl) ?_
          refine s_call R24 (Nat.zero_le _) (fun _ hq => SX35_spellOut (b := 0) (N := N) hm (R24.rf) e24.1 e24.2 hq) hF (fun f26 rv26 h26 q26 R26 e26 E26 hF => ?_)
          exact SX35_primitive_b245 (N := N) (sE := sE) (SE := SE) (sN := sN) (SN := SN) hm @hsE @hsN R26 hF
        ·
          refine s_if (i_eq rfl (c_lit 4 4 rfl) rp1 ⟨by decide, by decide⟩) hF (fun c27 hF => ?_) (fun c27 hF => ?_)
          ·
            refine s_kok R (t_192 hm R.S) (Nat.le_of_ble_eq_true rfl) ?_
            refine s_call R hb (fun _ hq => hsN (R.rf)  hq) hF (fun f29 rv29 h29 q29 R29 e29 E29 hF => ?_)
            refine s_kok R29 (t_192 hm R29.S) (Nat.le_of_ble_eq_true rfl) ?_
            refine s_call R29 (Nat.zero_le _) (fun _ hq => SX35_putDigits (b := 0) (N := N) hm (R29.rf) e29.1 e29.2 hq) hF (fun f31 rv31 h31 q31 R31 e31 E31 hF => ?_)
            exact SX35_primitive_b245 (N := N) (sE := sE) (SE := SE) (sN := sN) (SN := SN) hm @hsE @hsN R31 hF
          ·
            refine s_if (i_eq rfl (c_lit 5 5 rfl) rp1 ⟨by decide, by decide⟩) hF (fun c32 hF => ?_) (fun c32 hF => ?_)
            ·
              refine s_kok R (t_192 hm R.S) (Nat.le_of_ble_eq_true rfl) ?_
              refine s_call R hb (fun _ hq => hsN (R.rf)  hq) hF (fun f34 rv34 h34 q34 R34 e34 E34 hF => ?_)
              refine s_kok R34 (t_192 hm R34.S) (Nat.le_of_ble_eq_true rfl) ?_
              refine s_call R34 (Nat.zero_le _) (fun _ hq => SX35_roman (b := 0) (N := N) hm (R34.rf) e34.1 e34.2 hq) hF (fun f36 rv36 h36 q36 R36 e36 E36 hF => ?_)
              exact SX35_primitive_b245 (N := N) (sE := sE) (SE := SE) (sN := sN) (SN := SN) hm @hsE @hsN R36 hF
            ·
              refine s_if (i_eq rfl (c_lit 6 6 rfl) rp1 ⟨by decide, by decide⟩) hF (fun c37 hF => ?_) (fun c37 hF => ?_)
              ·
                refine s_kok R (t_192 hm R.S) (Nat.le_of_ble_eq_true rfl) ?_
                refine s_call R hb (fun _ hq => SX35_needExpanded (b := 1) (N := N) (sE := sE) (SE := SE) hm (Nat.le_of_ble_eq_true rfl) @hsE (R.rf) hq) hF (fun f39 rv39 h39 q39 R39 e39 E39 hF => ?_)
                refine s_kok R39 (t_192 hm R39.S) (Nat.le_of_ble_eq_true rfl) ?_
                refine s_call R39 hb (fun _ hq => SX35_told (b := 1) (N := N) (sN := sN) (SN := SN) hm (Nat.le_of_ble_eq_true rfl) @hsN (R39.rf) e39.1 e39.2 hq) hF (fun f41 rv41 h41 q41 R41 e41 E41 hF => ?_)
                exact SX35_primitive_b245 (N := N) (sE := sE) (SE := SE) (sN := sN) (SN := SN) hm @hsE @hsN R41 hF
              ·
                refine s_if (i_eq rfl (c_lit 7 7 rfl) rp1 ⟨by decide, by decide⟩) hF (fun c42 hF => ?_) (fun c42 hF => ?_)
                ·
                  refine s_kok R (t_192 hm R.S) (Nat.le_of_ble_eq_true rfl) ?_
                  refine s_call R hb (fun _ hq => SX35_condition (b := 1) (N := N) (sE := sE) (SE := SE) (sN := sN) (SN := SN) hm (Nat.le_of_ble_eq_true rfl) @hsE @hsN (R.rf) rfl rp1 hq) hF (fun f44 rv44 h44 q44 R44 e44 E44 hF => ?_)
                  exact SX35_primitive_b245 (N := N) (sE := sE) (SE := SE) (sN := sN) (SN := SN) hm @hsE @hsN R44 hF
                ·
                  refine s_if (i_eq rfl (c_lit 8 8 rfl) rp1 ⟨by decide, by decide⟩) hF (fun c45 hF => ?_) (fun c45 hF => ?_)
                  ·
                    refine s_kok R (t_192 hm R.S) (Nat.le_of_ble_eq_true rfl) ?_
                    refine s_call R hb (fun _ hq => SX35_condition (b := 1) (N := N) (sE := sE) (SE := SE) (sN := sN) (SN := SN) hm (Nat.le_of_ble_eq_true rfl) @hsE @hsN (R.rf) rfl rp1 hq) hF (fun f47 rv47 h47 q47 R47 e47 E47 hF => ?_)
                    exact SX35_primitive_b245 (N := N) (sE := sE) (SE := SE) (sN := sN) (SN := SN) hm @hsE @hsN R47 hF
                  ·
                    refine s_if (i_eq rfl (c_lit 9 9 rfl) rp1 ⟨by decide, by decide⟩) hF (fun c48 hF => ?_) (fun c48 hF => ?_)
                    ·
                      refine s_kok R (t_192 hm R.S) (Nat.le_of_ble_eq_true rfl) ?_
                      refine s_call R hb (fun _ hq => SX35_condition (b := 1) (N := N) (sE := sE) (SE := SE) (sN := sN) (SN := SN) hm (Nat.le_of_ble_eq_true rfl) @hsE @hsN (R.rf) rfl rp1 hq) hF (fun f50 rv50 h50 q50 R50 e50 E50 hF => ?_)
                      exact SX35_primitive_b245 (N := N) (sE := sE) (SE := SE) (sN := sN) (SN := SN) hm @hsE @hsN R50 hF
                    ·
                      refine s_if (i_eq rfl (c_lit 10 10 rfl) rp1 ⟨by decide, by decide⟩) hF (fun c51 hF => ?_) (fun c51 hF => ?_)
                      ·
                        refine s_kok R (t_192 hm R.S) (Nat.le_of_ble_eq_true rfl) ?_
                        refine s_call R hb (fun _ hq => SX35_condition (b := 1) (N := N) (sE := sE) (SE := SE) (sN := sN) (SN := SN) hm (Nat.le_of_ble_eq_true rfl) @hsE @hsN (R.rf) rfl rp1 hq) hF (fun f53 rv53 h53 q53 R53 e53 E53 hF => ?_)
                        exact SX35_primitive_b245 (N := N) (sE := sE) (SE := SE) (sN := sN) (SN := SN) hm @hsE @hsN R53 hF
                      ·
                        refine s_if (i_eq rfl (c_lit 11 11 rfl) rp1 ⟨by decide, by decide⟩) hF (fun c54 hF => ?_) (fun c54 hF => ?_)
                        ·
                          refine s_kok R (t_192 hm R.S) (Nat.le_of_ble_eq_true rfl) ?_
                          refine s_call R hb (fun _ hq => SX35_condition (b := 1) (N := N) (sE := sE) (SE := SE) (sN := sN) (SN := SN) hm (Nat.le_of_ble_eq_true rfl) @hsE @hsN (R.rf) rfl rp1 hq) hF (fun f56 rv56 h56 q56 R56 e56 E56 hF => ?_)
                          exact SX35_primitive_b245 (N := N) (sE := sE) (SE := SE) (sN := sN) (SN := SN) hm @hsE @hsN R56 hF
                        ·
                          refine s_if (i_eq rfl (c_lit 12 12 rfl) rp1 ⟨by decide, by decide⟩) hF (fun c57 hF => ?_) (fun c57 hF => ?_)
                          ·
                            refine s_kok R (t_192 hm R.S) (Nat.le_of_ble_eq_true rfl) ?_
                            refine s_call R hb (fun _ hq => SX35_condition (b := 1) (N := N) (sE := sE) (SE := SE) (sN := sN) (SN := SN) hm (Nat.le_of_ble_eq_true rfl) @hsE @hsN (R.rf) rfl rp1 hq) hF (fun f59 rv59 h59 q59 R59 e59 E59 hF => ?_)
                            exact SX35_primitive_b245 (N := N) (sE := sE) (SE := SE) (sN := sN) (SN := SN) hm @hsE @hsN R59 hF
                          ·
                            refine s_if (i_eq rfl (c_lit 13 13 rfl) rp1 ⟨by decide, by decide⟩) hF (fun c60 hF => ?_) (fun c60 hF => ?_)
                            ·
                              refine s_kok R (t_192 hm R.S) (Nat.le_of_ble_eq_true rfl) ?_
                              refine s_call R hb (fun _ hq => SX35_condition (b := 1) (N := N) (sE := sE) (SE := SE) (sN := sN) (SN := SN) hm (Nat.le_of_ble_eq_true rfl) @hsE @hsN (R.rf) rfl rp1 hq) hF (fun f62 rv62 h62 q62 R62 e62 E62 hF => ?_)
                              exact SX35_primitive_b245 (N := N) (sE := sE) (SE := SE) (sN := sN) (SN := SN) hm @hsE @hsN R62 hF
                            ·
                              refine s_if (i_eq rfl (c_lit 14 14 rfl) rp1 ⟨by decide, by decide⟩) hF (fun c63 hF => ?_) (fun c63 hF => ?_)
                              ·
                                refine s_kok R (t_192 hm R.S) (Nat.le_of_ble_eq_true rfl) ?_
                                refine s_call R hb (fun _ hq => SX35_condition (b := 1) (N := N) (sE := sE) (SE := SE) (sN := sN) (SN := SN) hm (Nat.le_of_ble_eq_true rfl) @hsE @hsN (R.rf) rfl rp1 hq) hF (fun f65 rv65 h65 q65 R65 e65 E65 hF => ?_)
                                exact SX35_primitive_b245 (N := N) (sE := sE) (SE := SE) (sN := sN) (SN := SN) hm @hsE @hsN R65 hF
                              ·
                                refine s_if (i_eq rfl (c_lit 15 15 rfl) rp1 ⟨by decide, by decide⟩) hF (fun c66 hF => ?_) (fun c66 hF => ?_)
                                ·
                                  refine s_kok R (t_192 hm R.S) (Nat.le_of_ble_eq_true rfl) ?_
                                  refine s_call R hb (fun _ hq => SX35_condition (b := 1) (N := N) (sE := sE) (SE := SE) (sN := sN) (SN := SN) hm (Nat.le_of_ble_eq_true rfl) @hsE @hsN (R.rf) rfl rp1 hq) hF (fun f68 rv68 h68 q68 R68 e68 E68 hF => ?_)
                                  exact SX35_primitive_b245 (N := N) (sE := sE) (SE := SE) (sN := sN) (SN := SN) hm @hsE @hsN R68 hF
                                ·
                                  refine s_if (i_eq rfl (c_lit 16 16 rfl) rp1 ⟨by decide, by decide⟩) hF (fun c69 hF => ?_) (fun c69 hF => ?_)
                                  ·
                                    refine s_kok R (t_192 hm R.S) (Nat.le_of_ble_eq_true rfl) ?_
                                    refine s_call R hb (fun _ hq => SX35_condition (b := 1) (N := N) (sE := sE) (SE := SE) (sN := sN) (SN := SN) hm (Nat.le_of_ble_eq_true rfl) @hsE @hsN (R.rf) rfl rp1 hq) hF (fun f71 rv71 h71 q71 R71 e71 E71 hF => ?_)
                                    exact SX35_primitive_b245 (N := N) (sE := sE) (SE := SE) (sN := sN) (SN := SN) hm @hsE @hsN R71 hF
                                  ·
                                    refine s_if (i_eq rfl (c_lit 17 17 rfl) rp1 ⟨by decide, by decide⟩) hF (fun c72 hF => ?_) (fun c72 hF => ?_)
                                    ·
                                      refine s_kok R (t_192 hm R.S) (Nat.le_of_ble_eq_true rfl) ?_
                                      refine s_call R hb (fun _ hq => SX35_condition (b := 1) (N := N) (sE := sE) (SE := SE) (sN := sN) (SN := SN) hm (Nat.le_of_ble_eq_true rfl) @hsE @hsN (R.rf) rfl rp1 hq) hF (fun f74 rv74 h74 q74 R74 e74 E74 hF => ?_)
                                      exact SX35_primitive_b245 (N := N) (sE := sE) (SE := SE) (sN := sN) (SN := SN) hm @hsE @hsN R74 hF
                                    ·
                                      refine s_if (i_eq rfl (c_lit 18 18 rfl) rp1 ⟨by decide, by decide⟩) hF (fun c75 hF => ?_) (fun c75 hF => ?_)
                                      ·
                                        refine s_kok R (t_192 hm R.S) (Nat.le_of_ble_eq_true rfl) ?_
                                        refine s_call R hb (fun _ hq => SX35_condition (b := 1) (N := N) (sE := sE) (SE := SE) (sN := sN) (SN := SN) hm (Nat.le_of_ble_eq_true rfl) @hsE @hsN (R.rf) rfl rp1 hq) hF (fun f77 rv77 h77 q77 R77 e77 E77 hF => ?_)
                                        exact SX35_primitive_b245 (N := N) (sE := sE) (SE := SE) (sN := sN) (SN := SN) hm @hsE @hsN R77 hF
                                      ·
                                        refine s_if (i_eq rfl (c_lit 19 19 rfl) rp1 ⟨by decide, by decide⟩) hF (fun c78 hF => ?_) (fun c78 hF => ?_)
                                        ·
                                          refine s_kok R (t_192 hm R.S) (Nat.le_of_ble_eq_true rfl) ?_
                                          refine s_call R (Nat.zero_le _) (fun _ hq => SX35_branch (b := 0) (N := N) hm (R.rf) rfl rp0 rfl rp1 hq) hF (fun f80 rv80 h80 q80 R80 e80 E80 hF => ?_)
                                          exact SX35_primitive_b245 (N := N) (sE := sE) (SE := SE) (sN := sN) (SN := SN) hm @hsE @hsN R80 hF
                                        ·
                                          refine s_if (i_eq rfl (c_lit 20 20 rfl) rp1 ⟨by decide, by decide⟩) hF (fun c81 hF => ?_) (fun c81 hF => ?_)
                                          ·
                                            refine s_kok R (t_192 hm R.S) (Nat.le_of_ble_eq_true rfl) ?_
                                            refine s_call R (Nat.zero_le _) (fun _ hq => SX35_branch (b := 0) (N := N) hm (R.rf) rfl rp0 rfl rp1 hq) hF (fun f83 rv83 h83 q83 R83 e83 E83 hF => ?_)
                                            exact SX35_primitive_b245 (N := N) (sE := sE) (SE := SE) (sN := sN) (SN := SN) hm @hsE @hsN R83 hF
                                          ·
                                            refine s_if (i_eq rfl (c_lit 21 21 rfl) rp1 ⟨by decide, by decide⟩) hF (fun c84 hF => ?_) (fun c84 hF => ?_)
                                            ·
                                              refine s_kok R (t_192 hm R.S) (Nat.le_of_ble_eq_true rfl) ?_
                                              refine s_call R (Nat.zero_le _) (fun _ hq => SX35_branch (b := 0) (N := N) hm (R.rf) rfl rp0 rfl rp1 hq) hF (fun f86 rv86 h86 q86 R86 e86 E86 hF => ?_)
                                              exact SX35_primitive_b245 (N := N) (sE := sE) (SE := SE) (sN := sN) (SN := SN) hm @hsE @hsN R86 hF
                                            ·
                                              refine s_kok R (t_192 hm R.S) (Nat.le_of_ble_eq_true rfl) ?_
                                              refine s_call R hb (fun _ hq => SX35_condition (b := 1) (N := N) (sE := sE) (SE := SE) (sN := sN) (SN := SN) hm (Nat.le_of_ble_eq_true rfl) @hsE @hsN (R.rf) rfl rp1 hq) hF (fun f88 rv88 h88 q88 R88 e88 E88 hF => ?_)
                                              exact SX35_primitive_b245 (N := N) (sE := sE) (SE := SE) (sN := sN) (SN := SN) hm @hsE @hsN R88 hF
def FX35_expand_b94 (N : Nat) (SE : Int → fS → Option (Unit × fS)) (SN : fS → Option (Int × fS)) (s : fS) : Option (Unit × fS) :=
  some ((), s)
theorem SX35_expand_b94 {m b : Nat} {φ0 : Nat → Nat} {σo : fS} (hm : 1 ≤ m) {N : Nat} {sE : Nat → Int32 → eH → Option (Unit × eH)} {SE : Int → fS → Option (Unit × fS)} {sN : Nat → eH → Option (Int32 × eH)} {SN : fS → Option (Int × fS)} {q : Unit × fS} (hsE : ∀ {φ : Nat → Nat} {h : eH} {s : fS} {x1' : Int32} {x1 : Int} {q}, fC m 1 φ s φ h s → x1' = iI x1 → r32 x1 → SE x1 s = some q → gG m 1 φ s lU q (sE 192 x1' h)) (hsN : ∀ {φ : Nat → Nat} {h : eH} {s : fS} {q}, fC m 1 φ s φ h s → SN s = some q → gG m 1 φ s lI q (sN 192 h)) {φ : Nat → Nat} {h : eH} {s : fS} (R : fC m b φ0 σo φ h s) (hF : FX35_expand_b94 N SE SN s = some q) : gG m b φ0 σo lU q (fX35_expand_b94 N sE sN h) := by
  unfold FX35_expand_b94 at hF
  unfold fX35_expand_b94
  exact g_ret R hF trivial
def FX35_expand_b69 (N : Nat) (SE : Int → fS → Option (Unit × fS)) (SN : fS → Option (Int × fS)) (s : fS) : Option (Unit × fS) :=
  (uPI s 192 45 (isub (s.i 192 45) 1)).bind fun σ3 =>
  if (σ3.i 192 37) ≤ 10000 then
    FX35_expand_b94 N SE SN σ3
  else
    (FX35_fail 2 σ3).bind fun q9 =>
    FX35_expand_b94 N SE SN q9.2
theorem SX35_expand_b69 {m b : Nat} {φ0 : Nat → Nat} {σo : fS} (hm : 1 ≤ m) {N : Nat} {sE : Nat → Int32 → eH → Option (Unit × eH)} {SE : Int → fS → Option (Unit × fS)} {sN : Nat → eH → Option (Int32 × eH)} {SN : fS → Option (Int × fS)} {q : Unit × fS} (hsE : ∀ {φ : Nat → Nat} {h : eH} {s : fS} {x1' : Int32} {x1 : Int} {q}, fC m 1 φ s φ h s → x1' = iI x1 → r32 x1 → SE x1 s = some q → gG m 1 φ s lU q (sE 192 x1' h)) (hsN : ∀ {φ : Nat → Nat} {h : eH} {s : fS} {q}, fC m 1 φ s φ h s → SN s = some q → gG m 1 φ s lI q (sN 192 h)) {φ : Nat → Nat} {h : eH} {s : fS} (R : fC m b φ0 σo φ h s) (hF : FX35_expand_b69 N SE SN s = some q) : gG m b φ0 σo lU q (fX35_expand_b69 N sE sN 192 h) := by
  unfold FX35_expand_b69 at hF
  unfold fX35_expand_b69
  refine s_gI R (t_192 hm R.S) (Nat.le_of_ble_eq_true rfl) rfl ?_
  refine s_pI R (t_192 hm R.S) (Nat.le_of_ble_eq_true rfl) rfl (c_sub rfl (c_lit 1 1 rfl)) (rr_I _) hF (fun h2 σ3 R2 T2 hF => ?_)
  refine s_gI R2 (t_192 hm R2.S) (Nat.le_of_ble_eq_true rfl) rfl ?_
  refine s_if (i_le rfl (c_lit 10000 10000 rfl) (R2.ri (t_192 hm R2.S) (Nat.le_of_ble_eq_true rfl) rfl) ⟨by decide, by decide⟩) hF (fun c4 hF => ?_) (fun c4 hF => ?_)
  ·
    exact SX35_expand_b94 (N := N) (sE := sE) (SE := SE) (sN := sN) (SN := SN) hm @hsE @hsN R2 hF
  ·
    refine s_kok R2 (t_192 hm R2.S) (Nat.le_of_ble_eq_true rfl) ?_
    refine s_call R2 (Nat.zero_le _) (fun _ hq => SX35_fail (b := 0) hm (R2.rf) (c_lit 2 2 rfl) ⟨by decide, by decide⟩ hq) hF (fun f6 rv6 h6 q9 R6 e6 E6 hF => ?_)
    exact SX35_expand_b94 (N := N) (sE := sE) (SE := SE) (sN := sN) (SN := SN) hm @hsE @hsN R6 hF
def FX35_expand_b18 (N : Nat) (SE : Int → fS → Option (Unit × fS)) (SN : fS → Option (Int × fS)) (l1 : Int) (s : fS) : Option (Unit × fS) :=
  if (s.i 192 46) ≤ 0 then
    (uPI s 192 45 (iadd (s.i 192 45) 1)).bind fun σ6 =>
    (FX35_meaning l1 σ6).bind fun q9 =>
    if q9.1 < 100000 then
      (FX35_primitive N SE SN l1 (isub q9.1 1000) q9.2).bind fun q12 =>
      FX35_expand_b69 N SE SN q12.2
    else
      (FX35_call N (isub q9.1 100000) q9.2).bind fun q14 =>
      FX35_expand_b69 N SE SN q14.2
  else
    some ((), s)
theorem SX35_expand_b18 {m b : Nat} {φ0 : Nat → Nat} {σo : fS} (hm : 1 ≤ m) (hb : 1 ≤ b) {N : Nat} {sE : Nat → Int32 → eH → Option (Unit × eH)} {SE : Int → fS → Option (Unit × fS)} {sN : Nat → eH → Option (Int32 × eH)} {SN : fS → Option (Int × fS)} {q : Unit × fS} (hsE : ∀ {φ : Nat → Nat} {h : eH} {s : fS} {x1' : Int32} {x1 : Int} {q}, fC m 1 φ s φ h s → x1' = iI x1 → r32 x1 → SE x1 s = some q → gG m 1 φ s lU q (sE 192 x1' h)) (hsN : ∀ {φ : Nat → Nat} {h : eH} {s : fS} {q}, fC m 1 φ s φ h s → SN s = some q → gG m 1 φ s lI q (sN 192 h)) {φ : Nat → Nat} {h : eH} {s : fS} {l1' : Int32} {l1 : Int} (R : fC m b φ0 σo φ h s) (el1 : l1' = iI l1) (rl1 : r32 l1) (hF : FX35_expand_b18 N SE SN l1 s = some q) : gG m b φ0 σo lU q (fX35_expand_b18 N sE sN 192 l1' h) := by
  subst el1
  unfold FX35_expand_b18 at hF
  unfold fX35_expand_b18
  refine s_gI R (t_192 hm R.S) (Nat.le_of_ble_eq_true rfl) rfl ?_
  refine s_if (i_le rfl (c_lit 0 0 rfl) (R.ri (t_192 hm R.S) (Nat.le_of_ble_eq_true rfl) rfl) ⟨by decide, by decide⟩) hF (fun c2 hF => ?_) (fun c2 hF => ?_)
  ·
    refine s_gI R (t_192 hm R.S) (Nat.le_of_ble_eq_true rfl) rfl ?_
    refine s_pI R (t_192 hm R.S) (Nat.le_of_ble_eq_true rfl) rfl (c_add rfl (c_lit 1 1 rfl)) (rr_I _) hF (fun h4 σ6 R4 T4 hF => ?_)
    refine s_kok R4 (t_192 hm R4.S) (Nat.le_of_ble_eq_true rfl) ?_
    refine s_call R4 (Nat.zero_le _) (fun _ hq => SX35_meaning (b := 0) hm (R4.rf) rfl rl1 hq) hF (fun f6 rv6 h6 q9 R6 e6 E6 hF => ?_)
    refine s_if (i_lt e6.1 (c_lit 100000 100000 rfl) e6.2 ⟨by decide, by decide⟩) hF (fun c7 hF => ?_) (fun c7 hF => ?_)
    ·
      refine s_kok R6 (t_192 hm R6.S) (Nat.le_of_ble_eq_true rfl) ?_
      refine s_call R6 hb (fun _ hq => SX35_primitive (b := 1) (N := N) (sE := sE) (SE := SE) (sN := sN) (SN := SN) hm (Nat.le_of_ble_eq_true rfl) @hsE @hsN (R6.rf) rfl rl1 (c_sub e6.1 (c_lit 1000 1000 rfl)) (rr_I _) hq) hF (fun f9 rv9 h9 q12 R9 e9 E9 hF => ?_)
      exact SX35_expand_b69 (N := N) (sE := sE) (SE := SE) (sN := sN) (SN := SN) hm @hsE @hsN R9 hF
    ·
      refine s_kok R6 (t_192 hm R6.S) (Nat.le_of_ble_eq_true rfl) ?_
      refine s_call R6 (Nat.zero_le _) (fun _ hq => SX35_call (b := 0) (N := N) hm (R6.rf) (c_sub e6.1 (c_lit 100000 100000 rfl)) (rr_I _) hq) hF (fun f11 rv11 h11 q14 R11 e11 E11 hF => ?_)
      exact SX35_expand_b69 (N := N) (sE := sE) (SE := SE) (sN := sN) (SN := SN) hm @hsE @hsN R11 hF
  ·
    exact g_ret R hF trivial
def FX35_expand (N : Nat) (SE : Int → fS → Option (Unit × fS)) (SN : fS → Option (Int × fS)) (p0 : Int) (s : fS) : Option (Unit × fS) :=
  (FX35_tick s).bind fun q2 =>
  if ¬ ((q2.2.i 192 45) = 40) then
    FX35_expand_b18 N SE SN p0 q2.2
  else
    (FX35_fail 3 q2.2).bind fun q7 =>
    FX35_expand_b18 N SE SN p0 q7.2
theorem SX35_expand {m b : Nat} {φ0 : Nat → Nat} {σo : fS} (hm : 1 ≤ m) (hb : 1 ≤ b) {N : Nat} {sE : Nat → Int32 → eH → Option (Unit × eH)} {SE : Int → fS → Option (Unit × fS)} {sN : Nat → eH → Option (Int32 × eH)} {SN : fS → Option (Int × fS)} {q : Unit × fS} (hsE : ∀ {φ : Nat → Nat} {h : eH} {s : fS} {x1' : Int32} {x1 : Int} {q}, fC m 1 φ s φ h s → x1' = iI x1 → r32 x1 → SE x1 s = some q → gG m 1 φ s lU q (sE 192 x1' h)) (hsN : ∀ {φ : Nat → Nat} {h : eH} {s : fS} {q}, fC m 1 φ s φ h s → SN s = some q → gG m 1 φ s lI q (sN 192 h)) {φ : Nat → Nat} {h : eH} {s : fS} {p0' : Int32} {p0 : Int} (R : fC m b φ0 σo φ h s) (ep0 : p0' = iI p0) (rp0 : r32 p0) (hF : FX35_expand N SE SN p0 s = some q) : gG m b φ0 σo lU q (fX35_expand N sE sN 192 p0' h) := by
  subst ep0
  unfold FX35_expand at hF
  unfold fX35_expand
  refine s_kok R (t_192 hm R.S) (Nat.le_of_ble_eq_true rfl) ?_
  refine s_call R (Nat.zero_le _) (fun _ hq => SX35_tick (b := 0) hm (R.rf) hq) hF (fun f2 rv2 h2 q2 R2 e2 E2 hF => ?_)
  refine s_gI R2 (t_192 hm R2.S) (Nat.le_of_ble_eq_true rfl) rfl ?_
  refine s_if (not_congr (i_eq rfl (c_lit 40 40 rfl) (R2.ri (t_192 hm R2.S) (Nat.le_of_ble_eq_true rfl) rfl) ⟨by decide, by decide⟩)) hF (fun c4 hF => ?_) (fun c4 hF => ?_)
  ·
    exact SX35_expand_b18 (N := N) (sE := sE) (SE := SE) (sN := sN) (SN := SN) hm hb @hsE @hsN R2 rfl rp0 hF
  ·
    refine s_kok R2 (t_192 hm R2.S) (Nat.le_of_ble_eq_true rfl) ?_
    refine s_call R2 (Nat.zero_le _) (fun _ hq => SX35_fail (b := 0) hm (R2.rf) (c_lit 3 3 rfl) ⟨by decide, by decide⟩ hq) hF (fun f6 rv6 h6 q7 R6 e6 E6 hF => ?_)
    exact SX35_expand_b18 (N := N) (sE := sE) (SE := SE) (sN := sN) (SN := SN) hm hb @hsE @hsN R6 rfl rp0 hF
def FX35_lay_b3 (N : Nat) : Nat → Int → Int → fS → Option (Unit × fS)
  | 0, _, _, _ => none
  | n + 1, l1, l2, s =>
    if l2 < 0 then
      some ((), s)
    else
      (uQI s 193 (s.i 192 1) (i2b (i2b (ishr l1 l2)))).bind fun σ6 =>
      (uPI σ6 192 1 (iadd (σ6.i 192 1) 1)).bind fun σ10 =>
      FX35_lay_b3 N n l1 (iadd l2 (-8)) σ10
theorem SX35_lay_b3 {m b : Nat} {φ0 : Nat → Nat} {σo : fS} (hm : 1 ≤ m) {N : Nat} {q : Unit × fS} : ∀ {n : Nat} {φ : Nat → Nat} {h : eH} {s : fS} {l1' : Int32} {l1 : Int} {l2' : Int32} {l2 : Int}, fC m b φ0 σo φ h s → l1' = iI l1 → r32 l1 → l2' = iI l2 → r32 l2 → FX35_lay_b3 N n l1 l2 s = some q → gG m b φ0 σo lU q (fX35_lay_b3 N n 192 l1' l2' h) := by
  intro n
  induction n with
 | zero => intro φ h s l1' l1 l2' l2 R el1 rl1 el2 rl2 hF; simp [FX35_lay_b3] at hF
  | succ n ih =>
    intro φ h s l1' l1 l2' l2 R el1 rl1 el2 rl2 hF
    subst el1; subst el2
    rw [FX35_lay_b3] at hF
    rw [fX35_lay_b3]
    refine s_if (i_lt rfl (c_lit 0 0 rfl) rl2 ⟨by decide, by decide⟩) hF (fun c1 hF => ?_) (fun c1 hF => ?_)
    ·
      exact g_ret R hF trivial
    ·
      refine s_gAs R (t_192 hm R.S) (Nat.le_of_ble_eq_true rfl) rfl (o_192_2 hm R.S) (a_193 hm R) ?_
      refine s_gI R (t_192 hm R.S) (Nat.le_of_ble_eq_true rfl) rfl ?_
      refine s_qI R (u_193 hm R.S).1 (u_193 hm R.S).2 (by decide) (a_193 hm R) rfl (R.ri (t_192 hm R.S) (Nat.le_of_ble_eq_true rfl) rfl) (c_2b (c_2b (c_shr rfl rfl))) (rr_I _) hF (fun h4 σ6 R4 T4 hF => ?_)
      refine s_gI R4 (t_192 hm R4.S) (Nat.le_of_ble_eq_true rfl) rfl ?_
      refine s_pI R4 (t_192 hm R4.S) (Nat.le_of_ble_eq_true rfl) rfl (c_add rfl (c_lit 1 1 rfl)) (rr_I _) hF (fun h6 σ10 R6 T6 hF => ?_)
      exact ih R6 rfl rl1 (c_add rfl (c_lit (-8) (-8) rfl)) (rr_I _) hF
def FX35_lay (N : Nat) (p0 : Int) (s : fS) : Option (Unit × fS) :=
  FX35_lay_b3 N N p0 24 s
theorem SX35_lay {m b : Nat} {φ0 : Nat → Nat} {σo : fS} (hm : 1 ≤ m) {N : Nat} {q : Unit × fS} {φ : Nat → Nat} {h : eH} {s : fS} {p0' : Int32} {p0 : Int} (R : fC m b φ0 σo φ h s) (ep0 : p0' = iI p0) (rp0 : r32 p0) (hF : FX35_lay N p0 s = some q) : gG m b φ0 σo lU q (fX35_lay N 192 p0' h) := by
  subst ep0
  unfold FX35_lay at hF
  unfold fX35_lay
  exact SX35_lay_b3 (N := N) hm R rfl rp0 (c_lit 24 24 rfl) ⟨by decide, by decide⟩ hF
def FX35_feed_b55 (N : Nat) (s : fS) : Option (Unit × fS) :=
  some ((), s)
theorem SX35_feed_b55 {m b : Nat} {φ0 : Nat → Nat} {σo : fS} (hm : 1 ≤ m) {N : Nat} {q : Unit × fS} {φ : Nat → Nat} {h : eH} {s : fS} (R : fC m b φ0 σo φ h s) (hF : FX35_feed_b55 N s = some q) : gG m b φ0 σo lU q (fX35_feed_b55 N h) := by
  unfold FX35_feed_b55 at hF
  unfold fX35_feed_b55
  exact g_ret R hF trivial
def FX35_feed_b18 (N : Nat) (l1 : Int) (l2 : Int) (l3 : Int) (l4 : Int) (l5 : Int) (s1 : Int) (s : fS) : Option (Unit × fS) :=
  (uPI s 192 0 s1).bind fun σ1 =>
  if ¬ ((σ1.i 192 0) = 0) then
    FX35_feed_b55 N σ1
  else
    (FX35_lay N l1 σ1).bind fun q7 =>
    (FX35_lay N l2 q7.2).bind fun q9 =>
    (FX35_lay N l3 q9.2).bind fun q11 =>
    (FX35_lay N l4 q11.2).bind fun q13 =>
    (FX35_lay N l5 q13.2).bind fun q15 =>
    FX35_feed_b55 N q15.2
theorem SX35_feed_b18 {m b : Nat} {φ0 : Nat → Nat} {σo : fS} (hm : 1 ≤ m) {N : Nat} {q : Unit × fS} {φ : Nat → Nat} {h : eH} {s : fS} {l1' : Int32} {l1 : Int} {l2' : Int32} {l2 : Int} {l3' : Int32} {l3 : Int} {l4' : Int32} {l4 : Int} {l5' : Int32} {l5 : Int} {s1' : Int32} {s1 : Int} (R : fC m b φ0 σo φ h s) (el1 : l1' = iI l1) (rl1 : r32 l1) (el2 : l2' = iI l2) (rl2 : r32 l2) (el3 : l3' = iI l3) (rl3 : r32 l3) (el4 : l4' = iI l4) (rl4 : r32 l4) (el5 : l5' = iI l5) (rl5 : r32 l5) (es1 : s1' = iI s1) (rs1 : r32 s1) (hF : FX35_feed_b18 N l1 l2 l3 l4 l5 s1 s = some q) : gG m b φ0 σo lU q (fX35_feed_b18 N 192 l1' l2' l3' l4' l5' 192 s1' h) := by
  subst el1; subst el2; subst el3; subst el4; subst el5; subst es1
  unfold FX35_feed_b18 at hF
  unfold fX35_feed_b18
  refine s_pI R (t_192 hm R.S) (Nat.le_of_ble_eq_true rfl) rfl rfl rs1 hF (fun h1 σ1 R1 T1 hF => ?_)
  refine s_gI R1 (t_192 hm R1.S) (Nat.le_of_ble_eq_true rfl) rfl ?_
  refine s_if (not_congr (i_eq rfl (c_lit 0 0 rfl) (R1.ri (t_192 hm R1.S) (Nat.le_of_ble_eq_true rfl) rfl) ⟨by decide, by decide⟩)) hF (fun c3 hF => ?_) (fun c3 hF => ?_)
  ·
    exact SX35_feed_b55 (N := N) hm R1 hF
  ·
    refine s_kok R1 (t_192 hm R1.S) (Nat.le_of_ble_eq_true rfl) ?_
    refine s_call R1 (Nat.zero_le _) (fun _ hq => SX35_lay (b := 0) (N := N) hm (R1.rf) rfl rl1 hq) hF (fun f5 rv5 h5 q7 R5 e5 E5 hF => ?_)
    refine s_kok R5 (t_192 hm R5.S) (Nat.le_of_ble_eq_true rfl) ?_
    refine s_call R5 (Nat.zero_le _) (fun _ hq => SX35_lay (b := 0) (N := N) hm (R5.rf) rfl rl2 hq) hF (fun f7 rv7 h7 q9 R7 e7 E7 hF => ?_)
    refine s_kok R7 (t_192 hm R7.S) (Nat.le_of_ble_eq_true rfl) ?_
    refine s_call R7 (Nat.zero_le _) (fun _ hq => SX35_lay (b := 0) (N := N) hm (R7.rf) rfl rl3 hq) hF (fun f9 rv9 h9 q11 R9 e9 E9 hF => ?_)
    refine s_kok R9 (t_192 hm R9.S) (Nat.le_of_ble_eq_true rfl) ?_
    refine s_call R9 (Nat.zero_le _) (fun _ hq => SX35_lay (b := 0) (N := N) hm (R9.rf) rfl rl4 hq) hF (fun f11 rv11 h11 q13 R11 e11 E11 hF => ?_)
    refine s_kok R11 (t_192 hm R11.S) (Nat.le_of_ble_eq_true rfl) ?_
    refine s_call R11 (Nat.zero_le _) (fun _ hq => SX35_lay (b := 0) (N := N) hm (R11.rf) rfl rl5 hq) hF (fun f13 rv13 h13 q15 R13 e13 E13 hF => ?_)
    exact SX35_feed_b55 (N := N) hm R13 hF
def FX35_feed (N : Nat) (p0 : Int) (p1 : Int) (p2 : Int) (p3 : Int) (p4 : Int) (s : fS) : Option (Unit × fS) :=
  if (iadd (s.i 192 1) 20) ≤ 65536 then
    FX35_feed_b18 N p0 p1 p2 p3 p4 0 s
  else
    FX35_feed_b18 N p0 p1 p2 p3 p4 1 s
theorem SX35_feed {m b : Nat} {φ0 : Nat → Nat} {σo : fS} (hm : 1 ≤ m) {N : Nat} {q : Unit × fS} {φ : Nat → Nat} {h : eH} {s : fS} {p0' : Int32} {p0 : Int} {p1' : Int32} {p1 : Int} {p2' : Int32} {p2 : Int} {p3' : Int32} {p3 : Int} {p4' : Int32} {p4 : Int} (R : fC m b φ0 σo φ h s) (ep0 : p0' = iI p0) (rp0 : r32 p0) (ep1 : p1' = iI p1) (rp1 : r32 p1) (ep2 : p2' = iI p2) (rp2 : r32 p2) (ep3 : p3' = iI p3) (rp3 : r32 p3) (ep4 : p4' = iI p4) (rp4 : r32 p4) (hF : FX35_feed N p0 p1 p2 p3 p4 s = some q) : gG m b φ0 σo lU q (fX35_feed N 192 p0' p1' p2' p3' p4' h) := by
  subst ep0; subst ep1; subst ep2; subst ep3; subst ep4
  unfold FX35_feed at hF
  unfold fX35_feed
  refine s_gI R (t_192 hm R.S) (Nat.le_of_ble_eq_true rfl) rfl ?_
  refine s_if (i_le (c_add rfl (c_lit 20 20 rfl)) (c_lit 65536 65536 rfl) (rr_I _) ⟨by decide, by decide⟩) hF (fun c2 hF => ?_) (fun c2 hF => ?_)
  ·
    exact SX35_feed_b18 (N := N) hm R rfl rp0 rfl rp1 rfl rp2 rfl rp3 rfl rp4 (c_lit 0 0 rfl) ⟨by decide, by decide⟩ hF
  ·
    exact SX35_feed_b18 (N := N) hm R rfl rp0 rfl rp1 rfl rp2 rfl rp3 rfl rp4 (c_lit 1 1 rfl) ⟨by decide, by decide⟩ hF
def FX35_fuel_b36 (s1 : Int) (s : fS) : Option (Unit × fS) :=
  (uPI s 192 3 s1).bind fun σ1 =>
  some ((), σ1)
theorem SX35_fuel_b36 {m b : Nat} {φ0 : Nat → Nat} {σo : fS} (hm : 1 ≤ m) {q : Unit × fS} {φ : Nat → Nat} {h : eH} {s : fS} {s1' : Int32} {s1 : Int} (R : fC m b φ0 σo φ h s) (es1 : s1' = iI s1) (rs1 : r32 s1) (hF : FX35_fuel_b36 s1 s = some q) : gG m b φ0 σo lU q (fX35_fuel_b36 192 s1' h) := by
  subst es1
  unfold FX35_fuel_b36 at hF
  unfold fX35_fuel_b36
  refine s_pI R (t_192 hm R.S) (Nat.le_of_ble_eq_true rfl) rfl rfl rs1 hF (fun h1 σ1 R1 T1 hF => ?_)
  exact g_ret R1 hF trivial
def FX35_fuel_b17 (l1 : Int) (s1 : Int) (s : fS) : Option (Unit × fS) :=
  (uPI s 192 0 s1).bind fun σ1 =>
  if (σ1.i 192 0) ≤ 0 then
    FX35_fuel_b36 l1 σ1
  else
    FX35_fuel_b36 (σ1.i 192 3) σ1
theorem SX35_fuel_b17 {m b : Nat} {φ0 : Nat → Nat} {σo : fS} (hm : 1 ≤ m) {q : Unit × fS} {φ : Nat → Nat} {h : eH} {s : fS} {l1' : Int32} {l1 : Int} {s1' : Int32} {s1 : Int} (R : fC m b φ0 σo φ h s) (el1 : l1' = iI l1) (rl1 : r32 l1) (es1 : s1' = iI s1) (rs1 : r32 s1) (hF : FX35_fuel_b17 l1 s1 s = some q) : gG m b φ0 σo lU q (fX35_fuel_b17 192 l1' 192 s1' h) := by
  subst el1; subst es1
  unfold FX35_fuel_b17 at hF
  unfold fX35_fuel_b17
  refine s_pI R (t_192 hm R.S) (Nat.le_of_ble_eq_true rfl) rfl rfl rs1 hF (fun h1 σ1 R1 T1 hF => ?_)
  refine s_gI R1 (t_192 hm R1.S) (Nat.le_of_ble_eq_true rfl) rfl ?_
  refine s_if (i_le rfl (c_lit 0 0 rfl) (R1.ri (t_192 hm R1.S) (Nat.le_of_ble_eq_true rfl) rfl) ⟨by decide, by decide⟩) hF (fun c3 hF => ?_) (fun c3 hF => ?_)
  ·
    exact SX35_fuel_b36 hm R1 rfl rl1 hF
  ·
    refine s_gI R1 (t_192 hm R1.S) (Nat.le_of_ble_eq_true rfl) rfl ?_
    exact SX35_fuel_b36 hm R1 rfl (R1.ri (t_192 hm R1.S) (Nat.le_of_ble_eq_true rfl) rfl) hF
def FX35_fuel_b12 (l1 : Int) (s : fS) : Option (Unit × fS) :=
  FX35_fuel_b17 l1 1 s
theorem SX35_fuel_b12 {m b : Nat} {φ0 : Nat → Nat} {σo : fS} (hm : 1 ≤ m) {q : Unit × fS} {φ : Nat → Nat} {h : eH} {s : fS} {l1' : Int32} {l1 : Int} (R : fC m b φ0 σo φ h s) (el1 : l1' = iI l1) (rl1 : r32 l1) (hF : FX35_fuel_b12 l1 s = some q) : gG m b φ0 σo lU q (fX35_fuel_b12 192 l1' 192 h) := by
  subst el1
  unfold FX35_fuel_b12 at hF
  unfold fX35_fuel_b12
  exact SX35_fuel_b17 hm R rfl rl1 (c_lit 1 1 rfl) ⟨by decide, by decide⟩ hF
def FX35_fuel (p0 : Int) (s : fS) : Option (Unit × fS) :=
  if p0 < 0 then
    FX35_fuel_b12 p0 s
  else
    if p0 ≤ 200000 then
      FX35_fuel_b17 p0 0 s
    else
      FX35_fuel_b12 p0 s
theorem SX35_fuel {m b : Nat} {φ0 : Nat → Nat} {σo : fS} (hm : 1 ≤ m) {q : Unit × fS} {φ : Nat → Nat} {h : eH} {s : fS} {p0' : Int32} {p0 : Int} (R : fC m b φ0 σo φ h s) (ep0 : p0' = iI p0) (rp0 : r32 p0) (hF : FX35_fuel p0 s = some q) : gG m b φ0 σo lU q (fX35_fuel 192 p0' h) := by
  subst ep0
  unfold FX35_fuel at hF
  unfold fX35_fuel
  refine s_if (i_lt rfl (c_lit 0 0 rfl) rp0 ⟨by decide, by decide⟩) hF (fun c1 hF => ?_) (fun c1 hF => ?_)
  ·
    exact SX35_fuel_b12 hm R rfl rp0 hF
  ·
    refine s_if (i_le rfl (c_lit 200000 200000 rfl) rp0 ⟨by decide, by decide⟩) hF (fun c2 hF => ?_) (fun c2 hF => ?_)
    ·
      exact SX35_fuel_b17 hm R rfl rp0 (c_lit 0 0 rfl) ⟨by decide, by decide⟩ hF
    ·
      exact SX35_fuel_b12 hm R rfl rp0 hF
def FX35_nearest_b59 (s0 : Int) (s : fS) : Option (Int × fS) :=
  some (s0, s)
theorem SX35_nearest_b59 {m b : Nat} {φ0 : Nat → Nat} {σo : fS} (hm : 1 ≤ m) {q : Int × fS} {φ : Nat → Nat} {h : eH} {s : fS} {s0' : Int64} {s0 : Int} (R : fC m b φ0 σo φ h s) (es0 : s0' = iJ s0) (rs0 : r64 s0) (hF : FX35_nearest_b59 s0 s = some q) : gG m b φ0 σo lJ q (fX35_nearest_b59 s0' h) := by
  subst es0
  unfold FX35_nearest_b59 at hF
  unfold fX35_nearest_b59
  exact g_ret R hF ⟨rfl, rs0⟩
def FX35_nearest_b43 (l0 : Int) (s0 : Int) (s : fS) : Option (Int × fS) :=
  if 0 ≤ l0 then
    FX35_nearest_b59 s0 s
  else
    FX35_nearest_b59 (lneg s0) s
theorem SX35_nearest_b43 {m b : Nat} {φ0 : Nat → Nat} {σo : fS} (hm : 1 ≤ m) {q : Int × fS} {φ : Nat → Nat} {h : eH} {s : fS} {l0' : Int64} {l0 : Int} {s0' : Int64} {s0 : Int} (R : fC m b φ0 σo φ h s) (el0 : l0' = iJ l0) (rl0 : r64 l0) (es0 : s0' = iJ s0) (rs0 : r64 s0) (hF : FX35_nearest_b43 l0 s0 s = some q) : gG m b φ0 σo lJ q (fX35_nearest_b43 l0' s0' h) := by
  subst el0; subst es0
  unfold FX35_nearest_b43 at hF
  unfold fX35_nearest_b43
  refine s_if ((lg_cmp_ge _ _).trans (j_le (d_lit 0 0 rfl) rfl ⟨by decide, by decide⟩ rl0)) hF (fun c1 hF => ?_) (fun c1 hF => ?_)
  ·
    exact SX35_nearest_b59 hm R rfl rs0 hF
  ·
    exact SX35_nearest_b59 hm R (d_neg rfl) (rr_J _) hF
def FX35_nearest_b12 (l0 : Int) (l2 : Int) (s0 : Int) (s : fS) : Option (Int × fS) :=
  if l2 = 0 then none else
  if l2 = 0 then none else
  if l2 = 0 then none else
  if (lrem s0 l2) < (lsub l2 (lrem s0 l2)) then
    FX35_nearest_b43 l0 (ldiv s0 l2) s
  else
    FX35_nearest_b43 l0 (ladd (ldiv s0 l2) 1) s
theorem SX35_nearest_b12 {m b : Nat} {φ0 : Nat → Nat} {σo : fS} (hm : 1 ≤ m) {q : Int × fS} {φ : Nat → Nat} {h : eH} {s : fS} {l0' : Int64} {l0 : Int} {l2' : Int64} {l2 : Int} {s0' : Int64} {s0 : Int} (R : fC m b φ0 σo φ h s) (el0 : l0' = iJ l0) (rl0 : r64 l0) (el2 : l2' = iJ l2) (rl2 : r64 l2) (es0 : s0' = iJ s0) (rs0 : r64 s0) (hF : FX35_nearest_b12 l0 l2 s0 s = some q) : gG m b φ0 σo lJ q (fX35_nearest_b12 l0' l2' s0' h) := by
  subst el0; subst el2; subst es0
  unfold FX35_nearest_b12 at hF
  unfold fX35_nearest_b12
  refine s_div (j_eq rfl (d_lit 0 0 rfl) rl2 ⟨by decide, by decide⟩) hF (fun c1 hF => ?_)
  refine s_div (j_eq rfl (d_lit 0 0 rfl) rl2 ⟨by decide, by decide⟩) hF (fun c2 hF => ?_)
  refine s_div (j_eq rfl (d_lit 0 0 rfl) rl2 ⟨by decide, by decide⟩) hF (fun c3 hF => ?_)
  refine s_if (lg_lt.trans (j_lt (d_rem rfl rfl) (d_sub rfl (d_rem rfl rfl)) (rr_J _) (rr_J _))) hF (fun c4 hF => ?_) (fun c4 hF => ?_)
  ·
    exact SX35_nearest_b43 hm R rfl rl0 (d_div rfl rfl) (rr_J _) hF
  ·
    exact SX35_nearest_b43 hm R rfl rl0 (d_add (d_div rfl rfl) (d_lit 1 1 rfl)) (rr_J _) hF
def FX35_nearest (p0 : Int) (p1 : Int) (s : fS) : Option (Int × fS) :=
  if 0 ≤ p0 then
    FX35_nearest_b12 p0 p1 p0 s
  else
    FX35_nearest_b12 p0 p1 (lneg p0) s
theorem SX35_nearest {m b : Nat} {φ0 : Nat → Nat} {σo : fS} (hm : 1 ≤ m) {q : Int × fS} {φ : Nat → Nat} {h : eH} {s : fS} {p0' : Int64} {p0 : Int} {p1' : Int64} {p1 : Int} (R : fC m b φ0 σo φ h s) (ep0 : p0' = iJ p0) (rp0 : r64 p0) (ep1 : p1' = iJ p1) (rp1 : r64 p1) (hF : FX35_nearest p0 p1 s = some q) : gG m b φ0 σo lJ q (fX35_nearest p0' p1' h) := by
  subst ep0; subst ep1
  unfold FX35_nearest at hF
  unfold fX35_nearest
  refine s_if ((lg_cmp_ge _ _).trans (j_le (d_lit 0 0 rfl) rfl ⟨by decide, by decide⟩ rp0)) hF (fun c1 hF => ?_) (fun c1 hF => ?_)
  ·
    exact SX35_nearest_b12 hm R rfl rp0 rfl rp1 rfl rp0 hF
  ·
    exact SX35_nearest_b12 hm R rfl rp0 rfl rp1 (d_neg rfl) (rr_J _) hF
def FX35_placeOf_b143 (N : Nat) (K24 : Int → Int → Int → Int → fS → Option (Int × fS)) (l1 : Int) (l3 : Int) (l5 : Int) (l6 : Int) (s : fS) : Option (Int × fS) :=
  K24 l1 l3 l5 (iadd l6 1) s
theorem SX35_placeOf_b143 {m b : Nat} {φ0 : Nat → Nat} {σo : fS} (hm : 1 ≤ m) {N : Nat} {k24 : Nat → Int32 → Int64 → Int32 → Int32 → eH → Option (Int64 × eH)} {K24 : Int → Int → Int → Int → fS → Option (Int × fS)} {q : Int × fS} (hk24 : ∀ {φ : Nat → Nat} {h : eH} {s : fS} {l1' : Int32} {l1 : Int} {l3' : Int64} {l3 : Int} {l5' : Int32} {l5 : Int} {l6' : Int32} {l6 : Int}, fC m b φ0 σo φ h s → l1' = iI l1 → r32 l1 → l3' = iJ l3 → r64 l3 → l5' = iI l5 → r32 l5 → l6' = iI l6 → r32 l6 → K24 l1 l3 l5 l6 s = some q → gG m b φ0 σo lJ q (k24 192 l1' l3' l5' l6' h)) {φ : Nat → Nat} {h : eH} {s : fS} {l1' : Int32} {l1 : Int} {l3' : Int64} {l3 : Int} {l5' : Int32} {l5 : Int} {l6' : Int32} {l6 : Int} (R : fC m b φ0 σo φ h s) (el1 : l1' = iI l1) (rl1 : r32 l1) (el3 : l3' = iJ l3) (rl3 : r64 l3) (el5 : l5' = iI l5) (rl5 : r32 l5) (el6 : l6' = iI l6) (rl6 : r32 l6) (hF : FX35_placeOf_b143 N K24 l1 l3 l5 l6 s = some q) : gG m b φ0 σo lJ q (fX35_placeOf_b143 N k24 192 l1' l3' l5' l6' h) := by
  subst el1; subst el3; subst el5; subst el6
  unfold FX35_placeOf_b143 at hF
  unfold fX35_placeOf_b143
  exact hk24 R rfl rl1 rfl rl3 rfl rl5 (c_add rfl (c_lit 1 1 rfl)) (rr_I _) hF
def FX35_placeOf_b92 (N : Nat) (K24 : Int → Int → Int → Int → fS → Option (Int × fS)) (l1 : Int) (l3 : Int) (l5 : Int) (l6 : Int) (s : fS) : Option (Int × fS) :=
  (uRI s 304 (imul 6 l6)).bind fun x3 =>
  if ¬ (x3 = 2) then
    FX35_placeOf_b143 N K24 l1 l3 l5 l6 s
  else
    (uRI s 304 (iadd (imul 6 l6) 3)).bind fun x8 =>
    (uRI s 299 l1).bind fun x12 =>
    if ¬ (x8 = x12) then
      FX35_placeOf_b143 N K24 l1 l3 l5 l6 s
    else
      (uRI s 304 (iadd (imul 6 l6) 2)).bind fun x17 =>
      FX35_placeOf_b143 N K24 l1 (ladd l3 x17) l5 l6 s
theorem SX35_placeOf_b92 {m b : Nat} {φ0 : Nat → Nat} {σo : fS} (hm : 1 ≤ m) {N : Nat} {k24 : Nat → Int32 → Int64 → Int32 → Int32 → eH → Option (Int64 × eH)} {K24 : Int → Int → Int → Int → fS → Option (Int × fS)} {q : Int × fS} (hk24 : ∀ {φ : Nat → Nat} {h : eH} {s : fS} {l1' : Int32} {l1 : Int} {l3' : Int64} {l3 : Int} {l5' : Int32} {l5 : Int} {l6' : Int32} {l6 : Int}, fC m b φ0 σo φ h s → l1' = iI l1 → r32 l1 → l3' = iJ l3 → r64 l3 → l5' = iI l5 → r32 l5 → l6' = iI l6 → r32 l6 → K24 l1 l3 l5 l6 s = some q → gG m b φ0 σo lJ q (k24 192 l1' l3' l5' l6' h)) {φ : Nat → Nat} {h : eH} {s : fS} {l1' : Int32} {l1 : Int} {l3' : Int64} {l3 : Int} {l5' : Int32} {l5 : Int} {l6' : Int32} {l6 : Int} (R : fC m b φ0 σo φ h s) (el1 : l1' = iI l1) (rl1 : r32 l1) (el3 : l3' = iJ l3) (rl3 : r64 l3) (el5 : l5' = iI l5) (rl5 : r32 l5) (el6 : l6' = iI l6) (rl6 : r32 l6) (hF : FX35_placeOf_b92 N K24 l1 l3 l5 l6 s = some q) : gG m b φ0 σo lJ q (fX35_placeOf_b92 N k24 192 l1' l3' l5' l6' h) := by
  subst el1; subst el3; subst el5; subst el6
  unfold FX35_placeOf_b92 at hF
  unfold fX35_placeOf_b92
  refine s_gAs R (t_192 hm R.S) (Nat.le_of_ble_eq_true rfl) rfl (o_192_77 hm R.S) (a_304 hm R) ?_
  refine s_rI R (u_304 hm R.S).1 (u_304 hm R.S).2 (by decide) (a_304 hm R) (c_mul (c_lit 6 6 rfl) rfl) (rr_I _) hF (fun x3 ra2 hF => ?_)
  refine s_if (not_congr (i_eq rfl (c_lit 2 2 rfl) ra2 ⟨by decide, by decide⟩)) hF (fun c3 hF => ?_) (fun c3 hF => ?_)
  ·
    exact SX35_placeOf_b143 (N := N) (k24 := k24) (K24 := K24) hm @hk24 R rfl rl1 rfl rl3 rfl rl5 rfl rl6 hF
  ·
    refine s_gAs R (t_192 hm R.S) (Nat.le_of_ble_eq_true rfl) rfl (o_192_77 hm R.S) (a_304 hm R) ?_
    refine s_rI R (u_304 hm R.S).1 (u_304 hm R.S).2 (by decide) (a_304 hm R) (c_add (c_mul (c_lit 6 6 rfl) rfl) (c_lit 3 3 rfl)) (rr_I _) hF (fun x8 ra5 hF => ?_)
    refine s_gAs R (t_192 hm R.S) (Nat.le_of_ble_eq_true rfl) rfl (o_192_72 hm R.S) (a_299 hm R) ?_
    refine s_rI R (u_299 hm R.S).1 (u_299 hm R.S).2 (by decide) (a_299 hm R) rfl rl1 hF (fun x12 ra7 hF => ?_)
    refine s_if (not_congr (i_eq rfl rfl ra5 ra7)) hF (fun c8 hF => ?_) (fun c8 hF => ?_)
    ·
      exact SX35_placeOf_b143 (N := N) (k24 := k24) (K24 := K24) hm @hk24 R rfl rl1 rfl rl3 rfl rl5 rfl rl6 hF
    ·
      refine s_gAs R (t_192 hm R.S) (Nat.le_of_ble_eq_true rfl) rfl (o_192_77 hm R.S) (a_304 hm R) ?_
      refine s_rI R (u_304 hm R.S).1 (u_304 hm R.S).2 (by decide) (a_304 hm R) (c_add (c_mul (c_lit 6 6 rfl) rfl) (c_lit 2 2 rfl)) (rr_I _) hF (fun x17 ra10 hF => ?_)
      exact SX35_placeOf_b143 (N := N) (k24 := k24) (K24 := K24) hm @hk24 R rfl rl1 (d_add rfl (c_2l rfl ra10)) (rr_J _) rfl rl5 rfl rl6 hF
def FX35_placeOf_b244 (N : Nat) (l8 : Int) (s0 : Int) (s1 : Int) (s : fS) : Option (Int × fS) :=
  some ((ladd (ladd s0 s1) l8), s)
theorem SX35_placeOf_b244 {m b : Nat} {φ0 : Nat → Nat} {σo : fS} (hm : 1 ≤ m) {N : Nat} {q : Int × fS} {φ : Nat → Nat} {h : eH} {s : fS} {l8' : Int64} {l8 : Int} {s0' : Int64} {s0 : Int} {s1' : Int64} {s1 : Int} (R : fC m b φ0 σo φ h s) (el8 : l8' = iJ l8) (rl8 : r64 l8) (es0 : s0' = iJ s0) (rs0 : r64 s0) (es1 : s1' = iJ s1) (rs1 : r64 s1) (hF : FX35_placeOf_b244 N l8 s0 s1 s = some q) : gG m b φ0 σo lJ q (fX35_placeOf_b244 N l8' s0' s1' h) := by
  subst el8; subst es0; subst es1
  unfold FX35_placeOf_b244 at hF
  unfold fX35_placeOf_b244
  exact g_ret R hF ⟨(d_add (d_add rfl rfl) rfl), (rr_J _)⟩
def FX35_placeOf_b243 (N : Nat) (l8 : Int) (s0 : Int) (s : fS) : Option (Int × fS) :=
  FX35_placeOf_b244 N l8 s0 0 s
theorem SX35_placeOf_b243 {m b : Nat} {φ0 : Nat → Nat} {σo : fS} (hm : 1 ≤ m) {N : Nat} {q : Int × fS} {φ : Nat → Nat} {h : eH} {s : fS} {l8' : Int64} {l8 : Int} {s0' : Int64} {s0 : Int} (R : fC m b φ0 σo φ h s) (el8 : l8' = iJ l8) (rl8 : r64 l8) (es0 : s0' = iJ s0) (rs0 : r64 s0) (hF : FX35_placeOf_b243 N l8 s0 s = some q) : gG m b φ0 σo lJ q (fX35_placeOf_b243 N l8' s0' h) := by
  subst el8; subst es0
  unfold FX35_placeOf_b243 at hF
  unfold fX35_placeOf_b243
  exact SX35_placeOf_b244 (N := N) hm R rfl rl8 rfl rs0 (d_lit 0 0 rfl) ⟨by decide, by decide⟩ hF
def FX35_placeOf_b205 (N : Nat) (l1 : Int) (l5 : Int) (s0 : Int) (s : fS) : Option (Int × fS) :=
  (uRI s 294 l1).bind fun x5 =>
  if x5 = 0 then
    FX35_placeOf_b243 N s0 (s.j 192 79) s
  else
    (uRI s 304 (imul 6 l5)).bind fun x10 =>
    (FX35_isSolid x10 s).bind fun q12 =>
    if q12.1 = 0 then
      FX35_placeOf_b243 N s0 (s.j 192 79) q12.2
    else
      FX35_placeOf_b244 N s0 (s.j 192 79) (q12.2.j 192 80) q12.2
theorem SX35_placeOf_b205 {m b : Nat} {φ0 : Nat → Nat} {σo : fS} (hm : 1 ≤ m) {N : Nat} {q : Int × fS} {φ : Nat → Nat} {h : eH} {s : fS} {l1' : Int32} {l1 : Int} {l5' : Int32} {l5 : Int} {s0' : Int64} {s0 : Int} (R : fC m b φ0 σo φ h s) (el1 : l1' = iI l1) (rl1 : r32 l1) (el5 : l5' = iI l5) (rl5 : r32 l5) (es0 : s0' = iJ s0) (rs0 : r64 s0) (hF : FX35_placeOf_b205 N l1 l5 s0 s = some q) : gG m b φ0 σo lJ q (fX35_placeOf_b205 N 192 l1' l5' s0' h) := by
  subst el1; subst el5; subst es0
  unfold FX35_placeOf_b205 at hF
  unfold fX35_placeOf_b205
  refine s_gJ R (t_192 hm R.S) (Nat.le_of_ble_eq_true rfl) rfl ?_
  refine s_gAs R (t_192 hm R.S) (Nat.le_of_ble_eq_true rfl) rfl (o_192_67 hm R.S) (a_294 hm R) ?_
  refine s_rI R (u_294 hm R.S).1 (u_294 hm R.S).2 (by decide) (a_294 hm R) rfl rl1 hF (fun x5 ra3 hF => ?_)
  refine s_if (i_eq rfl (c_lit 0 0 rfl) ra3 ⟨by decide, by decide⟩) hF (fun c4 hF => ?_) (fun c4 hF => ?_)
  ·
    exact SX35_placeOf_b243 (N := N) hm R rfl rs0 rfl (R.rj (t_192 hm R.S) (Nat.le_of_ble_eq_true rfl) rfl) hF
  ·
    refine s_gAs R (t_192 hm R.S) (Nat.le_of_ble_eq_true rfl) rfl (o_192_77 hm R.S) (a_304 hm R) ?_
    refine s_rI R (u_304 hm R.S).1 (u_304 hm R.S).2 (by decide) (a_304 hm R) (c_mul (c_lit 6 6 rfl) rfl) (rr_I _) hF (fun x10 ra6 hF => ?_)
    refine s_call R (Nat.zero_le _) (fun _ hq => SX35_isSolid (b := 0) hm (R.rf) rfl ra6 hq) hF (fun f7 rv7 h7 q12 R7 e7 E7 hF => ?_)
    refine s_if (i_eq e7.1 (c_lit 0 0 rfl) e7.2 ⟨by decide, by decide⟩) hF (fun c8 hF => ?_) (fun c8 hF => ?_)
    ·
      exact SX35_placeOf_b243 (N := N) hm R7 rfl rs0 rfl (R.rj (t_192 hm R.S) (Nat.le_of_ble_eq_true rfl) rfl) hF
    ·
      refine s_gJ R7 (t_192 hm R7.S) (Nat.le_of_ble_eq_true rfl) rfl ?_
      exact SX35_placeOf_b244 (N := N) hm R7 rfl rs0 rfl (R.rj (t_192 hm R.S) (Nat.le_of_ble_eq_true rfl) rfl) rfl (R7.rj (t_192 hm R7.S) (Nat.le_of_ble_eq_true rfl) rfl) hF
def FX35_placeOf_b176 (N : Nat) (l1 : Int) (l3 : Int) (l5 : Int) (s0 : Int) (s : fS) : Option (Int × fS) :=
  (uRI s 300 l1).bind fun x3 =>
  if ¬ (x3 = 0) then
    (uRI s 300 l1).bind fun x8 =>
    (FX35_nearest (lmul l3 s0) x8 s).bind fun q10 =>
    FX35_placeOf_b205 N l1 l5 q10.1 q10.2
  else
    FX35_placeOf_b205 N l1 l5 0 s
theorem SX35_placeOf_b176 {m b : Nat} {φ0 : Nat → Nat} {σo : fS} (hm : 1 ≤ m) {N : Nat} {q : Int × fS} {φ : Nat → Nat} {h : eH} {s : fS} {l1' : Int32} {l1 : Int} {l3' : Int64} {l3 : Int} {l5' : Int32} {l5 : Int} {s0' : Int64} {s0 : Int} (R : fC m b φ0 σo φ h s) (el1 : l1' = iI l1) (rl1 : r32 l1) (el3 : l3' = iJ l3) (rl3 : r64 l3) (el5 : l5' = iI l5) (rl5 : r32 l5) (es0 : s0' = iJ s0) (rs0 : r64 s0) (hF : FX35_placeOf_b176 N l1 l3 l5 s0 s = some q) : gG m b φ0 σo lJ q (fX35_placeOf_b176 N 192 l1' l3' l5' s0' h) := by
  subst el1; subst el3; subst el5; subst es0
  unfold FX35_placeOf_b176 at hF
  unfold fX35_placeOf_b176
  refine s_gAs R (t_192 hm R.S) (Nat.le_of_ble_eq_true rfl) rfl (o_192_73 hm R.S) (a_300 hm R) ?_
  refine s_rI R (u_300 hm R.S).1 (u_300 hm R.S).2 (by decide) (a_300 hm R) rfl rl1 hF (fun x3 ra2 hF => ?_)
  refine s_if (not_congr (i_eq rfl (c_lit 0 0 rfl) ra2 ⟨by decide, by decide⟩)) hF (fun c3 hF => ?_) (fun c3 hF => ?_)
  ·
    refine s_gAs R (t_192 hm R.S) (Nat.le_of_ble_eq_true rfl) rfl (o_192_73 hm R.S) (a_300 hm R) ?_
    refine s_rI R (u_300 hm R.S).1 (u_300 hm R.S).2 (by decide) (a_300 hm R) rfl rl1 hF (fun x8 ra5 hF => ?_)
    refine s_call R (Nat.zero_le _) (fun _ hq => SX35_nearest (b := 0) hm (R.rf) (d_mul rfl rfl) (rr_J _) (c_2l rfl ra5) (r32.w ra5) hq) hF (fun f6 rv6 h6 q10 R6 e6 E6 hF => ?_)
    exact SX35_placeOf_b205 (N := N) hm R6 rfl rl1 rfl rl5 e6.1 e6.2 hF
  ·
    exact SX35_placeOf_b205 (N := N) hm R rfl rl1 rfl rl5 (d_lit 0 0 rfl) ⟨by decide, by decide⟩ hF
def FX35_placeOf_b24 (N : Nat) : Nat → Int → Int → Int → Int → fS → Option (Int × fS)
  | 0, _, _, _, _, _ => none
  | n + 1, l1, l3, l5, l6, s =>
    if l5 ≤ l6 then
      (uRI s 301 l1).bind fun x4 =>
      if x4 ≤ 0 then
        (uRI s 298 l1).bind fun x9 =>
        FX35_placeOf_b176 N l1 l3 l5 x9 s
      else
        (uRI s 300 l1).bind fun x13 =>
        FX35_placeOf_b176 N l1 l3 l5 (ineg x13) s
    else
      (uRI s 294 l1).bind fun x19 =>
      (FX35_add 304 (imul 6 l6) x19 s).bind fun q22 =>
      (uRI q22.2 304 (imul 6 l6)).bind fun x25 =>
      if ¬ (x25 = 2) then
        FX35_placeOf_b92 N (FX35_placeOf_b24 N n) l1 l3 l5 l6 q22.2
      else
        (uRI q22.2 298 l1).bind fun x30 =>
        if 0 ≤ x30 then
          FX35_placeOf_b92 N (FX35_placeOf_b24 N n) l1 l3 l5 l6 q22.2
        else
          (uRI q22.2 304 (iadd (imul 6 l6) 4)).bind fun x35 =>
          FX35_placeOf_b143 N (FX35_placeOf_b24 N n) l1 (ladd l3 x35) l5 l6 q22.2
theorem SX35_placeOf_b24 {m b : Nat} {φ0 : Nat → Nat} {σo : fS} (hm : 1 ≤ m) {N : Nat} {q : Int × fS} : ∀ {n : Nat} {φ : Nat → Nat} {h : eH} {s : fS} {l1' : Int32} {l1 : Int} {l3' : Int64} {l3 : Int} {l5' : Int32} {l5 : Int} {l6' : Int32} {l6 : Int}, fC m b φ0 σo φ h s → l1' = iI l1 → r32 l1 → l3' = iJ l3 → r64 l3 → l5' = iI l5 → r32 l5 → l6' = iI l6 → r32 l6 → FX35_placeOf_b24 N n l1 l3 l5 l6 s = some q → gG m b φ0 σo lJ q (fX35_placeOf_b24 N n 192 l1' l3' l5' l6' h) := by
  intro n
  induction n with
 | zero => intro φ h s l1' l1 l3' l3 l5' l5 l6' l6 R el1 rl1 el3 rl3 el5 rl5 el6 rl6 hF; simp [FX35_placeOf_b24] at hF
  | succ n ih =>
    intro φ h s l1' l1 l3' l3 l5' l5 l6' l6 R el1 rl1 el3 rl3 el5 rl5 el6 rl6 hF
    subst el1; subst el3; subst el5; subst el6
    rw [FX35_placeOf_b24] at hF
    rw [fX35_placeOf_b24]
    refine s_if (i_le rfl rfl rl5 rl6) hF (fun c1 hF => ?_) (fun c1 hF => ?_)
    ·
      refine s_gAs R (t_192 hm R.S) (Nat.le_of_ble_eq_true rfl) rfl (o_192_74 hm R.S) (a_301 hm R) ?_
      refine s_rI R (u_301 hm R.S).1 (u_301 hm R.S).2 (by decide) (a_301 hm R) rfl rl1 hF (fun x4 ra3 hF => ?_)
      refine s_if (i_le rfl (c_lit 0 0 rfl) ra3 ⟨by decide, by decide⟩) hF (fun c4 hF => ?_) (fun c4 hF => ?_)
      ·
        refine s_gAs R (t_192 hm R.S) (Nat.le_of_ble_eq_true rfl) rfl (o_192_71 hm R.S) (a_298 hm R) ?_
        refine s_rI R (u_298 hm R.S).1 (u_298 hm R.S).2 (by decide) (a_298 hm R) rfl rl1 hF (fun x9 ra6 hF => ?_)
        exact SX35_placeOf_b176 (N := N) hm R rfl rl1 rfl rl3 rfl rl5 (c_2l rfl ra6) (r32.w ra6) hF
      ·
        refine s_gAs R (t_192 hm R.S) (Nat.le_of_ble_eq_true rfl) rfl (o_192_73 hm R.S) (a_300 hm R) ?_
        refine s_rI R (u_300 hm R.S).1 (u_300 hm R.S).2 (by decide) (a_300 hm R) rfl rl1 hF (fun x13 ra8 hF => ?_)
        exact SX35_placeOf_b176 (N := N) hm R rfl rl1 rfl rl3 rfl rl5 (c_2l (c_neg rfl) (rr_I _)) (r32.w (rr_I _)) hF
    ·
      refine s_gAs R (t_192 hm R.S) (Nat.le_of_ble_eq_true rfl) rfl (o_192_77 hm R.S) (a_304 hm R) ?_
      refine s_gAs R (t_192 hm R.S) (Nat.le_of_ble_eq_true rfl) rfl (o_192_67 hm R.S) (a_294 hm R) ?_
      refine s_rI R (u_294 hm R.S).1 (u_294 hm R.S).2 (by decide) (a_294 hm R) rfl rl1 hF (fun x19 ra11 hF => ?_)
      refine s_kok R (t_192 hm R.S) (Nat.le_of_ble_eq_true rfl) ?_
      refine s_call R (Nat.zero_le _) (fun _ hq => SX35_add (b := 0) hm (R.rf) (a_304 hm R) (u_304 hm R.S).1 (c_mul (c_lit 6 6 rfl) rfl) (rr_I _) rfl ra11 hq) hF (fun f13 rv13 h13 q22 R13 e13 E13 hF => ?_)
      refine s_gAs R13 (t_192 hm R13.S) (Nat.le_of_ble_eq_true rfl) rfl (o_192_77 hm R13.S) (a_304 hm R13) ?_
      refine s_rI R13 (u_304 hm R13.S).1 (u_304 hm R13.S).2 (by decide) (a_304 hm R13) (c_mul (c_lit 6 6 rfl) rfl) (rr_I _) hF (fun x25 ra15 hF => ?_)
      refine s_if (not_congr (i_eq rfl (c_lit 2 2 rfl) ra15 ⟨by decide, by decide⟩)) hF (fun c16 hF => ?_) (fun c16 hF => ?_)
      ·
        exact SX35_placeOf_b92 (N := N) (k24 := fX35_placeOf_b24 N n) (K24 := FX35_placeOf_b24 N n) hm @ih R13 rfl rl1 rfl rl3 rfl rl5 rfl rl6 hF
      ·
        refine s_gAs R13 (t_192 hm R13.S) (Nat.le_of_ble_eq_true rfl) rfl (o_192_71 hm R13.S) (a_298 hm R13) ?_
        refine s_rI R13 (u_298 hm R13.S).1 (u_298 hm R13.S).2 (by decide) (a_298 hm R13) rfl rl1 hF (fun x30 ra18 hF => ?_)
        refine s_if (i_le (c_lit 0 0 rfl) rfl ⟨by decide, by decide⟩ ra18) hF (fun c19 hF => ?_) (fun c19 hF => ?_)
        ·
          exact SX35_placeOf_b92 (N := N) (k24 := fX35_placeOf_b24 N n) (K24 := FX35_placeOf_b24 N n) hm @ih R13 rfl rl1 rfl rl3 rfl rl5 rfl rl6 hF
        ·
          refine s_gAs R13 (t_192 hm R13.S) (Nat.le_of_ble_eq_true rfl) rfl (o_192_77 hm R13.S) (a_304 hm R13) ?_
          refine s_rI R13 (u_304 hm R13.S).1 (u_304 hm R13.S).2 (by decide) (a_304 hm R13) (c_add (c_mul (c_lit 6 6 rfl) rfl) (c_lit 4 4 rfl)) (rr_I _) hF (fun x35 ra21 hF => ?_)
          exact SX35_placeOf_b143 (N := N) (k24 := fX35_placeOf_b24 N n) (K24 := FX35_placeOf_b24 N n) hm @ih R13 rfl rl1 (d_add rfl (c_2l rfl ra21)) (rr_J _) rfl rl5 rfl rl6 hF
def FX35_placeOf (N : Nat) (p0 : Int) (p1 : Int) (s : fS) : Option (Int × fS) :=
  (FX35_nothing N s).bind fun q2 =>
  (uRI q2.2 293 p0).bind fun x5 =>
  (uRI q2.2 293 p0).bind fun x9 =>
  FX35_placeOf_b24 N N p0 0 (iadd x5 p1) x9 q2.2
theorem SX35_placeOf {m b : Nat} {φ0 : Nat → Nat} {σo : fS} (hm : 1 ≤ m) {N : Nat} {q : Int × fS} {φ : Nat → Nat} {h : eH} {s : fS} {p0' : Int32} {p0 : Int} {p1' : Int32} {p1 : Int} (R : fC m b φ0 σo φ h s) (ep0 : p0' = iI p0) (rp0 : r32 p0) (ep1 : p1' = iI p1) (rp1 : r32 p1) (hF : FX35_placeOf N p0 p1 s = some q) : gG m b φ0 σo lJ q (fX35_placeOf N 192 p0' p1' h) := by
  subst ep0; subst ep1
  unfold FX35_placeOf at hF
  unfold fX35_placeOf
  refine s_kok R (t_192 hm R.S) (Nat.le_of_ble_eq_true rfl) ?_
  refine s_call R (Nat.zero_le _) (fun _ hq => SX35_nothing (b := 0) (N := N) hm (R.rf) hq) hF (fun f2 rv2 h2 q2 R2 e2 E2 hF => ?_)
  refine s_gAs R2 (t_192 hm R2.S) (Nat.le_of_ble_eq_true rfl) rfl (o_192_66 hm R2.S) (a_293 hm R2) ?_
  refine s_rI R2 (u_293 hm R2.S).1 (u_293 hm R2.S).2 (by decide) (a_293 hm R2) rfl rp0 hF (fun x5 ra4 hF => ?_)
  refine s_gAs R2 (t_192 hm R2.S) (Nat.le_of_ble_eq_true rfl) rfl (o_192_66 hm R2.S) (a_293 hm R2) ?_
  refine s_rI R2 (u_293 hm R2.S).1 (u_293 hm R2.S).2 (by decide) (a_293 hm R2) rfl rp0 hF (fun x9 ra6 hF => ?_)
  exact SX35_placeOf_b24 (N := N) hm R2 rfl rp0 (d_lit 0 0 rfl) ⟨by decide, by decide⟩ (c_add rfl rfl) (rr_I _) rfl ra6 hF
def FX35_ruled_b52 (s0 : Int) (s : fS) : Option (Int × fS) :=
  some (s0, s)
theorem SX35_ruled_b52 {m b : Nat} {φ0 : Nat → Nat} {σo : fS} (hm : 1 ≤ m) {q : Int × fS} {φ : Nat → Nat} {h : eH} {s : fS} {s0' : Int64} {s0 : Int} (R : fC m b φ0 σo φ h s) (es0 : s0' = iJ s0) (rs0 : r64 s0) (hF : FX35_ruled_b52 s0 s = some q) : gG m b φ0 σo lJ q (fX35_ruled_b52 s0' h) := by
  subst es0
  unfold FX35_ruled_b52 at hF
  unfold fX35_ruled_b52
  exact g_ret R hF ⟨rfl, rs0⟩
def FX35_ruled_b84 (s0 : Int) (s : fS) : Option (Int × fS) :=
  some (s0, s)
theorem SX35_ruled_b84 {m b : Nat} {φ0 : Nat → Nat} {σo : fS} (hm : 1 ≤ m) {q : Int × fS} {φ : Nat → Nat} {h : eH} {s : fS} {s0' : Int64} {s0 : Int} (R : fC m b φ0 σo φ h s) (es0 : s0' = iJ s0) (rs0 : r64 s0) (hF : FX35_ruled_b84 s0 s = some q) : gG m b φ0 σo lJ q (fX35_ruled_b84 s0' h) := by
  subst es0
  unfold FX35_ruled_b84 at hF
  unfold fX35_ruled_b84
  exact g_ret R hF ⟨rfl, rs0⟩
def FX35_ruled (p0 : Int) (p1 : Int) (p2 : Int) (s : fS) : Option (Int × fS) :=
  (uRI s 304 (iadd (iadd p1 1) p2)).bind fun x3 =>
  if x3 = (-1073741824) then
    (uRI s 294 p0).bind fun x8 =>
    if x8 = 0 then
      if ¬ (p2 = 1) then
        if ¬ (p2 = 2) then
          FX35_ruled_b84 0 s
        else
          (uRI s 297 p0).bind fun x15 =>
          FX35_ruled_b84 x15 s
      else
        (uRI s 296 p0).bind fun x19 =>
        FX35_ruled_b84 x19 s
    else
      if ¬ (p2 = 0) then
        FX35_ruled_b52 0 s
      else
        (uRI s 295 p0).bind fun x24 =>
        FX35_ruled_b52 x24 s
  else
    (uRI s 304 (iadd (iadd p1 1) p2)).bind fun x28 =>
    some (x28, s)
theorem SX35_ruled {m b : Nat} {φ0 : Nat → Nat} {σo : fS} (hm : 1 ≤ m) {q : Int × fS} {φ : Nat → Nat} {h : eH} {s : fS} {p0' : Int32} {p0 : Int} {p1' : Int32} {p1 : Int} {p2' : Int32} {p2 : Int} (R : fC m b φ0 σo φ h s) (ep0 : p0' = iI p0) (rp0 : r32 p0) (ep1 : p1' = iI p1) (rp1 : r32 p1) (ep2 : p2' = iI p2) (rp2 : r32 p2) (hF : FX35_ruled p0 p1 p2 s = some q) : gG m b φ0 σo lJ q (fX35_ruled 192 p0' p1' p2' h) := by
  subst ep0; subst ep1; subst ep2
  unfold FX35_ruled at hF
  unfold fX35_ruled
  refine s_gAs R (t_192 hm R.S) (Nat.le_of_ble_eq_true rfl) rfl (o_192_77 hm R.S) (a_304 hm R) ?_
  refine s_rI R (u_304 hm R.S).1 (u_304 hm R.S).2 (by decide) (a_304 hm R) (c_add (c_add rfl (c_lit 1 1 rfl)) rfl) (rr_I _) hF (fun x3 ra2 hF => ?_)
  refine s_if (i_eq rfl (c_lit (-1073741824) (-1073741824) rfl) ra2 ⟨by decide, by decide⟩) hF (fun c3 hF => ?_) (fun c3 hF => ?_)
  ·
    refine s_gAs R (t_192 hm R.S) (Nat.le_of_ble_eq_true rfl) rfl (o_192_67 hm R.S) (a_294 hm R) ?_
    refine s_rI R (u_294 hm R.S).1 (u_294 hm R.S).2 (by decide) (a_294 hm R) rfl rp0 hF (fun x8 ra5 hF => ?_)
    refine s_if (i_eq rfl (c_lit 0 0 rfl) ra5 ⟨by decide, by decide⟩) hF (fun c6 hF => ?_) (fun c6 hF => ?_)
    ·
      refine s_if (not_congr (i_eq rfl (c_lit 1 1 rfl) rp2 ⟨by decide, by decide⟩)) hF (fun c7 hF => ?_) (fun c7 hF => ?_)
      ·
        refine s_if (not_congr (i_eq rfl (c_lit 2 2 rfl) rp2 ⟨by decide, by decide⟩)) hF (fun c8 hF => ?_) (fun c8 hF => ?_)
        ·
          exact SX35_ruled_b84 hm R (d_lit 0 0 rfl) ⟨by decide, by decide⟩ hF
        ·
          refine s_gAs R (t_192 hm R.S) (Nat.le_of_ble_eq_true rfl) rfl (o_192_70 hm R.S) (a_297 hm R) ?_
          refine s_rI R (u_297 hm R.S).1 (u_297 hm R.S).2 (by decide) (a_297 hm R) rfl rp0 hF (fun x15 ra10 hF => ?_)
          exact SX35_ruled_b84 hm R (c_2l rfl ra10) (r32.w ra10) hF
      ·
        refine s_gAs R (t_192 hm R.S) (Nat.le_of_ble_eq_true rfl) rfl (o_192_69 hm R.S) (a_296 hm R) ?_
        refine s_rI R (u_296 hm R.S).1 (u_296 hm R.S).2 (by decide) (a_296 hm R) rfl rp0 hF (fun x19 ra12 hF => ?_)
        exact SX35_ruled_b84 hm R (c_2l rfl ra12) (r32.w ra12) hF
    ·
      refine s_if (not_congr (i_eq rfl (c_lit 0 0 rfl) rp2 ⟨by decide, by decide⟩)) hF (fun c13 hF => ?_) (fun c13 hF => ?_)
      ·
        exact SX35_ruled_b52 hm R (d_lit 0 0 rfl) ⟨by decide, by decide⟩ hF
      ·
        refine s_gAs R (t_192 hm R.S) (Nat.le_of_ble_eq_true rfl) rfl (o_192_68 hm R.S) (a_295 hm R) ?_
        refine s_rI R (u_295 hm R.S).1 (u_295 hm R.S).2 (by decide) (a_295 hm R) rfl rp0 hF (fun x24 ra15 hF => ?_)
        exact SX35_ruled_b52 hm R (c_2l rfl ra15) (r32.w ra15) hF
  ·
    refine s_gAs R (t_192 hm R.S) (Nat.le_of_ble_eq_true rfl) rfl (o_192_77 hm R.S) (a_304 hm R) ?_
    refine s_rI R (u_304 hm R.S).1 (u_304 hm R.S).2 (by decide) (a_304 hm R) (c_add (c_add rfl (c_lit 1 1 rfl)) rfl) (rr_I _) hF (fun x28 ra17 hF => ?_)
    exact g_ret R hF ⟨(c_2l rfl ra17), (r32.w ra17)⟩
def FX35_layBox_b401 (N : Nat) (SL : Int → Int → Int → fS → Option (Int × fS)) (K11 : Int → Int → Int → Int → Int → fS → Option (Int × fS)) (l1 : Int) (l2 : Int) (l4 : Int) (l6 : Int) (l7 : Int) (s : fS) : Option (Int × fS) :=
  K11 l1 l2 l4 l6 (iadd l7 1) s
theorem SX35_layBox_b401 {m b : Nat} {φ0 : Nat → Nat} {σo : fS} (hm : 1 ≤ m) (hb : 1 ≤ b) {N : Nat} {sL : Nat → Int32 → Int64 → Int64 → eH → Option (Int32 × eH)} {SL : Int → Int → Int → fS → Option (Int × fS)} {k11 : Nat → Int32 → Int64 → Int64 → Int32 → Int32 → eH → Option (Int32 × eH)} {K11 : Int → Int → Int → Int → Int → fS → Option (Int × fS)} {q : Int × fS} (hsL : ∀ {φ : Nat → Nat} {h : eH} {s : fS} {x1' : Int32} {x1 : Int} {x2' : Int64} {x2 : Int} {x3' : Int64} {x3 : Int} {q}, fC m 1 φ s φ h s → x1' = iI x1 → r32 x1 → x2' = iJ x2 → r64 x2 → x3' = iJ x3 → r64 x3 → SL x1 x2 x3 s = some q → gG m 1 φ s lI q (sL 192 x1' x2' x3' h)) (hk11 : ∀ {φ : Nat → Nat} {h : eH} {s : fS} {l1' : Int32} {l1 : Int} {l2' : Int64} {l2 : Int} {l4' : Int64} {l4 : Int} {l6' : Int32} {l6 : Int} {l7' : Int32} {l7 : Int}, fC m b φ0 σo φ h s → l1' = iI l1 → r32 l1 → l2' = iJ l2 → r64 l2 → l4' = iJ l4 → r64 l4 → l6' = iI l6 → r32 l6 → l7' = iI l7 → r32 l7 → K11 l1 l2 l4 l6 l7 s = some q → gG m b φ0 σo lI q (k11 192 l1' l2' l4' l6' l7' h)) {φ : Nat → Nat} {h : eH} {s : fS} {l1' : Int32} {l1 : Int} {l2' : Int64} {l2 : Int} {l4' : Int64} {l4 : Int} {l6' : Int32} {l6 : Int} {l7' : Int32} {l7 : Int} (R : fC m b φ0 σo φ h s) (el1 : l1' = iI l1) (rl1 : r32 l1) (el2 : l2' = iJ l2) (rl2 : r64 l2) (el4 : l4' = iJ l4) (rl4 : r64 l4) (el6 : l6' = iI l6) (rl6 : r32 l6) (el7 : l7' = iI l7) (rl7 : r32 l7) (hF : FX35_layBox_b401 N SL K11 l1 l2 l4 l6 l7 s = some q) : gG m b φ0 σo lI q (fX35_layBox_b401 N sL k11 192 l1' l2' l4' l6' l7' h) := by
  subst el1; subst el2; subst el4; subst el6; subst el7
  unfold FX35_layBox_b401 at hF
  unfold fX35_layBox_b401
  exact hk11 R rfl rl1 rfl rl2 rfl rl4 rfl rl6 (c_add rfl (c_lit 1 1 rfl)) (rr_I _) hF
def FX35_layBox_b175 (N : Nat) (SL : Int → Int → Int → fS → Option (Int × fS)) (K11 : Int → Int → Int → Int → Int → fS → Option (Int × fS)) (l1 : Int) (l2 : Int) (l4 : Int) (l7 : Int) (l8 : Int) (s1 : Int) (s2 : Int) (s3 : Int) (s4 : Int) (s : fS) : Option (Int × fS) :=
  (uRI s 304 (iadd l8 3)).bind fun x3 =>
  (uRI s 304 (iadd l8 4)).bind fun x7 =>
  (uRI s 304 (iadd l8 5)).bind fun x11 =>
  (FX35_note s1 s2 s3 s4 x3 x7 x11 s).bind fun q14 =>
  FX35_layBox_b401 N SL K11 l1 l2 l4 q14.1 l7 q14.2
theorem SX35_layBox_b175 {m b : Nat} {φ0 : Nat → Nat} {σo : fS} (hm : 1 ≤ m) (hb : 1 ≤ b) {N : Nat} {sL : Nat → Int32 → Int64 → Int64 → eH → Option (Int32 × eH)} {SL : Int → Int → Int → fS → Option (Int × fS)} {k11 : Nat → Int32 → Int64 → Int64 → Int32 → Int32 → eH → Option (Int32 × eH)} {K11 : Int → Int → Int → Int → Int → fS → Option (Int × fS)} {q : Int × fS} (hsL : ∀ {φ : Nat → Nat} {h : eH} {s : fS} {x1' : Int32} {x1 : Int} {x2' : Int64} {x2 : Int} {x3' : Int64} {x3 : Int} {q}, fC m 1 φ s φ h s → x1' = iI x1 → r32 x1 → x2' = iJ x2 → r64 x2 → x3' = iJ x3 → r64 x3 → SL x1 x2 x3 s = some q → gG m 1 φ s lI q (sL 192 x1' x2' x3' h)) (hk11 : ∀ {φ : Nat → Nat} {h : eH} {s : fS} {l1' : Int32} {l1 : Int} {l2' : Int64} {l2 : Int} {l4' : Int64} {l4 : Int} {l6' : Int32} {l6 : Int} {l7' : Int32} {l7 : Int}, fC m b φ0 σo φ h s → l1' = iI l1 → r32 l1 → l2' = iJ l2 → r64 l2 → l4' = iJ l4 → r64 l4 → l6' = iI l6 → r32 l6 → l7' = iI l7 → r32 l7 → K11 l1 l2 l4 l6 l7 s = some q → gG m b φ0 σo lI q (k11 192 l1' l2' l4' l6' l7' h)) {φ : Nat → Nat} {h : eH} {s : fS} {l1' : Int32} {l1 : Int} {l2' : Int64} {l2 : Int} {l4' : Int64} {l4 : Int} {l7' : Int32} {l7 : Int} {l8' : Int32} {l8 : Int} {s1' : Int32} {s1 : Int} {s2' : Int32} {s2 : Int} {s3' : Int64} {s3 : Int} {s4' : Int64} {s4 : Int} (R : fC m b φ0 σo φ h s) (el1 : l1' = iI l1) (rl1 : r32 l1) (el2 : l2' = iJ l2) (rl2 : r64 l2) (el4 : l4' = iJ l4) (rl4 : r64 l4) (el7 : l7' = iI l7) (rl7 : r32 l7) (el8 : l8' = iI l8) (rl8 : r32 l8) (es1 : s1' = iI s1) (rs1 : r32 s1) (es2 : s2' = iI s2) (rs2 : r32 s2) (es3 : s3' = iJ s3) (rs3 : r64 s3) (es4 : s4' = iJ s4) (rs4 : r64 s4) (hF : FX35_layBox_b175 N SL K11 l1 l2 l4 l7 l8 s1 s2 s3 s4 s = some q) : gG m b φ0 σo lI q (fX35_layBox_b175 N sL k11 192 l1' l2' l4' l7' l8' 192 s1' s2' s3' s4' h) := by
  subst el1; subst el2; subst el4; subst el7; subst el8; subst es1; subst es2; subst es3; subst es4
  unfold FX35_layBox_b175 at hF
  unfold fX35_layBox_b175
  refine s_gAs R (t_192 hm R.S) (Nat.le_of_ble_eq_true rfl) rfl (o_192_77 hm R.S) (a_304 hm R) ?_
  refine s_rI R (u_304 hm R.S).1 (u_304 hm R.S).2 (by decide) (a_304 hm R) (c_add rfl (c_lit 3 3 rfl)) (rr_I _) hF (fun x3 ra2 hF => ?_)
  refine s_gAs R (t_192 hm R.S) (Nat.le_of_ble_eq_true rfl) rfl (o_192_77 hm R.S) (a_304 hm R) ?_
  refine s_rI R (u_304 hm R.S).1 (u_304 hm R.S).2 (by decide) (a_304 hm R) (c_add rfl (c_lit 4 4 rfl)) (rr_I _) hF (fun x7 ra4 hF => ?_)
  refine s_gAs R (t_192 hm R.S) (Nat.le_of_ble_eq_true rfl) rfl (o_192_77 hm R.S) (a_304 hm R) ?_
  refine s_rI R (u_304 hm R.S).1 (u_304 hm R.S).2 (by decide) (a_304 hm R) (c_add rfl (c_lit 5 5 rfl)) (rr_I _) hF (fun x11 ra6 hF => ?_)
  refine s_kok R (t_192 hm R.S) (Nat.le_of_ble_eq_true rfl) ?_
  refine s_call R (Nat.zero_le _) (fun _ hq => SX35_note (b := 0) hm (R.rf) rfl rs1 rfl rs2 rfl rs3 rfl rs4 (c_2l rfl ra2) (r32.w ra2) (c_2l rfl ra4) (r32.w ra4) (c_2l rfl ra6) (r32.w ra6) hq) hF (fun f8 rv8 h8 q14 R8 e8 E8 hF => ?_)
  exact SX35_layBox_b401 (N := N) (sL := sL) (SL := SL) (k11 := k11) (K11 := K11) hm hb @hsL @hk11 R8 rfl rl1 rfl rl2 rfl rl4 e8.1 e8.2 rfl rl7 hF
def FX35_layBox_b312 (N : Nat) (SL : Int → Int → Int → fS → Option (Int × fS)) (K11 : Int → Int → Int → Int → Int → fS → Option (Int × fS)) (l1 : Int) (l2 : Int) (l4 : Int) (l7 : Int) (s0 : Int) (s : fS) : Option (Int × fS) :=
  FX35_layBox_b401 N SL K11 l1 l2 l4 s0 l7 s
theorem SX35_layBox_b312 {m b : Nat} {φ0 : Nat → Nat} {σo : fS} (hm : 1 ≤ m) (hb : 1 ≤ b) {N : Nat} {sL : Nat → Int32 → Int64 → Int64 → eH → Option (Int32 × eH)} {SL : Int → Int → Int → fS → Option (Int × fS)} {k11 : Nat → Int32 → Int64 → Int64 → Int32 → Int32 → eH → Option (Int32 × eH)} {K11 : Int → Int → Int → Int → Int → fS → Option (Int × fS)} {q : Int × fS} (hsL : ∀ {φ : Nat → Nat} {h : eH} {s : fS} {x1' : Int32} {x1 : Int} {x2' : Int64} {x2 : Int} {x3' : Int64} {x3 : Int} {q}, fC m 1 φ s φ h s → x1' = iI x1 → r32 x1 → x2' = iJ x2 → r64 x2 → x3' = iJ x3 → r64 x3 → SL x1 x2 x3 s = some q → gG m 1 φ s lI q (sL 192 x1' x2' x3' h)) (hk11 : ∀ {φ : Nat → Nat} {h : eH} {s : fS} {l1' : Int32} {l1 : Int} {l2' : Int64} {l2 : Int} {l4' : Int64} {l4 : Int} {l6' : Int32} {l6 : Int} {l7' : Int32} {l7 : Int}, fC m b φ0 σo φ h s → l1' = iI l1 → r32 l1 → l2' = iJ l2 → r64 l2 → l4' = iJ l4 → r64 l4 → l6' = iI l6 → r32 l6 → l7' = iI l7 → r32 l7 → K11 l1 l2 l4 l6 l7 s = some q → gG m b φ0 σo lI q (k11 192 l1' l2' l4' l6' l7' h)) {φ : Nat → Nat} {h : eH} {s : fS} {l1' : Int32} {l1 : Int} {l2' : Int64} {l2 : Int} {l4' : Int64} {l4 : Int} {l7' : Int32} {l7 : Int} {s0' : Int32} {s0 : Int} (R : fC m b φ0 σo φ h s) (el1 : l1' = iI l1) (rl1 : r32 l1) (el2 : l2' = iJ l2) (rl2 : r64 l2) (el4 : l4' = iJ l4) (rl4 : r64 l4) (el7 : l7' = iI l7) (rl7 : r32 l7) (es0 : s0' = iI s0) (rs0 : r32 s0) (hF : FX35_layBox_b312 N SL K11 l1 l2 l4 l7 s0 s = some q) : gG m b φ0 σo lI q (fX35_layBox_b312 N sL k11 192 l1' l2' l4' l7' s0' h) := by
  subst el1; subst el2; subst el4; subst el7; subst es0
  unfold FX35_layBox_b312 at hF
  unfold fX35_layBox_b312
  exact SX35_layBox_b401 (N := N) (sL := sL) (SL := SL) (k11 := k11) (K11 := K11) hm hb @hsL @hk11 R rfl rl1 rfl rl2 rfl rl4 rfl rs0 rfl rl7 hF
def FX35_layBox_b307 (N : Nat) (SL : Int → Int → Int → fS → Option (Int × fS)) (K11 : Int → Int → Int → Int → Int → fS → Option (Int × fS)) (l1 : Int) (l2 : Int) (l4 : Int) (l7 : Int) (s : fS) : Option (Int × fS) :=
  FX35_layBox_b312 N SL K11 l1 l2 l4 l7 1 s
theorem SX35_layBox_b307 {m b : Nat} {φ0 : Nat → Nat} {σo : fS} (hm : 1 ≤ m) (hb : 1 ≤ b) {N : Nat} {sL : Nat → Int32 → Int64 → Int64 → eH → Option (Int32 × eH)} {SL : Int → Int → Int → fS → Option (Int × fS)} {k11 : Nat → Int32 → Int64 → Int64 → Int32 → Int32 → eH → Option (Int32 × eH)} {K11 : Int → Int → Int → Int → Int → fS → Option (Int × fS)} {q : Int × fS} (hsL : ∀ {φ : Nat → Nat} {h : eH} {s : fS} {x1' : Int32} {x1 : Int} {x2' : Int64} {x2 : Int} {x3' : Int64} {x3 : Int} {q}, fC m 1 φ s φ h s → x1' = iI x1 → r32 x1 → x2' = iJ x2 → r64 x2 → x3' = iJ x3 → r64 x3 → SL x1 x2 x3 s = some q → gG m 1 φ s lI q (sL 192 x1' x2' x3' h)) (hk11 : ∀ {φ : Nat → Nat} {h : eH} {s : fS} {l1' : Int32} {l1 : Int} {l2' : Int64} {l2 : Int} {l4' : Int64} {l4 : Int} {l6' : Int32} {l6 : Int} {l7' : Int32} {l7 : Int}, fC m b φ0 σo φ h s → l1' = iI l1 → r32 l1 → l2' = iJ l2 → r64 l2 → l4' = iJ l4 → r64 l4 → l6' = iI l6 → r32 l6 → l7' = iI l7 → r32 l7 → K11 l1 l2 l4 l6 l7 s = some q → gG m b φ0 σo lI q (k11 192 l1' l2' l4' l6' l7' h)) {φ : Nat → Nat} {h : eH} {s : fS} {l1' : Int32} {l1 : Int} {l2' : Int64} {l2 : Int} {l4' : Int64} {l4 : Int} {l7' : Int32} {l7 : Int} (R : fC m b φ0 σo φ h s) (el1 : l1' = iI l1) (rl1 : r32 l1) (el2 : l2' = iJ l2) (rl2 : r64 l2) (el4 : l4' = iJ l4) (rl4 : r64 l4) (el7 : l7' = iI l7) (rl7 : r32 l7) (hF : FX35_layBox_b307 N SL K11 l1 l2 l4 l7 s = some q) : gG m b φ0 σo lI q (fX35_layBox_b307 N sL k11 192 l1' l2' l4' l7' h) := by
  subst el1; subst el2; subst el4; subst el7
  unfold FX35_layBox_b307 at hF
  unfold fX35_layBox_b307
  exact SX35_layBox_b312 (N := N) (sL := sL) (SL := SL) (k11 := k11) (K11 := K11) hm hb @hsL @hk11 R rfl rl1 rfl rl2 rfl rl4 rfl rl7 (c_lit 1 1 rfl) ⟨by decide, by decide⟩ hF
def FX35_layBox_b295 (N : Nat) (SL : Int → Int → Int → fS → Option (Int × fS)) (K11 : Int → Int → Int → Int → Int → fS → Option (Int × fS)) (l1 : Int) (l2 : Int) (l4 : Int) (l7 : Int) (l15 : Int) (l17 : Int) (l19 : Int) (s1 : Int) (s2 : Int) (s3 : Int) (s4 : Int) (s : fS) : Option (Int × fS) :=
  (FX35_note s1 s2 s3 s4 l15 l17 l19 s).bind fun q2 =>
  if q2.1 = 0 then
    FX35_layBox_b312 N SL K11 l1 l2 l4 l7 0 q2.2
  else
    FX35_layBox_b307 N SL K11 l1 l2 l4 l7 q2.2
theorem SX35_layBox_b295 {m b : Nat} {φ0 : Nat → Nat} {σo : fS} (hm : 1 ≤ m) (hb : 1 ≤ b) {N : Nat} {sL : Nat → Int32 → Int64 → Int64 → eH → Option (Int32 × eH)} {SL : Int → Int → Int → fS → Option (Int × fS)} {k11 : Nat → Int32 → Int64 → Int64 → Int32 → Int32 → eH → Option (Int32 × eH)} {K11 : Int → Int → Int → Int → Int → fS → Option (Int × fS)} {q : Int × fS} (hsL : ∀ {φ : Nat → Nat} {h : eH} {s : fS} {x1' : Int32} {x1 : Int} {x2' : Int64} {x2 : Int} {x3' : Int64} {x3 : Int} {q}, fC m 1 φ s φ h s → x1' = iI x1 → r32 x1 → x2' = iJ x2 → r64 x2 → x3' = iJ x3 → r64 x3 → SL x1 x2 x3 s = some q → gG m 1 φ s lI q (sL 192 x1' x2' x3' h)) (hk11 : ∀ {φ : Nat → Nat} {h : eH} {s : fS} {l1' : Int32} {l1 : Int} {l2' : Int64} {l2 : Int} {l4' : Int64} {l4 : Int} {l6' : Int32} {l6 : Int} {l7' : Int32} {l7 : Int}, fC m b φ0 σo φ h s → l1' = iI l1 → r32 l1 → l2' = iJ l2 → r64 l2 → l4' = iJ l4 → r64 l4 → l6' = iI l6 → r32 l6 → l7' = iI l7 → r32 l7 → K11 l1 l2 l4 l6 l7 s = some q → gG m b φ0 σo lI q (k11 192 l1' l2' l4' l6' l7' h)) {φ : Nat → Nat} {h : eH} {s : fS} {l1' : Int32} {l1 : Int} {l2' : Int64} {l2 : Int} {l4' : Int64} {l4 : Int} {l7' : Int32} {l7 : Int} {l15' : Int64} {l15 : Int} {l17' : Int64} {l17 : Int} {l19' : Int64} {l19 : Int} {s1' : Int32} {s1 : Int} {s2' : Int32} {s2 : Int} {s3' : Int64} {s3 : Int} {s4' : Int64} {s4 : Int} (R : fC m b φ0 σo φ h s) (el1 : l1' = iI l1) (rl1 : r32 l1) (el2 : l2' = iJ l2) (rl2 : r64 l2) (el4 : l4' = iJ l4) (rl4 : r64 l4) (el7 : l7' = iI l7) (rl7 : r32 l7) (el15 : l15' = iJ l15) (rl15 : r64 l15) (el17 : l17' = iJ l17) (rl17 : r64 l17) (el19 : l19' = iJ l19) (rl19 : r64 l19) (es1 : s1' = iI s1) (rs1 : r32 s1) (es2 : s2' = iI s2) (rs2 : r32 s2) (es3 : s3' = iJ s3) (rs3 : r64 s3) (es4 : s4' = iJ s4) (rs4 : r64 s4) (hF : FX35_layBox_b295 N SL K11 l1 l2 l4 l7 l15 l17 l19 s1 s2 s3 s4 s = some q) : gG m b φ0 σo lI q (fX35_layBox_b295 N sL k11 192 l1' l2' l4' l7' l15' l17' l19' 192 s1' s2' s3' s4' h) := by
  subst el1; subst el2; subst el4; subst el7; subst el15; subst el17; subst el19; subst es1; subst es2; subst es3; subst es4
  unfold FX35_layBox_b295 at hF
  unfold fX35_layBox_b295
  refine s_kok R (t_192 hm R.S) (Nat.le_of_ble_eq_true rfl) ?_
  refine s_call R (Nat.zero_le _) (fun _ hq => SX35_note (b := 0) hm (R.rf) rfl rs1 rfl rs2 rfl rs3 rfl rs4 rfl rl15 rfl rl17 rfl rl19 hq) hF (fun f2 rv2 h2 q2 R2 e2 E2 hF => ?_)
  refine s_if (i_eq e2.1 (c_lit 0 0 rfl) e2.2 ⟨by decide, by decide⟩) hF (fun c3 hF => ?_) (fun c3 hF => ?_)
  ·
    exact SX35_layBox_b312 (N := N) (sL := sL) (SL := SL) (k11 := k11) (K11 := K11) hm hb @hsL @hk11 R2 rfl rl1 rfl rl2 rfl rl4 rfl rl7 (c_lit 0 0 rfl) ⟨by decide, by decide⟩ hF
  ·
    exact SX35_layBox_b307 (N := N) (sL := sL) (SL := SL) (k11 := k11) (K11 := K11) hm hb @hsL @hk11 R2 rfl rl1 rfl rl2 rfl rl4 rfl rl7 hF
def FX35_layBox_b399 (N : Nat) (SL : Int → Int → Int → fS → Option (Int × fS)) (K11 : Int → Int → Int → Int → Int → fS → Option (Int × fS)) (l1 : Int) (l2 : Int) (l4 : Int) (l7 : Int) (s0 : Int) (s : fS) : Option (Int × fS) :=
  FX35_layBox_b401 N SL K11 l1 l2 l4 s0 l7 s
theorem SX35_layBox_b399 {m b : Nat} {φ0 : Nat → Nat} {σo : fS} (hm : 1 ≤ m) (hb : 1 ≤ b) {N : Nat} {sL : Nat → Int32 → Int64 → Int64 → eH → Option (Int32 × eH)} {SL : Int → Int → Int → fS → Option (Int × fS)} {k11 : Nat → Int32 → Int64 → Int64 → Int32 → Int32 → eH → Option (Int32 × eH)} {K11 : Int → Int → Int → Int → Int → fS → Option (Int × fS)} {q : Int × fS} (hsL : ∀ {φ : Nat → Nat} {h : eH} {s : fS} {x1' : Int32} {x1 : Int} {x2' : Int64} {x2 : Int} {x3' : Int64} {x3 : Int} {q}, fC m 1 φ s φ h s → x1' = iI x1 → r32 x1 → x2' = iJ x2 → r64 x2 → x3' = iJ x3 → r64 x3 → SL x1 x2 x3 s = some q → gG m 1 φ s lI q (sL 192 x1' x2' x3' h)) (hk11 : ∀ {φ : Nat → Nat} {h : eH} {s : fS} {l1' : Int32} {l1 : Int} {l2' : Int64} {l2 : Int} {l4' : Int64} {l4 : Int} {l6' : Int32} {l6 : Int} {l7' : Int32} {l7 : Int}, fC m b φ0 σo φ h s → l1' = iI l1 → r32 l1 → l2' = iJ l2 → r64 l2 → l4' = iJ l4 → r64 l4 → l6' = iI l6 → r32 l6 → l7' = iI l7 → r32 l7 → K11 l1 l2 l4 l6 l7 s = some q → gG m b φ0 σo lI q (k11 192 l1' l2' l4' l6' l7' h)) {φ : Nat → Nat} {h : eH} {s : fS} {l1' : Int32} {l1 : Int} {l2' : Int64} {l2 : Int} {l4' : Int64} {l4 : Int} {l7' : Int32} {l7 : Int} {s0' : Int32} {s0 : Int} (R : fC m b φ0 σo φ h s) (el1 : l1' = iI l1) (rl1 : r32 l1) (el2 : l2' = iJ l2) (rl2 : r64 l2) (el4 : l4' = iJ l4) (rl4 : r64 l4) (el7 : l7' = iI l7) (rl7 : r32 l7) (es0 : s0' = iI s0) (rs0 : r32 s0) (hF : FX35_layBox_b399 N SL K11 l1 l2 l4 l7 s0 s = some q) : gG m b φ0 σo lI q (fX35_layBox_b399 N sL k11 192 l1' l2' l4' l7' s0' h) := by
  subst el1; subst el2; subst el4; subst el7; subst es0
  unfold FX35_layBox_b399 at hF
  unfold fX35_layBox_b399
  exact SX35_layBox_b401 (N := N) (sL := sL) (SL := SL) (k11 := k11) (K11 := K11) hm hb @hsL @hk11 R rfl rl1 rfl rl2 rfl rl4 rfl rs0 rfl rl7 hF
def FX35_layBox_b115 (N : Nat) (SL : Int → Int → Int → fS → Option (Int × fS)) (K11 : Int → Int → Int → Int → Int → fS → Option (Int × fS)) (l1 : Int) (l2 : Int) (l4 : Int) (l6 : Int) (l7 : Int) (l8 : Int) (l11 : Int) (s0 : Int) (s : fS) : Option (Int × fS) :=
  (uRI s 304 l8).bind fun x3 =>
  if ¬ (x3 = 0) then
    (uRI s 304 l8).bind fun x8 =>
    if ¬ (x8 = 1) then
      (uRI s 304 l8).bind fun x13 =>
      if ¬ (x13 = 5) then
        FX35_layBox_b401 N SL K11 l1 l2 l4 l6 l7 s
      else
        (uRI s 304 (iadd l8 1)).bind fun x18 =>
        (uRI s 304 (iadd l8 2)).bind fun x22 =>
        (uRI s 294 l1).bind fun x26 =>
        if x26 = 0 then
          (SL x18 l11 (ladd s0 x22) s).bind fun q30 =>
          FX35_layBox_b399 N SL K11 l1 l2 l4 l7 q30.1 q30.2
        else
          (uRI s 296 x18).bind fun x33 =>
          (SL x18 (ladd l11 x22) (ladd s0 x33) s).bind fun q36 =>
          FX35_layBox_b399 N SL K11 l1 l2 l4 l7 q36.1 q36.2
    else
      (FX35_ruled l1 l8 0 s).bind fun q38 =>
      (FX35_ruled l1 l8 1 q38.2).bind fun q40 =>
      (FX35_ruled l1 l8 2 q40.2).bind fun q42 =>
      if q38.1 ≤ 0 then
        FX35_layBox_b307 N SL K11 l1 l2 l4 l7 q42.2
      else
        if (ladd q40.1 q42.1) ≤ 0 then
          FX35_layBox_b307 N SL K11 l1 l2 l4 l7 q42.2
        else
          (uRI q42.2 294 l1).bind fun x47 =>
          if x47 = 0 then
            FX35_layBox_b295 N SL K11 l1 l2 l4 l7 q38.1 q40.1 q42.1 (-1) 0 l11 s0 q42.2
          else
            FX35_layBox_b295 N SL K11 l1 l2 l4 l7 q38.1 q40.1 q42.1 (-1) 0 l11 (ladd s0 q40.1) q42.2
  else
    (uRI s 304 (iadd l8 1)).bind fun x52 =>
    (uRI s 304 (iadd l8 2)).bind fun x56 =>
    (uRI s 294 l1).bind fun x60 =>
    if x60 = 0 then
      FX35_layBox_b175 N SL K11 l1 l2 l4 l7 l8 x52 x56 l11 s0 s
    else
      (uRI s 304 (iadd l8 4)).bind fun x65 =>
      FX35_layBox_b175 N SL K11 l1 l2 l4 l7 l8 x52 x56 l11 (ladd s0 x65) s
theorem SX35_layBox_b115 {m b : Nat} {φ0 : Nat → Nat} {σo : fS} (hm : 1 ≤ m) (hb : 1 ≤ b) {N : Nat} {sL : Nat → Int32 → Int64 → Int64 → eH → Option (Int32 × eH)} {SL : Int → Int → Int → fS → Option (Int × fS)} {k11 : Nat → Int32 → Int64 → Int64 → Int32 → Int32 → eH → Option (Int32 × eH)} {K11 : Int → Int → Int → Int → Int → fS → Option (Int × fS)} {q : Int × fS} (hsL : ∀ {φ : Nat → Nat} {h : eH} {s : fS} {x1' : Int32} {x1 : Int} {x2' : Int64} {x2 : Int} {x3' : Int64} {x3 : Int} {q}, fC m 1 φ s φ h s → x1' = iI x1 → r32 x1 → x2' = iJ x2 → r64 x2 → x3' = iJ x3 → r64 x3 → SL x1 x2 x3 s = some q → gG m 1 φ s lI q (sL 192 x1' x2' x3' h)) (hk11 : ∀ {φ : Nat → Nat} {h : eH} {s : fS} {l1' : Int32} {l1 : Int} {l2' : Int64} {l2 : Int} {l4' : Int64} {l4 : Int} {l6' : Int32} {l6 : Int} {l7' : Int32} {l7 : Int}, fC m b φ0 σo φ h s → l1' = iI l1 → r32 l1 → l2' = iJ l2 → r64 l2 → l4' = iJ l4 → r64 l4 → l6' = iI l6 → r32 l6 → l7' = iI l7 → r32 l7 → K11 l1 l2 l4 l6 l7 s = some q → gG m b φ0 σo lI q (k11 192 l1' l2' l4' l6' l7' h)) {φ : Nat → Nat} {h : eH} {s : fS} {l1' : Int32} {l1 : Int} {l2' : Int64} {l2 : Int} {l4' : Int64} {l4 : Int} {l6' : Int32} {l6 : Int} {l7' : Int32} {l7 : Int} {l8' : Int32} {l8 : Int} {l11' : Int64} {l11 : Int} {s0' : Int64} {s0 : Int} (R : fC m b φ0 σo φ h s) (el1 : l1' = iI l1) (rl1 : r32 l1) (el2 : l2' = iJ l2) (rl2 : r64 l2) (el4 : l4' = iJ l4) (rl4 : r64 l4) (el6 : l6' = iI l6) (rl6 : r32 l6) (el7 : l7' = iI l7) (rl7 : r32 l7) (el8 : l8' = iI l8) (rl8 : r32 l8) (el11 : l11' = iJ l11) (rl11 : r64 l11) (es0 : s0' = iJ s0) (rs0 : r64 s0) (hF : FX35_layBox_b115 N SL K11 l1 l2 l4 l6 l7 l8 l11 s0 s = some q) : gG m b φ0 σo lI q (fX35_layBox_b115 N sL k11 192 l1' l2' l4' l6' l7' l8' l11' s0' h) := by
  subst el1; subst el2; subst el4; subst el6; subst el7; subst el8; subst el11; subst es0
  unfold FX35_layBox_b115 at hF
  unfold fX35_layBox_b115
  refine s_gAs R (t_192 hm R.S) (Nat.le_of_ble_eq_true rfl) rfl (o_192_77 hm R.S) (a_304 hm R) ?_
  refine s_rI R (u_304 hm R.S).1 (u_304 hm R.S).2 (by decide) (a_304 hm R) rfl rl8 hF (fun x3 ra2 hF => ?_)
  refine s_if (not_congr (i_eq rfl (c_lit 0 0 rfl) ra2 ⟨by decide, by decide⟩)) hF (fun c3 hF => ?_) (fun c3 hF => ?_)
  ·
    refine s_gAs R (t_192 hm R.S) (Nat.le_of_ble_eq_true rfl) rfl (o_192_77 hm R.S) (a_304 hm R) ?_
    refine s_rI R (u_304 hm R.S).1 (u_304 hm R.S).2 (by decide) (a_304 hm R) rfl rl8 hF (fun x8 ra5 hF => ?_)
    refine s_if (not_congr (i_eq rfl (c_lit 1 1 rfl) ra5 ⟨by decide, by decide⟩)) hF (fun c6 hF => ?_) (fun c6 hF => ?_)
    ·
      refine s_gAs R (t_192 hm R.S) (Nat.le_of_ble_eq_true rfl) rfl (o_192_77 hm R.S) (a_304 hm R) ?_
      refine s_rI R (u_304 hm R.S).1 (u_304 hm R.S).2 (by decide) (a_304 hm R) rfl rl8 hF (fun x13 ra8 hF => ?_)
      refine s_if (not_congr (i_eq rfl (c_lit 5 5 rfl) ra8 ⟨by decide, by decide⟩)) hF (fun c9 hF => ?_) (fun c9 hF => ?_)
      ·
        exact SX35_layBox_b401 (N := N) (sL := sL) (SL := SL) (k11 := k11) (K11 := K11) hm hb @hsL @hk11 R rfl rl1 rfl rl2 rfl rl4 rfl rl6 rfl rl7 hF
      ·
        refine s_gAs R (t_192 hm R.S) (Nat.le_of_ble_eq_true rfl) rfl (o_192_77 hm R.S) (a_304 hm R) ?_
        refine s_rI R (u_304 hm R.S).1 (u_304 hm R.S).2 (by decide) (a_304 hm R) (c_add rfl (c_lit 1 1 rfl)) (rr_I _) hF (fun x18 ra11 hF => ?_)
        refine s_gAs R (t_192 hm R.S) (Nat.le_of_ble_eq_true rfl) rfl (o_192_77 hm R.S) (a_304 hm R) ?_
        refine s_rI R (u_304 hm R.S).1 (u_304 hm R.S).2 (by decide) (a_304 hm R) (c_add rfl (c_lit 2 2 rfl)) (rr_I _) hF (fun x22 ra13 hF => ?_)
        refine s_gAs R (t_192 hm R.S) (Nat.le_of_ble_eq_true rfl) rfl (o_192_67 hm R.S) (a_294 hm R) ?_
        refine s_rI R (u_294 hm R.S).1 (u_294 hm R.S).2 (by decide) (a_294 hm R) rfl rl1 hF (fun x26 ra15 hF => ?_)
        refine s_if (i_eq rfl (c_lit 0 0 rfl) ra15 ⟨by decide, by decide⟩) hF (fun c16 hF => ?_) (fun c16 hF => ?_)
        ·
          refine s_kok R (t_192 hm R.S) (Nat.le_of_ble_eq_true rfl) ?_
          refine s_call R hb (fun _ hq => hsL (R.rf) rfl ra11 rfl rl11 (d_add rfl (c_2l rfl ra13)) (rr_J _) hq) hF (fun f18 rv18 h18 q30 R18 e18 E18 hF => ?_)
          exact SX35_layBox_b399 (N := N) (sL := sL) (SL := SL) (k11 := k11) (K11 := K11) hm hb @hsL @hk11 R18 rfl rl1 rfl rl2 rfl rl4 rfl rl7 e18.1 e18.2 hF
        ·
          refine s_gAs R (t_192 hm R.S) (Nat.le_of_ble_eq_true rfl) rfl (o_192_69 hm R.S) (a_296 hm R) ?_
          refine s_rI R (u_296 hm R.S).1 (u_296 hm R.S).2 (by decide) (a_296 hm R) rfl ra11 hF (fun x33 ra20 hF => ?_)
          refine s_kok R (t_192 hm R.S) (Nat.le_of_ble_eq_true rfl) ?_
          refine s_call R hb (fun _ hq => hsL (R.rf) rfl ra11 (d_add rfl (c_2l rfl ra13)) (rr_J _) (d_add rfl (c_2l rfl ra20)) (rr_J _) hq) hF (fun f22 rv22 h22 q36 R22 e22 E22 hF => ?_)
          exact SX35_layBox_b399 (N := N) (sL := sL) (SL := SL) (k11 := k11) (K11 := K11) hm hb @hsL @hk11 R22 rfl rl1 rfl rl2 rfl rl4 rfl rl7 e22.1 e22.2 hF
    ·
      refine s_kok R (t_192 hm R.S) (Nat.le_of_ble_eq_true rfl) ?_
      refine s_call R (Nat.zero_le _) (fun _ hq => SX35_ruled (b := 0) hm (R.rf) rfl rl1 rfl rl8 (c_lit 0 0 rfl) ⟨by decide, by decide⟩ hq) hF (fun f24 rv24 h24 q38 R24 e24 E24 hF => ?_)
      refine s_kok R24 (t_192 hm R24.S) (Nat.le_of_ble_eq_true rfl) ?_
      refine s_call R24 (Nat.zero_le _) (fun _ hq => SX35_ruled (b := 0) hm (R24.rf) rfl rl1 rfl rl8 (c_lit 1 1 rfl) ⟨by decide, by decide⟩ hq) hF (fun f26 rv26 h26 q40 R26 e26 E26 hF => ?_)
      refine s_kok R26 (t_192 hm R26.S) (Nat.le_of_ble_eq_true rfl) ?_
      refine s_call R26 (Nat.zero_le _) (fun _ hq => SX35_ruled (b := 0) hm (R26.rf) rfl rl1 rfl rl8 (c_lit 2 2 rfl) ⟨by decide, by decide⟩ hq) hF (fun f28 rv28 h28 q42 R28 e28 E28 hF => ?_)
      refine s_if (lg_le.trans (j_le e24.1 (d_lit 0 0 rfl) e24.2 ⟨by decide, by decide⟩)) hF (fun c29 hF => ?_) (fun c29 hF => ?_)
      ·
        exact SX35_layBox_b307 (N := N) (sL := sL) (SL := SL) (k11 := k11) (K11 := K11) hm hb @hsL @hk11 R28 rfl rl1 rfl rl2 rfl rl4 rfl rl7 hF
      ·
        refine s_if (lg_le.trans (j_le (d_add e26.1 e28.1) (d_lit 0 0 rfl) (rr_J _) ⟨by decide, by decide⟩)) hF (fun c30 hF => ?_) (fun c30 hF => ?_)
        ·
          exact SX35_layBox_b307 (N := N) (sL := sL) (SL := SL) (k11 := k11) (K11 := K11) hm hb @hsL @hk11 R28 rfl rl1 rfl rl2 rfl rl4 rfl rl7 hF
        ·
          refine s_gAs R28 (t_192 hm R28.S) (Nat.le_of_ble_eq_true rfl) rfl (o_192_67 hm R28.S) (a_294 hm R28) ?_
          refine s_rI R28 (u_294 hm R28.S).1 (u_294 hm R28.S).2 (by decide) (a_294 hm R28) rfl rl1 hF (fun x47 ra32 hF => ?_)
          refine s_if (i_eq rfl (c_lit 0 0 rfl) ra32 ⟨by decide, by decide⟩) hF (fun c33 hF => ?_) (fun c33 hF => ?_)
          ·
            exact SX35_layBox_b295 (N := N) (sL := sL) (SL := SL) (k11 := k11) (K11 := K11) hm hb @hsL @hk11 R28 rfl rl1 rfl rl2 rfl rl4 rfl rl7 e24.1 e24.2 e26.1 e26.2 e28.1 e28.2 (c_lit (-1) (-1) rfl) ⟨by decide, by decide⟩ (c_lit 0 0 rfl) ⟨by decide, by decide⟩ rfl rl11 rfl rs0 hF
          ·
            exact SX35_layBox_b295 (N := N) (sL := sL) (SL := SL) (k11 := k11) (K11 := K11) hm hb @hsL @hk11 R28 rfl rl1 rfl rl2 rfl rl4 rfl rl7 e24.1 e24.2 e26.1 e26.2 e28.1 e28.2 (c_lit (-1) (-1) rfl) ⟨by decide, by decide⟩ (c_lit 0 0 rfl) ⟨by decide, by decide⟩ rfl rl11 (d_add rfl e26.1) (rr_J _) hF
  ·
    refine s_gAs R (t_192 hm R.S) (Nat.le_of_ble_eq_true rfl) rfl (o_192_77 hm R.S) (a_304 hm R) ?_
    refine s_rI R (u_304 hm R.S).1 (u_304 hm R.S).2 (by decide) (a_304 hm R) (c_add rfl (c_lit 1 1 rfl)) (rr_I _) hF (fun x52 ra35 hF => ?_)
    refine s_gAs R (t_192 hm R.S) (Nat.le_of_ble_eq_true rfl) rfl (o_192_77 hm R.S) (a_304 hm R) ?_
    refine s_rI R (u_304 hm R.S).1 (u_304 hm R.S).2 (by decide) (a_304 hm R) (c_add rfl (c_lit 2 2 rfl)) (rr_I _) hF (fun x56 ra37 hF => ?_)
    refine s_gAs R (t_192 hm R.S) (Nat.le_of_ble_eq_true rfl) rfl (o_192_67 hm R.S) (a_294 hm R) ?_
    refine s_rI R (u_294 hm R.S).1 (u_294 hm R.S).2 (by decide) (a_294 hm R) rfl rl1 hF (fun x60 ra39 hF => ?_)
    refine s_if (i_eq rfl (c_lit 0 0 rfl) ra39 ⟨by decide, by decide⟩) hF (fun c40 hF => ?_) (fun c40 hF => ?_)
    ·
      exact SX35_layBox_b175 (N := N) (sL := sL) (SL := SL) (k11 := k11) (K11 := K11) hm hb @hsL @hk11 R rfl rl1 rfl rl2 rfl rl4 rfl rl7 rfl rl8 rfl ra35 rfl ra37 rfl rl11 rfl rs0 hF
    ·
      refine s_gAs R (t_192 hm R.S) (Nat.le_of_ble_eq_true rfl) rfl (o_192_77 hm R.S) (a_304 hm R) ?_
      refine s_rI R (u_304 hm R.S).1 (u_304 hm R.S).2 (by decide) (a_304 hm R) (c_add rfl (c_lit 4 4 rfl)) (rr_I _) hF (fun x65 ra42 hF => ?_)
      exact SX35_layBox_b175 (N := N) (sL := sL) (SL := SL) (k11 := k11) (K11 := K11) hm hb @hsL @hk11 R rfl rl1 rfl rl2 rfl rl4 rfl rl7 rfl rl8 rfl ra35 rfl ra37 rfl rl11 (d_add rfl (c_2l rfl ra42)) (rr_J _) hF
def FX35_layBox_b86 (N : Nat) (SL : Int → Int → Int → fS → Option (Int × fS)) (K11 : Int → Int → Int → Int → Int → fS → Option (Int × fS)) (l1 : Int) (l2 : Int) (l4 : Int) (l6 : Int) (l7 : Int) (l8 : Int) (l9 : Int) (s0 : Int) (s : fS) : Option (Int × fS) :=
  (uRI s 294 l1).bind fun x3 =>
  if x3 = 0 then
    FX35_layBox_b115 N SL K11 l1 l2 l4 l6 l7 l8 s0 l4 s
  else
    (uRI s 296 l1).bind fun x8 =>
    FX35_layBox_b115 N SL K11 l1 l2 l4 l6 l7 l8 s0 (ladd (lsub l4 x8) l9) s
theorem SX35_layBox_b86 {m b : Nat} {φ0 : Nat → Nat} {σo : fS} (hm : 1 ≤ m) (hb : 1 ≤ b) {N : Nat} {sL : Nat → Int32 → Int64 → Int64 → eH → Option (Int32 × eH)} {SL : Int → Int → Int → fS → Option (Int × fS)} {k11 : Nat → Int32 → Int64 → Int64 → Int32 → Int32 → eH → Option (Int32 × eH)} {K11 : Int → Int → Int → Int → Int → fS → Option (Int × fS)} {q : Int × fS} (hsL : ∀ {φ : Nat → Nat} {h : eH} {s : fS} {x1' : Int32} {x1 : Int} {x2' : Int64} {x2 : Int} {x3' : Int64} {x3 : Int} {q}, fC m 1 φ s φ h s → x1' = iI x1 → r32 x1 → x2' = iJ x2 → r64 x2 → x3' = iJ x3 → r64 x3 → SL x1 x2 x3 s = some q → gG m 1 φ s lI q (sL 192 x1' x2' x3' h)) (hk11 : ∀ {φ : Nat → Nat} {h : eH} {s : fS} {l1' : Int32} {l1 : Int} {l2' : Int64} {l2 : Int} {l4' : Int64} {l4 : Int} {l6' : Int32} {l6 : Int} {l7' : Int32} {l7 : Int}, fC m b φ0 σo φ h s → l1' = iI l1 → r32 l1 → l2' = iJ l2 → r64 l2 → l4' = iJ l4 → r64 l4 → l6' = iI l6 → r32 l6 → l7' = iI l7 → r32 l7 → K11 l1 l2 l4 l6 l7 s = some q → gG m b φ0 σo lI q (k11 192 l1' l2' l4' l6' l7' h)) {φ : Nat → Nat} {h : eH} {s : fS} {l1' : Int32} {l1 : Int} {l2' : Int64} {l2 : Int} {l4' : Int64} {l4 : Int} {l6' : Int32} {l6 : Int} {l7' : Int32} {l7 : Int} {l8' : Int32} {l8 : Int} {l9' : Int64} {l9 : Int} {s0' : Int64} {s0 : Int} (R : fC m b φ0 σo φ h s) (el1 : l1' = iI l1) (rl1 : r32 l1) (el2 : l2' = iJ l2) (rl2 : r64 l2) (el4 : l4' = iJ l4) (rl4 : r64 l4) (el6 : l6' = iI l6) (rl6 : r32 l6) (el7 : l7' = iI l7) (rl7 : r32 l7) (el8 : l8' = iI l8) (rl8 : r32 l8) (el9 : l9' = iJ l9) (rl9 : r64 l9) (es0 : s0' = iJ s0) (rs0 : r64 s0) (hF : FX35_layBox_b86 N SL K11 l1 l2 l4 l6 l7 l8 l9 s0 s = some q) : gG m b φ0 σo lI q (fX35_layBox_b86 N sL k11 192 l1' l2' l4' l6' l7' l8' l9' s0' h) := by
  subst el1; subst el2; subst el4; subst el6; subst el7; subst el8; subst el9; subst es0
  unfold FX35_layBox_b86 at hF
  unfold fX35_layBox_b86
  refine s_gAs R (t_192 hm R.S) (Nat.le_of_ble_eq_true rfl) rfl (o_192_67 hm R.S) (a_294 hm R) ?_
  refine s_rI R (u_294 hm R.S).1 (u_294 hm R.S).2 (by decide) (a_294 hm R) rfl rl1 hF (fun x3 ra2 hF => ?_)
  refine s_if (i_eq rfl (c_lit 0 0 rfl) ra2 ⟨by decide, by decide⟩) hF (fun c3 hF => ?_) (fun c3 hF => ?_)
  ·
    exact SX35_layBox_b115 (N := N) (sL := sL) (SL := SL) (k11 := k11) (K11 := K11) hm hb @hsL @hk11 R rfl rl1 rfl rl2 rfl rl4 rfl rl6 rfl rl7 rfl rl8 rfl rs0 rfl rl4 hF
  ·
    refine s_gAs R (t_192 hm R.S) (Nat.le_of_ble_eq_true rfl) rfl (o_192_69 hm R.S) (a_296 hm R) ?_
    refine s_rI R (u_296 hm R.S).1 (u_296 hm R.S).2 (by decide) (a_296 hm R) rfl rl1 hF (fun x8 ra5 hF => ?_)
    exact SX35_layBox_b115 (N := N) (sL := sL) (SL := SL) (k11 := k11) (K11 := K11) hm hb @hsL @hk11 R rfl rl1 rfl rl2 rfl rl4 rfl rl6 rfl rl7 rfl rl8 rfl rs0 (d_add (d_sub rfl (c_2l rfl ra5)) rfl) (rr_J _) hF
def FX35_layBox_b67 (N : Nat) (SL : Int → Int → Int → fS → Option (Int × fS)) (K11 : Int → Int → Int → Int → Int → fS → Option (Int × fS)) (l1 : Int) (l2 : Int) (l4 : Int) (l6 : Int) (l7 : Int) (l8 : Int) (s0 : Int) (s : fS) : Option (Int × fS) :=
  (uRI s 294 l1).bind fun x3 =>
  if x3 = 0 then
    FX35_layBox_b86 N SL K11 l1 l2 l4 l6 l7 l8 s0 (ladd l2 s0) s
  else
    FX35_layBox_b86 N SL K11 l1 l2 l4 l6 l7 l8 s0 l2 s
theorem SX35_layBox_b67 {m b : Nat} {φ0 : Nat → Nat} {σo : fS} (hm : 1 ≤ m) (hb : 1 ≤ b) {N : Nat} {sL : Nat → Int32 → Int64 → Int64 → eH → Option (Int32 × eH)} {SL : Int → Int → Int → fS → Option (Int × fS)} {k11 : Nat → Int32 → Int64 → Int64 → Int32 → Int32 → eH → Option (Int32 × eH)} {K11 : Int → Int → Int → Int → Int → fS → Option (Int × fS)} {q : Int × fS} (hsL : ∀ {φ : Nat → Nat} {h : eH} {s : fS} {x1' : Int32} {x1 : Int} {x2' : Int64} {x2 : Int} {x3' : Int64} {x3 : Int} {q}, fC m 1 φ s φ h s → x1' = iI x1 → r32 x1 → x2' = iJ x2 → r64 x2 → x3' = iJ x3 → r64 x3 → SL x1 x2 x3 s = some q → gG m 1 φ s lI q (sL 192 x1' x2' x3' h)) (hk11 : ∀ {φ : Nat → Nat} {h : eH} {s : fS} {l1' : Int32} {l1 : Int} {l2' : Int64} {l2 : Int} {l4' : Int64} {l4 : Int} {l6' : Int32} {l6 : Int} {l7' : Int32} {l7 : Int}, fC m b φ0 σo φ h s → l1' = iI l1 → r32 l1 → l2' = iJ l2 → r64 l2 → l4' = iJ l4 → r64 l4 → l6' = iI l6 → r32 l6 → l7' = iI l7 → r32 l7 → K11 l1 l2 l4 l6 l7 s = some q → gG m b φ0 σo lI q (k11 192 l1' l2' l4' l6' l7' h)) {φ : Nat → Nat} {h : eH} {s : fS} {l1' : Int32} {l1 : Int} {l2' : Int64} {l2 : Int} {l4' : Int64} {l4 : Int} {l6' : Int32} {l6 : Int} {l7' : Int32} {l7 : Int} {l8' : Int32} {l8 : Int} {s0' : Int64} {s0 : Int} (R : fC m b φ0 σo φ h s) (el1 : l1' = iI l1) (rl1 : r32 l1) (el2 : l2' = iJ l2) (rl2 : r64 l2) (el4 : l4' = iJ l4) (rl4 : r64 l4) (el6 : l6' = iI l6) (rl6 : r32 l6) (el7 : l7' = iI l7) (rl7 : r32 l7) (el8 : l8' = iI l8) (rl8 : r32 l8) (es0 : s0' = iJ s0) (rs0 : r64 s0) (hF : FX35_layBox_b67 N SL K11 l1 l2 l4 l6 l7 l8 s0 s = some q) : gG m b φ0 σo lI q (fX35_layBox_b67 N sL k11 192 l1' l2' l4' l6' l7' l8' s0' h) := by
  subst el1; subst el2; subst el4; subst el6; subst el7; subst el8; subst es0
  unfold FX35_layBox_b67 at hF
  unfold fX35_layBox_b67
  refine s_gAs R (t_192 hm R.S) (Nat.le_of_ble_eq_true rfl) rfl (o_192_67 hm R.S) (a_294 hm R) ?_
  refine s_rI R (u_294 hm R.S).1 (u_294 hm R.S).2 (by decide) (a_294 hm R) rfl rl1 hF (fun x3 ra2 hF => ?_)
  refine s_if (i_eq rfl (c_lit 0 0 rfl) ra2 ⟨by decide, by decide⟩) hF (fun c3 hF => ?_) (fun c3 hF => ?_)
  ·
    exact SX35_layBox_b86 (N := N) (sL := sL) (SL := SL) (k11 := k11) (K11 := K11) hm hb @hsL @hk11 R rfl rl1 rfl rl2 rfl rl4 rfl rl6 rfl rl7 rfl rl8 rfl rs0 (d_add rfl rfl) (rr_J _) hF
  ·
    exact SX35_layBox_b86 (N := N) (sL := sL) (SL := SL) (k11 := k11) (K11 := K11) hm hb @hsL @hk11 R rfl rl1 rfl rl2 rfl rl4 rfl rl6 rfl rl7 rfl rl8 rfl rs0 rfl rl2 hF
def FX35_layBox_b407 (N : Nat) (SL : Int → Int → Int → fS → Option (Int × fS)) (l6 : Int) (s : fS) : Option (Int × fS) :=
  uZ l6 (l6, s)
theorem SX35_layBox_b407 {m b : Nat} {φ0 : Nat → Nat} {σo : fS} (hm : 1 ≤ m) {N : Nat} {sL : Nat → Int32 → Int64 → Int64 → eH → Option (Int32 × eH)} {SL : Int → Int → Int → fS → Option (Int × fS)} {q : Int × fS} (hsL : ∀ {φ : Nat → Nat} {h : eH} {s : fS} {x1' : Int32} {x1 : Int} {x2' : Int64} {x2 : Int} {x3' : Int64} {x3 : Int} {q}, fC m 1 φ s φ h s → x1' = iI x1 → r32 x1 → x2' = iJ x2 → r64 x2 → x3' = iJ x3 → r64 x3 → SL x1 x2 x3 s = some q → gG m 1 φ s lI q (sL 192 x1' x2' x3' h)) {φ : Nat → Nat} {h : eH} {s : fS} {l6' : Int32} {l6 : Int} (R : fC m b φ0 σo φ h s) (el6 : l6' = iI l6) (rl6 : r32 l6) (hF : FX35_layBox_b407 N SL l6 s = some q) : gG m b φ0 σo lI q (fX35_layBox_b407 N sL l6' h) := by
  subst el6
  unfold FX35_layBox_b407 at hF
  unfold fX35_layBox_b407
  exact g_z R rfl hF ⟨rfl, rl6⟩
def FX35_layBox_b11 (N : Nat) (SL : Int → Int → Int → fS → Option (Int × fS)) : Nat → Int → Int → Int → Int → Int → fS → Option (Int × fS)
  | 0, _, _, _, _, _, _ => none
  | n + 1, l1, l2, l4, l6, l7, s =>
    (uRI s 293 (iadd l1 1)).bind fun x3 =>
    if x3 ≤ l7 then
      FX35_layBox_b407 N SL l6 s
    else
      if l6 = 0 then
        FX35_layBox_b407 N SL l6 s
      else
        (uRI s 304 (imul 6 l7)).bind fun x9 =>
        (FX35_isSolid x9 s).bind fun q11 =>
        if q11.1 = 0 then
          FX35_layBox_b67 N SL (FX35_layBox_b11 N SL n) l1 l2 l4 l6 l7 (imul 6 l7) 0 q11.2
        else
          (uRI q11.2 293 l1).bind fun x15 =>
          (FX35_placeOf N l1 (isub l7 x15) q11.2).bind fun q18 =>
          FX35_layBox_b67 N SL (FX35_layBox_b11 N SL n) l1 l2 l4 l6 l7 (imul 6 l7) q18.1 q18.2
theorem SX35_layBox_b11 {m b : Nat} {φ0 : Nat → Nat} {σo : fS} (hm : 1 ≤ m) (hb : 1 ≤ b) {N : Nat} {sL : Nat → Int32 → Int64 → Int64 → eH → Option (Int32 × eH)} {SL : Int → Int → Int → fS → Option (Int × fS)} {q : Int × fS} (hsL : ∀ {φ : Nat → Nat} {h : eH} {s : fS} {x1' : Int32} {x1 : Int} {x2' : Int64} {x2 : Int} {x3' : Int64} {x3 : Int} {q}, fC m 1 φ s φ h s → x1' = iI x1 → r32 x1 → x2' = iJ x2 → r64 x2 → x3' = iJ x3 → r64 x3 → SL x1 x2 x3 s = some q → gG m 1 φ s lI q (sL 192 x1' x2' x3' h)) : ∀ {n : Nat} {φ : Nat → Nat} {h : eH} {s : fS} {l1' : Int32} {l1 : Int} {l2' : Int64} {l2 : Int} {l4' : Int64} {l4 : Int} {l6' : Int32} {l6 : Int} {l7' : Int32} {l7 : Int}, fC m b φ0 σo φ h s → l1' = iI l1 → r32 l1 → l2' = iJ l2 → r64 l2 → l4' = iJ l4 → r64 l4 → l6' = iI l6 → r32 l6 → l7' = iI l7 → r32 l7 → FX35_layBox_b11 N SL n l1 l2 l4 l6 l7 s = some q → gG m b φ0 σo lI q (fX35_layBox_b11 N sL n 192 l1' l2' l4' l6' l7' h) := by
  intro n
  induction n with
 | zero => intro φ h s l1' l1 l2' l2 l4' l4 l6' l6 l7' l7 R el1 rl1 el2 rl2 el4 rl4 el6 rl6 el7 rl7 hF; simp [FX35_layBox_b11] at hF
  | succ n ih =>
    intro φ h s l1' l1 l2' l2 l4' l4 l6' l6 l7' l7 R el1 rl1 el2 rl2 el4 rl4 el6 rl6 el7 rl7 hF
    subst el1; subst el2; subst el4; subst el6; subst el7
    rw [FX35_layBox_b11] at hF
    rw [fX35_layBox_b11]
    refine s_gAs R (t_192 hm R.S) (Nat.le_of_ble_eq_true rfl) rfl (o_192_66 hm R.S) (a_293 hm R) ?_
    refine s_rI R (u_293 hm R.S).1 (u_293 hm R.S).2 (by decide) (a_293 hm R) (c_add rfl (c_lit 1 1 rfl)) (rr_I _) hF (fun x3 ra2 hF => ?_)
    refine s_if (i_le rfl rfl ra2 rl7) hF (fun c3 hF => ?_) (fun c3 hF => ?_)
    ·
      exact SX35_layBox_b407 (N := N) (sL := sL) (SL := SL) hm @hsL R rfl rl6 hF
    ·
      refine s_if (i_eq rfl (c_lit 0 0 rfl) rl6 ⟨by decide, by decide⟩) hF (fun c4 hF => ?_) (fun c4 hF => ?_)
      ·
        exact SX35_layBox_b407 (N := N) (sL := sL) (SL := SL) hm @hsL R rfl rl6 hF
      ·
        refine s_gAs R (t_192 hm R.S) (Nat.le_of_ble_eq_true rfl) rfl (o_192_77 hm R.S) (a_304 hm R) ?_
        refine s_rI R (u_304 hm R.S).1 (u_304 hm R.S).2 (by decide) (a_304 hm R) (c_mul (c_lit 6 6 rfl) rfl) (rr_I _) hF (fun x9 ra6 hF => ?_)
        refine s_call R (Nat.zero_le _) (fun _ hq => SX35_isSolid (b := 0) hm (R.rf) rfl ra6 hq) hF (fun f7 rv7 h7 q11 R7 e7 E7 hF => ?_)
        refine s_if (i_eq e7.1 (c_lit 0 0 rfl) e7.2 ⟨by decide, by decide⟩) hF (fun c8 hF => ?_) (fun c8 hF => ?_)
        ·
          exact SX35_layBox_b67 (N := N) (sL := sL) (SL := SL) (k11 := fX35_layBox_b11 N sL n) (K11 := FX35_layBox_b11 N SL n) hm hb @hsL @ih R7 rfl rl1 rfl rl2 rfl rl4 rfl rl6 rfl rl7 (c_mul (c_lit 6 6 rfl) rfl) (rr_I _) (d_lit 0 0 rfl) ⟨by decide, by decide⟩ hF
        ·
          refine s_gAs R7 (t_192 hm R7.S) (Nat.le_of_ble_eq_true rfl) rfl (o_192_66 hm R7.S) (a_293 hm R7) ?_
          refine s_rI R7 (u_293 hm R7.S).1 (u_293 hm R7.S).2 (by decide) (a_293 hm R7) rfl rl1 hF (fun x15 ra10 hF => ?_)
          refine s_kok R7 (t_192 hm R7.S) (Nat.le_of_ble_eq_true rfl) ?_
          refine s_call R7 (Nat.zero_le _) (fun _ hq => SX35_placeOf (b := 0) (N := N) hm (R7.rf) rfl rl1 (c_sub rfl rfl) (rr_I _) hq) hF (fun f12 rv12 h12 q18 R12 e12 E12 hF => ?_)
          exact SX35_layBox_b67 (N := N) (sL := sL) (SL := SL) (k11 := fX35_layBox_b11 N sL n) (K11 := FX35_layBox_b11 N SL n) hm hb @hsL @ih R12 rfl rl1 rfl rl2 rfl rl4 rfl rl6 rfl rl7 (c_mul (c_lit 6 6 rfl) rfl) (rr_I _) e12.1 e12.2 hF
def FX35_layBox (N : Nat) (SL : Int → Int → Int → fS → Option (Int × fS)) (p0 : Int) (p1 : Int) (p2 : Int) (s : fS) : Option (Int × fS) :=
  (uRI s 293 p0).bind fun x3 =>
  FX35_layBox_b11 N SL N p0 p1 p2 1 x3 s
theorem SX35_layBox {m b : Nat} {φ0 : Nat → Nat} {σo : fS} (hm : 1 ≤ m) (hb : 1 ≤ b) {N : Nat} {sL : Nat → Int32 → Int64 → Int64 → eH → Option (Int32 × eH)} {SL : Int → Int → Int → fS → Option (Int × fS)} {q : Int × fS} (hsL : ∀ {φ : Nat → Nat} {h : eH} {s : fS} {x1' : Int32} {x1 : Int} {x2' : Int64} {x2 : Int} {x3' : Int64} {x3 : Int} {q}, fC m 1 φ s φ h s → x1' = iI x1 → r32 x1 → x2' = iJ x2 → r64 x2 → x3' = iJ x3 → r64 x3 → SL x1 x2 x3 s = some q → gG m 1 φ s lI q (sL 192 x1' x2' x3' h)) {φ : Nat → Nat} {h : eH} {s : fS} {p0' : Int32} {p0 : Int} {p1' : Int64} {p1 : Int} {p2' : Int64} {p2 : Int} (R : fC m b φ0 σo φ h s) (ep0 : p0' = iI p0) (rp0 : r32 p0) (ep1 : p1' = iJ p1) (rp1 : r64 p1) (ep2 : p2' = iJ p2) (rp2 : r64 p2) (hF : FX35_layBox N SL p0 p1 p2 s = some q) : gG m b φ0 σo lI q (fX35_layBox N sL 192 p0' p1' p2' h) := by
  subst ep0; subst ep1; subst ep2
  unfold FX35_layBox at hF
  unfold fX35_layBox
  refine s_gAs R (t_192 hm R.S) (Nat.le_of_ble_eq_true rfl) rfl (o_192_66 hm R.S) (a_293 hm R) ?_
  refine s_rI R (u_293 hm R.S).1 (u_293 hm R.S).2 (by decide) (a_293 hm R) rfl rp0 hF (fun x3 ra2 hF => ?_)
  exact SX35_layBox_b11 (N := N) (sL := sL) (SL := SL) hm hb @hsL R rfl rp0 rfl rp1 rfl rp2 (c_lit 1 1 rfl) ⟨by decide, by decide⟩ rfl ra2 hF
