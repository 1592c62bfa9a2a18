set_option maxRecDepth 100000
set_option maxHeartbeats 4000000
def FX35_boxItem_b188 (N : Nat) (SL : Int → Int → Int → fS → Option (Int × fS)) (l1 : Int) (l3 : Int) (s : fS) : Option (Unit × fS) :=
  (uRI s 297 l1).bind fun x5 =>
  (uQI s 287 l3 x5).bind fun σ7 =>
  some ((), σ7)
theorem SX35_boxItem_b188 {m b : Nat} {φ0 : Nat → Nat} {σo : fS} (hm : 1 ≤ m) {N : Nat} {sL : Nat → Int32 → Int64 → Int64 → eH → Option (Int32 × eH)} {SL : Int → Int → Int → fS → Option (Int × fS)} {q : Unit × fS} (hsL : ∀ {φ : Nat → Nat} {h : eH} {s : fS} {x1' : Int32} {x1 : Int} {x2' : Int64} {x2 : Int} {x3' : Int64} {x3 : Int} {q}, fC m 1 φ s φ h s → x1' = iI x1 → r32 x1 → x2' = iJ x2 → r64 x2 → x3' = iJ x3 → r64 x3 → SL x1 x2 x3 s = some q → gG m 1 φ s lI q (sL 192 x1' x2' x3' h)) {φ : Nat → Nat} {h : eH} {s : fS} {l1' : Int32} {l1 : Int} {l3' : Int32} {l3 : Int} (R : fC m b φ0 σo φ h s) (el1 : l1' = iI l1) (rl1 : r32 l1) (el3 : l3' = iI l3) (rl3 : r32 l3) (hF : FX35_boxItem_b188 N SL l1 l3 s = some q) : gG m b φ0 σo lU q (fX35_boxItem_b188 N sL 192 l1' l3' h) := by
  subst el1; subst el3
  unfold FX35_boxItem_b188 at hF
  unfold fX35_boxItem_b188
  refine s_gAs R (t_192 hm R.S) (Nat.le_of_ble_eq_true rfl) rfl (o_192_54 hm R.S) (a_287 hm R) ?_
  refine s_gAs R (t_192 hm R.S) (Nat.le_of_ble_eq_true rfl) rfl (o_192_70 hm R.S) (a_297 hm R) ?_
  refine s_rI R (u_297 hm R.S).1 (u_297 hm R.S).2 (by decide) (a_297 hm R) rfl rl1 hF (fun x5 ra3 hF => ?_)
  refine s_qI R (u_287 hm R.S).1 (u_287 hm R.S).2 (by decide) (a_287 hm R) rfl rl3 rfl ra3 hF (fun h4 σ7 R4 T4 hF => ?_)
  exact g_ret R4 hF trivial
def FX35_boxItem_b139 (N : Nat) (SL : Int → Int → Int → fS → Option (Int × fS)) (l1 : Int) (l2 : Int) (l3 : Int) (s : fS) : Option (Unit × fS) :=
  if (s.i 192 46) ≤ 0 then
    (FX35_mode s).bind fun q5 =>
    if ¬ (q5.1 = 0) then
      (FX35_item N 5 l1 l2 0 0 0 q5.2).bind fun q8 =>
      FX35_boxItem_b188 N SL l1 l3 q8.2
    else
      (uRI q5.2 296 l1).bind fun x11 =>
      (uRI q5.2 297 l1).bind fun x15 =>
      (FX35_outer N SL 5 0 x11 x15 0 l1 l2 q5.2).bind fun q18 =>
      FX35_boxItem_b188 N SL l1 l3 q18.2
  else
    some ((), s)
theorem SX35_boxItem_b139 {m b : Nat} {φ0 : Nat → Nat} {σo : fS} (hm : 1 ≤ m) (hb : 1 ≤ b) {N : Nat} {sL : Nat → Int32 → Int64 → Int64 → eH → Option (Int32 × eH)} {SL : Int → Int → Int → fS → Option (Int × fS)} {q : Unit × fS} (hsL : ∀ {φ : Nat → Nat} {h : eH} {s : fS} {x1' : Int32} {x1 : Int} {x2' : Int64} {x2 : Int} {x3' : Int64} {x3 : Int} {q}, fC m 1 φ s φ h s → x1' = iI x1 → r32 x1 → x2' = iJ x2 → r64 x2 → x3' = iJ x3 → r64 x3 → SL x1 x2 x3 s = some q → gG m 1 φ s lI q (sL 192 x1' x2' x3' h)) {φ : Nat → Nat} {h : eH} {s : fS} {l1' : Int32} {l1 : Int} {l2' : Int32} {l2 : Int} {l3' : Int32} {l3 : Int} (R : fC m b φ0 σo φ h s) (el1 : l1' = iI l1) (rl1 : r32 l1) (el2 : l2' = iI l2) (rl2 : r32 l2) (el3 : l3' = iI l3) (rl3 : r32 l3) (hF : FX35_boxItem_b139 N SL l1 l2 l3 s = some q) : gG m b φ0 σo lU q (fX35_boxItem_b139 N sL 192 l1' l2' l3' h) := by
  subst el1; subst el2; subst el3
  unfold FX35_boxItem_b139 at hF
  unfold fX35_boxItem_b139
  refine s_gI R (t_192 hm R.S) (Nat.le_of_ble_eq_true rfl) rfl ?_
  refine s_if (i_le rfl (c_lit 0 0 rfl) (R.ri (t_192 hm R.S) (Nat.le_of_ble_eq_true rfl) rfl) ⟨by decide, by decide⟩) hF (fun c2 hF => ?_) (fun c2 hF => ?_)
  ·
    refine s_kok R (t_192 hm R.S) (Nat.le_of_ble_eq_true rfl) ?_
    refine s_call R (Nat.zero_le _) (fun _ hq => SX35_mode (b := 0) hm (R.rf) hq) hF (fun f4 rv4 h4 q5 R4 e4 E4 hF => ?_)
    refine s_if (not_congr (i_eq e4.1 (c_lit 0 0 rfl) e4.2 ⟨by decide, by decide⟩)) hF (fun c5 hF => ?_) (fun c5 hF => ?_)
    ·
      refine s_kok R4 (t_192 hm R4.S) (Nat.le_of_ble_eq_true rfl) ?_
      refine s_call R4 hb (fun _ hq => SX35_item (b := 1) (N := N) hm (Nat.le_of_ble_eq_true rfl) (R4.rf) (c_lit 5 5 rfl) ⟨by decide, by decide⟩ rfl rl1 rfl rl2 (c_lit 0 0 rfl) ⟨by decide, by decide⟩ (c_lit 0 0 rfl) ⟨by decide, by decide⟩ (c_lit 0 0 rfl) ⟨by decide, by decide⟩ hq) hF (fun f7 rv7 h7 q8 R7 e7 E7 hF => ?_)
      exact SX35_boxItem_b188 (N := N) (sL := sL) (SL := SL) hm @hsL R7 rfl rl1 rfl rl3 hF
    ·
      refine s_gAs R4 (t_192 hm R4.S) (Nat.le_of_ble_eq_true rfl) rfl (o_192_69 hm R4.S) (a_296 hm R4) ?_
      refine s_rI R4 (u_296 hm R4.S).1 (u_296 hm R4.S).2 (by decide) (a_296 hm R4) rfl rl1 hF (fun x11 ra9 hF => ?_)
      refine s_gAs R4 (t_192 hm R4.S) (Nat.le_of_ble_eq_true rfl) rfl (o_192_70 hm R4.S) (a_297 hm R4) ?_
      refine s_rI R4 (u_297 hm R4.S).1 (u_297 hm R4.S).2 (by decide) (a_297 hm R4) rfl rl1 hF (fun x15 ra11 hF => ?_)
      refine s_kok R4 (t_192 hm R4.S) (Nat.le_of_ble_eq_true rfl) ?_
      refine s_call R4 hb (fun _ hq => SX35_outer (b := 1) (N := N) (sL := sL) (SL := SL) hm (Nat.le_of_ble_eq_true rfl) @hsL (R4.rf) (c_lit 5 5 rfl) ⟨by decide, by decide⟩ (c_lit 0 0 rfl) ⟨by decide, by decide⟩ rfl ra9 rfl ra11 (c_lit 0 0 rfl) ⟨by decide, by decide⟩ rfl rl1 rfl rl2 hq) hF (fun f13 rv13 h13 q18 R13 e13 E13 hF => ?_)
      exact SX35_boxItem_b188 (N := N) (sL := sL) (SL := SL) hm @hsL R13 rfl rl1 rfl rl3 hF
  ·
    exact g_ret R hF trivial
def FX35_boxItem (N : Nat) (SL : Int → Int → Int → fS → Option (Int × fS)) (p0 : Int) (p1 : Int) (s : fS) : Option (Unit × fS) :=
  (FX35_isVertical s).bind fun q2 =>
  if ¬ (q2.1 = 0) then
    (uRI q2.2 287 (isub (q2.2.i 192 51) 1)).bind fun x8 =>
    if x8 = (-2147483647) then
      FX35_boxItem_b139 N SL p0 p1 (isub (q2.2.i 192 51) 1) q2.2
    else
      (FX35_now 3275 q2.2).bind fun q12 =>
      (uRI q12.2 287 (isub (q2.2.i 192 51) 1)).bind fun x15 =>
      (uRI q12.2 296 p0).bind fun x19 =>
      (FX35_isSize (lsub (lsub q12.1 x15) x19) q12.2).bind fun q21 =>
      if ¬ (q21.1 = 0) then
        (FX35_now 2244 q21.2).bind fun q24 =>
        if q24.1 ≤ (lsub (lsub q12.1 x15) x19) then
          (FX35_now (iadd 3275 1) q24.2).bind fun q27 =>
          (FX35_now (iadd 3275 2) q27.2).bind fun q29 =>
          (FX35_now (iadd 3275 3) q29.2).bind fun q31 =>
          (FX35_glueItem N SL (l2i (lsub (lsub q12.1 x15) x19)) q27.1 q29.1 q31.1 q31.2).bind fun q33 =>
          FX35_boxItem_b139 N SL p0 p1 (isub (q2.2.i 192 51) 1) q33.2
        else
          (FX35_glueOf N SL 258 q24.2).bind fun q35 =>
          FX35_boxItem_b139 N SL p0 p1 (isub (q2.2.i 192 51) 1) q35.2
      else
        (FX35_fail 16 q21.2).bind fun q37 =>
        FX35_boxItem_b139 N SL p0 p1 (isub (q2.2.i 192 51) 1) q37.2
  else
    (FX35_item N 5 p0 p1 0 0 0 q2.2).bind fun q39 =>
    some ((), q39.2)
theorem SX35_boxItem {m b : Nat} {φ0 : Nat → Nat} {σo : fS} (hm : 1 ≤ m) (hb : 1 ≤ b) {N : Nat} {sL : Nat → Int32 → Int64 → Int64 → eH → Option (Int32 × eH)} {SL : Int → Int → Int → fS → Option (Int × fS)} {q : Unit × fS} (hsL : ∀ {φ : Nat → Nat} {h : eH} {s : fS} {x1' : Int32} {x1 : Int} {x2' : Int64} {x2 : Int} {x3' : Int64} {x3 : Int} {q}, fC m 1 φ s φ h s → x1' = iI x1 → r32 x1 → x2' = iJ x2 → r64 x2 → x3' = iJ x3 → r64 x3 → SL x1 x2 x3 s = some q → gG m 1 φ s lI q (sL 192 x1' x2' x3' h)) {φ : Nat → Nat} {h : eH} {s : fS} {p0' : Int32} {p0 : Int} {p1' : Int32} {p1 : Int} (R : fC m b φ0 σo φ h s) (ep0 : p0' = iI p0) (rp0 : r32 p0) (ep1 : p1' = iI p1) (rp1 : r32 p1) (hF : FX35_boxItem N SL p0 p1 s = some q) : gG m b φ0 σo lU q (fX35_boxItem N sL 192 p0' p1' h) := by
  subst ep0; subst ep1
  unfold FX35_boxItem at hF
  unfold fX35_boxItem
  refine s_kok R (t_192 hm R.S) (Nat.le_of_ble_eq_true rfl) ?_
  refine s_call R (Nat.zero_le _) (fun _ hq => SX35_isVertical (b := 0) hm (R.rf) hq) hF (fun f2 rv2 h2 q2 R2 e2 E2 hF => ?_)
  refine s_if (not_congr (i_eq e2.1 (c_lit 0 0 rfl) e2.2 ⟨by decide, by decide⟩)) hF (fun c3 hF => ?_) (fun c3 hF => ?_)
  ·
    refine s_gI R2 (t_192 hm R2.S) (Nat.le_of_ble_eq_true rfl) rfl ?_
    refine s_gAs R2 (t_192 hm R2.S) (Nat.le_of_ble_eq_true rfl) rfl (o_192_54 hm R2.S) (a_287 hm R2) ?_
    refine s_rI R2 (u_287 hm R2.S).1 (u_287 hm R2.S).2 (by decide) (a_287 hm R2) (c_sub rfl (c_lit 1 1 rfl)) (rr_I _) hF (fun x8 ra6 hF => ?_)
    refine s_if (i_eq rfl (c_lit (-2147483647) (-2147483647) rfl) ra6 ⟨by decide, by decide⟩) hF (fun c7 hF => ?_) (fun c7 hF => ?_)
    ·
      exact SX35_boxItem_b139 (N := N) (sL := sL) (SL := SL) hm hb @hsL R2 rfl rp0 rfl rp1 (c_sub rfl (c_lit 1 1 rfl)) (rr_I _) hF
    ·
      refine s_kok R2 (t_192 hm R2.S) (Nat.le_of_ble_eq_true rfl) ?_
      refine s_call R2 (Nat.zero_le _) (fun _ hq => SX35_now (b := 0) hm (R2.rf) (c_lit 3275 3275 rfl) ⟨by decide, by decide⟩ hq) hF (fun f9 rv9 h9 q12 R9 e9 E9 hF => ?_)
      refine s_gAs R9 (t_192 hm R9.S) (Nat.le_of_ble_eq_true rfl) rfl (o_192_54 hm R9.S) (a_287 hm R9) ?_
      refine s_rI R9 (u_287 hm R9.S).1 (u_287 hm R9.S).2 (by decide) (a_287 hm R9) (c_sub rfl (c_lit 1 1 rfl)) (rr_I _) hF (fun x15 ra11 hF => ?_)
      refine s_gAs R9 (t_192 hm R9.S) (Nat.le_of_ble_eq_true rfl) rfl (o_192_69 hm R9.S) (a_296 hm R9) ?_
      refine s_rI R9 (u_296 hm R9.S).1 (u_296 hm R9.S).2 (by decide) (a_296 hm R9) rfl rp0 hF (fun x19 ra13 hF => ?_)
      refine s_call R9 (Nat.zero_le _) (fun _ hq => SX35_isSize (b := 0) hm (R9.rf) (d_sub (d_sub (c_2l e9.1 e9.2) (c_2l rfl ra11)) (c_2l rfl ra13)) (rr_J _) hq) hF (fun f14 rv14 h14 q21 R14 e14 E14 hF => ?_)
      refine s_if (not_congr (i_eq e14.1 (c_lit 0 0 rfl) e14.2 ⟨by decide, by decide⟩)) hF (fun c15 hF => ?_) (fun c15 hF => ?_)
      ·
        refine s_kok R14 (t_192 hm R14.S) (Nat.le_of_ble_eq_true rfl) ?_
        refine s_call R14 (Nat.zero_le _) (fun _ hq => SX35_now (b := 0) hm (R14.rf) (c_lit 2244 2244 rfl) ⟨by decide, by decide⟩ hq) hF (fun f17 rv17 h17 q24 R17 e17 E17 hF => ?_)
        refine s_if ((lg_cmp_ge _ _).trans (j_le (c_2l e17.1 e17.2) (d_sub (d_sub (c_2l e9.1 e9.2) (c_2l rfl ra11)) (c_2l rfl ra13)) (r32.w e17.2) (rr_J _))) hF (fun c18 hF => ?_) (fun c18 hF => ?_)
        ·
          refine s_kok R17 (t_192 hm R17.S) (Nat.le_of_ble_eq_true rfl) ?_
          refine s_call R17 (Nat.zero_le _) (fun _ hq => SX35_now (b := 0) hm (R17.rf) (c_add (c_lit 3275 3275 rfl) (c_lit 1 1 rfl)) (rr_I _) hq) hF (fun f20 rv20 h20 q27 R20 e20 E20 hF => ?_)
          refine s_kok R20 (t_192 hm R20.S) (Nat.le_of_ble_eq_true rfl) ?_
          refine s_call R20 (Nat.zero_le _) (fun _ hq => SX35_now (b := 0) hm (R20.rf) (c_add (c_lit 3275 3275 rfl) (c_lit 2 2 rfl)) (rr_I _) hq) hF (fun f22 rv22 h22 q29 R22 e22 E22 hF => ?_)
          refine s_kok R22 (t_192 hm R22.S) (Nat.le_of_ble_eq_true rfl) ?_
          refine s_call R22 (Nat.zero_le _) (fun _ hq => SX35_now (b := 0) hm (R22.rf) (c_add (c_lit 3275 3275 rfl) (c_lit 3 3 rfl)) (rr_I _) hq) hF (fun f24 rv24 h24 q31 R24 e24 E24 hF => ?_)
          refine s_kok R24 (t_192 hm R24.S) (Nat.le_of_ble_eq_true rfl) ?_
          refine s_call R24 hb (fun _ hq => SX35_glueItem (b := 1) (N := N) (sL := sL) (SL := SL) hm (Nat.le_of_ble_eq_true rfl) @hsL (R24.rf) (d_2i (d_sub (d_sub (c_2l e9.1 e9.2) (c_2l rfl ra11)) (c_2l rfl ra13))) (rr_I _) e20.1 e20.2 e22.1 e22.2 e24.1 e24.2 hq) hF (fun f26 rv26 h26 q33 R26 e26 E26 hF => ?_)
          exact SX35_boxItem_b139 (N := N) (sL := sL) (SL := SL) hm hb @hsL R26 rfl rp0 rfl rp1 (c_sub rfl (c_lit 1 1 rfl)) (rr_I _) hF
        ·
          refine s_kok R17 (t_192 hm R17.S) (Nat.le_of_ble_eq_true rfl) ?_
          refine s_call R17 hb (fun _ hq => SX35_glueOf (b := 1) (N := N) (sL := sL) (SL := SL) hm (Nat.le_of_ble_eq_true rfl) @hsL (R17.rf) (c_lit 258 258 rfl) ⟨by decide, by decide⟩ hq) hF (fun f28 rv28 h28 q35 R28 e28 E28 hF => ?_)
          exact SX35_boxItem_b139 (N := N) (sL := sL) (SL := SL) hm hb @hsL R28 rfl rp0 rfl rp1 (c_sub rfl (c_lit 1 1 rfl)) (rr_I _) hF
      ·
        refine s_kok R14 (t_192 hm R14.S) (Nat.le_of_ble_eq_true rfl) ?_
        refine s_call R14 (Nat.zero_le _) (fun _ hq => SX35_fail (b := 0) hm (R14.rf) (c_lit 16 16 rfl) ⟨by decide, by decide⟩ hq) hF (fun f30 rv30 h30 q37 R30 e30 E30 hF => ?_)
        exact SX35_boxItem_b139 (N := N) (sL := sL) (SL := SL) hm hb @hsL R30 rfl rp0 rfl rp1 (c_sub rfl (c_lit 1 1 rfl)) (rr_I _) hF
  ·
    refine s_kok R2 (t_192 hm R2.S) (Nat.le_of_ble_eq_true rfl) ?_
    refine s_call R2 hb (fun _ hq => SX35_item (b := 1) (N := N) hm (Nat.le_of_ble_eq_true rfl) (R2.rf) (c_lit 5 5 rfl) ⟨by decide, by decide⟩ rfl rp0 rfl rp1 (c_lit 0 0 rfl) ⟨by decide, by decide⟩ (c_lit 0 0 rfl) ⟨by decide, by decide⟩ (c_lit 0 0 rfl) ⟨by decide, by decide⟩ hq) hF (fun f32 rv32 h32 q39 R32 e32 E32 hF => ?_)
    exact g_ret R32 hF trivial
def FX35_beginParagraph_b88 (N : Nat) (SL : Int → Int → Int → fS → Option (Int × fS)) (s : fS) : Option (Unit × fS) :=
  some ((), s)
theorem SX35_beginParagraph_b88 {m b : Nat} {φ0 : Nat → Nat} {σo : fS} (hm : 1 ≤ m) {N : Nat} {sL : Nat → Int32 → Int64 → Int64 → eH → Option (Int32 × eH)} {SL : Int → Int → Int → fS → Option (Int × fS)} {q : Unit × fS} (hsL : ∀ {φ : Nat → Nat} {h : eH} {s : fS} {x1' : Int32} {x1 : Int} {x2' : Int64} {x2 : Int} {x3' : Int64} {x3 : Int} {q}, fC m 1 φ s φ h s → x1' = iI x1 → r32 x1 → x2' = iJ x2 → r64 x2 → x3' = iJ x3 → r64 x3 → SL x1 x2 x3 s = some q → gG m 1 φ s lI q (sL 192 x1' x2' x3' h)) {φ : Nat → Nat} {h : eH} {s : fS} (R : fC m b φ0 σo φ h s) (hF : FX35_beginParagraph_b88 N SL s = some q) : gG m b φ0 σo lU q (fX35_beginParagraph_b88 N sL h) := by
  unfold FX35_beginParagraph_b88 at hF
  unfold fX35_beginParagraph_b88
  exact g_ret R hF trivial
def FX35_beginParagraph_b32 (N : Nat) (SL : Int → Int → Int → fS → Option (Int × fS)) (l1 : Int) (s : fS) : Option (Unit × fS) :=
  if (s.i 192 46) ≤ 0 then
    (FX35_openList 2 s).bind fun q5 =>
    if l1 = 0 then
      FX35_beginParagraph_b88 N SL q5.2
    else
      (FX35_now 2243 q5.2).bind fun q14 =>
      (FX35_pack N 1000288 (q5.2.i 192 56) (q5.2.i 192 56) 0 1 q14.1 q14.2).bind fun q16 =>
      if ¬ ((q16.2.i 192 46) = 0) then
        FX35_beginParagraph_b88 N SL q16.2
      else
        (FX35_boxItem N SL q16.1 0 q16.2).bind fun q21 =>
        FX35_beginParagraph_b88 N SL q21.2
  else
    some ((), s)
theorem SX35_beginParagraph_b32 {m b : Nat} {φ0 : Nat → Nat} {σo : fS} (hm : 1 ≤ m) (hb : 1 ≤ b) {N : Nat} {sL : Nat → Int32 → Int64 → Int64 → eH → Option (Int32 × eH)} {SL : Int → Int → Int → fS → Option (Int × fS)} {q : Unit × fS} (hsL : ∀ {φ : Nat → Nat} {h : eH} {s : fS} {x1' : Int32} {x1 : Int} {x2' : Int64} {x2 : Int} {x3' : Int64} {x3 : Int} {q}, fC m 1 φ s φ h s → x1' = iI x1 → r32 x1 → x2' = iJ x2 → r64 x2 → x3' = iJ x3 → r64 x3 → SL x1 x2 x3 s = some q → gG m 1 φ s lI q (sL 192 x1' x2' x3' h)) {φ : Nat → Nat} {h : eH} {s : fS} {l1' : Int32} {l1 : Int} (R : fC m b φ0 σo φ h s) (el1 : l1' = iI l1) (rl1 : r32 l1) (hF : FX35_beginParagraph_b32 N SL l1 s = some q) : gG m b φ0 σo lU q (fX35_beginParagraph_b32 N sL 192 l1' h) := by
  subst el1
  unfold FX35_beginParagraph_b32 at hF
  unfold fX35_beginParagraph_b32
  refine s_gI R (t_192 hm R.S) (Nat.le_of_ble_eq_true rfl) rfl ?_
  refine s_if (i_le rfl (c_lit 0 0 rfl) (R.ri (t_192 hm R.S) (Nat.le_of_ble_eq_true rfl) rfl) ⟨by decide, by decide⟩) hF (fun c2 hF => ?_) (fun c2 hF => ?_)
  ·
    refine s_kok R (t_192 hm R.S) (Nat.le_of_ble_eq_true rfl) ?_
    refine s_call R (Nat.zero_le _) (fun _ hq => SX35_openList (b := 0) hm (R.rf) (c_lit 2 2 rfl) ⟨by decide, by decide⟩ hq) hF (fun f4 rv4 h4 q5 R4 e4 E4 hF => ?_)
    refine s_if (i_eq rfl (c_lit 0 0 rfl) rl1 ⟨by decide, by decide⟩) hF (fun c5 hF => ?_) (fun c5 hF => ?_)
    ·
      exact SX35_beginParagraph_b88 (N := N) (sL := sL) (SL := SL) hm @hsL R4 hF
    ·
      refine s_gA R4 (t_192 hm R4.S) (Nat.le_of_ble_eq_true rfl) rfl (o_192_55 hm R4.S) (fun _ _ => ?_)
      refine s_gI R4 (t_192 hm R4.S) (Nat.le_of_ble_eq_true rfl) rfl ?_
      refine s_gI R4 (t_192 hm R4.S) (Nat.le_of_ble_eq_true rfl) rfl ?_
      refine s_kok R4 (t_192 hm R4.S) (Nat.le_of_ble_eq_true rfl) ?_
      refine s_call R4 (Nat.zero_le _) (fun _ hq => SX35_now (b := 0) hm (R4.rf) (c_lit 2243 2243 rfl) ⟨by decide, by decide⟩ hq) hF (fun f10 rv10 h10 q14 R10 e10 E10 hF => ?_)
      refine s_kok R10 (t_192 hm R10.S) (Nat.le_of_ble_eq_true rfl) ?_
      refine s_call R10 (Nat.zero_le _) (fun _ hq => SX35_pack (b := 0) (N := N) hm (R10.rf) (rfl.trans (E10.k0 rfl _ (u_1000288 hm R4.S).1).1.symm) (u_1000288 hm R10.S).1 rfl (R4.ri (t_192 hm R4.S) (Nat.le_of_ble_eq_true rfl) rfl) rfl (R4.ri (t_192 hm R4.S) (Nat.le_of_ble_eq_true rfl) rfl) (c_lit 0 0 rfl) ⟨by decide, by decide⟩ (c_lit 1 1 rfl) ⟨by decide, by decide⟩ e10.1 e10.2 hq) hF (fun f12 rv12 h12 q16 R12 e12 E12 hF => ?_)
      refine s_gI R12 (t_192 hm R12.S) (Nat.le_of_ble_eq_true rfl) rfl ?_
      refine s_if (not_congr (i_eq rfl (c_lit 0 0 rfl) (R12.ri (t_192 hm R12.S) (Nat.le_of_ble_eq_true rfl) rfl) ⟨by decide, by decide⟩)) hF (fun c14 hF => ?_) (fun c14 hF => ?_)
      ·
        exact SX35_beginParagraph_b88 (N := N) (sL := sL) (SL := SL) hm @hsL R12 hF
      ·
        refine s_kok R12 (t_192 hm R12.S) (Nat.le_of_ble_eq_true rfl) ?_
        refine s_call R12 hb (fun _ hq => SX35_boxItem (b := 1) (N := N) (sL := sL) (SL := SL) hm (Nat.le_of_ble_eq_true rfl) @hsL (R12.rf) e12.1 e12.2 (c_lit 0 0 rfl) ⟨by decide, by decide⟩ hq) hF (fun f16 rv16 h16 q21 R16 e16 E16 hF => ?_)
        exact SX35_beginParagraph_b88 (N := N) (sL := sL) (SL := SL) hm @hsL R16 hF
  ·
    exact g_ret R hF trivial
def FX35_beginParagraph_b25 (N : Nat) (SL : Int → Int → Int → fS → Option (Int × fS)) (l1 : Int) (s : fS) : Option (Unit × fS) :=
  (FX35_glueOf N SL 256 s).bind fun q2 =>
  FX35_beginParagraph_b32 N SL l1 q2.2
theorem SX35_beginParagraph_b25 {m b : Nat} {φ0 : Nat → Nat} {σo : fS} (hm : 1 ≤ m) (hb : 1 ≤ b) {N : Nat} {sL : Nat → Int32 → Int64 → Int64 → eH → Option (Int32 × eH)} {SL : Int → Int → Int → fS → Option (Int × fS)} {q : Unit × fS} (hsL : ∀ {φ : Nat → Nat} {h : eH} {s : fS} {x1' : Int32} {x1 : Int} {x2' : Int64} {x2 : Int} {x3' : Int64} {x3 : Int} {q}, fC m 1 φ s φ h s → x1' = iI x1 → r32 x1 → x2' = iJ x2 → r64 x2 → x3' = iJ x3 → r64 x3 → SL x1 x2 x3 s = some q → gG m 1 φ s lI q (sL 192 x1' x2' x3' h)) {φ : Nat → Nat} {h : eH} {s : fS} {l1' : Int32} {l1 : Int} (R : fC m b φ0 σo φ h s) (el1 : l1' = iI l1) (rl1 : r32 l1) (hF : FX35_beginParagraph_b25 N SL l1 s = some q) : gG m b φ0 σo lU q (fX35_beginParagraph_b25 N sL 192 l1' h) := by
  subst el1
  unfold FX35_beginParagraph_b25 at hF
  unfold fX35_beginParagraph_b25
  refine s_kok R (t_192 hm R.S) (Nat.le_of_ble_eq_true rfl) ?_
  refine s_call R hb (fun _ hq => SX35_glueOf (b := 1) (N := N) (sL := sL) (SL := SL) hm (Nat.le_of_ble_eq_true rfl) @hsL (R.rf) (c_lit 256 256 rfl) ⟨by decide, by decide⟩ hq) hF (fun f2 rv2 h2 q2 R2 e2 E2 hF => ?_)
  exact SX35_beginParagraph_b32 (N := N) (sL := sL) (SL := SL) hm hb @hsL R2 rfl rl1 hF
def FX35_beginParagraph (N : Nat) (SL : Int → Int → Int → fS → Option (Int × fS)) (p0 : Int) (s : fS) : Option (Unit × fS) :=
  (FX35_mode s).bind fun q2 =>
  if q2.1 = 0 then
    FX35_beginParagraph_b25 N SL p0 q2.2
  else
    (uRI q2.2 286 (isub (q2.2.i 192 51) 1)).bind fun x10 =>
    if (q2.2.i 192 56) ≤ x10 then
      FX35_beginParagraph_b32 N SL p0 q2.2
    else
      FX35_beginParagraph_b25 N SL p0 q2.2
theorem SX35_beginParagraph {m b : Nat} {φ0 : Nat → Nat} {σo : fS} (hm : 1 ≤ m) (hb : 1 ≤ b) {N : Nat} {sL : Nat → Int32 → Int64 → Int64 → eH → Option (Int32 × eH)} {SL : Int → Int → Int → fS → Option (Int × fS)} {q : Unit × fS} (hsL : ∀ {φ : Nat → Nat} {h : eH} {s : fS} {x1' : Int32} {x1 : Int} {x2' : Int64} {x2 : Int} {x3' : Int64} {x3 : Int} {q}, fC m 1 φ s φ h s → x1' = iI x1 → r32 x1 → x2' = iJ x2 → r64 x2 → x3' = iJ x3 → r64 x3 → SL x1 x2 x3 s = some q → gG m 1 φ s lI q (sL 192 x1' x2' x3' h)) {φ : Nat → Nat} {h : eH} {s : fS} {p0' : Int32} {p0 : Int} (R : fC m b φ0 σo φ h s) (ep0 : p0' = iI p0) (rp0 : r32 p0) (hF : FX35_beginParagraph N SL p0 s = some q) : gG m b φ0 σo lU q (fX35_beginParagraph N sL 192 p0' h) := by
  subst ep0
  unfold FX35_beginParagraph at hF
  unfold fX35_beginParagraph
  refine s_kok R (t_192 hm R.S) (Nat.le_of_ble_eq_true rfl) ?_
  refine s_call R (Nat.zero_le _) (fun _ hq => SX35_mode (b := 0) hm (R.rf) hq) hF (fun f2 rv2 h2 q2 R2 e2 E2 hF => ?_)
  refine s_if (i_eq e2.1 (c_lit 0 0 rfl) e2.2 ⟨by decide, by decide⟩) hF (fun c3 hF => ?_) (fun c3 hF => ?_)
  ·
    exact SX35_beginParagraph_b25 (N := N) (sL := sL) (SL := SL) hm hb @hsL R2 rfl rp0 hF
  ·
    refine s_gI R2 (t_192 hm R2.S) (Nat.le_of_ble_eq_true rfl) rfl ?_
    refine s_gAs R2 (t_192 hm R2.S) (Nat.le_of_ble_eq_true rfl) rfl (o_192_53 hm R2.S) (a_286 hm R2) ?_
    refine s_gI R2 (t_192 hm R2.S) (Nat.le_of_ble_eq_true rfl) rfl ?_
    refine s_rI R2 (u_286 hm R2.S).1 (u_286 hm R2.S).2 (by decide) (a_286 hm R2) (c_sub rfl (c_lit 1 1 rfl)) (rr_I _) hF (fun x10 ra7 hF => ?_)
    refine s_if (i_le rfl rfl (R2.ri (t_192 hm R2.S) (Nat.le_of_ble_eq_true rfl) rfl) ra7) hF (fun c8 hF => ?_) (fun c8 hF => ?_)
    ·
      exact SX35_beginParagraph_b32 (N := N) (sL := sL) (SL := SL) hm hb @hsL R2 rfl rp0 hF
    ·
      exact SX35_beginParagraph_b25 (N := N) (sL := sL) (SL := SL) hm hb @hsL R2 rfl rp0 hF
def FX35_put_b32 (s : fS) : Option (Unit × fS) :=
  some ((), s)
theorem SX35_put_b32 {m b : Nat} {φ0 : Nat → Nat} {σo : fS} (hm : 1 ≤ m) {q : Unit × fS} {φ : Nat → Nat} {h : eH} {s : fS} (R : fC m b φ0 σo φ h s) (hF : FX35_put_b32 s = some q) : gG m b φ0 σo lU q (fX35_put_b32 h) := by
  unfold FX35_put_b32 at hF
  unfold fX35_put_b32
  exact g_ret R hF trivial
def FX35_put (p0 : Int) (s : fS) : Option (Unit × fS) :=
  if p0 = (-1) then
    FX35_put_b32 s
  else
    if ¬ ((s.i 192 46) = 0) then
      FX35_put_b32 s
    else
      (uQI s 278 (s.i 192 37) p0).bind fun σ9 =>
      (uPI σ9 192 37 (iadd (σ9.i 192 37) 1)).bind fun σ13 =>
      FX35_put_b32 σ13
theorem SX35_put {m b : Nat} {φ0 : Nat → Nat} {σo : fS} (hm : 1 ≤ m) {q : Unit × fS} {φ : Nat → Nat} {h : eH} {s : fS} {p0' : Int32} {p0 : Int} (R : fC m b φ0 σo φ h s) (ep0 : p0' = iI p0) (rp0 : r32 p0) (hF : FX35_put p0 s = some q) : gG m b φ0 σo lU q (fX35_put 192 p0' h) := by
  subst ep0
  unfold FX35_put at hF
  unfold fX35_put
  refine s_if (i_eq rfl (c_lit (-1) (-1) rfl) rp0 ⟨by decide, by decide⟩) hF (fun c1 hF => ?_) (fun c1 hF => ?_)
  ·
    exact SX35_put_b32 hm R hF
  ·
    refine s_gI R (t_192 hm R.S) (Nat.le_of_ble_eq_true rfl) rfl ?_
    refine s_if (not_congr (i_eq rfl (c_lit 0 0 rfl) (R.ri (t_192 hm R.S) (Nat.le_of_ble_eq_true rfl) rfl) ⟨by decide, by decide⟩)) hF (fun c3 hF => ?_) (fun c3 hF => ?_)
    ·
      exact SX35_put_b32 hm R hF
    ·
      refine s_gAs R (t_192 hm R.S) (Nat.le_of_ble_eq_true rfl) rfl (o_192_38 hm R.S) (a_278 hm R) ?_
      refine s_gI R (t_192 hm R.S) (Nat.le_of_ble_eq_true rfl) rfl ?_
      refine s_qI R (u_278 hm R.S).1 (u_278 hm R.S).2 (by decide) (a_278 hm R) rfl (R.ri (t_192 hm R.S) (Nat.le_of_ble_eq_true rfl) rfl) rfl rp0 hF (fun h6 σ9 R6 T6 hF => ?_)
      refine s_gI R6 (t_192 hm R6.S) (Nat.le_of_ble_eq_true rfl) rfl ?_
      refine s_pI R6 (t_192 hm R6.S) (Nat.le_of_ble_eq_true rfl) rfl (c_add rfl (c_lit 1 1 rfl)) (rr_I _) hF (fun h8 σ13 R8 T8 hF => ?_)
      exact SX35_put_b32 hm R8 hF
def FX35_category (p0 : Int) (s : fS) : Option (Int × fS) :=
  (FX35_now (iadd 1460 p0) s).bind fun q2 =>
  some (q2.1, q2.2)
theorem SX35_category {m b : Nat} {φ0 : Nat → Nat} {σo : fS} (hm : 1 ≤ m) {q : Int × fS} {φ : Nat → Nat} {h : eH} {s : fS} {p0' : Int32} {p0 : Int} (R : fC m b φ0 σo φ h s) (ep0 : p0' = iI p0) (rp0 : r32 p0) (hF : FX35_category p0 s = some q) : gG m b φ0 σo lI q (fX35_category 192 p0' h) := by
  subst ep0
  unfold FX35_category at hF
  unfold fX35_category
  refine s_kok R (t_192 hm R.S) (Nat.le_of_ble_eq_true rfl) ?_
  refine s_call R (Nat.zero_le _) (fun _ hq => SX35_now (b := 0) hm (R.rf) (c_add (c_lit 1460 1460 rfl) rfl) (rr_I _) hq) hF (fun f2 rv2 h2 q2 R2 e2 E2 hF => ?_)
  exact g_ret R2 hF ⟨e2.1, e2.2⟩
def FX35_spell_b37 (s : fS) : Option (Unit × fS) :=
  some ((), s)
theorem SX35_spell_b37 {m b : Nat} {φ0 : Nat → Nat} {σo : fS} (hm : 1 ≤ m) {q : Unit × fS} {φ : Nat → Nat} {h : eH} {s : fS} (R : fC m b φ0 σo φ h s) (hF : FX35_spell_b37 s = some q) : gG m b φ0 σo lU q (fX35_spell_b37 h) := by
  unfold FX35_spell_b37 at hF
  unfold fX35_spell_b37
  exact g_ret R hF trivial
def FX35_spell (p0 : Int) (s : fS) : Option (Unit × fS) :=
  if ¬ ((s.i 192 19) = 40) then
    (uQI s 263 (s.i 192 19) p0).bind fun σ8 =>
    (uPI σ8 192 19 (iadd (σ8.i 192 19) 1)).bind fun σ12 =>
    FX35_spell_b37 σ12
  else
    (FX35_fail 2 s).bind fun q15 =>
    FX35_spell_b37 q15.2
theorem SX35_spell {m b : Nat} {φ0 : Nat → Nat} {σo : fS} (hm : 1 ≤ m) {q : Unit × fS} {φ : Nat → Nat} {h : eH} {s : fS} {p0' : Int32} {p0 : Int} (R : fC m b φ0 σo φ h s) (ep0 : p0' = iI p0) (rp0 : r32 p0) (hF : FX35_spell p0 s = some q) : gG m b φ0 σo lU q (fX35_spell 192 p0' h) := by
  subst ep0
  unfold FX35_spell at hF
  unfold fX35_spell
  refine s_gI R (t_192 hm R.S) (Nat.le_of_ble_eq_true rfl) rfl ?_
  refine s_if (not_congr (i_eq rfl (c_lit 40 40 rfl) (R.ri (t_192 hm R.S) (Nat.le_of_ble_eq_true rfl) rfl) ⟨by decide, by decide⟩)) hF (fun c2 hF => ?_) (fun c2 hF => ?_)
  ·
    refine s_gAs R (t_192 hm R.S) (Nat.le_of_ble_eq_true rfl) rfl (o_192_18 hm R.S) (a_263 hm R) ?_
    refine s_gI R (t_192 hm R.S) (Nat.le_of_ble_eq_true rfl) rfl ?_
    refine s_qI R (u_263 hm R.S).1 (u_263 hm R.S).2 (by decide) (a_263 hm R) rfl (R.ri (t_192 hm R.S) (Nat.le_of_ble_eq_true rfl) rfl) rfl rp0 hF (fun h5 σ8 R5 T5 hF => ?_)
    refine s_gI R5 (t_192 hm R5.S) (Nat.le_of_ble_eq_true rfl) rfl ?_
    refine s_pI R5 (t_192 hm R5.S) (Nat.le_of_ble_eq_true rfl) rfl (c_add rfl (c_lit 1 1 rfl)) (rr_I _) hF (fun h7 σ12 R7 T7 hF => ?_)
    exact SX35_spell_b37 hm R7 hF
  ·
    refine s_kok R (t_192 hm R.S) (Nat.le_of_ble_eq_true rfl) ?_
    refine s_call R (Nat.zero_le _) (fun _ hq => SX35_fail (b := 0) hm (R.rf) (c_lit 2 2 rfl) ⟨by decide, by decide⟩ hq) hF (fun f9 rv9 h9 q15 R9 e9 E9 hF => ?_)
    exact SX35_spell_b37 hm R9 hF
def FX35_nameToken_b72 (N : Nat) (K31 : Int → Int → Int → fS → Option (Int × fS)) (l1 : Int) (l3 : Int) (s0 : Int) (s : fS) : Option (Int × fS) :=
  K31 l1 s0 (iadd l3 1) s
theorem SX35_nameToken_b72 {m b : Nat} {φ0 : Nat → Nat} {σo : fS} (hm : 1 ≤ m) {N : Nat} {k31 : Nat → Int32 → Int32 → Int32 → eH → Option (Int32 × eH)} {K31 : Int → Int → Int → fS → Option (Int × fS)} {q : Int × fS} (hk31 : ∀ {φ : Nat → Nat} {h : eH} {s : fS} {l1' : Int32} {l1 : Int} {l2' : Int32} {l2 : Int} {l3' : Int32} {l3 : Int}, fC m b φ0 σo φ h s → l1' = iI l1 → r32 l1 → l2' = iI l2 → r32 l2 → l3' = iI l3 → r32 l3 → K31 l1 l2 l3 s = some q → gG m b φ0 σo lI q (k31 192 l1' l2' l3' h)) {φ : Nat → Nat} {h : eH} {s : fS} {l1' : Int32} {l1 : Int} {l3' : Int32} {l3 : Int} {s0' : Int32} {s0 : Int} (R : fC m b φ0 σo φ h s) (el1 : l1' = iI l1) (rl1 : r32 l1) (el3 : l3' = iI l3) (rl3 : r32 l3) (es0 : s0' = iI s0) (rs0 : r32 s0) (hF : FX35_nameToken_b72 N K31 l1 l3 s0 s = some q) : gG m b φ0 σo lI q (fX35_nameToken_b72 N k31 192 l1' l3' s0' h) := by
  subst el1; subst el3; subst es0
  unfold FX35_nameToken_b72 at hF
  unfold fX35_nameToken_b72
  exact hk31 R rfl rl1 rfl rs0 (c_add rfl (c_lit 1 1 rfl)) (rr_I _) hF
def FX35_nameToken_b79 (N : Nat) (K2 : Int → fS → Option (Int × fS)) (l1 : Int) (l2 : Int) (s : fS) : Option (Int × fS) :=
  if l2 = 0 then
    K2 (iadd l1 1) s
  else
    some ((iadd 65536 l1), s)
theorem SX35_nameToken_b79 {m b : Nat} {φ0 : Nat → Nat} {σo : fS} (hm : 1 ≤ m) {N : Nat} {k2 : Nat → Int32 → eH → Option (Int32 × eH)} {K2 : Int → fS → Option (Int × fS)} {q : Int × fS} (hk2 : ∀ {φ : Nat → Nat} {h : eH} {s : fS} {l1' : Int32} {l1 : Int}, fC m b φ0 σo φ h s → l1' = iI l1 → r32 l1 → K2 l1 s = some q → gG m b φ0 σo lI q (k2 192 l1' h)) {φ : Nat → Nat} {h : eH} {s : fS} {l1' : Int32} {l1 : Int} {l2' : Int32} {l2 : Int} (R : fC m b φ0 σo φ h s) (el1 : l1' = iI l1) (rl1 : r32 l1) (el2 : l2' = iI l2) (rl2 : r32 l2) (hF : FX35_nameToken_b79 N K2 l1 l2 s = some q) : gG m b φ0 σo lI q (fX35_nameToken_b79 N k2 192 l1' l2' h) := by
  subst el1; subst el2
  unfold FX35_nameToken_b79 at hF
  unfold fX35_nameToken_b79
  refine s_if (i_eq rfl (c_lit 0 0 rfl) rl2 ⟨by decide, by decide⟩) hF (fun c1 hF => ?_) (fun c1 hF => ?_)
  ·
    exact hk2 R (c_add rfl (c_lit 1 1 rfl)) (rr_I _) hF
  ·
    exact g_ret R hF ⟨(c_add (c_lit 65536 65536 rfl) rfl), (rr_I _)⟩
def FX35_nameToken_b31 (N : Nat) (K2 : Int → fS → Option (Int × fS)) : Nat → Int → Int → Int → fS → Option (Int × fS)
  | 0, _, _, _, _ => none
  | n + 1, l1, l2, l3, s =>
    if (s.i 192 19) ≤ l3 then
      FX35_nameToken_b79 N K2 l1 l2 s
    else
      if l2 = 0 then
        FX35_nameToken_b79 N K2 l1 l2 s
      else
        (uRI s 261 (iadd (imul 40 l1) l3)).bind fun x7 =>
        (uRI s 263 l3).bind fun x11 =>
        if ¬ ((iand x7 255) = x11) then
          FX35_nameToken_b72 N (FX35_nameToken_b31 N K2 n) l1 l3 0 s
        else
          FX35_nameToken_b72 N (FX35_nameToken_b31 N K2 n) l1 l3 1 s
theorem SX35_nameToken_b31 {m b : Nat} {φ0 : Nat → Nat} {σo : fS} (hm : 1 ≤ m) {N : Nat} {k2 : Nat → Int32 → eH → Option (Int32 × eH)} {K2 : Int → fS → Option (Int × fS)} {q : Int × fS} (hk2 : ∀ {φ : Nat → Nat} {h : eH} {s : fS} {l1' : Int32} {l1 : Int}, fC m b φ0 σo φ h s → l1' = iI l1 → r32 l1 → K2 l1 s = some q → gG m b φ0 σo lI q (k2 192 l1' h)) : ∀ {n : Nat} {φ : Nat → Nat} {h : eH} {s : fS} {l1' : Int32} {l1 : Int} {l2' : Int32} {l2 : Int} {l3' : Int32} {l3 : Int}, fC m b φ0 σo φ h s → l1' = iI l1 → r32 l1 → l2' = iI l2 → r32 l2 → l3' = iI l3 → r32 l3 → FX35_nameToken_b31 N K2 n l1 l2 l3 s = some q → gG m b φ0 σo lI q (fX35_nameToken_b31 N k2 n 192 l1' l2' l3' h) := by
  intro n
  induction n with
 | zero => intro φ h s l1' l1 l2' l2 l3' l3 R el1 rl1 el2 rl2 el3 rl3 hF; simp [FX35_nameToken_b31] at hF
  | succ n ih =>
    intro φ h s l1' l1 l2' l2 l3' l3 R el1 rl1 el2 rl2 el3 rl3 hF
    subst el1; subst el2; subst el3
    rw [FX35_nameToken_b31] at hF
    rw [fX35_nameToken_b31]
    refine s_gI R (t_192 hm R.S) (Nat.le_of_ble_eq_true rfl) rfl ?_
    refine s_if (i_le rfl rfl (R.ri (t_192 hm R.S) (Nat.le_of_ble_eq_true rfl) rfl) rl3) hF (fun c2 hF => ?_) (fun c2 hF => ?_)
    ·
      exact SX35_nameToken_b79 (N := N) (k2 := k2) (K2 := K2) hm @hk2 R rfl rl1 rfl rl2 hF
    ·
      refine s_if (i_eq rfl (c_lit 0 0 rfl) rl2 ⟨by decide, by decide⟩) hF (fun c3 hF => ?_) (fun c3 hF => ?_)
      ·
        exact SX35_nameToken_b79 (N := N) (k2 := k2) (K2 := K2) hm @hk2 R rfl rl1 rfl rl2 hF
      ·
        refine s_gAs R (t_192 hm R.S) (Nat.le_of_ble_eq_true rfl) rfl (o_192_16 hm R.S) (a_261 hm R) ?_
        refine s_rI R (u_261 hm R.S).1 (u_261 hm R.S).2 (by decide) (a_261 hm R) (c_add (c_mul (c_lit 40 40 rfl) rfl) rfl) (rr_I _) hF (fun x7 ra5 hF => ?_)
        refine s_gAs R (t_192 hm R.S) (Nat.le_of_ble_eq_true rfl) rfl (o_192_18 hm R.S) (a_263 hm R) ?_
        refine s_rI R (u_263 hm R.S).1 (u_263 hm R.S).2 (by decide) (a_263 hm R) rfl rl3 hF (fun x11 ra7 hF => ?_)
        refine s_if (not_congr (i_eq (c_and rfl (c_lit 255 255 rfl)) rfl (rr_I _) ra7)) hF (fun c8 hF => ?_) (fun c8 hF => ?_)
        ·
          exact SX35_nameToken_b72 (N := N) (k31 := fX35_nameToken_b31 N k2 n) (K31 := FX35_nameToken_b31 N K2 n) hm @ih R rfl rl1 rfl rl3 (c_lit 0 0 rfl) ⟨by decide, by decide⟩ hF
        ·
          exact SX35_nameToken_b72 (N := N) (k31 := fX35_nameToken_b31 N k2 n) (K31 := FX35_nameToken_b31 N K2 n) hm @ih R rfl rl1 rfl rl3 (c_lit 1 1 rfl) ⟨by decide, by decide⟩ hF
def FX35_nameToken_b28 (N : Nat) (K2 : Int → fS → Option (Int × fS)) (l1 : Int) (s0 : Int) (s : fS) : Option (Int × fS) :=
  FX35_nameToken_b31 N K2 N l1 s0 0 s
theorem SX35_nameToken_b28 {m b : Nat} {φ0 : Nat → Nat} {σo : fS} (hm : 1 ≤ m) {N : Nat} {k2 : Nat → Int32 → eH → Option (Int32 × eH)} {K2 : Int → fS → Option (Int × fS)} {q : Int × fS} (hk2 : ∀ {φ : Nat → Nat} {h : eH} {s : fS} {l1' : Int32} {l1 : Int}, fC m b φ0 σo φ h s → l1' = iI l1 → r32 l1 → K2 l1 s = some q → gG m b φ0 σo lI q (k2 192 l1' h)) {φ : Nat → Nat} {h : eH} {s : fS} {l1' : Int32} {l1 : Int} {s0' : Int32} {s0 : Int} (R : fC m b φ0 σo φ h s) (el1 : l1' = iI l1) (rl1 : r32 l1) (es0 : s0' = iI s0) (rs0 : r32 s0) (hF : FX35_nameToken_b28 N K2 l1 s0 s = some q) : gG m b φ0 σo lI q (fX35_nameToken_b28 N k2 192 l1' s0' h) := by
  subst el1; subst es0
  unfold FX35_nameToken_b28 at hF
  unfold fX35_nameToken_b28
  exact SX35_nameToken_b31 (N := N) (k2 := k2) (K2 := K2) hm @hk2 R rfl rl1 rfl rs0 (c_lit 0 0 rfl) ⟨by decide, by decide⟩ hF
def FX35_nameToken_b121 (N : Nat) : Nat → Int → Int → fS → Option (Int × fS)
  | 0, _, _, _ => none
  | n + 1, l1, l2, s =>
    if (s.i 192 21) < l2 then
      some ((iadd 65536 l1), s)
    else
      (uQI s 265 (iadd (imul 3812 l2) l1) 0).bind fun σ6 =>
      FX35_nameToken_b121 N n l1 (iadd l2 1) σ6
theorem SX35_nameToken_b121 {m b : Nat} {φ0 : Nat → Nat} {σo : fS} (hm : 1 ≤ m) {N : Nat} {q : Int × fS} : ∀ {n : Nat} {φ : Nat → Nat} {h : eH} {s : fS} {l1' : Int32} {l1 : Int} {l2' : Int32} {l2 : Int}, fC m b φ0 σo φ h s → l1' = iI l1 → r32 l1 → l2' = iI l2 → r32 l2 → FX35_nameToken_b121 N n l1 l2 s = some q → gG m b φ0 σo lI q (fX35_nameToken_b121 N n 192 l1' l2' h) := by
  intro n
  induction n with
 | zero => intro φ h s l1' l1 l2' l2 R el1 rl1 el2 rl2 hF; simp [FX35_nameToken_b121] at hF
  | succ n ih =>
    intro φ h s l1' l1 l2' l2 R el1 rl1 el2 rl2 hF
    subst el1; subst el2
    rw [FX35_nameToken_b121] at hF
    rw [fX35_nameToken_b121]
    refine s_gI R (t_192 hm R.S) (Nat.le_of_ble_eq_true rfl) rfl ?_
    refine s_if (i_lt rfl rfl (R.ri (t_192 hm R.S) (Nat.le_of_ble_eq_true rfl) rfl) rl2) hF (fun c2 hF => ?_) (fun c2 hF => ?_)
    ·
      exact g_ret R hF ⟨(c_add (c_lit 65536 65536 rfl) rfl), (rr_I _)⟩
    ·
      refine s_gAs R (t_192 hm R.S) (Nat.le_of_ble_eq_true rfl) rfl (o_192_22 hm R.S) (a_265 hm R) ?_
      refine s_qI R (u_265 hm R.S).1 (u_265 hm R.S).2 (by decide) (a_265 hm R) (c_add (c_mul (c_lit 3812 3812 rfl) rfl) rfl) (rr_I _) (c_lit 0 0 rfl) ⟨by decide, by decide⟩ hF (fun h4 σ6 R4 T4 hF => ?_)
      exact ih R4 rfl rl1 (c_add rfl (c_lit 1 1 rfl)) (rr_I _) hF
def FX35_nameToken_b2 (N : Nat) : Nat → Int → fS → Option (Int × fS)
  | 0, _, _ => none
  | n + 1, l1, s =>
    if (s.i 192 15) ≤ l1 then
      if ¬ ((isub (s.i 192 15) 96) = 1000) then
        (FX35_addName N s).bind fun q8 =>
        FX35_nameToken_b121 N N q8.1 0 q8.2
      else
        (FX35_fail 2 s).bind fun q10 =>
        some ((-1), q10.2)
    else
      (uRI s 262 l1).bind fun x13 =>
      if ¬ (x13 = (s.i 192 19)) then
        FX35_nameToken_b28 N (FX35_nameToken_b2 N n) l1 0 s
      else
        FX35_nameToken_b28 N (FX35_nameToken_b2 N n) l1 1 s
theorem SX35_nameToken_b2 {m b : Nat} {φ0 : Nat → Nat} {σo : fS} (hm : 1 ≤ m) {N : Nat} {q : Int × fS} : ∀ {n : Nat} {φ : Nat → Nat} {h : eH} {s : fS} {l1' : Int32} {l1 : Int}, fC m b φ0 σo φ h s → l1' = iI l1 → r32 l1 → FX35_nameToken_b2 N n l1 s = some q → gG m b φ0 σo lI q (fX35_nameToken_b2 N n 192 l1' h) := by
  intro n
  induction n with
 | zero => intro φ h s l1' l1 R el1 rl1 hF; simp [FX35_nameToken_b2] at hF
  | succ n ih =>
    intro φ h s l1' l1 R el1 rl1 hF
    subst el1
    rw [FX35_nameToken_b2] at hF
    rw [fX35_nameToken_b2]
    refine s_gI R (t_192 hm R.S) (Nat.le_of_ble_eq_true rfl) rfl ?_
    refine s_if (i_le rfl rfl (R.ri (t_192 hm R.S) (Nat.le_of_ble_eq_true rfl) rfl) rl1) hF (fun c2 hF => ?_) (fun c2 hF => ?_)
    ·
      refine s_gI R (t_192 hm R.S) (Nat.le_of_ble_eq_true rfl) rfl ?_
      refine s_if (not_congr (i_eq (c_sub rfl (c_lit 96 96 rfl)) (c_lit 1000 1000 rfl) (rr_I _) ⟨by decide, by decide⟩)) hF (fun c4 hF => ?_) (fun c4 hF => ?_)
      ·
        refine s_kok R (t_192 hm R.S) (Nat.le_of_ble_eq_true rfl) ?_
        refine s_call R (Nat.zero_le _) (fun _ hq => SX35_addName (b := 0) (N := N) hm (R.rf) hq) hF (fun f6 rv6 h6 q8 R6 e6 E6 hF => ?_)
        exact SX35_nameToken_b121 (N := N) hm R6 e6.1 e6.2 (c_lit 0 0 rfl) ⟨by decide, by decide⟩ hF
      ·
        refine s_kok R (t_192 hm R.S) (Nat.le_of_ble_eq_true rfl) ?_
        refine s_call R (Nat.zero_le _) (fun _ hq => SX35_fail (b := 0) hm (R.rf) (c_lit 2 2 rfl) ⟨by decide, by decide⟩ hq) hF (fun f8 rv8 h8 q10 R8 e8 E8 hF => ?_)
        exact g_ret R8 hF ⟨(c_lit (-1) (-1) rfl), ⟨by decide, by decide⟩⟩
    ·
      refine s_gAs R (t_192 hm R.S) (Nat.le_of_ble_eq_true rfl) rfl (o_192_17 hm R.S) (a_262 hm R) ?_
      refine s_rI R (u_262 hm R.S).1 (u_262 hm R.S).2 (by decide) (a_262 hm R) rfl rl1 hF (fun x13 ra10 hF => ?_)
      refine s_gI R (t_192 hm R.S) (Nat.le_of_ble_eq_true rfl) rfl ?_
      refine s_if (not_congr (i_eq rfl rfl ra10 (R.ri (t_192 hm R.S) (Nat.le_of_ble_eq_true rfl) rfl))) hF (fun c12 hF => ?_) (fun c12 hF => ?_)
      ·
        exact SX35_nameToken_b28 (N := N) (k2 := fX35_nameToken_b2 N n) (K2 := FX35_nameToken_b2 N n) hm @ih R rfl rl1 (c_lit 0 0 rfl) ⟨by decide, by decide⟩ hF
      ·
        exact SX35_nameToken_b28 (N := N) (k2 := fX35_nameToken_b2 N n) (K2 := FX35_nameToken_b2 N n) hm @ih R rfl rl1 (c_lit 1 1 rfl) ⟨by decide, by decide⟩ hF
def FX35_nameToken (N : Nat) (s : fS) : Option (Int × fS) :=
  FX35_nameToken_b2 N N 0 s
theorem SX35_nameToken {m b : Nat} {φ0 : Nat → Nat} {σo : fS} (hm : 1 ≤ m) {N : Nat} {q : Int × fS} {φ : Nat → Nat} {h : eH} {s : fS} (R : fC m b φ0 σo φ h s) (hF : FX35_nameToken N s = some q) : gG m b φ0 σo lI q (fX35_nameToken N 192 h) := by
  unfold FX35_nameToken at hF
  unfold fX35_nameToken
  exact SX35_nameToken_b2 (N := N) hm R (c_lit 0 0 rfl) ⟨by decide, by decide⟩ hF
def FX35_readName_b182 (N : Nat) (s0 : Int) (s : fS) : Option (Int × fS) :=
  some (s0, s)
theorem SX35_readName_b182 {m b : Nat} {φ0 : Nat → Nat} {σo : fS} (hm : 1 ≤ m) {N : Nat} {q : Int × fS} {φ : Nat → Nat} {h : eH} {s : fS} {s0' : Int32} {s0 : Int} (R : fC m b φ0 σo φ h s) (es0 : s0' = iI s0) (rs0 : r32 s0) (hF : FX35_readName_b182 N s0 s = some q) : gG m b φ0 σo lI q (fX35_readName_b182 N s0' h) := by
  subst es0
  unfold FX35_readName_b182 at hF
  unfold fX35_readName_b182
  exact g_ret R hF ⟨rfl, rs0⟩
def FX35_readName_b167 (N : Nat) (s : fS) : Option (Int × fS) :=
  if (s.i 192 46) ≤ 0 then
    (FX35_nameToken N s).bind fun q5 =>
    FX35_readName_b182 N q5.1 q5.2
  else
    FX35_readName_b182 N (-1) s
theorem SX35_readName_b167 {m b : Nat} {φ0 : Nat → Nat} {σo : fS} (hm : 1 ≤ m) {N : Nat} {q : Int × fS} {φ : Nat → Nat} {h : eH} {s : fS} (R : fC m b φ0 σo φ h s) (hF : FX35_readName_b167 N s = some q) : gG m b φ0 σo lI q (fX35_readName_b167 N 192 h) := by
  unfold FX35_readName_b167 at hF
  unfold fX35_readName_b167
  refine s_gI R (t_192 hm R.S) (Nat.le_of_ble_eq_true rfl) rfl ?_
  refine s_if (i_le rfl (c_lit 0 0 rfl) (R.ri (t_192 hm R.S) (Nat.le_of_ble_eq_true rfl) rfl) ⟨by decide, by decide⟩) hF (fun c2 hF => ?_) (fun c2 hF => ?_)
  ·
    refine s_kok R (t_192 hm R.S) (Nat.le_of_ble_eq_true rfl) ?_
    refine s_call R (Nat.zero_le _) (fun _ hq => SX35_nameToken (b := 0) (N := N) hm (R.rf) hq) hF (fun f4 rv4 h4 q5 R4 e4 E4 hF => ?_)
    exact SX35_readName_b182 (N := N) hm R4 e4.1 e4.2 hF
  ·
    exact SX35_readName_b182 (N := N) hm R (c_lit (-1) (-1) rfl) ⟨by decide, by decide⟩ hF
def FX35_readName_b44 (N : Nat) : Nat → fS → Option (Int × fS)
  | 0, _ => none
  | n + 1, s =>
    if ¬ ((s.i 192 46) = 0) then
      FX35_readName_b167 N s
    else
      if (s.i 192 12) ≤ (s.i 192 13) then
        FX35_readName_b167 N s
      else
        (uRI s 260 (s.i 192 13)).bind fun x13 =>
        (FX35_category x13 s).bind fun q16 =>
        if ¬ (q16.1 = 11) then
          FX35_readName_b167 N q16.2
        else
          (uRI q16.2 260 (q16.2.i 192 13)).bind fun x22 =>
          (FX35_spell x22 q16.2).bind fun q25 =>
          (uPI q25.2 192 13 (iadd (q25.2.i 192 13) 1)).bind fun σ28 =>
          FX35_readName_b44 N n σ28
theorem SX35_readName_b44 {m b : Nat} {φ0 : Nat → Nat} {σo : fS} (hm : 1 ≤ m) {N : Nat} {q : Int × fS} : ∀ {n : Nat} {φ : Nat → Nat} {h : eH} {s : fS} , fC m b φ0 σo φ h s → FX35_readName_b44 N n s = some q → gG m b φ0 σo lI q (fX35_readName_b44 N n 192 h) := by
  intro n
  induction n with
 | zero => intro φ h s R hF; simp [FX35_readName_b44] at hF
  | succ n ih =>
    intro φ h s  R  hF
    rw [FX35_readName_b44] at hF
    rw [fX35_readName_b44]
    refine s_gI R (t_192 hm R.S) (Nat.le_of_ble_eq_true rfl) rfl ?_
    refine s_if (not_congr (i_eq rfl (c_lit 0 0 rfl) (R.ri (t_192 hm R.S) (Nat.le_of_ble_eq_true rfl) rfl) ⟨by decide, by decide⟩)) hF (fun c2 hF => ?_) (fun c2 hF => ?_)
    ·
      exact SX35_readName_b167 (N := N) hm R hF
    ·
      refine s_gI R (t_192 hm R.S) (Nat.le_of_ble_eq_true rfl) rfl ?_
      refine s_gI R (t_192 hm R.S) (Nat.le_of_ble_eq_true rfl) rfl ?_
      refine s_if (i_le rfl rfl (R.ri (t_192 hm R.S) (Nat.le_of_ble_eq_true rfl) rfl) (R.ri (t_192 hm R.S) (Nat.le_of_ble_eq_true rfl) rfl)) hF (fun c5 hF => ?_) (fun c5 hF => ?_)
      ·
        exact SX35_readName_b167 (N := N) hm R hF
      ·
        refine s_gAs R (t_192 hm R.S) (Nat.le_of_ble_eq_true rfl) rfl (o_192_11 hm R.S) (a_260 hm R) ?_
        refine s_gI R (t_192 hm R.S) (Nat.le_of_ble_eq_true rfl) rfl ?_
        refine s_rI R (u_260 hm R.S).1 (u_260 hm R.S).2 (by decide) (a_260 hm R) rfl (R.ri (t_192 hm R.S) (Nat.le_of_ble_eq_true rfl) rfl) hF (fun x13 ra8 hF => ?_)
        refine s_kok R (t_192 hm R.S) (Nat.le_of_ble_eq_true rfl) ?_
        refine s_call R (Nat.zero_le _) (fun _ hq => SX35_category (b := 0) hm (R.rf) rfl ra8 hq) hF (fun f10 rv10 h10 q16 R10 e10 E10 hF => ?_)
        refine s_if (not_congr (i_eq e10.1 (c_lit 11 11 rfl) e10.2 ⟨by decide, by decide⟩)) hF (fun c11 hF => ?_) (fun c11 hF => ?_)
        ·
          exact SX35_readName_b167 (N := N) hm R10 hF
        ·
          refine s_gAs R10 (t_192 hm R10.S) (Nat.le_of_ble_eq_true rfl) rfl (o_192_11 hm R10.S) (a_260 hm R10) ?_
          refine s_gI R10 (t_192 hm R10.S) (Nat.le_of_ble_eq_true rfl) rfl ?_
          refine s_rI R10 (u_260 hm R10.S).1 (u_260 hm R10.S).2 (by decide) (a_260 hm R10) rfl (R10.ri (t_192 hm R10.S) (Nat.le_of_ble_eq_true rfl) rfl) hF (fun x22 ra14 hF => ?_)
          refine s_kok R10 (t_192 hm R10.S) (Nat.le_of_ble_eq_true rfl) ?_
          refine s_call R10 (Nat.zero_le _) (fun _ hq => SX35_spell (b := 0) hm (R10.rf) rfl ra14 hq) hF (fun f16 rv16 h16 q25 R16 e16 E16 hF => ?_)
          refine s_gI R16 (t_192 hm R16.S) (Nat.le_of_ble_eq_true rfl) rfl ?_
          refine s_pI R16 (t_192 hm R16.S) (Nat.le_of_ble_eq_true rfl) rfl (c_add rfl (c_lit 1 1 rfl)) (rr_I _) hF (fun h18 σ28 R18 T18 hF => ?_)
          exact ih R18 hF
def FX35_readName_b141 (N : Nat) (s1 : Int) (s : fS) : Option (Int × fS) :=
  (uPI s 192 14 s1).bind fun σ1 =>
  (uRI σ1 260 (σ1.i 192 13)).bind fun x7 =>
  (FX35_spell x7 σ1).bind fun q10 =>
  (uPI q10.2 192 13 (iadd (q10.2.i 192 13) 1)).bind fun σ13 =>
  FX35_readName_b167 N σ13
theorem SX35_readName_b141 {m b : Nat} {φ0 : Nat → Nat} {σo : fS} (hm : 1 ≤ m) {N : Nat} {q : Int × fS} {φ : Nat → Nat} {h : eH} {s : fS} {s1' : Int32} {s1 : Int} (R : fC m b φ0 σo φ h s) (es1 : s1' = iI s1) (rs1 : r32 s1) (hF : FX35_readName_b141 N s1 s = some q) : gG m b φ0 σo lI q (fX35_readName_b141 N 192 192 s1' h) := by
  subst es1
  unfold FX35_readName_b141 at hF
  unfold fX35_readName_b141
  refine s_pI R (t_192 hm R.S) (Nat.le_of_ble_eq_true rfl) rfl rfl rs1 hF (fun h1 σ1 R1 T1 hF => ?_)
  refine s_gAs R1 (t_192 hm R1.S) (Nat.le_of_ble_eq_true rfl) rfl (o_192_11 hm R1.S) (a_260 hm R1) ?_
  refine s_gI R1 (t_192 hm R1.S) (Nat.le_of_ble_eq_true rfl) rfl ?_
  refine s_rI R1 (u_260 hm R1.S).1 (u_260 hm R1.S).2 (by decide) (a_260 hm R1) rfl (R1.ri (t_192 hm R1.S) (Nat.le_of_ble_eq_true rfl) rfl) hF (fun x7 ra4 hF => ?_)
  refine s_kok R1 (t_192 hm R1.S) (Nat.le_of_ble_eq_true rfl) ?_
  refine s_call R1 (Nat.zero_le _) (fun _ hq => SX35_spell (b := 0) hm (R1.rf) rfl ra4 hq) hF (fun f6 rv6 h6 q10 R6 e6 E6 hF => ?_)
  refine s_gI R6 (t_192 hm R6.S) (Nat.le_of_ble_eq_true rfl) rfl ?_
  refine s_pI R6 (t_192 hm R6.S) (Nat.le_of_ble_eq_true rfl) rfl (c_add rfl (c_lit 1 1 rfl)) (rr_I _) hF (fun h8 σ13 R8 T8 hF => ?_)
  exact SX35_readName_b167 (N := N) hm R8 hF
def FX35_readName_b106 (N : Nat) (s : fS) : Option (Int × fS) :=
  if (s.i 192 12) ≤ (s.i 192 13) then
    FX35_readName_b167 N s
  else
    (uRI s 260 (s.i 192 13)).bind fun x10 =>
    (FX35_category x10 s).bind fun q13 =>
    if ¬ (q13.1 = 10) then
      FX35_readName_b141 N 1 q13.2
    else
      FX35_readName_b141 N 2 q13.2
theorem SX35_readName_b106 {m b : Nat} {φ0 : Nat → Nat} {σo : fS} (hm : 1 ≤ m) {N : Nat} {q : Int × fS} {φ : Nat → Nat} {h : eH} {s : fS} (R : fC m b φ0 σo φ h s) (hF : FX35_readName_b106 N s = some q) : gG m b φ0 σo lI q (fX35_readName_b106 N 192 h) := by
  unfold FX35_readName_b106 at hF
  unfold fX35_readName_b106
  refine s_gI R (t_192 hm R.S) (Nat.le_of_ble_eq_true rfl) rfl ?_
  refine s_gI R (t_192 hm R.S) (Nat.le_of_ble_eq_true rfl) rfl ?_
  refine s_if (i_le rfl rfl (R.ri (t_192 hm R.S) (Nat.le_of_ble_eq_true rfl) rfl) (R.ri (t_192 hm R.S) (Nat.le_of_ble_eq_true rfl) rfl)) hF (fun c3 hF => ?_) (fun c3 hF => ?_)
  ·
    exact SX35_readName_b167 (N := N) hm R hF
  ·
    refine s_gAs R (t_192 hm R.S) (Nat.le_of_ble_eq_true rfl) rfl (o_192_11 hm R.S) (a_260 hm R) ?_
    refine s_gI R (t_192 hm R.S) (Nat.le_of_ble_eq_true rfl) rfl ?_
    refine s_rI R (u_260 hm R.S).1 (u_260 hm R.S).2 (by decide) (a_260 hm R) rfl (R.ri (t_192 hm R.S) (Nat.le_of_ble_eq_true rfl) rfl) hF (fun x10 ra6 hF => ?_)
    refine s_kok R (t_192 hm R.S) (Nat.le_of_ble_eq_true rfl) ?_
    refine s_call R (Nat.zero_le _) (fun _ hq => SX35_category (b := 0) hm (R.rf) rfl ra6 hq) hF (fun f8 rv8 h8 q13 R8 e8 E8 hF => ?_)
    refine s_if (not_congr (i_eq e8.1 (c_lit 10 10 rfl) e8.2 ⟨by decide, by decide⟩)) hF (fun c9 hF => ?_) (fun c9 hF => ?_)
    ·
      exact SX35_readName_b141 (N := N) hm R8 (c_lit 1 1 rfl) ⟨by decide, by decide⟩ hF
    ·
      exact SX35_readName_b141 (N := N) hm R8 (c_lit 2 2 rfl) ⟨by decide, by decide⟩ hF
def FX35_readName (N : Nat) (s : fS) : Option (Int × fS) :=
  (uPI s 192 19 0).bind fun σ1 =>
  (uPI σ1 192 14 1).bind fun σ3 =>
  if (σ3.i 192 12) ≤ (σ3.i 192 13) then
    FX35_readName_b106 N σ3
  else
    (uRI σ3 260 (σ3.i 192 13)).bind fun x14 =>
    (FX35_category x14 σ3).bind fun q17 =>
    if ¬ (q17.1 = 11) then
      FX35_readName_b106 N q17.2
    else
      (uPI q17.2 192 14 2).bind fun σ19 =>
      FX35_readName_b44 N N σ19
theorem SX35_readName {m b : Nat} {φ0 : Nat → Nat} {σo : fS} (hm : 1 ≤ m) {N : Nat} {q : Int × fS} {φ : Nat → Nat} {h : eH} {s : fS} (R : fC m b φ0 σo φ h s) (hF : FX35_readName N s = some q) : gG m b φ0 σo lI q (fX35_readName N 192 h) := by
  unfold FX35_readName at hF
  unfold fX35_readName
  refine s_pI R (t_192 hm R.S) (Nat.le_of_ble_eq_true rfl) rfl (c_lit 0 0 rfl) ⟨by decide, by decide⟩ hF (fun h1 σ1 R1 T1 hF => ?_)
  refine s_pI R1 (t_192 hm R1.S) (Nat.le_of_ble_eq_true rfl) rfl (c_lit 1 1 rfl) ⟨by decide, by decide⟩ hF (fun h2 σ3 R2 T2 hF => ?_)
  refine s_gI R2 (t_192 hm R2.S) (Nat.le_of_ble_eq_true rfl) rfl ?_
  refine s_gI R2 (t_192 hm R2.S) (Nat.le_of_ble_eq_true rfl) rfl ?_
  refine s_if (i_le rfl rfl (R2.ri (t_192 hm R2.S) (Nat.le_of_ble_eq_true rfl) rfl) (R2.ri (t_192 hm R2.S) (Nat.le_of_ble_eq_true rfl) rfl)) hF (fun c5 hF => ?_) (fun c5 hF => ?_)
  ·
    exact SX35_readName_b106 (N := N) hm R2 hF
  ·
    refine s_gAs R2 (t_192 hm R2.S) (Nat.le_of_ble_eq_true rfl) rfl (o_192_11 hm R2.S) (a_260 hm R2) ?_
    refine s_gI R2 (t_192 hm R2.S) (Nat.le_of_ble_eq_true rfl) rfl ?_
    refine s_rI R2 (u_260 hm R2.S).1 (u_260 hm R2.S).2 (by decide) (a_260 hm R2) rfl (R2.ri (t_192 hm R2.S) (Nat.le_of_ble_eq_true rfl) rfl) hF (fun x14 ra8 hF => ?_)
    refine s_kok R2 (t_192 hm R2.S) (Nat.le_of_ble_eq_true rfl) ?_
    refine s_call R2 (Nat.zero_le _) (fun _ hq => SX35_category (b := 0) hm (R2.rf) rfl ra8 hq) hF (fun f10 rv10 h10 q17 R10 e10 E10 hF => ?_)
    refine s_if (not_congr (i_eq e10.1 (c_lit 11 11 rfl) e10.2 ⟨by decide, by decide⟩)) hF (fun c11 hF => ?_) (fun c11 hF => ?_)
    ·
      exact SX35_readName_b106 (N := N) hm R10 hF
    ·
      refine s_pI R10 (t_192 hm R10.S) (Nat.le_of_ble_eq_true rfl) rfl (c_lit 2 2 rfl) ⟨by decide, by decide⟩ hF (fun h12 σ19 R12 T12 hF => ?_)
      exact SX35_readName_b44 (N := N) hm R12 hF
def FX35_read_b92 (N : Nat) (s0 : Int) (s : fS) : Option (Int × fS) :=
  some (s0, s)
theorem SX35_read_b92 {m b : Nat} {φ0 : Nat → Nat} {σo : fS} (hm : 1 ≤ m) {N : Nat} {q : Int × fS} {φ : Nat → Nat} {h : eH} {s : fS} {s0' : Int32} {s0 : Int} (R : fC m b φ0 σo φ h s) (es0 : s0' = iI s0) (rs0 : r32 s0) (hF : FX35_read_b92 N s0 s = some q) : gG m b φ0 σo lI q (fX35_read_b92 N s0' h) := by
  subst es0
  unfold FX35_read_b92 at hF
  unfold fX35_read_b92
  exact g_ret R hF ⟨rfl, rs0⟩
def FX35_read_b182 (N : Nat) (K0 : fS → Option (Int × fS)) (s : fS) : Option (Int × fS) :=
  K0 s
theorem SX35_read_b182 {m b : Nat} {φ0 : Nat → Nat} {σo : fS} (hm : 1 ≤ m) {N : Nat} {k0 : Nat → eH → Option (Int32 × eH)} {K0 : fS → Option (Int × fS)} {q : Int × fS} (hk0 : ∀ {φ : Nat → Nat} {h : eH} {s : fS} , fC m b φ0 σo φ h s → K0 s = some q → gG m b φ0 σo lI q (k0 192 h)) {φ : Nat → Nat} {h : eH} {s : fS} (R : fC m b φ0 σo φ h s) (hF : FX35_read_b182 N K0 s = some q) : gG m b φ0 σo lI q (fX35_read_b182 N k0 192 h) := by
  unfold FX35_read_b182 at hF
  unfold fX35_read_b182
  exact hk0 R hF
def FX35_read_b20 (N : Nat) (K0 : fS → Option (Int × fS)) (s : fS) : Option (Int × fS) :=
  (uRI s 260 (s.i 192 13)).bind fun x5 =>
  (uPI s 192 13 (iadd (s.i 192 13) 1)).bind fun σ9 =>
  (FX35_category x5 σ9).bind fun q12 =>
  if ¬ (q12.1 = 0) then
    if ¬ (q12.1 = 5) then
      if ¬ (q12.1 = 10) then
        if ¬ (q12.1 = 13) then
          if ¬ (q12.1 = 14) then
            if ¬ (q12.1 = 15) then
              if q12.1 = 9 then
                FX35_read_b182 N K0 q12.2
              else
                (uPI q12.2 192 14 1).bind fun σ20 =>
                some ((iadd (imul 256 q12.1) x5), σ20)
            else
              (FX35_fail 1 q12.2).bind fun q23 =>
              some ((-1), q23.2)
          else
            (uPI q12.2 192 13 (q12.2.i 192 12)).bind fun σ26 =>
            FX35_read_b182 N K0 σ26
        else
          (uPI q12.2 192 14 1).bind fun σ28 =>
          some ((iadd 131072 x5), σ28)
      else
        if ¬ ((q12.2.i 192 14) = 1) then
          FX35_read_b182 N K0 q12.2
        else
          (uPI q12.2 192 14 2).bind fun σ33 =>
          some (2592, σ33)
    else
      (uPI q12.2 192 13 (q12.2.i 192 12)).bind fun σ37 =>
      if 2 ≤ (σ37.i 192 14) then
        FX35_read_b182 N K0 σ37
      else
        if ¬ ((σ37.i 192 14) = 0) then
          FX35_read_b92 N 2592 σ37
        else
          FX35_read_b92 N 65559 σ37
  else
    (FX35_readName N q12.2).bind fun q46 =>
    some (q46.1, q46.2)
theorem SX35_read_b20 {m b : Nat} {φ0 : Nat → Nat} {σo : fS} (hm : 1 ≤ m) {N : Nat} {k0 : Nat → eH → Option (Int32 × eH)} {K0 : fS → Option (Int × fS)} {q : Int × fS} (hk0 : ∀ {φ : Nat → Nat} {h : eH} {s : fS} , fC m b φ0 σo φ h s → K0 s = some q → gG m b φ0 σo lI q (k0 192 h)) {φ : Nat → Nat} {h : eH} {s : fS} (R : fC m b φ0 σo φ h s) (hF : FX35_read_b20 N K0 s = some q) : gG m b φ0 σo lI q (fX35_read_b20 N k0 192 h) := by
  unfold FX35_read_b20 at hF
  unfold fX35_read_b20
  refine s_gAs R (t_192 hm R.S) (Nat.le_of_ble_eq_true rfl) rfl (o_192_11 hm R.S) (a_260 hm R) ?_
  refine s_gI R (t_192 hm R.S) (Nat.le_of_ble_eq_true rfl) rfl ?_
  refine s_rI R (u_260 hm R.S).1 (u_260 hm R.S).2 (by decide) (a_260 hm R) rfl (R.ri (t_192 hm R.S) (Nat.le_of_ble_eq_true rfl) rfl) hF (fun x5 ra3 hF => ?_)
  refine s_gI R (t_192 hm R.S) (Nat.le_of_ble_eq_true rfl) rfl ?_
  refine s_pI R (t_192 hm R.S) (Nat.le_of_ble_eq_true rfl) rfl (c_add rfl (c_lit 1 1 rfl)) (rr_I _) hF (fun h5 σ9 R5 T5 hF => ?_)
  refine s_kok R5 (t_192 hm R5.S) (Nat.le_of_ble_eq_true rfl) ?_
  refine s_call R5 (Nat.zero_le _) (fun _ hq => SX35_category (b := 0) hm (R5.rf) rfl ra3 hq) hF (fun f7 rv7 h7 q12 R7 e7 E7 hF => ?_)
  refine s_if (not_congr (i_eq e7.1 (c_lit 0 0 rfl) e7.2 ⟨by decide, by decide⟩)) hF (fun c8 hF => ?_) (fun c8 hF => ?_)
  ·
    refine s_if (not_congr (i_eq e7.1 (c_lit 5 5 rfl) e7.2 ⟨by decide, by decide⟩)) hF (fun c9 hF => ?_) (fun c9 hF => ?_)
    ·
      refine s_if (not_congr (i_eq e7.1 (c_lit 10 10 rfl) e7.2 ⟨by decide, by decide⟩)) hF (fun c10 hF => ?_) (fun c10 hF => ?_)
      ·
        refine s_if (not_congr (i_eq e7.1 (c_lit 13 13 rfl) e7.2 ⟨by decide, by decide⟩)) hF (fun c11 hF => ?_) (fun c11 hF => ?_)
        ·
          refine s_if (not_congr (i_eq e7.1 (c_lit 14 14 rfl) e7.2 ⟨by decide, by decide⟩)) hF (fun c12 hF => ?_) (fun c12 hF => ?_)
          ·
            refine s_if (not_congr (i_eq e7.1 (c_lit 15 15 rfl) e7.2 ⟨by decide, by decide⟩)) hF (fun c13 hF => ?_) (fun c13 hF => ?_)
            ·
              refine s_if (i_eq e7.1 (c_lit 9 9 rfl) e7.2 ⟨by decide, by decide⟩) hF (fun c14 hF => ?_) (fun c14 hF => ?_)
              ·
                exact SX35_read_b182 (N := N) (k0 := k0) (K0 := K0) hm @hk0 R7 hF
              ·
                refine s_pI R7 (t_192 hm R7.S) (Nat.le_of_ble_eq_true rfl) rfl (c_lit 1 1 rfl) ⟨by decide, by decide⟩ hF (fun h15 σ20 R15 T15 hF => ?_)
                exact g_ret R15 hF ⟨(c_add (c_mul (c_lit 256 256 rfl) e7.1) rfl), (rr_I _)⟩
            ·
              refine s_kok R7 (t_192 hm R7.S) (Nat.le_of_ble_eq_true rfl) ?_
              refine s_call R7 (Nat.zero_le _) (fun _ hq => SX35_fail (b := 0) hm (R7.rf) (c_lit 1 1 rfl) ⟨by decide, by decide⟩ hq) hF (fun f17 rv17 h17 q23 R17 e17 E17 hF => ?_)
              exact g_ret R17 hF ⟨(c_lit (-1) (-1) rfl), ⟨by decide, by decide⟩⟩
          ·
            refine s_gI R7 (t_192 hm R7.S) (Nat.le_of_ble_eq_true rfl) rfl ?_
            refine s_pI R7 (t_192 hm R7.S) (Nat.le_of_ble_eq_true rfl) rfl rfl (R7.ri (t_192 hm R7.S) (Nat.le_of_ble_eq_true rfl) rfl) hF (fun h19 σ26 R19 T19 hF => ?_)
            exact SX35_read_b182 (N := N) (k0 := k0) (K0 := K0) hm @hk0 R19 hF
        ·
          refine s_pI R7 (t_192 hm R7.S) (Nat.le_of_ble_eq_true rfl) rfl (c_lit 1 1 rfl) ⟨by decide, by decide⟩ hF (fun h20 σ28 R20 T20 hF => ?_)
          exact g_ret R20 hF ⟨(c_add (c_lit 131072 131072 rfl) rfl), (rr_I _)⟩
      ·
        refine s_gI R7 (t_192 hm R7.S) (Nat.le_of_ble_eq_true rfl) rfl ?_
        refine s_if (not_congr (i_eq rfl (c_lit 1 1 rfl) (R7.ri (t_192 hm R7.S) (Nat.le_of_ble_eq_true rfl) rfl) ⟨by decide, by decide⟩)) hF (fun c22 hF => ?_) (fun c22 hF => ?_)
        ·
          exact SX35_read_b182 (N := N) (k0 := k0) (K0 := K0) hm @hk0 R7 hF
        ·
          refine s_pI R7 (t_192 hm R7.S) (Nat.le_of_ble_eq_true rfl) rfl (c_lit 2 2 rfl) ⟨by decide, by decide⟩ hF (fun h23 σ33 R23 T23 hF => ?_)
          exact g_ret R23 hF ⟨(c_lit 2592 2592 rfl), ⟨by decide, by decide⟩⟩
    ·
      refine s_gI R7 (t_192 hm R7.S) (Nat.le_of_ble_eq_true rfl) rfl ?_
      refine s_pI R7 (t_192 hm R7.S) (Nat.le_of_ble_eq_true rfl) rfl rfl (R7.ri (t_192 hm R7.S) (Nat.le_of_ble_eq_true rfl) rfl) hF (fun h25 σ37 R25 T25 hF => ?_)
      refine s_gI R25 (t_192 hm R25.S) (Nat.le_of_ble_eq_true rfl) rfl ?_
      refine s_if (i_le (c_lit 2 2 rfl) rfl ⟨by decide, by decide⟩ (R25.ri (t_192 hm R25.S) (Nat.le_of_ble_eq_true rfl) rfl)) hF (fun c27 hF => ?_) (fun c27 hF => ?_)
      ·
        exact SX35_read_b182 (N := N) (k0 := k0) (K0 := K0) hm @hk0 R25 hF
      ·
        refine s_gI R25 (t_192 hm R25.S) (Nat.le_of_ble_eq_true rfl) rfl ?_
        refine s_if (not_congr (i_eq rfl (c_lit 0 0 rfl) (R25.ri (t_192 hm R25.S) (Nat.le_of_ble_eq_true rfl) rfl) ⟨by decide, by decide⟩)) hF (fun c29 hF => ?_) (fun c29 hF => ?_)
        ·
          exact SX35_read_b92 (N := N) hm R25 (c_lit 2592 2592 rfl) ⟨by decide, by decide⟩ hF
        ·
          exact SX35_read_b92 (N := N) hm R25 (c_lit 65559 65559 rfl) ⟨by decide, by decide⟩ hF
  ·
    refine s_kok R7 (t_192 hm R7.S) (Nat.le_of_ble_eq_true rfl) ?_
    refine s_call R7 (Nat.zero_le _) (fun _ hq => SX35_readName (b := 0) (N := N) hm (R7.rf) hq) hF (fun f31 rv31 h31 q46 R31 e31 E31 hF => ?_)
    exact g_ret R31 hF ⟨e31.1, e31.2⟩
def FX35_read_b0 (N : Nat) : Nat → fS → Option (Int × fS)
  | 0, _ => none
  | n + 1, s =>
    if ¬ ((s.i 192 13) = (s.i 192 12)) then
      FX35_read_b20 N (FX35_read_b0 N n) s
    else
      (FX35_beginLine N s).bind fun q7 =>
      if ¬ (q7.1 = 0) then
        FX35_read_b20 N (FX35_read_b0 N n) q7.2
      else
        some ((-1), q7.2)
theorem SX35_read_b0 {m b : Nat} {φ0 : Nat → Nat} {σo : fS} (hm : 1 ≤ m) {N : Nat} {q : Int × fS} : ∀ {n : Nat} {φ : Nat → Nat} {h : eH} {s : fS} , fC m b φ0 σo φ h s → FX35_read_b0 N n s = some q → gG m b φ0 σo lI q (fX35_read_b0 N n 192 h) := by
  intro n
  induction n with
 | zero => intro φ h s R hF; simp [FX35_read_b0] at hF
  | succ n ih =>
    intro φ h s  R  hF
    rw [FX35_read_b0] at hF
    rw [fX35_read_b0]
    refine s_gI R (t_192 hm R.S) (Nat.le_of_ble_eq_true rfl) rfl ?_
    refine s_gI R (t_192 hm R.S) (Nat.le_of_ble_eq_true rfl) rfl ?_
    refine s_if (not_congr (i_eq rfl rfl (R.ri (t_192 hm R.S) (Nat.le_of_ble_eq_true rfl) rfl) (R.ri (t_192 hm R.S) (Nat.le_of_ble_eq_true rfl) rfl))) hF (fun c3 hF => ?_) (fun c3 hF => ?_)
    ·
      exact SX35_read_b20 (N := N) (k0 := fX35_read_b0 N n) (K0 := FX35_read_b0 N n) hm @ih R hF
    ·
      refine s_kok R (t_192 hm R.S) (Nat.le_of_ble_eq_true rfl) ?_
      refine s_call R (Nat.zero_le _) (fun _ hq => SX35_beginLine (b := 0) (N := N) hm (R.rf) hq) hF (fun f5 rv5 h5 q7 R5 e5 E5 hF => ?_)
      refine s_if (not_congr (i_eq e5.1 (c_lit 0 0 rfl) e5.2 ⟨by decide, by decide⟩)) hF (fun c6 hF => ?_) (fun c6 hF => ?_)
      ·
        exact SX35_read_b20 (N := N) (k0 := fX35_read_b0 N n) (K0 := FX35_read_b0 N n) hm @ih R5 hF
      ·
        exact g_ret R5 hF ⟨(c_lit (-1) (-1) rfl), ⟨by decide, by decide⟩⟩
def FX35_read (N : Nat) (s : fS) : Option (Int × fS) :=
  FX35_read_b0 N N s
theorem SX35_read {m b : Nat} {φ0 : Nat → Nat} {σo : fS} (hm : 1 ≤ m) {N : Nat} {q : Int × fS} {φ : Nat → Nat} {h : eH} {s : fS} (R : fC m b φ0 σo φ h s) (hF : FX35_read N s = some q) : gG m b φ0 σo lI q (fX35_read N 192 h) := by
  unfold FX35_read at hF
  unfold fX35_read
  exact SX35_read_b0 (N := N) hm R hF
def FX35_get (N : Nat) (s : fS) : Option (Int × fS) :=
  if (s.i 192 46) ≤ 0 then
    if (s.i 192 37) ≤ 0 then
      (FX35_read N s).bind fun q8 =>
      some (q8.1, q8.2)
    else
      (uPI s 192 37 (isub (s.i 192 37) 1)).bind fun σ11 =>
      (uRI σ11 278 (σ11.i 192 37)).bind fun x17 =>
      some (x17, σ11)
  else
    some ((-1), s)
theorem SX35_get {m b : Nat} {φ0 : Nat → Nat} {σo : fS} (hm : 1 ≤ m) {N : Nat} {q : Int × fS} {φ : Nat → Nat} {h : eH} {s : fS} (R : fC m b φ0 σo φ h s) (hF : FX35_get N s = some q) : gG m b φ0 σo lI q (fX35_get N 192 h) := by
  unfold FX35_get at hF
  unfold fX35_get
  refine s_gI R (t_192 hm R.S) (Nat.le_of_ble_eq_true rfl) rfl ?_
  refine s_if (i_le rfl (c_lit 0 0 rfl) (R.ri (t_192 hm R.S) (Nat.le_of_ble_eq_true rfl) rfl) ⟨by decide, by decide⟩) hF (fun c2 hF => ?_) (fun c2 hF => ?_)
  ·
    refine s_gI R (t_192 hm R.S) (Nat.le_of_ble_eq_true rfl) rfl ?_
    refine s_if (i_le rfl (c_lit 0 0 rfl) (R.ri (t_192 hm R.S) (Nat.le_of_ble_eq_true rfl) rfl) ⟨by decide, by decide⟩) hF (fun c4 hF => ?_) (fun c4 hF => ?_)
    ·
      refine s_kok R (t_192 hm R.S) (Nat.le_of_ble_eq_true rfl) ?_
      refine s_call R (Nat.zero_le _) (fun _ hq => SX35_read (b := 0) (N := N) hm (R.rf) hq) hF (fun f6 rv6 h6 q8 R6 e6 E6 hF => ?_)
      exact g_ret R6 hF ⟨e6.1, e6.2⟩
    ·
      refine s_gI R (t_192 hm R.S) (Nat.le_of_ble_eq_true rfl) rfl ?_
      refine s_pI R (t_192 hm R.S) (Nat.le_of_ble_eq_true rfl) rfl (c_sub rfl (c_lit 1 1 rfl)) (rr_I _) hF (fun h8 σ11 R8 T8 hF => ?_)
      refine s_gAs R8 (t_192 hm R8.S) (Nat.le_of_ble_eq_true rfl) rfl (o_192_38 hm R8.S) (a_278 hm R8) ?_
      refine s_gI R8 (t_192 hm R8.S) (Nat.le_of_ble_eq_true rfl) rfl ?_
      refine s_rI R8 (u_278 hm R8.S).1 (u_278 hm R8.S).2 (by decide) (a_278 hm R8) rfl (R8.ri (t_192 hm R8.S) (Nat.le_of_ble_eq_true rfl) rfl) hF (fun x17 ra11 hF => ?_)
      exact g_ret R8 hF ⟨rfl, ra11⟩
  ·
    exact g_ret R hF ⟨(c_lit (-1) (-1) rfl), ⟨by decide, by decide⟩⟩
def FX35_need_b16 (N : Nat) (l1 : Int) (s : fS) : Option (Int × fS) :=
  some (l1, s)
theorem SX35_need_b16 {m b : Nat} {φ0 : Nat → Nat} {σo : fS} (hm : 1 ≤ m) {N : Nat} {q : Int × fS} {φ : Nat → Nat} {h : eH} {s : fS} {l1' : Int32} {l1 : Int} (R : fC m b φ0 σo φ h s) (el1 : l1' = iI l1) (rl1 : r32 l1) (hF : FX35_need_b16 N l1 s = some q) : gG m b φ0 σo lI q (fX35_need_b16 N l1' h) := by
  subst el1
  unfold FX35_need_b16 at hF
  unfold fX35_need_b16
  exact g_ret R hF ⟨rfl, rl1⟩
def FX35_need (N : Nat) (s : fS) : Option (Int × fS) :=
  (FX35_get N s).bind fun q2 =>
  if ¬ (q2.1 = (-1)) then
    FX35_need_b16 N q2.1 q2.2
  else
    (FX35_fail 9 q2.2).bind fun q5 =>
    FX35_need_b16 N q2.1 q5.2
theorem SX35_need {m b : Nat} {φ0 : Nat → Nat} {σo : fS} (hm : 1 ≤ m) {N : Nat} {q : Int × fS} {φ : Nat → Nat} {h : eH} {s : fS} (R : fC m b φ0 σo φ h s) (hF : FX35_need N s = some q) : gG m b φ0 σo lI q (fX35_need N 192 h) := by
  unfold FX35_need at hF
  unfold fX35_need
  refine s_kok R (t_192 hm R.S) (Nat.le_of_ble_eq_true rfl) ?_
  refine s_call R (Nat.zero_le _) (fun _ hq => SX35_get (b := 0) (N := N) hm (R.rf) hq) hF (fun f2 rv2 h2 q2 R2 e2 E2 hF => ?_)
  refine s_if (not_congr (i_eq e2.1 (c_lit (-1) (-1) rfl) e2.2 ⟨by decide, by decide⟩)) hF (fun c3 hF => ?_) (fun c3 hF => ?_)
  ·
    exact SX35_need_b16 (N := N) hm R2 e2.1 e2.2 hF
  ·
    refine s_kok R2 (t_192 hm R2.S) (Nat.le_of_ble_eq_true rfl) ?_
    refine s_call R2 (Nat.zero_le _) (fun _ hq => SX35_fail (b := 0) hm (R2.rf) (c_lit 9 9 rfl) ⟨by decide, by decide⟩ hq) hF (fun f5 rv5 h5 q5 R5 e5 E5 hF => ?_)
    exact SX35_need_b16 (N := N) hm R5 e2.1 e2.2 hF
def FX35_isMarked_b12 (s0 : Int) (s : fS) : Option (Int × fS) :=
  uZ s0 (s0, s)
theorem SX35_isMarked_b12 {m b : Nat} {φ0 : Nat → Nat} {σo : fS} (hm : 1 ≤ m) {q : Int × fS} {φ : Nat → Nat} {h : eH} {s : fS} {s0' : Int32} {s0 : Int} (R : fC m b φ0 σo φ h s) (es0 : s0' = iI s0) (rs0 : r32 s0) (hF : FX35_isMarked_b12 s0 s = some q) : gG m b φ0 σo lI q (fX35_isMarked_b12 s0' h) := by
  subst es0
  unfold FX35_isMarked_b12 at hF
  unfold fX35_isMarked_b12
  exact g_z R rfl hF ⟨rfl, rs0⟩
def FX35_isMarked (p0 : Int) (s : fS) : Option (Int × fS) :=
  if p0 < 524288 then
    FX35_isMarked_b12 0 s
  else
    FX35_isMarked_b12 1 s
theorem SX35_isMarked {m b : Nat} {φ0 : Nat → Nat} {σo : fS} (hm : 1 ≤ m) {q : Int × fS} {φ : Nat → Nat} {h : eH} {s : fS} {p0' : Int32} {p0 : Int} (R : fC m b φ0 σo φ h s) (ep0 : p0' = iI p0) (rp0 : r32 p0) (hF : FX35_isMarked p0 s = some q) : gG m b φ0 σo lI q (fX35_isMarked p0' h) := by
  subst ep0
  unfold FX35_isMarked at hF
  unfold fX35_isMarked
  refine s_if (i_lt rfl (c_lit 524288 524288 rfl) rp0 ⟨by decide, by decide⟩) hF (fun c1 hF => ?_) (fun c1 hF => ?_)
  ·
    exact SX35_isMarked_b12 hm R (c_lit 0 0 rfl) ⟨by decide, by decide⟩ hF
  ·
    exact SX35_isMarked_b12 hm R (c_lit 1 1 rfl) ⟨by decide, by decide⟩ hF
def FX35_idOf_b28 (s0 : Int) (s : fS) : Option (Int × fS) :=
  some (s0, s)
theorem SX35_idOf_b28 {m b : Nat} {φ0 : Nat → Nat} {σo : fS} (hm : 1 ≤ m) {q : Int × fS} {φ : Nat → Nat} {h : eH} {s : fS} {s0' : Int32} {s0 : Int} (R : fC m b φ0 σo φ h s) (es0 : s0' = iI s0) (rs0 : r32 s0) (hF : FX35_idOf_b28 s0 s = some q) : gG m b φ0 σo lI q (fX35_idOf_b28 s0' h) := by
  subst es0
  unfold FX35_idOf_b28 at hF
  unfold fX35_idOf_b28
  exact g_ret R hF ⟨rfl, rs0⟩
def FX35_idOf (p0 : Int) (s : fS) : Option (Int × fS) :=
  (FX35_bare p0 s).bind fun q1 =>
  if q1.1 < 131072 then
    FX35_idOf_b28 (isub q1.1 65536) q1.2
  else
    FX35_idOf_b28 (isub (iadd 1200 q1.1) 131072) q1.2
theorem SX35_idOf {m b : Nat} {φ0 : Nat → Nat} {σo : fS} (hm : 1 ≤ m) {q : Int × fS} {φ : Nat → Nat} {h : eH} {s : fS} {p0' : Int32} {p0 : Int} (R : fC m b φ0 σo φ h s) (ep0 : p0' = iI p0) (rp0 : r32 p0) (hF : FX35_idOf p0 s = some q) : gG m b φ0 σo lI q (fX35_idOf 192 p0' h) := by
  subst ep0
  unfold FX35_idOf at hF
  unfold fX35_idOf
  refine s_call R (Nat.zero_le _) (fun _ hq => SX35_bare (b := 0) hm (R.rf) rfl rp0 hq) hF (fun f1 rv1 h1 q1 R1 e1 E1 hF => ?_)
  refine s_if (i_lt e1.1 (c_lit 131072 131072 rfl) e1.2 ⟨by decide, by decide⟩) hF (fun c2 hF => ?_) (fun c2 hF => ?_)
  ·
    exact SX35_idOf_b28 hm R1 (c_sub e1.1 (c_lit 65536 65536 rfl)) (rr_I _) hF
  ·
    exact SX35_idOf_b28 hm R1 (c_sub (c_add (c_lit 1200 1200 rfl) e1.1) (c_lit 131072 131072 rfl)) (rr_I _) hF
def FX35_meaning_b35 (s0 : Int) (s : fS) : Option (Int × fS) :=
  some (s0, s)
theorem SX35_meaning_b35 {m b : Nat} {φ0 : Nat → Nat} {σo : fS} (hm : 1 ≤ m) {q : Int × fS} {φ : Nat → Nat} {h : eH} {s : fS} {s0' : Int32} {s0 : Int} (R : fC m b φ0 σo φ h s) (es0 : s0' = iI s0) (rs0 : r32 s0) (hF : FX35_meaning_b35 s0 s = some q) : gG m b φ0 σo lI q (fX35_meaning_b35 s0' h) := by
  subst es0
  unfold FX35_meaning_b35 at hF
  unfold fX35_meaning_b35
  exact g_ret R hF ⟨rfl, rs0⟩
def FX35_meaning (p0 : Int) (s : fS) : Option (Int × fS) :=
  (FX35_isMarked p0 s).bind fun q1 =>
  if q1.1 = 0 then
    (FX35_isCharacter p0 q1.2).bind fun q3 =>
    if q3.1 = 0 then
      (FX35_idOf p0 q3.2).bind fun q6 =>
      (FX35_now q6.1 q6.2).bind fun q8 =>
      FX35_meaning_b35 q8.1 q8.2
    else
      FX35_meaning_b35 (iadd 2000000 p0) q3.2
  else
    some (1022, q1.2)
theorem SX35_meaning {m b : Nat} {φ0 : Nat → Nat} {σo : fS} (hm : 1 ≤ m) {q : Int × fS} {φ : Nat → Nat} {h : eH} {s : fS} {p0' : Int32} {p0 : Int} (R : fC m b φ0 σo φ h s) (ep0 : p0' = iI p0) (rp0 : r32 p0) (hF : FX35_meaning p0 s = some q) : gG m b φ0 σo lI q (fX35_meaning 192 p0' h) := by
  subst ep0
  unfold FX35_meaning at hF
  unfold fX35_meaning
  refine s_call R (Nat.zero_le _) (fun _ hq => SX35_isMarked (b := 0) hm (R.rf) rfl rp0 hq) hF (fun f1 rv1 h1 q1 R1 e1 E1 hF => ?_)
  refine s_if (i_eq e1.1 (c_lit 0 0 rfl) e1.2 ⟨by decide, by decide⟩) hF (fun c2 hF => ?_) (fun c2 hF => ?_)
  ·
    refine s_call R1 (Nat.zero_le _) (fun _ hq => SX35_isCharacter (b := 0) hm (R1.rf) rfl rp0 hq) hF (fun f3 rv3 h3 q3 R3 e3 E3 hF => ?_)
    refine s_if (i_eq e3.1 (c_lit 0 0 rfl) e3.2 ⟨by decide, by decide⟩) hF (fun c4 hF => ?_) (fun c4 hF => ?_)
    ·
      refine s_kok R3 (t_192 hm R3.S) (Nat.le_of_ble_eq_true rfl) ?_
      refine s_call R3 (Nat.zero_le _) (fun _ hq => SX35_idOf (b := 0) hm (R3.rf) rfl rp0 hq) hF (fun f6 rv6 h6 q6 R6 e6 E6 hF => ?_)
      refine s_kok R6 (t_192 hm R6.S) (Nat.le_of_ble_eq_true rfl) ?_
      refine s_call R6 (Nat.zero_le _) (fun _ hq => SX35_now (b := 0) hm (R6.rf) e6.1 e6.2 hq) hF (fun f8 rv8 h8 q8 R8 e8 E8 hF => ?_)
      exact SX35_meaning_b35 hm R8 e8.1 e8.2 hF
    ·
      exact SX35_meaning_b35 hm R3 (c_add (c_lit 2000000 2000000 rfl) rfl) (rr_I _) hF
  ·
    exact g_ret R1 hF ⟨(c_lit 1022 1022 rfl), ⟨by decide, by decide⟩⟩
def FX35_isCondition_b25 (s0 : Int) (s : fS) : Option (Int × fS) :=
  uZ s0 (s0, s)
theorem SX35_isCondition_b25 {m b : Nat} {φ0 : Nat → Nat} {σo : fS} (hm : 1 ≤ m) {q : Int × fS} {φ : Nat → Nat} {h : eH} {s : fS} {s0' : Int32} {s0 : Int} (R : fC m b φ0 σo φ h s) (es0 : s0' = iI s0) (rs0 : r32 s0) (hF : FX35_isCondition_b25 s0 s = some q) : gG m b φ0 σo lI q (fX35_isCondition_b25 s0' h) := by
  subst es0
  unfold FX35_isCondition_b25 at hF
  unfold fX35_isCondition_b25
  exact g_z R rfl hF ⟨rfl, rs0⟩
def FX35_isCondition_b24 (s : fS) : Option (Int × fS) :=
  FX35_isCondition_b25 0 s
theorem SX35_isCondition_b24 {m b : Nat} {φ0 : Nat → Nat} {σo : fS} (hm : 1 ≤ m) {q : Int × fS} {φ : Nat → Nat} {h : eH} {s : fS} (R : fC m b φ0 σo φ h s) (hF : FX35_isCondition_b24 s = some q) : gG m b φ0 σo lI q (fX35_isCondition_b24 h) := by
  unfold FX35_isCondition_b24 at hF
  unfold fX35_isCondition_b24
  exact SX35_isCondition_b25 hm R (c_lit 0 0 rfl) ⟨by decide, by decide⟩ hF
def FX35_isCondition (p0 : Int) (s : fS) : Option (Int × fS) :=
  (FX35_meaning p0 s).bind fun q2 =>
  if q2.1 < 1007 then
    FX35_isCondition_b24 q2.2
  else
    if 1018 < q2.1 then
      FX35_isCondition_b24 q2.2
    else
      FX35_isCondition_b25 1 q2.2
theorem SX35_isCondition {m b : Nat} {φ0 : Nat → Nat} {σo : fS} (hm : 1 ≤ m) {q : Int × fS} {φ : Nat → Nat} {h : eH} {s : fS} {p0' : Int32} {p0 : Int} (R : fC m b φ0 σo φ h s) (ep0 : p0' = iI p0) (rp0 : r32 p0) (hF : FX35_isCondition p0 s = some q) : gG m b φ0 σo lI q (fX35_isCondition 192 p0' h) := by
  subst ep0
  unfold FX35_isCondition at hF
  unfold fX35_isCondition
  refine s_kok R (t_192 hm R.S) (Nat.le_of_ble_eq_true rfl) ?_
  refine s_call R (Nat.zero_le _) (fun _ hq => SX35_meaning (b := 0) hm (R.rf) rfl rp0 hq) hF (fun f2 rv2 h2 q2 R2 e2 E2 hF => ?_)
  refine s_if (i_lt e2.1 (c_lit 1007 1007 rfl) e2.2 ⟨by decide, by decide⟩) hF (fun c3 hF => ?_) (fun c3 hF => ?_)
  ·
    exact SX35_isCondition_b24 hm R2 hF
  ·
    refine s_if (i_lt (c_lit 1018 1018 rfl) e2.1 ⟨by decide, by decide⟩ e2.2) hF (fun c4 hF => ?_) (fun c4 hF => ?_)
    ·
      exact SX35_isCondition_b24 hm R2 hF
    ·
      exact SX35_isCondition_b25 hm R2 (c_lit 1 1 rfl) ⟨by decide, by decide⟩ hF
def FX35_means_b23 (s0 : Int) (s : fS) : Option (Int × fS) :=
  uZ s0 (s0, s)
theorem SX35_means_b23 {m b : Nat} {φ0 : Nat → Nat} {σo : fS} (hm : 1 ≤ m) {q : Int × fS} {φ : Nat → Nat} {h : eH} {s : fS} {s0' : Int32} {s0 : Int} (R : fC m b φ0 σo φ h s) (es0 : s0' = iI s0) (rs0 : r32 s0) (hF : FX35_means_b23 s0 s = some q) : gG m b φ0 σo lI q (fX35_means_b23 s0' h) := by
  subst es0
  unfold FX35_means_b23 at hF
  unfold fX35_means_b23
  exact g_z R rfl hF ⟨rfl, rs0⟩
def FX35_means_b22 (s : fS) : Option (Int × fS) :=
  FX35_means_b23 0 s
theorem SX35_means_b22 {m b : Nat} {φ0 : Nat → Nat} {σo : fS} (hm : 1 ≤ m) {q : Int × fS} {φ : Nat → Nat} {h : eH} {s : fS} (R : fC m b φ0 σo φ h s) (hF : FX35_means_b22 s = some q) : gG m b φ0 σo lI q (fX35_means_b22 h) := by
  unfold FX35_means_b22 at hF
  unfold fX35_means_b22
  exact SX35_means_b23 hm R (c_lit 0 0 rfl) ⟨by decide, by decide⟩ hF
def FX35_means (p0 : Int) (p1 : Int) (s : fS) : Option (Int × fS) :=
  if p0 = (-1) then
    FX35_means_b22 s
  else
    (FX35_meaning p0 s).bind fun q3 =>
    if ¬ (q3.1 = (iadd 1000 p1)) then
      FX35_means_b22 q3.2
    else
      FX35_means_b23 1 q3.2
theorem SX35_means {m b : Nat} {φ0 : Nat → Nat} {σo : fS} (hm : 1 ≤ m) {q : Int × fS} {φ : Nat → Nat} {h : eH} {s : fS} {p0' : Int32} {p0 : Int} {p1' : Int32} {p1 : Int} (R : fC m b φ0 σo φ h s) (ep0 : p0' = iI p0) (rp0 : r32 p0) (ep1 : p1' = iI p1) (rp1 : r32 p1) (hF : FX35_means p0 p1 s = some q) : gG m b φ0 σo lI q (fX35_means 192 p0' p1' h) := by
  subst ep0; subst ep1
  unfold FX35_means at hF
  unfold fX35_means
  refine s_if (i_eq rfl (c_lit (-1) (-1) rfl) rp0 ⟨by decide, by decide⟩) hF (fun c1 hF => ?_) (fun c1 hF => ?_)
  ·
    exact SX35_means_b22 hm R hF
  ·
    refine s_kok R (t_192 hm R.S) (Nat.le_of_ble_eq_true rfl) ?_
    refine s_call R (Nat.zero_le _) (fun _ hq => SX35_meaning (b := 0) hm (R.rf) rfl rp0 hq) hF (fun f3 rv3 h3 q3 R3 e3 E3 hF => ?_)
    refine s_if (not_congr (i_eq e3.1 (c_add (c_lit 1000 1000 rfl) rfl) e3.2 (rr_I _))) hF (fun c4 hF => ?_) (fun c4 hF => ?_)
    ·
      exact SX35_means_b22 hm R3 hF
    ·
      exact SX35_means_b23 hm R3 (c_lit 1 1 rfl) ⟨by decide, by decide⟩ hF
def FX35_branch_b76 (N : Nat) (s : fS) : Option (Unit × fS) :=
  (FX35_fail 8 s).bind fun q2 =>
  some ((), q2.2)
theorem SX35_branch_b76 {m b : Nat} {φ0 : Nat → Nat} {σo : fS} (hm : 1 ≤ m) {N : Nat} {q : Unit × fS} {φ : Nat → Nat} {h : eH} {s : fS} (R : fC m b φ0 σo φ h s) (hF : FX35_branch_b76 N s = some q) : gG m b φ0 σo lU q (fX35_branch_b76 N 192 h) := by
  unfold FX35_branch_b76 at hF
  unfold fX35_branch_b76
  refine s_kok R (t_192 hm R.S) (Nat.le_of_ble_eq_true rfl) ?_
  refine s_call R (Nat.zero_le _) (fun _ hq => SX35_fail (b := 0) hm (R.rf) (c_lit 8 8 rfl) ⟨by decide, by decide⟩ hq) hF (fun f2 rv2 h2 q2 R2 e2 E2 hF => ?_)
  exact g_ret R2 hF trivial
def FX35_branch_b147 (N : Nat) (K86 : Int → Int → fS → Option (Unit × fS)) (l2 : Int) (s0 : Int) (s : fS) : Option (Unit × fS) :=
  K86 l2 s0 s
theorem SX35_branch_b147 {m b : Nat} {φ0 : Nat → Nat} {σo : fS} (hm : 1 ≤ m) {N : Nat} {k86 : Nat → Int32 → Int32 → eH → Option (Unit × eH)} {K86 : Int → Int → fS → Option (Unit × fS)} {q : Unit × fS} (hk86 : ∀ {φ : Nat → Nat} {h : eH} {s : fS} {l2' : Int32} {l2 : Int} {l4' : Int32} {l4 : Int}, fC m b φ0 σo φ h s → l2' = iI l2 → r32 l2 → l4' = iI l4 → r32 l4 → K86 l2 l4 s = some q → gG m b φ0 σo lU q (k86 192 l2' l4' h)) {φ : Nat → Nat} {h : eH} {s : fS} {l2' : Int32} {l2 : Int} {s0' : Int32} {s0 : Int} (R : fC m b φ0 σo φ h s) (el2 : l2' = iI l2) (rl2 : r32 l2) (es0 : s0' = iI s0) (rs0 : r32 s0) (hF : FX35_branch_b147 N K86 l2 s0 s = some q) : gG m b φ0 σo lU q (fX35_branch_b147 N k86 192 l2' s0' h) := by
  subst el2; subst es0
  unfold FX35_branch_b147 at hF
  unfold fX35_branch_b147
  exact hk86 R rfl rl2 rfl rs0 hF
def FX35_branch_b152 (N : Nat) (s : fS) : Option (Unit × fS) :=
  (uPI s 192 41 (isub (s.i 192 41) 1)).bind fun σ3 =>
  some ((), σ3)
theorem SX35_branch_b152 {m b : Nat} {φ0 : Nat → Nat} {σo : fS} (hm : 1 ≤ m) {N : Nat} {q : Unit × fS} {φ : Nat → Nat} {h : eH} {s : fS} (R : fC m b φ0 σo φ h s) (hF : FX35_branch_b152 N s = some q) : gG m b φ0 σo lU q (fX35_branch_b152 N 192 h) := by
  unfold FX35_branch_b152 at hF
  unfold fX35_branch_b152
  refine s_gI R (t_192 hm R.S) (Nat.le_of_ble_eq_true rfl) rfl ?_
  refine s_pI R (t_192 hm R.S) (Nat.le_of_ble_eq_true rfl) rfl (c_sub rfl (c_lit 1 1 rfl)) (rr_I _) hF (fun h2 σ3 R2 T2 hF => ?_)
  exact g_ret R2 hF trivial
def FX35_branch_b86 (N : Nat) : Nat → Int → Int → fS → Option (Unit × fS)
  | 0, _, _, _ => none
  | n + 1, l2, l4, s =>
    if l2 = 21 then
      FX35_branch_b152 N s
    else
      if l4 < 0 then
        FX35_branch_b152 N s
      else
        (FX35_need N s).bind fun q4 =>
        if (q4.2.i 192 46) ≤ 0 then
          (FX35_isCondition q4.1 q4.2).bind fun q9 =>
          if q9.1 = 0 then
            (FX35_means q4.1 21 q9.2).bind fun q12 =>
            if q12.1 = 0 then
              FX35_branch_b147 N (FX35_branch_b86 N n) l2 l4 q12.2
            else
              FX35_branch_b147 N (FX35_branch_b86 N n) l2 (isub l4 1) q12.2
          else
            FX35_branch_b147 N (FX35_branch_b86 N n) l2 (iadd l4 1) q9.2
        else
          some ((), q4.2)
theorem SX35_branch_b86 {m b : Nat} {φ0 : Nat → Nat} {σo : fS} (hm : 1 ≤ m) {N : Nat} {q : Unit × fS} : ∀ {n : Nat} {φ : Nat → Nat} {h : eH} {s : fS} {l2' : Int32} {l2 : Int} {l4' : Int32} {l4 : Int}, fC m b φ0 σo φ h s → l2' = iI l2 → r32 l2 → l4' = iI l4 → r32 l4 → FX35_branch_b86 N n l2 l4 s = some q → gG m b φ0 σo lU q (fX35_branch_b86 N n 192 l2' l4' h) := by
  intro n
  induction n with
 | zero => intro φ h s l2' l2 l4' l4 R el2 rl2 el4 rl4 hF; simp [FX35_branch_b86] at hF
  | succ n ih =>
    intro φ h s l2' l2 l4' l4 R el2 rl2 el4 rl4 hF
    subst el2; subst el4
    rw [FX35_branch_b86] at hF
    rw [fX35_branch_b86]
    refine s_if (i_eq rfl (c_lit 21 21 rfl) rl2 ⟨by decide, by decide⟩) hF (fun c1 hF => ?_) (fun c1 hF => ?_)
    ·
      exact SX35_branch_b152 (N := N) hm R hF
    ·
      refine s_if (i_lt rfl (c_lit 0 0 rfl) rl4 ⟨by decide, by decide⟩) hF (fun c2 hF => ?_) (fun c2 hF => ?_)
      ·
        exact SX35_branch_b152 (N := N) hm R hF
      ·
        refine s_kok R (t_192 hm R.S) (Nat.le_of_ble_eq_true rfl) ?_
        refine s_call R (Nat.zero_le _) (fun _ hq => SX35_need (b := 0) (N := N) hm (R.rf) hq) hF (fun f4 rv4 h4 q4 R4 e4 E4 hF => ?_)
        refine s_gI R4 (t_192 hm R4.S) (Nat.le_of_ble_eq_true rfl) rfl ?_
        refine s_if (i_le rfl (c_lit 0 0 rfl) (R4.ri (t_192 hm R4.S) (Nat.le_of_ble_eq_true rfl) rfl) ⟨by decide, by decide⟩) hF (fun c6 hF => ?_) (fun c6 hF => ?_)
        ·
          refine s_kok R4 (t_192 hm R4.S) (Nat.le_of_ble_eq_true rfl) ?_
          refine s_call R4 (Nat.zero_le _) (fun _ hq => SX35_isCondition (b := 0) hm (R4.rf) e4.1 e4.2 hq) hF (fun f8 rv8 h8 q9 R8 e8 E8 hF => ?_)
          refine s_if (i_eq e8.1 (c_lit 0 0 rfl) e8.2 ⟨by decide, by decide⟩) hF (fun c9 hF => ?_) (fun c9 hF => ?_)
          ·
            refine s_kok R8 (t_192 hm R8.S) (Nat.le_of_ble_eq_true rfl) ?_
            refine s_call R8 (Nat.zero_le _) (fun _ hq => SX35_means (b := 0) hm (R8.rf) e4.1 e4.2 (c_lit 21 21 rfl) ⟨by decide, by decide⟩ hq) hF (fun f11 rv11 h11 q12 R11 e11 E11 hF => ?_)
            refine s_if (i_eq e11.1 (c_lit 0 0 rfl) e11.2 ⟨by decide, by decide⟩) hF (fun c12 hF => ?_) (fun c12 hF => ?_)
            ·
              exact SX35_branch_b147 (N := N) (k86 := fX35_branch_b86 N n) (K86 := FX35_branch_b86 N n) hm @ih R11 rfl rl2 rfl rl4 hF
            ·
              exact SX35_branch_b147 (N := N) (k86 := fX35_branch_b86 N n) (K86 := FX35_branch_b86 N n) hm @ih R11 rfl rl2 (c_sub rfl (c_lit 1 1 rfl)) (rr_I _) hF
          ·
            exact SX35_branch_b147 (N := N) (k86 := fX35_branch_b86 N n) (K86 := FX35_branch_b86 N n) hm @ih R8 rfl rl2 (c_add rfl (c_lit 1 1 rfl)) (rr_I _) hF
        ·
          exact g_ret R4 hF trivial
def FX35_branch_b83 (N : Nat) (l2 : Int) (s : fS) : Option (Unit × fS) :=
  FX35_branch_b86 N N l2 0 s
theorem SX35_branch_b83 {m b : Nat} {φ0 : Nat → Nat} {σo : fS} (hm : 1 ≤ m) {N : Nat} {q : Unit × fS} {φ : Nat → Nat} {h : eH} {s : fS} {l2' : Int32} {l2 : Int} (R : fC m b φ0 σo φ h s) (el2 : l2' = iI l2) (rl2 : r32 l2) (hF : FX35_branch_b83 N l2 s = some q) : gG m b φ0 σo lU q (fX35_branch_b83 N 192 l2' h) := by
  subst el2
  unfold FX35_branch_b83 at hF
  unfold fX35_branch_b83
  exact SX35_branch_b86 (N := N) hm R rfl rl2 (c_lit 0 0 rfl) ⟨by decide, by decide⟩ hF
def FX35_branch_b61 (N : Nat) (l2 : Int) (l3 : Int) (s : fS) : Option (Unit × fS) :=
  if ¬ (l2 = 20) then
    FX35_branch_b83 N l2 s
  else
    (uRI s 281 l3).bind fun x4 =>
    if ¬ (x4 = 0) then
      FX35_branch_b83 N l2 s
    else
      FX35_branch_b76 N s
theorem SX35_branch_b61 {m b : Nat} {φ0 : Nat → Nat} {σo : fS} (hm : 1 ≤ m) {N : Nat} {q : Unit × fS} {φ : Nat → Nat} {h : eH} {s : fS} {l2' : Int32} {l2 : Int} {l3' : Int32} {l3 : Int} (R : fC m b φ0 σo φ h s) (el2 : l2' = iI l2) (rl2 : r32 l2) (el3 : l3' = iI l3) (rl3 : r32 l3) (hF : FX35_branch_b61 N l2 l3 s = some q) : gG m b φ0 σo lU q (fX35_branch_b61 N 192 l2' l3' h) := by
  subst el2; subst el3
  unfold FX35_branch_b61 at hF
  unfold fX35_branch_b61
  refine s_if (not_congr (i_eq rfl (c_lit 20 20 rfl) rl2 ⟨by decide, by decide⟩)) hF (fun c1 hF => ?_) (fun c1 hF => ?_)
  ·
    exact SX35_branch_b83 (N := N) hm R rfl rl2 hF
  ·
    refine s_gAs R (t_192 hm R.S) (Nat.le_of_ble_eq_true rfl) rfl (o_192_42 hm R.S) (a_281 hm R) ?_
    refine s_rI R (u_281 hm R.S).1 (u_281 hm R.S).2 (by decide) (a_281 hm R) rfl rl3 hF (fun x4 ra3 hF => ?_)
    refine s_if (not_congr (i_eq rfl (c_lit 0 0 rfl) ra3 ⟨by decide, by decide⟩)) hF (fun c4 hF => ?_) (fun c4 hF => ?_)
    ·
      exact SX35_branch_b83 (N := N) hm R rfl rl2 hF
    ·
      exact SX35_branch_b76 (N := N) hm R hF
def FX35_branch_b34 (N : Nat) (l2 : Int) (s : fS) : Option (Unit × fS) :=
  if (isub (s.i 192 41) 1) < 0 then
    FX35_branch_b76 N s
  else
    if l2 = 21 then
      FX35_branch_b61 N l2 (isub (s.i 192 41) 1) s
    else
      (uRI s 282 (isub (s.i 192 41) 1)).bind fun x7 =>
      if x7 = 2 then
        FX35_branch_b76 N s
      else
        FX35_branch_b61 N l2 (isub (s.i 192 41) 1) s
theorem SX35_branch_b34 {m b : Nat} {φ0 : Nat → Nat} {σo : fS} (hm : 1 ≤ m) {N : Nat} {q : Unit × fS} {φ : Nat → Nat} {h : eH} {s : fS} {l2' : Int32} {l2 : Int} (R : fC m b φ0 σo φ h s) (el2 : l2' = iI l2) (rl2 : r32 l2) (hF : FX35_branch_b34 N l2 s = some q) : gG m b φ0 σo lU q (fX35_branch_b34 N 192 l2' h) := by
  subst el2
  unfold FX35_branch_b34 at hF
  unfold fX35_branch_b34
  refine s_gI R (t_192 hm R.S) (Nat.le_of_ble_eq_true rfl) rfl ?_
  refine s_if (i_lt (c_sub rfl (c_lit 1 1 rfl)) (c_lit 0 0 rfl) (rr_I _) ⟨by decide, by decide⟩) hF (fun c2 hF => ?_) (fun c2 hF => ?_)
  ·
    exact SX35_branch_b76 (N := N) hm R hF
  ·
    refine s_if (i_eq rfl (c_lit 21 21 rfl) rl2 ⟨by decide, by decide⟩) hF (fun c3 hF => ?_) (fun c3 hF => ?_)
    ·
      exact SX35_branch_b61 (N := N) hm R rfl rl2 (c_sub rfl (c_lit 1 1 rfl)) (rr_I _) hF
    ·
      refine s_gAs R (t_192 hm R.S) (Nat.le_of_ble_eq_true rfl) rfl (o_192_43 hm R.S) (a_282 hm R) ?_
      refine s_rI R (u_282 hm R.S).1 (u_282 hm R.S).2 (by decide) (a_282 hm R) (c_sub rfl (c_lit 1 1 rfl)) (rr_I _) hF (fun x7 ra5 hF => ?_)
      refine s_if (i_eq rfl (c_lit 2 2 rfl) ra5 ⟨by decide, by decide⟩) hF (fun c6 hF => ?_) (fun c6 hF => ?_)
      ·
        exact SX35_branch_b76 (N := N) hm R hF
      ·
        exact SX35_branch_b61 (N := N) hm R rfl rl2 (c_sub rfl (c_lit 1 1 rfl)) (rr_I _) hF
def FX35_branch (N : Nat) (p0 : Int) (p1 : Int) (s : fS) : Option (Unit × fS) :=
  if (s.i 192 41) ≤ 0 then
    FX35_branch_b34 N p1 s
  else
    (uRI s 282 (isub (s.i 192 41) 1)).bind fun x8 =>
    if ¬ (x8 = 0) then
      FX35_branch_b34 N p1 s
    else
      (FX35_put p0 s).bind fun q12 =>
      (FX35_put 589846 q12.2).bind fun q14 =>
      some ((), q14.2)
theorem SX35_branch {m b : Nat} {φ0 : Nat → Nat} {σo : fS} (hm : 1 ≤ m) {N : Nat} {q : Unit × fS} {φ : Nat → Nat} {h : eH} {s : fS} {p0' : Int32} {p0 : Int} {p1' : Int32} {p1 : Int} (R : fC m b φ0 σo φ h s) (ep0 : p0' = iI p0) (rp0 : r32 p0) (ep1 : p1' = iI p1) (rp1 : r32 p1) (hF : FX35_branch N p0 p1 s = some q) : gG m b φ0 σo lU q (fX35_branch N 192 p0' p1' h) := by
  subst ep0; subst ep1
  unfold FX35_branch at hF
  unfold fX35_branch
  refine s_gI R (t_192 hm R.S) (Nat.le_of_ble_eq_true rfl) rfl ?_
  refine s_if (i_le rfl (c_lit 0 0 rfl) (R.ri (t_192 hm R.S) (Nat.le_of_ble_eq_true rfl) rfl) ⟨by decide, by decide⟩) hF (fun c2 hF => ?_) (fun c2 hF => ?_)
  ·
    exact SX35_branch_b34 (N := N) hm R rfl rp1 hF
  ·
    refine s_gAs R (t_192 hm R.S) (Nat.le_of_ble_eq_true rfl) rfl (o_192_43 hm R.S) (a_282 hm R) ?_
    refine s_gI R (t_192 hm R.S) (Nat.le_of_ble_eq_true rfl) rfl ?_
    refine s_rI R (u_282 hm R.S).1 (u_282 hm R.S).2 (by decide) (a_282 hm R) (c_sub rfl (c_lit 1 1 rfl)) (rr_I _) hF (fun x8 ra5 hF => ?_)
    refine s_if (not_congr (i_eq rfl (c_lit 0 0 rfl) ra5 ⟨by decide, by decide⟩)) hF (fun c6 hF => ?_) (fun c6 hF => ?_)
    ·
      exact SX35_branch_b34 (N := N) hm R rfl rp1 hF
    ·
      refine s_kok R (t_192 hm R.S) (Nat.le_of_ble_eq_true rfl) ?_
      refine s_call R (Nat.zero_le _) (fun _ hq => SX35_put (b := 0) hm (R.rf) rfl rp0 hq) hF (fun f8 rv8 h8 q12 R8 e8 E8 hF => ?_)
      refine s_kok R8 (t_192 hm R8.S) (Nat.le_of_ble_eq_true rfl) ?_
      refine s_call R8 (Nat.zero_le _) (fun _ hq => SX35_put (b := 0) hm (R8.rf) (c_lit 589846 589846 rfl) ⟨by decide, by decide⟩ hq) hF (fun f10 rv10 h10 q14 R10 e10 E10 hF => ?_)
      exact g_ret R10 hF trivial
def FX35_isSame_b16 (s0 : Int) (s : fS) : Option (Int × fS) :=
  uZ s0 (s0, s)
theorem SX35_isSame_b16 {m b : Nat} {φ0 : Nat → Nat} {σo : fS} (hm : 1 ≤ m) {q : Int × fS} {φ : Nat → Nat} {h : eH} {s : fS} {s0' : Int32} {s0 : Int} (R : fC m b φ0 σo φ h s) (es0 : s0' = iI s0) (rs0 : r32 s0) (hF : FX35_isSame_b16 s0 s = some q) : gG m b φ0 σo lI q (fX35_isSame_b16 s0' h) := by
  subst es0
  unfold FX35_isSame_b16 at hF
  unfold fX35_isSame_b16
  exact g_z R rfl hF ⟨rfl, rs0⟩
def FX35_isSame (p0 : Int) (p1 : Int) (s : fS) : Option (Int × fS) :=
  (FX35_bare p0 s).bind fun q1 =>
  (FX35_bare p1 q1.2).bind fun q2 =>
  if ¬ (q1.1 = q2.1) then
    FX35_isSame_b16 0 q2.2
  else
    FX35_isSame_b16 1 q2.2
theorem SX35_isSame {m b : Nat} {φ0 : Nat → Nat} {σo : fS} (hm : 1 ≤ m) {q : Int × fS} {φ : Nat → Nat} {h : eH} {s : fS} {p0' : Int32} {p0 : Int} {p1' : Int32} {p1 : Int} (R : fC m b φ0 σo φ h s) (ep0 : p0' = iI p0) (rp0 : r32 p0) (ep1 : p1' = iI p1) (rp1 : r32 p1) (hF : FX35_isSame p0 p1 s = some q) : gG m b φ0 σo lI q (fX35_isSame 192 p0' p1' h) := by
  subst ep0; subst ep1
  unfold FX35_isSame at hF
  unfold fX35_isSame
  refine s_call R (Nat.zero_le _) (fun _ hq => SX35_bare (b := 0) hm (R.rf) rfl rp0 hq) hF (fun f1 rv1 h1 q1 R1 e1 E1 hF => ?_)
  refine s_call R1 (Nat.zero_le _) (fun _ hq => SX35_bare (b := 0) hm (R1.rf) rfl rp1 hq) hF (fun f2 rv2 h2 q2 R2 e2 E2 hF => ?_)
  refine s_if (not_congr (i_eq e1.1 e2.1 e1.2 e2.2)) hF (fun c3 hF => ?_) (fun c3 hF => ?_)
  ·
    exact SX35_isSame_b16 hm R2 (c_lit 0 0 rfl) ⟨by decide, by decide⟩ hF
  ·
    exact SX35_isSame_b16 hm R2 (c_lit 1 1 rfl) ⟨by decide, by decide⟩ hF
def FX35_takeOne_b158 (N : Nat) (K86 : Int → Int → Int → Int → fS → Option (Unit × fS)) (l1 : Int) (l2 : Int) (l3 : Int) (l5 : Int) (s0 : Int) (s : fS) : Option (Unit × fS) :=
  if s0 ≤ 0 then
    K86 l1 l3 s0 l5 s
  else
    (uQI s 279 (iadd (imul 11000 l1) l5) l2).bind fun σ4 =>
    K86 l1 l3 s0 (iadd l5 1) σ4
theorem SX35_takeOne_b158 {m b : Nat} {φ0 : Nat → Nat} {σo : fS} (hm : 1 ≤ m) {N : Nat} {k86 : Nat → Int32 → Int32 → Int32 → Int32 → eH → Option (Unit × eH)} {K86 : Int → Int → Int → Int → fS → Option (Unit × fS)} {q : Unit × fS} (hk86 : ∀ {φ : Nat → Nat} {h : eH} {s : fS} {l1' : Int32} {l1 : Int} {l3' : Int32} {l3 : Int} {l4' : Int32} {l4 : Int} {l5' : Int32} {l5 : Int}, fC m b φ0 σo φ h s → l1' = iI l1 → r32 l1 → l3' = iI l3 → r32 l3 → l4' = iI l4 → r32 l4 → l5' = iI l5 → r32 l5 → K86 l1 l3 l4 l5 s = some q → gG m b φ0 σo lU q (k86 192 l1' l3' l4' l5' h)) {φ : Nat → Nat} {h : eH} {s : fS} {l1' : Int32} {l1 : Int} {l2' : Int32} {l2 : Int} {l3' : Int32} {l3 : Int} {l5' : Int32} {l5 : Int} {s0' : Int32} {s0 : Int} (R : fC m b φ0 σo φ h s) (el1 : l1' = iI l1) (rl1 : r32 l1) (el2 : l2' = iI l2) (rl2 : r32 l2) (el3 : l3' = iI l3) (rl3 : r32 l3) (el5 : l5' = iI l5) (rl5 : r32 l5) (es0 : s0' = iI s0) (rs0 : r32 s0) (hF : FX35_takeOne_b158 N K86 l1 l2 l3 l5 s0 s = some q) : gG m b φ0 σo lU q (fX35_takeOne_b158 N k86 192 l1' l2' l3' l5' s0' h) := by
  subst el1; subst el2; subst el3; subst el5; subst es0
  unfold FX35_takeOne_b158 at hF
  unfold fX35_takeOne_b158
  refine s_if (i_le rfl (c_lit 0 0 rfl) rs0 ⟨by decide, by decide⟩) hF (fun c1 hF => ?_) (fun c1 hF => ?_)
  ·
    exact hk86 R rfl rl1 rfl rl3 rfl rs0 rfl rl5 hF
  ·
    refine s_gAs R (t_192 hm R.S) (Nat.le_of_ble_eq_true rfl) rfl (o_192_39 hm R.S) (a_279 hm R) ?_
    refine s_qI R (u_279 hm R.S).1 (u_279 hm R.S).2 (by decide) (a_279 hm R) (c_add (c_mul (c_lit 11000 11000 rfl) rfl) rfl) (rr_I _) rfl rl2 hF (fun h3 σ4 R3 T3 hF => ?_)
    exact hk86 R3 rfl rl1 rfl rl3 rfl rs0 (c_add rfl (c_lit 1 1 rfl)) (rr_I _) hF
def FX35_takeOne_b118 (N : Nat) (K86 : Int → Int → Int → Int → fS → Option (Unit × fS)) (l1 : Int) (l2 : Int) (l3 : Int) (l4 : Int) (l5 : Int) (s : fS) : Option (Unit × fS) :=
  if (s.i 192 46) ≤ 0 then
    (FX35_isOf l2 1 s).bind fun q4 =>
    if q4.1 = 0 then
      (FX35_isOf l2 2 q4.2).bind fun q6 =>
      if q6.1 = 0 then
        FX35_takeOne_b158 N K86 l1 l2 l3 l5 l4 q6.2
      else
        FX35_takeOne_b158 N K86 l1 l2 l3 l5 (isub l4 1) q6.2
    else
      FX35_takeOne_b158 N K86 l1 l2 l3 l5 (iadd l4 1) q4.2
  else
    some ((), s)
theorem SX35_takeOne_b118 {m b : Nat} {φ0 : Nat → Nat} {σo : fS} (hm : 1 ≤ m) {N : Nat} {k86 : Nat → Int32 → Int32 → Int32 → Int32 → eH → Option (Unit × eH)} {K86 : Int → Int → Int → Int → fS → Option (Unit × fS)} {q : Unit × fS} (hk86 : ∀ {φ : Nat → Nat} {h : eH} {s : fS} {l1' : Int32} {l1 : Int} {l3' : Int32} {l3 : Int} {l4' : Int32} {l4 : Int} {l5' : Int32} {l5 : Int}, fC m b φ0 σo φ h s → l1' = iI l1 → r32 l1 → l3' = iI l3 → r32 l3 → l4' = iI l4 → r32 l4 → l5' = iI l5 → r32 l5 → K86 l1 l3 l4 l5 s = some q → gG m b φ0 σo lU q (k86 192 l1' l3' l4' l5' h)) {φ : Nat → Nat} {h : eH} {s : fS} {l1' : Int32} {l1 : Int} {l2' : Int32} {l2 : Int} {l3' : Int32} {l3 : Int} {l4' : Int32} {l4 : Int} {l5' : Int32} {l5 : Int} (R : fC m b φ0 σo φ h s) (el1 : l1' = iI l1) (rl1 : r32 l1) (el2 : l2' = iI l2) (rl2 : r32 l2) (el3 : l3' = iI l3) (rl3 : r32 l3) (el4 : l4' = iI l4) (rl4 : r32 l4) (el5 : l5' = iI l5) (rl5 : r32 l5) (hF : FX35_takeOne_b118 N K86 l1 l2 l3 l4 l5 s = some q) : gG m b φ0 σo lU q (fX35_takeOne_b118 N k86 192 l1' l2' l3' l4' l5' h) := by
  subst el1; subst el2; subst el3; subst el4; subst el5
  unfold FX35_takeOne_b118 at hF
  unfold fX35_takeOne_b118
  refine s_gI R (t_192 hm R.S) (Nat.le_of_ble_eq_true rfl) rfl ?_
  refine s_if (i_le rfl (c_lit 0 0 rfl) (R.ri (t_192 hm R.S) (Nat.le_of_ble_eq_true rfl) rfl) ⟨by decide, by decide⟩) hF (fun c2 hF => ?_) (fun c2 hF => ?_)
  ·
    refine s_call R (Nat.zero_le _) (fun _ hq => SX35_isOf (b := 0) hm (R.rf) rfl rl2 (c_lit 1 1 rfl) ⟨by decide, by decide⟩ hq) hF (fun f3 rv3 h3 q4 R3 e3 E3 hF => ?_)
    refine s_if (i_eq e3.1 (c_lit 0 0 rfl) e3.2 ⟨by decide, by decide⟩) hF (fun c4 hF => ?_) (fun c4 hF => ?_)
    ·
      refine s_call R3 (Nat.zero_le _) (fun _ hq => SX35_isOf (b := 0) hm (R3.rf) rfl rl2 (c_lit 2 2 rfl) ⟨by decide, by decide⟩ hq) hF (fun f5 rv5 h5 q6 R5 e5 E5 hF => ?_)
      refine s_if (i_eq e5.1 (c_lit 0 0 rfl) e5.2 ⟨by decide, by decide⟩) hF (fun c6 hF => ?_) (fun c6 hF => ?_)
      ·
        exact SX35_takeOne_b158 (N := N) (k86 := k86) (K86 := K86) hm @hk86 R5 rfl rl1 rfl rl2 rfl rl3 rfl rl5 rfl rl4 hF
      ·
        exact SX35_takeOne_b158 (N := N) (k86 := k86) (K86 := K86) hm @hk86 R5 rfl rl1 rfl rl2 rfl rl3 rfl rl5 (c_sub rfl (c_lit 1 1 rfl)) (rr_I _) hF
    ·
      exact SX35_takeOne_b158 (N := N) (k86 := k86) (K86 := K86) hm @hk86 R3 rfl rl1 rfl rl2 rfl rl3 rfl rl5 (c_add rfl (c_lit 1 1 rfl)) (rr_I _) hF
  ·
    exact g_ret R hF trivial
def FX35_takeOne_b86 (N : Nat) : Nat → Int → Int → Int → Int → fS → Option (Unit × fS)
  | 0, _, _, _, _, _ => none
  | n + 1, l1, l3, l4, l5, s =>
    if l4 ≤ 0 then
      (uQI s 280 l1 l5).bind fun σ4 =>
      some ((), σ4)
    else
      (FX35_need N s).bind fun q7 =>
      if ¬ ((q7.2.i 192 46) = 0) then
        FX35_takeOne_b118 N (FX35_takeOne_b86 N n) l1 q7.1 (iadd l3 1) l4 l5 q7.2
      else
        if (iadd l3 1) ≤ 10000 then
          FX35_takeOne_b118 N (FX35_takeOne_b86 N n) l1 q7.1 (iadd l3 1) l4 l5 q7.2
        else
          (FX35_fail 2 q7.2).bind fun q13 =>
          FX35_takeOne_b118 N (FX35_takeOne_b86 N n) l1 q7.1 (iadd l3 1) l4 l5 q13.2
theorem SX35_takeOne_b86 {m b : Nat} {φ0 : Nat → Nat} {σo : fS} (hm : 1 ≤ m) {N : Nat} {q : Unit × fS} : ∀ {n : Nat} {φ : Nat → Nat} {h : eH} {s : fS} {l1' : Int32} {l1 : Int} {l3' : Int32} {l3 : Int} {l4' : Int32} {l4 : Int} {l5' : Int32} {l5 : Int}, fC m b φ0 σo φ h s → l1' = iI l1 → r32 l1 → l3' = iI l3 → r32 l3 → l4' = iI l4 → r32 l4 → l5' = iI l5 → r32 l5 → FX35_takeOne_b86 N n l1 l3 l4 l5 s = some q → gG m b φ0 σo lU q (fX35_takeOne_b86 N n 192 l1' l3' l4' l5' h) := by
  intro n
  induction n with
 | zero => intro φ h s l1' l1 l3' l3 l4' l4 l5' l5 R el1 rl1 el3 rl3 el4 rl4 el5 rl5 hF; simp [FX35_takeOne_b86] at hF
  | succ n ih =>
    intro φ h s l1' l1 l3' l3 l4' l4 l5' l5 R el1 rl1 el3 rl3 el4 rl4 el5 rl5 hF
    subst el1; subst el3; subst el4; subst el5
    rw [FX35_takeOne_b86] at hF
    rw [fX35_takeOne_b86]
    refine s_if (i_le rfl (c_lit 0 0 rfl) rl4 ⟨by decide, by decide⟩) hF (fun c1 hF => ?_) (fun c1 hF => ?_)
    ·
      refine s_gAs R (t_192 hm R.S) (Nat.le_of_ble_eq_true rfl) rfl (o_192_40 hm R.S) (a_280 hm R) ?_
      refine s_qI R (u_280 hm R.S).1 (u_280 hm R.S).2 (by decide) (a_280 hm R) rfl rl1 rfl rl5 hF (fun h3 σ4 R3 T3 hF => ?_)
      exact g_ret R3 hF trivial
    ·
      refine s_kok R (t_192 hm R.S) (Nat.le_of_ble_eq_true rfl) ?_
      refine s_call R (Nat.zero_le _) (fun _ hq => SX35_need (b := 0) (N := N) hm (R.rf) hq) hF (fun f5 rv5 h5 q7 R5 e5 E5 hF => ?_)
      refine s_gI R5 (t_192 hm R5.S) (Nat.le_of_ble_eq_true rfl) rfl ?_
      refine s_if (not_congr (i_eq rfl (c_lit 0 0 rfl) (R5.ri (t_192 hm R5.S) (Nat.le_of_ble_eq_true rfl) rfl) ⟨by decide, by decide⟩)) hF (fun c7 hF => ?_) (fun c7 hF => ?_)
      ·
        exact SX35_takeOne_b118 (N := N) (k86 := fX35_takeOne_b86 N n) (K86 := FX35_takeOne_b86 N n) hm @ih R5 rfl rl1 e5.1 e5.2 (c_add rfl (c_lit 1 1 rfl)) (rr_I _) rfl rl4 rfl rl5 hF
      ·
        refine s_if (i_le (c_add rfl (c_lit 1 1 rfl)) (c_lit 10000 10000 rfl) (rr_I _) ⟨by decide, by decide⟩) hF (fun c8 hF => ?_) (fun c8 hF => ?_)
        ·
          exact SX35_takeOne_b118 (N := N) (k86 := fX35_takeOne_b86 N n) (K86 := FX35_takeOne_b86 N n) hm @ih R5 rfl rl1 e5.1 e5.2 (c_add rfl (c_lit 1 1 rfl)) (rr_I _) rfl rl4 rfl rl5 hF
        ·
          refine s_kok R5 (t_192 hm R5.S) (Nat.le_of_ble_eq_true rfl) ?_
          refine s_call R5 (Nat.zero_le _) (fun _ hq => SX35_fail (b := 0) hm (R5.rf) (c_lit 2 2 rfl) ⟨by decide, by decide⟩ hq) hF (fun f10 rv10 h10 q13 R10 e10 E10 hF => ?_)
          exact SX35_takeOne_b118 (N := N) (k86 := fX35_takeOne_b86 N n) (K86 := FX35_takeOne_b86 N n) hm @ih R10 rfl rl1 e5.1 e5.2 (c_add rfl (c_lit 1 1 rfl)) (rr_I _) rfl rl4 rfl rl5 hF
def FX35_takeOne_b5 (N : Nat) : Nat → Int → Int → fS → Option (Unit × fS)
  | 0, _, _, _ => none
  | n + 1, l1, l2, s =>
    (FX35_isOf l2 10 s).bind fun q1 =>
    if q1.1 = 0 then
      (uQI q1.2 280 l1 0).bind fun σ5 =>
      if (σ5.i 192 46) ≤ 0 then
        (FX35_isOf l2 2 σ5).bind fun q10 =>
        if q10.1 = 0 then
          (FX35_isOf l2 1 q10.2).bind fun q12 =>
          if ¬ (q12.1 = 0) then
            FX35_takeOne_b86 N N l1 1 1 0 q12.2
          else
            (uQI q12.2 279 (imul 11000 l1) l2).bind fun σ16 =>
            (uQI σ16 280 l1 1).bind fun σ20 =>
            some ((), σ20)
        else
          (FX35_fail 5 q10.2).bind fun q23 =>
          some ((), q23.2)
      else
        some ((), σ5)
    else
      (FX35_need N q1.2).bind fun q25 =>
      FX35_takeOne_b5 N n l1 q25.1 q25.2
theorem SX35_takeOne_b5 {m b : Nat} {φ0 : Nat → Nat} {σo : fS} (hm : 1 ≤ m) {N : Nat} {q : Unit × fS} : ∀ {n : Nat} {φ : Nat → Nat} {h : eH} {s : fS} {l1' : Int32} {l1 : Int} {l2' : Int32} {l2 : Int}, fC m b φ0 σo φ h s → l1' = iI l1 → r32 l1 → l2' = iI l2 → r32 l2 → FX35_takeOne_b5 N n l1 l2 s = some q → gG m b φ0 σo lU q (fX35_takeOne_b5 N n 192 l1' l2' h) := by
  intro n
  induction n with
 | zero => intro φ h s l1' l1 l2' l2 R el1 rl1 el2 rl2 hF; simp [FX35_takeOne_b5] at hF
  | succ n ih =>
    intro φ h s l1' l1 l2' l2 R el1 rl1 el2 rl2 hF
    subst el1; subst el2
    rw [FX35_takeOne_b5] at hF
    rw [fX35_takeOne_b5]
    refine s_call R (Nat.zero_le _) (fun _ hq => SX35_isOf (b := 0) hm (R.rf) rfl rl2 (c_lit 10 10 rfl) ⟨by decide, by decide⟩ hq) hF (fun f1 rv1 h1 q1 R1 e1 E1 hF => ?_)
    refine s_if (i_eq e1.1 (c_lit 0 0 rfl) e1.2 ⟨by decide, by decide⟩) hF (fun c2 hF => ?_) (fun c2 hF => ?_)
    ·
      refine s_gAs R1 (t_192 hm R1.S) (Nat.le_of_ble_eq_true rfl) rfl (o_192_40 hm R1.S) (a_280 hm R1) ?_
      refine s_qI R1 (u_280 hm R1.S).1 (u_280 hm R1.S).2 (by decide) (a_280 hm R1) rfl rl1 (c_lit 0 0 rfl) ⟨by decide, by decide⟩ hF (fun h4 σ5 R4 T4 hF => ?_)
      refine s_gI R4 (t_192 hm R4.S) (Nat.le_of_ble_eq_true rfl) rfl ?_
      refine s_if (i_le rfl (c_lit 0 0 rfl) (R4.ri (t_192 hm R4.S) (Nat.le_of_ble_eq_true rfl) rfl) ⟨by decide, by decide⟩) hF (fun c6 hF => ?_) (fun c6 hF => ?_)
      ·
        refine s_call R4 (Nat.zero_le _) (fun _ hq => SX35_isOf (b := 0) hm (R4.rf) rfl rl2 (c_lit 2 2 rfl) ⟨by decide, by decide⟩ hq) hF (fun f7 rv7 h7 q10 R7 e7 E7 hF => ?_)
        refine s_if (i_eq e7.1 (c_lit 0 0 rfl) e7.2 ⟨by decide, by decide⟩) hF (fun c8 hF => ?_) (fun c8 hF => ?_)
        ·
          refine s_call R7 (Nat.zero_le _) (fun _ hq => SX35_isOf (b := 0) hm (R7.rf) rfl rl2 (c_lit 1 1 rfl) ⟨by decide, by decide⟩ hq) hF (fun f9 rv9 h9 q12 R9 e9 E9 hF => ?_)
          refine s_if (not_congr (i_eq e9.1 (c_lit 0 0 rfl) e9.2 ⟨by decide, by decide⟩)) hF (fun c10 hF => ?_) (fun c10 hF => ?_)
          ·
            exact SX35_takeOne_b86 (N := N) hm R9 rfl rl1 (c_lit 1 1 rfl) ⟨by decide, by decide⟩ (c_lit 1 1 rfl) ⟨by decide, by decide⟩ (c_lit 0 0 rfl) ⟨by decide, by decide⟩ hF
          ·
            refine s_gAs R9 (t_192 hm R9.S) (Nat.le_of_ble_eq_true rfl) rfl (o_192_39 hm R9.S) (a_279 hm R9) ?_
            refine s_qI R9 (u_279 hm R9.S).1 (u_279 hm R9.S).2 (by decide) (a_279 hm R9) (c_mul (c_lit 11000 11000 rfl) rfl) (rr_I _) rfl rl2 hF (fun h12 σ16 R12 T12 hF => ?_)
            refine s_gAs R12 (t_192 hm R12.S) (Nat.le_of_ble_eq_true rfl) rfl (o_192_40 hm R12.S) (a_280 hm R12) ?_
            refine s_qI R12 (u_280 hm R12.S).1 (u_280 hm R12.S).2 (by decide) (a_280 hm R12) rfl rl1 (c_lit 1 1 rfl) ⟨by decide, by decide⟩ hF (fun h14 σ20 R14 T14 hF => ?_)
            exact g_ret R14 hF trivial
        ·
          refine s_kok R7 (t_192 hm R7.S) (Nat.le_of_ble_eq_true rfl) ?_
          refine s_call R7 (Nat.zero_le _) (fun _ hq => SX35_fail (b := 0) hm (R7.rf) (c_lit 5 5 rfl) ⟨by decide, by decide⟩ hq) hF (fun f16 rv16 h16 q23 R16 e16 E16 hF => ?_)
          exact g_ret R16 hF trivial
      ·
        exact g_ret R4 hF trivial
    ·
      refine s_kok R1 (t_192 hm R1.S) (Nat.le_of_ble_eq_true rfl) ?_
      refine s_call R1 (Nat.zero_le _) (fun _ hq => SX35_need (b := 0) (N := N) hm (R1.rf) hq) hF (fun f18 rv18 h18 q25 R18 e18 E18 hF => ?_)
      exact ih R18 rfl rl1 e18.1 e18.2 hF
def FX35_takeOne (N : Nat) (p0 : Int) (s : fS) : Option (Unit × fS) :=
  (FX35_need N s).bind fun q2 =>
  FX35_takeOne_b5 N N p0 q2.1 q2.2
theorem SX35_takeOne {m b : Nat} {φ0 : Nat → Nat} {σo : fS} (hm : 1 ≤ m) {N : Nat} {q : Unit × fS} {φ : Nat → Nat} {h : eH} {s : fS} {p0' : Int32} {p0 : Int} (R : fC m b φ0 σo φ h s) (ep0 : p0' = iI p0) (rp0 : r32 p0) (hF : FX35_takeOne N p0 s = some q) : gG m b φ0 σo lU q (fX35_takeOne N 192 p0' h) := by
  subst ep0
  unfold FX35_takeOne at hF
  unfold fX35_takeOne
  refine s_kok R (t_192 hm R.S) (Nat.le_of_ble_eq_true rfl) ?_
  refine s_call R (Nat.zero_le _) (fun _ hq => SX35_need (b := 0) (N := N) hm (R.rf) hq) hF (fun f2 rv2 h2 q2 R2 e2 E2 hF => ?_)
  exact SX35_takeOne_b5 (N := N) hm R2 rfl rp0 e2.1 e2.2 hF
def FX35_takeUpTo_b207 (N : Nat) (K14 : Int → Int → Int → Int → Int → Int → fS → Option (Unit × fS)) (l1 : Int) (l2 : Int) (l4 : Int) (l5 : Int) (l6 : Int) (l7 : Int) (s : fS) : Option (Unit × fS) :=
  K14 l1 l2 l4 l5 l6 l7 s
theorem SX35_takeUpTo_b207 {m b : Nat} {φ0 : Nat → Nat} {σo : fS} (hm : 1 ≤ m) {N : Nat} {k14 : Nat → Int32 → Int32 → Int32 → Int32 → Int32 → Int32 → eH → Option (Unit × eH)} {K14 : Int → Int → Int → Int → Int → Int → fS → Option (Unit × fS)} {q : Unit × fS} (hk14 : ∀ {φ : Nat → Nat} {h : eH} {s : fS} {l1' : Int32} {l1 : Int} {l2' : Int32} {l2 : Int} {l4' : Int32} {l4 : Int} {l5' : Int32} {l5 : Int} {l6' : Int32} {l6 : Int} {l7' : Int32} {l7 : Int}, fC m b φ0 σo φ h s → l1' = iI l1 → r32 l1 → l2' = iI l2 → r32 l2 → l4' = iI l4 → r32 l4 → l5' = iI l5 → r32 l5 → l6' = iI l6 → r32 l6 → l7' = iI l7 → r32 l7 → K14 l1 l2 l4 l5 l6 l7 s = some q → gG m b φ0 σo lU q (k14 192 l1' l2' l4' l5' l6' l7' h)) {φ : Nat → Nat} {h : eH} {s : fS} {l1' : Int32} {l1 : Int} {l2' : Int32} {l2 : Int} {l4' : Int32} {l4 : Int} {l5' : Int32} {l5 : Int} {l6' : Int32} {l6 : Int} {l7' : Int32} {l7 : Int} (R : fC m b φ0 σo φ h s) (el1 : l1' = iI l1) (rl1 : r32 l1) (el2 : l2' = iI l2) (rl2 : r32 l2) (el4 : l4' = iI l4) (rl4 : r32 l4) (el5 : l5' = iI l5) (rl5 : r32 l5) (el6 : l6' = iI l6) (rl6 : r32 l6) (el7 : l7' = iI l7) (rl7 : r32 l7) (hF : FX35_takeUpTo_b207 N K14 l1 l2 l4 l5 l6 l7 s = some q) : gG m b φ0 σo lU q (fX35_takeUpTo_b207 N k14 192 l1' l2' l4' l5' l6' l7' h) := by
  subst el1; subst el2; subst el4; subst el5; subst el6; subst el7
  unfold FX35_takeUpTo_b207 at hF
  unfold fX35_takeUpTo_b207
  exact hk14 R rfl rl1 rfl rl2 rfl rl4 rfl rl5 rfl rl6 rfl rl7 hF
def FX35_takeUpTo_b155 (N : Nat) (K14 : Int → Int → Int → Int → Int → Int → fS → Option (Unit × fS)) : Nat → Int → Int → Int → Int → Int → Int → Int → fS → Option (Unit × fS)
  | 0, _, _, _, _, _, _, _, _ => none
  | n + 1, l1, l2, l4, l5, l6, l7, l9, s =>
    if l4 ≤ l9 then
      FX35_takeUpTo_b207 N K14 l1 l2 l4 l5 l6 l7 s
    else
      if l7 = 0 then
        FX35_takeUpTo_b207 N K14 l1 l2 l4 l5 l6 l7 s
      else
        (uRI s 279 (iadd (isub (iadd (imul 11000 l1) l5) l4) l9)).bind fun x5 =>
        (uRI s 277 (iadd l2 l9)).bind fun x9 =>
        (FX35_isSame x5 x9 s).bind fun q12 =>
        FX35_takeUpTo_b155 N K14 n l1 l2 l4 l5 l6 q12.1 (iadd l9 1) q12.2
theorem SX35_takeUpTo_b155 {m b : Nat} {φ0 : Nat → Nat} {σo : fS} (hm : 1 ≤ m) {N : Nat} {k14 : Nat → Int32 → Int32 → Int32 → Int32 → Int32 → Int32 → eH → Option (Unit × eH)} {K14 : Int → Int → Int → Int → Int → Int → fS → Option (Unit × fS)} {q : Unit × fS} (hk14 : ∀ {φ : Nat → Nat} {h : eH} {s : fS} {l1' : Int32} {l1 : Int} {l2' : Int32} {l2 : Int} {l4' : Int32} {l4 : Int} {l5' : Int32} {l5 : Int} {l6' : Int32} {l6 : Int} {l7' : Int32} {l7 : Int}, fC m b φ0 σo φ h s → l1' = iI l1 → r32 l1 → l2' = iI l2 → r32 l2 → l4' = iI l4 → r32 l4 → l5' = iI l5 → r32 l5 → l6' = iI l6 → r32 l6 → l7' = iI l7 → r32 l7 → K14 l1 l2 l4 l5 l6 l7 s = some q → gG m b φ0 σo lU q (k14 192 l1' l2' l4' l5' l6' l7' h)) : ∀ {n : Nat} {φ : Nat → Nat} {h : eH} {s : fS} {l1' : Int32} {l1 : Int} {l2' : Int32} {l2 : Int} {l4' : Int32} {l4 : Int} {l5' : Int32} {l5 : Int} {l6' : Int32} {l6 : Int} {l7' : Int32} {l7 : Int} {l9' : Int32} {l9 : Int}, fC m b φ0 σo φ h s → l1' = iI l1 → r32 l1 → l2' = iI l2 → r32 l2 → l4' = iI l4 → r32 l4 → l5' = iI l5 → r32 l5 → l6' = iI l6 → r32 l6 → l7' = iI l7 → r32 l7 → l9' = iI l9 → r32 l9 → FX35_takeUpTo_b155 N K14 n l1 l2 l4 l5 l6 l7 l9 s = some q → gG m b φ0 σo lU q (fX35_takeUpTo_b155 N k14 n 192 l1' l2' l4' l5' l6' l7' l9' h) := by
  intro n
  induction n with
 | zero => intro φ h s l1' l1 l2' l2 l4' l4 l5' l5 l6' l6 l7' l7 l9' l9 R el1 rl1 el2 rl2 el4 rl4 el5 rl5 el6 rl6 el7 rl7 el9 rl9 hF; simp [FX35_takeUpTo_b155] at hF
  | succ n ih =>
    intro φ h s l1' l1 l2' l2 l4' l4 l5' l5 l6' l6 l7' l7 l9' l9 R el1 rl1 el2 rl2 el4 rl4 el5 rl5 el6 rl6 el7 rl7 el9 rl9 hF
    subst el1; subst el2; subst el4; subst el5; subst el6; subst el7; subst el9
    rw [FX35_takeUpTo_b155] at hF
    rw [fX35_takeUpTo_b155]
    refine s_if (i_le rfl rfl rl4 rl9) hF (fun c1 hF => ?_) (fun c1 hF => ?_)
    ·
      exact SX35_takeUpTo_b207 (N := N) (k14 := k14) (K14 := K14) hm @hk14 R rfl rl1 rfl rl2 rfl rl4 rfl rl5 rfl rl6 rfl rl7 hF
    ·
      refine s_if (i_eq rfl (c_lit 0 0 rfl) rl7 ⟨by decide, by decide⟩) hF (fun c2 hF => ?_) (fun c2 hF => ?_)
      ·
        exact SX35_takeUpTo_b207 (N := N) (k14 := k14) (K14 := K14) hm @hk14 R rfl rl1 rfl rl2 rfl rl4 rfl rl5 rfl rl6 rfl rl7 hF
      ·
        refine s_gAs R (t_192 hm R.S) (Nat.le_of_ble_eq_true rfl) rfl (o_192_39 hm R.S) (a_279 hm R) ?_
        refine s_rI R (u_279 hm R.S).1 (u_279 hm R.S).2 (by decide) (a_279 hm R) (c_add (c_sub (c_add (c_mul (c_lit 11000 11000 rfl) rfl) rfl) rfl) rfl) (rr_I _) hF (fun x5 ra4 hF => ?_)
        refine s_gAs R (t_192 hm R.S) (Nat.le_of_ble_eq_true rfl) rfl (o_192_36 hm R.S) (a_277 hm R) ?_
        refine s_rI R (u_277 hm R.S).1 (u_277 hm R.S).2 (by decide) (a_277 hm R) (c_add rfl rfl) (rr_I _) hF (fun x9 ra6 hF => ?_)
        refine s_kok R (t_192 hm R.S) (Nat.le_of_ble_eq_true rfl) ?_
        refine s_call R (Nat.zero_le _) (fun _ hq => SX35_isSame (b := 0) hm (R.rf) rfl ra4 rfl ra6 hq) hF (fun f8 rv8 h8 q12 R8 e8 E8 hF => ?_)
        exact ih R8 rfl rl1 rfl rl2 rfl rl4 rfl rl5 rfl rl6 e8.1 e8.2 (c_add rfl (c_lit 1 1 rfl)) (rr_I _) hF
def FX35_takeUpTo_b150 (N : Nat) (K14 : Int → Int → Int → Int → Int → Int → fS → Option (Unit × fS)) (l1 : Int) (l2 : Int) (l4 : Int) (l5 : Int) (l6 : Int) (s0 : Int) (s : fS) : Option (Unit × fS) :=
  FX35_takeUpTo_b155 N K14 N l1 l2 l4 l5 l6 s0 0 s
theorem SX35_takeUpTo_b150 {m b : Nat} {φ0 : Nat → Nat} {σo : fS} (hm : 1 ≤ m) {N : Nat} {k14 : Nat → Int32 → Int32 → Int32 → Int32 → Int32 → Int32 → eH → Option (Unit × eH)} {K14 : Int → Int → Int → Int → Int → Int → fS → Option (Unit × fS)} {q : Unit × fS} (hk14 : ∀ {φ : Nat → Nat} {h : eH} {s : fS} {l1' : Int32} {l1 : Int} {l2' : Int32} {l2 : Int} {l4' : Int32} {l4 : Int} {l5' : Int32} {l5 : Int} {l6' : Int32} {l6 : Int} {l7' : Int32} {l7 : Int}, fC m b φ0 σo φ h s → l1' = iI l1 → r32 l1 → l2' = iI l2 → r32 l2 → l4' = iI l4 → r32 l4 → l5' = iI l5 → r32 l5 → l6' = iI l6 → r32 l6 → l7' = iI l7 → r32 l7 → K14 l1 l2 l4 l5 l6 l7 s = some q → gG m b φ0 σo lU q (k14 192 l1' l2' l4' l5' l6' l7' h)) {φ : Nat → Nat} {h : eH} {s : fS} {l1' : Int32} {l1 : Int} {l2' : Int32} {l2 : Int} {l4' : Int32} {l4 : Int} {l5' : Int32} {l5 : Int} {l6' : Int32} {l6 : Int} {s0' : Int32} {s0 : Int} (R : fC m b φ0 σo φ h s) (el1 : l1' = iI l1) (rl1 : r32 l1) (el2 : l2' = iI l2) (rl2 : r32 l2) (el4 : l4' = iI l4) (rl4 : r32 l4) (el5 : l5' = iI l5) (rl5 : r32 l5) (el6 : l6' = iI l6) (rl6 : r32 l6) (es0 : s0' = iI s0) (rs0 : r32 s0) (hF : FX35_takeUpTo_b150 N K14 l1 l2 l4 l5 l6 s0 s = some q) : gG m b φ0 σo lU q (fX35_takeUpTo_b150 N k14 192 l1' l2' l4' l5' l6' s0' h) := by
  subst el1; subst el2; subst el4; subst el5; subst el6; subst es0
  unfold FX35_takeUpTo_b150 at hF
  unfold fX35_takeUpTo_b150
  exact SX35_takeUpTo_b155 (N := N) (k14 := k14) (K14 := K14) hm @hk14 R rfl rl1 rfl rl2 rfl rl4 rfl rl5 rfl rl6 rfl rs0 (c_lit 0 0 rfl) ⟨by decide, by decide⟩ hF
def FX35_takeUpTo_b149 (N : Nat) (K14 : Int → Int → Int → Int → Int → Int → fS → Option (Unit × fS)) (l1 : Int) (l2 : Int) (l4 : Int) (l5 : Int) (l6 : Int) (s : fS) : Option (Unit × fS) :=
  FX35_takeUpTo_b150 N K14 l1 l2 l4 l5 l6 0 s
theorem SX35_takeUpTo_b149 {m b : Nat} {φ0 : Nat → Nat} {σo : fS} (hm : 1 ≤ m) {N : Nat} {k14 : Nat → Int32 → Int32 → Int32 → Int32 → Int32 → Int32 → eH → Option (Unit × eH)} {K14 : Int → Int → Int → Int → Int → Int → fS → Option (Unit × fS)} {q : Unit × fS} (hk14 : ∀ {φ : Nat → Nat} {h : eH} {s : fS} {l1' : Int32} {l1 : Int} {l2' : Int32} {l2 : Int} {l4' : Int32} {l4 : Int} {l5' : Int32} {l5 : Int} {l6' : Int32} {l6 : Int} {l7' : Int32} {l7 : Int}, fC m b φ0 σo φ h s → l1' = iI l1 → r32 l1 → l2' = iI l2 → r32 l2 → l4' = iI l4 → r32 l4 → l5' = iI l5 → r32 l5 → l6' = iI l6 → r32 l6 → l7' = iI l7 → r32 l7 → K14 l1 l2 l4 l5 l6 l7 s = some q → gG m b φ0 σo lU q (k14 192 l1' l2' l4' l5' l6' l7' h)) {φ : Nat → Nat} {h : eH} {s : fS} {l1' : Int32} {l1 : Int} {l2' : Int32} {l2 : Int} {l4' : Int32} {l4 : Int} {l5' : Int32} {l5 : Int} {l6' : Int32} {l6 : Int} (R : fC m b φ0 σo φ h s) (el1 : l1' = iI l1) (rl1 : r32 l1) (el2 : l2' = iI l2) (rl2 : r32 l2) (el4 : l4' = iI l4) (rl4 : r32 l4) (el5 : l5' = iI l5) (rl5 : r32 l5) (el6 : l6' = iI l6) (rl6 : r32 l6) (hF : FX35_takeUpTo_b149 N K14 l1 l2 l4 l5 l6 s = some q) : gG m b φ0 σo lU q (fX35_takeUpTo_b149 N k14 192 l1' l2' l4' l5' l6' h) := by
  subst el1; subst el2; subst el4; subst el5; subst el6
  unfold FX35_takeUpTo_b149 at hF
  unfold fX35_takeUpTo_b149
  exact SX35_takeUpTo_b150 (N := N) (k14 := k14) (K14 := K14) hm @hk14 R rfl rl1 rfl rl2 rfl rl4 rfl rl5 rfl rl6 (c_lit 0 0 rfl) ⟨by decide, by decide⟩ hF
def FX35_takeUpTo_b113 (N : Nat) (K14 : Int → Int → Int → Int → Int → Int → fS → Option (Unit × fS)) (l1 : Int) (l2 : Int) (l4 : Int) (l5 : Int) (l8 : Int) (s0 : Int) (s : fS) : Option (Unit × fS) :=
  (uQI s 279 (iadd (imul 11000 l1) l5) l8).bind fun σ3 =>
  if ¬ (s0 = 0) then
    FX35_takeUpTo_b149 N K14 l1 l2 l4 (iadd l5 1) s0 σ3
  else
    if (iadd l5 1) < l4 then
      FX35_takeUpTo_b149 N K14 l1 l2 l4 (iadd l5 1) s0 σ3
    else
      FX35_takeUpTo_b150 N K14 l1 l2 l4 (iadd l5 1) s0 1 σ3
theorem SX35_takeUpTo_b113 {m b : Nat} {φ0 : Nat → Nat} {σo : fS} (hm : 1 ≤ m) {N : Nat} {k14 : Nat → Int32 → Int32 → Int32 → Int32 → Int32 → Int32 → eH → Option (Unit × eH)} {K14 : Int → Int → Int → Int → Int → Int → fS → Option (Unit × fS)} {q : Unit × fS} (hk14 : ∀ {φ : Nat → Nat} {h : eH} {s : fS} {l1' : Int32} {l1 : Int} {l2' : Int32} {l2 : Int} {l4' : Int32} {l4 : Int} {l5' : Int32} {l5 : Int} {l6' : Int32} {l6 : Int} {l7' : Int32} {l7 : Int}, fC m b φ0 σo φ h s → l1' = iI l1 → r32 l1 → l2' = iI l2 → r32 l2 → l4' = iI l4 → r32 l4 → l5' = iI l5 → r32 l5 → l6' = iI l6 → r32 l6 → l7' = iI l7 → r32 l7 → K14 l1 l2 l4 l5 l6 l7 s = some q → gG m b φ0 σo lU q (k14 192 l1' l2' l4' l5' l6' l7' h)) {φ : Nat → Nat} {h : eH} {s : fS} {l1' : Int32} {l1 : Int} {l2' : Int32} {l2 : Int} {l4' : Int32} {l4 : Int} {l5' : Int32} {l5 : Int} {l8' : Int32} {l8 : Int} {s0' : Int32} {s0 : Int} (R : fC m b φ0 σo φ h s) (el1 : l1' = iI l1) (rl1 : r32 l1) (el2 : l2' = iI l2) (rl2 : r32 l2) (el4 : l4' = iI l4) (rl4 : r32 l4) (el5 : l5' = iI l5) (rl5 : r32 l5) (el8 : l8' = iI l8) (rl8 : r32 l8) (es0 : s0' = iI s0) (rs0 : r32 s0) (hF : FX35_takeUpTo_b113 N K14 l1 l2 l4 l5 l8 s0 s = some q) : gG m b φ0 σo lU q (fX35_takeUpTo_b113 N k14 192 l1' l2' l4' l5' l8' s0' h) := by
  subst el1; subst el2; subst el4; subst el5; subst el8; subst es0
  unfold FX35_takeUpTo_b113 at hF
  unfold fX35_takeUpTo_b113
  refine s_gAs R (t_192 hm R.S) (Nat.le_of_ble_eq_true rfl) rfl (o_192_39 hm R.S) (a_279 hm R) ?_
  refine s_qI R (u_279 hm R.S).1 (u_279 hm R.S).2 (by decide) (a_279 hm R) (c_add (c_mul (c_lit 11000 11000 rfl) rfl) rfl) (rr_I _) rfl rl8 hF (fun h2 σ3 R2 T2 hF => ?_)
  refine s_if (not_congr (i_eq rfl (c_lit 0 0 rfl) rs0 ⟨by decide, by decide⟩)) hF (fun c3 hF => ?_) (fun c3 hF => ?_)
  ·
    exact SX35_takeUpTo_b149 (N := N) (k14 := k14) (K14 := K14) hm @hk14 R2 rfl rl1 rfl rl2 rfl rl4 (c_add rfl (c_lit 1 1 rfl)) (rr_I _) rfl rs0 hF
  ·
    refine s_if (i_lt (c_add rfl (c_lit 1 1 rfl)) rfl (rr_I _) rl4) hF (fun c4 hF => ?_) (fun c4 hF => ?_)
    ·
      exact SX35_takeUpTo_b149 (N := N) (k14 := k14) (K14 := K14) hm @hk14 R2 rfl rl1 rfl rl2 rfl rl4 (c_add rfl (c_lit 1 1 rfl)) (rr_I _) rfl rs0 hF
    ·
      exact SX35_takeUpTo_b150 (N := N) (k14 := k14) (K14 := K14) hm @hk14 R2 rfl rl1 rfl rl2 rfl rl4 (c_add rfl (c_lit 1 1 rfl)) (rr_I _) rfl rs0 (c_lit 1 1 rfl) ⟨by decide, by decide⟩ hF
def FX35_takeUpTo_b71 (N : Nat) (K14 : Int → Int → Int → Int → Int → Int → fS → Option (Unit × fS)) (l1 : Int) (l2 : Int) (l4 : Int) (l5 : Int) (l6 : Int) (l8 : Int) (s : fS) : Option (Unit × fS) :=
  if (s.i 192 46) ≤ 0 then
    (FX35_isOf l8 1 s).bind fun q4 =>
    if q4.1 = 0 then
      (FX35_isOf l8 2 q4.2).bind fun q6 =>
      if q6.1 = 0 then
        FX35_takeUpTo_b113 N K14 l1 l2 l4 l5 l8 l6 q6.2
      else
        FX35_takeUpTo_b113 N K14 l1 l2 l4 l5 l8 (isub l6 1) q6.2
    else
      FX35_takeUpTo_b113 N K14 l1 l2 l4 l5 l8 (iadd l6 1) q4.2
  else
    some ((), s)
theorem SX35_takeUpTo_b71 {m b : Nat} {φ0 : Nat → Nat} {σo : fS} (hm : 1 ≤ m) {N : Nat} {k14 : Nat → Int32 → Int32 → Int32 → Int32 → Int32 → Int32 → eH → Option (Unit × eH)} {K14 : Int → Int → Int → Int → Int → Int → fS → Option (Unit × fS)} {q : Unit × fS} (hk14 : ∀ {φ : Nat → Nat} {h : eH} {s : fS} {l1' : Int32} {l1 : Int} {l2' : Int32} {l2 : Int} {l4' : Int32} {l4 : Int} {l5' : Int32} {l5 : Int} {l6' : Int32} {l6 : Int} {l7' : Int32} {l7 : Int}, fC m b φ0 σo φ h s → l1' = iI l1 → r32 l1 → l2' = iI l2 → r32 l2 → l4' = iI l4 → r32 l4 → l5' = iI l5 → r32 l5 → l6' = iI l6 → r32 l6 → l7' = iI l7 → r32 l7 → K14 l1 l2 l4 l5 l6 l7 s = some q → gG m b φ0 σo lU q (k14 192 l1' l2' l4' l5' l6' l7' h)) {φ : Nat → Nat} {h : eH} {s : fS} {l1' : Int32} {l1 : Int} {l2' : Int32} {l2 : Int} {l4' : Int32} {l4 : Int} {l5' : Int32} {l5 : Int} {l6' : Int32} {l6 : Int} {l8' : Int32} {l8 : Int} (R : fC m b φ0 σo φ h s) (el1 : l1' = iI l1) (rl1 : r32 l1) (el2 : l2' = iI l2) (rl2 : r32 l2) (el4 : l4' = iI l4) (rl4 : r32 l4) (el5 : l5' = iI l5) (rl5 : r32 l5) (el6 : l6' = iI l6) (rl6 : r32 l6) (el8 : l8' = iI l8) (rl8 : r32 l8) (hF : FX35_takeUpTo_b71 N K14 l1 l2 l4 l5 l6 l8 s = some q) : gG m b φ0 σo lU q (fX35_takeUpTo_b71 N k14 192 l1' l2' l4' l5' l6' l8' h) := by
  subst el1; subst el2; subst el4; subst el5; subst el6; subst el8
  unfold FX35_takeUpTo_b71 at hF
  unfold fX35_takeUpTo_b71
  refine s_gI R (t_192 hm R.S) (Nat.le_of_ble_eq_true rfl) rfl ?_
  refine s_if (i_le rfl (c_lit 0 0 rfl) (R.ri (t_192 hm R.S) (Nat.le_of_ble_eq_true rfl) rfl) ⟨by decide, by decide⟩) hF (fun c2 hF => ?_) (fun c2 hF => ?_)
  ·
    refine s_call R (Nat.zero_le _) (fun _ hq => SX35_isOf (b := 0) hm (R.rf) rfl rl8 (c_lit 1 1 rfl) ⟨by decide, by decide⟩ hq) hF (fun f3 rv3 h3 q4 R3 e3 E3 hF => ?_)
    refine s_if (i_eq e3.1 (c_lit 0 0 rfl) e3.2 ⟨by decide, by decide⟩) hF (fun c4 hF => ?_) (fun c4 hF => ?_)
    ·
      refine s_call R3 (Nat.zero_le _) (fun _ hq => SX35_isOf (b := 0) hm (R3.rf) rfl rl8 (c_lit 2 2 rfl) ⟨by decide, by decide⟩ hq) hF (fun f5 rv5 h5 q6 R5 e5 E5 hF => ?_)
      refine s_if (i_eq e5.1 (c_lit 0 0 rfl) e5.2 ⟨by decide, by decide⟩) hF (fun c6 hF => ?_) (fun c6 hF => ?_)
      ·
        exact SX35_takeUpTo_b113 (N := N) (k14 := k14) (K14 := K14) hm @hk14 R5 rfl rl1 rfl rl2 rfl rl4 rfl rl5 rfl rl8 rfl rl6 hF
      ·
        exact SX35_takeUpTo_b113 (N := N) (k14 := k14) (K14 := K14) hm @hk14 R5 rfl rl1 rfl rl2 rfl rl4 rfl rl5 rfl rl8 (c_sub rfl (c_lit 1 1 rfl)) (rr_I _) hF
    ·
      exact SX35_takeUpTo_b113 (N := N) (k14 := k14) (K14 := K14) hm @hk14 R3 rfl rl1 rfl rl2 rfl rl4 rfl rl5 rfl rl8 (c_add rfl (c_lit 1 1 rfl)) (rr_I _) hF
  ·
    exact g_ret R hF trivial
def FX35_takeUpTo_b45 (N : Nat) (K14 : Int → Int → Int → Int → Int → Int → fS → Option (Unit × fS)) (l1 : Int) (l2 : Int) (l4 : Int) (l5 : Int) (l6 : Int) (l8 : Int) (s : fS) : Option (Unit × fS) :=
  if ¬ ((s.i 192 46) = 0) then
    FX35_takeUpTo_b71 N K14 l1 l2 l4 l5 l6 l8 s
  else
    (FX35_isOf l8 2 s).bind fun q4 =>
    if q4.1 = 0 then
      FX35_takeUpTo_b71 N K14 l1 l2 l4 l5 l6 l8 q4.2
    else
      if ¬ (l6 = 0) then
        FX35_takeUpTo_b71 N K14 l1 l2 l4 l5 l6 l8 q4.2
      else
        (FX35_fail 5 q4.2).bind fun q8 =>
        FX35_takeUpTo_b71 N K14 l1 l2 l4 l5 l6 l8 q8.2
theorem SX35_takeUpTo_b45 {m b : Nat} {φ0 : Nat → Nat} {σo : fS} (hm : 1 ≤ m) {N : Nat} {k14 : Nat → Int32 → Int32 → Int32 → Int32 → Int32 → Int32 → eH → Option (Unit × eH)} {K14 : Int → Int → Int → Int → Int → Int → fS → Option (Unit × fS)} {q : Unit × fS} (hk14 : ∀ {φ : Nat → Nat} {h : eH} {s : fS} {l1' : Int32} {l1 : Int} {l2' : Int32} {l2 : Int} {l4' : Int32} {l4 : Int} {l5' : Int32} {l5 : Int} {l6' : Int32} {l6 : Int} {l7' : Int32} {l7 : Int}, fC m b φ0 σo φ h s → l1' = iI l1 → r32 l1 → l2' = iI l2 → r32 l2 → l4' = iI l4 → r32 l4 → l5' = iI l5 → r32 l5 → l6' = iI l6 → r32 l6 → l7' = iI l7 → r32 l7 → K14 l1 l2 l4 l5 l6 l7 s = some q → gG m b φ0 σo lU q (k14 192 l1' l2' l4' l5' l6' l7' h)) {φ : Nat → Nat} {h : eH} {s : fS} {l1' : Int32} {l1 : Int} {l2' : Int32} {l2 : Int} {l4' : Int32} {l4 : Int} {l5' : Int32} {l5 : Int} {l6' : Int32} {l6 : Int} {l8' : Int32} {l8 : Int} (R : fC m b φ0 σo φ h s) (el1 : l1' = iI l1) (rl1 : r32 l1) (el2 : l2' = iI l2) (rl2 : r32 l2) (el4 : l4' = iI l4) (rl4 : r32 l4) (el5 : l5' = iI l5) (rl5 : r32 l5) (el6 : l6' = iI l6) (rl6 : r32 l6) (el8 : l8' = iI l8) (rl8 : r32 l8) (hF : FX35_takeUpTo_b45 N K14 l1 l2 l4 l5 l6 l8 s = some q) : gG m b φ0 σo lU q (fX35_takeUpTo_b45 N k14 192 l1' l2' l4' l5' l6' l8' h) := by
  subst el1; subst el2; subst el4; subst el5; subst el6; subst el8
  unfold FX35_takeUpTo_b45 at hF
  unfold fX35_takeUpTo_b45
  refine s_gI R (t_192 hm R.S) (Nat.le_of_ble_eq_true rfl) rfl ?_
  refine s_if (not_congr (i_eq rfl (c_lit 0 0 rfl) (R.ri (t_192 hm R.S) (Nat.le_of_ble_eq_true rfl) rfl) ⟨by decide, by decide⟩)) hF (fun c2 hF => ?_) (fun c2 hF => ?_)
  ·
    exact SX35_takeUpTo_b71 (N := N) (k14 := k14) (K14 := K14) hm @hk14 R rfl rl1 rfl rl2 rfl rl4 rfl rl5 rfl rl6 rfl rl8 hF
  ·
    refine s_call R (Nat.zero_le _) (fun _ hq => SX35_isOf (b := 0) hm (R.rf) rfl rl8 (c_lit 2 2 rfl) ⟨by decide, by decide⟩ hq) hF (fun f3 rv3 h3 q4 R3 e3 E3 hF => ?_)
    refine s_if (i_eq e3.1 (c_lit 0 0 rfl) e3.2 ⟨by decide, by decide⟩) hF (fun c4 hF => ?_) (fun c4 hF => ?_)
    ·
      exact SX35_takeUpTo_b71 (N := N) (k14 := k14) (K14 := K14) hm @hk14 R3 rfl rl1 rfl rl2 rfl rl4 rfl rl5 rfl rl6 rfl rl8 hF
    ·
      refine s_if (not_congr (i_eq rfl (c_lit 0 0 rfl) rl6 ⟨by decide, by decide⟩)) hF (fun c5 hF => ?_) (fun c5 hF => ?_)
      ·
        exact SX35_takeUpTo_b71 (N := N) (k14 := k14) (K14 := K14) hm @hk14 R3 rfl rl1 rfl rl2 rfl rl4 rfl rl5 rfl rl6 rfl rl8 hF
      ·
        refine s_kok R3 (t_192 hm R3.S) (Nat.le_of_ble_eq_true rfl) ?_
        refine s_call R3 (Nat.zero_le _) (fun _ hq => SX35_fail (b := 0) hm (R3.rf) (c_lit 5 5 rfl) ⟨by decide, by decide⟩ hq) hF (fun f7 rv7 h7 q8 R7 e7 E7 hF => ?_)
        exact SX35_takeUpTo_b71 (N := N) (k14 := k14) (K14 := K14) hm @hk14 R7 rfl rl1 rfl rl2 rfl rl4 rfl rl5 rfl rl6 rfl rl8 hF
def FX35_takeUpTo_b14 (N : Nat) : Nat → Int → Int → Int → Int → Int → Int → fS → Option (Unit × fS)
  | 0, _, _, _, _, _, _, _ => none
  | n + 1, l1, l2, l4, l5, l6, l7, s =>
    if ¬ (l7 = 0) then
      (uQI s 280 l1 (isub l5 l4)).bind fun σ4 =>
      (FX35_bareOf N l1 σ4).bind fun q7 =>
      some ((), q7.2)
    else
      (FX35_need N s).bind fun q9 =>
      if ¬ ((q9.2.i 192 46) = 0) then
        FX35_takeUpTo_b45 N (FX35_takeUpTo_b14 N n) l1 l2 l4 l5 l6 q9.1 q9.2
      else
        if ¬ (l5 = 10000) then
          FX35_takeUpTo_b45 N (FX35_takeUpTo_b14 N n) l1 l2 l4 l5 l6 q9.1 q9.2
        else
          (FX35_fail 2 q9.2).bind fun q15 =>
          FX35_takeUpTo_b45 N (FX35_takeUpTo_b14 N n) l1 l2 l4 l5 l6 q9.1 q15.2
theorem SX35_takeUpTo_b14 {m b : Nat} {φ0 : Nat → Nat} {σo : fS} (hm : 1 ≤ m) {N : Nat} {q : Unit × fS} : ∀ {n : Nat} {φ : Nat → Nat} {h : eH} {s : fS} {l1' : Int32} {l1 : Int} {l2' : Int32} {l2 : Int} {l4' : Int32} {l4 : Int} {l5' : Int32} {l5 : Int} {l6' : Int32} {l6 : Int} {l7' : Int32} {l7 : Int}, fC m b φ0 σo φ h s → l1' = iI l1 → r32 l1 → l2' = iI l2 → r32 l2 → l4' = iI l4 → r32 l4 → l5' = iI l5 → r32 l5 → l6' = iI l6 → r32 l6 → l7' = iI l7 → r32 l7 → FX35_takeUpTo_b14 N n l1 l2 l4 l5 l6 l7 s = some q → gG m b φ0 σo lU q (fX35_takeUpTo_b14 N n 192 l1' l2' l4' l5' l6' l7' h) := by
  intro n
  induction n with
 | zero => intro φ h s l1' l1 l2' l2 l4' l4 l5' l5 l6' l6 l7' l7 R el1 rl1 el2 rl2 el4 rl4 el5 rl5 el6 rl6 el7 rl7 hF; simp [FX35_takeUpTo_b14] at hF
  | succ n ih =>
    intro φ h s l1' l1 l2' l2 l4' l4 l5' l5 l6' l6 l7' l7 R el1 rl1 el2 rl2 el4 rl4 el5 rl5 el6 rl6 el7 rl7 hF
    subst el1; subst el2; subst el4; subst el5; subst el6; subst el7
    rw [FX35_takeUpTo_b14] at hF
    rw [fX35_takeUpTo_b14]
    refine s_if (not_congr (i_eq rfl (c_lit 0 0 rfl) rl7 ⟨by decide, by decide⟩)) hF (fun c1 hF => ?_) (fun c1 hF => ?_)
    ·
      refine s_gAs R (t_192 hm R.S) (Nat.le_of_ble_eq_true rfl) rfl (o_192_40 hm R.S) (a_280 hm R) ?_
      refine s_qI R (u_280 hm R.S).1 (u_280 hm R.S).2 (by decide) (a_280 hm R) rfl rl1 (c_sub rfl rfl) (rr_I _) hF (fun h3 σ4 R3 T3 hF => ?_)
      refine s_kok R3 (t_192 hm R3.S) (Nat.le_of_ble_eq_true rfl) ?_
      refine s_call R3 (Nat.zero_le _) (fun _ hq => SX35_bareOf (b := 0) (N := N) hm (R3.rf) rfl rl1 hq) hF (fun f5 rv5 h5 q7 R5 e5 E5 hF => ?_)
      exact g_ret R5 hF trivial
    ·
      refine s_kok R (t_192 hm R.S) (Nat.le_of_ble_eq_true rfl) ?_
      refine s_call R (Nat.zero_le _) (fun _ hq => SX35_need (b := 0) (N := N) hm (R.rf) hq) hF (fun f7 rv7 h7 q9 R7 e7 E7 hF => ?_)
      refine s_gI R7 (t_192 hm R7.S) (Nat.le_of_ble_eq_true rfl) rfl ?_
      refine s_if (not_congr (i_eq rfl (c_lit 0 0 rfl) (R7.ri (t_192 hm R7.S) (Nat.le_of_ble_eq_true rfl) rfl) ⟨by decide, by decide⟩)) hF (fun c9 hF => ?_) (fun c9 hF => ?_)
      ·
        exact SX35_takeUpTo_b45 (N := N) (k14 := fX35_takeUpTo_b14 N n) (K14 := FX35_takeUpTo_b14 N n) hm @ih R7 rfl rl1 rfl rl2 rfl rl4 rfl rl5 rfl rl6 e7.1 e7.2 hF
      ·
        refine s_if (not_congr (i_eq rfl (c_lit 10000 10000 rfl) rl5 ⟨by decide, by decide⟩)) hF (fun c10 hF => ?_) (fun c10 hF => ?_)
        ·
          exact SX35_takeUpTo_b45 (N := N) (k14 := fX35_takeUpTo_b14 N n) (K14 := FX35_takeUpTo_b14 N n) hm @ih R7 rfl rl1 rfl rl2 rfl rl4 rfl rl5 rfl rl6 e7.1 e7.2 hF
        ·
          refine s_kok R7 (t_192 hm R7.S) (Nat.le_of_ble_eq_true rfl) ?_
          refine s_call R7 (Nat.zero_le _) (fun _ hq => SX35_fail (b := 0) hm (R7.rf) (c_lit 2 2 rfl) ⟨by decide, by decide⟩ hq) hF (fun f12 rv12 h12 q15 R12 e12 E12 hF => ?_)
          exact SX35_takeUpTo_b45 (N := N) (k14 := fX35_takeUpTo_b14 N n) (K14 := FX35_takeUpTo_b14 N n) hm @ih R12 rfl rl1 rfl rl2 rfl rl4 rfl rl5 rfl rl6 e7.1 e7.2 hF
def FX35_takeUpTo (N : Nat) (p0 : Int) (p1 : Int) (p2 : Int) (s : fS) : Option (Unit × fS) :=
  FX35_takeUpTo_b14 N N p0 p1 (isub p2 p1) 0 0 0 s
theorem SX35_takeUpTo {m b : Nat} {φ0 : Nat → Nat} {σo : fS} (hm : 1 ≤ m) {N : Nat} {q : Unit × fS} {φ : Nat → Nat} {h : eH} {s : fS} {p0' : Int32} {p0 : Int} {p1' : Int32} {p1 : Int} {p2' : Int32} {p2 : Int} (R : fC m b φ0 σo φ h s) (ep0 : p0' = iI p0) (rp0 : r32 p0) (ep1 : p1' = iI p1) (rp1 : r32 p1) (ep2 : p2' = iI p2) (rp2 : r32 p2) (hF : FX35_takeUpTo N p0 p1 p2 s = some q) : gG m b φ0 σo lU q (fX35_takeUpTo N 192 p0' p1' p2' h) := by
  subst ep0; subst ep1; subst ep2
  unfold FX35_takeUpTo at hF
  unfold fX35_takeUpTo
  exact SX35_takeUpTo_b14 (N := N) hm R rfl rp0 rfl rp1 (c_sub rfl rfl) (rr_I _) (c_lit 0 0 rfl) ⟨by decide, by decide⟩ (c_lit 0 0 rfl) ⟨by decide, by decide⟩ (c_lit 0 0 rfl) ⟨by decide, by decide⟩ hF
def FX35_putOfBody_b15 (l1 : Int) (s : fS) : Option (Unit × fS) :=
  (FX35_put l1 s).bind fun q2 =>
  some ((), q2.2)
theorem SX35_putOfBody_b15 {m b : Nat} {φ0 : Nat → Nat} {σo : fS} (hm : 1 ≤ m) {q : Unit × fS} {φ : Nat → Nat} {h : eH} {s : fS} {l1' : Int32} {l1 : Int} (R : fC m b φ0 σo φ h s) (el1 : l1' = iI l1) (rl1 : r32 l1) (hF : FX35_putOfBody_b15 l1 s = some q) : gG m b φ0 σo lU q (fX35_putOfBody_b15 192 l1' h) := by
  subst el1
  unfold FX35_putOfBody_b15 at hF
  unfold fX35_putOfBody_b15
  refine s_kok R (t_192 hm R.S) (Nat.le_of_ble_eq_true rfl) ?_
  refine s_call R (Nat.zero_le _) (fun _ hq => SX35_put (b := 0) hm (R.rf) rfl rl1 hq) hF (fun f2 rv2 h2 q2 R2 e2 E2 hF => ?_)
  exact g_ret R2 hF trivial
def FX35_putOfBody (p0 : Int) (s : fS) : Option (Unit × fS) :=
  if (s.i 192 37) ≤ 10000 then
    FX35_putOfBody_b15 p0 s
  else
    (FX35_fail 2 s).bind fun q5 =>
    FX35_putOfBody_b15 p0 q5.2
theorem SX35_putOfBody {m b : Nat} {φ0 : Nat → Nat} {σo : fS} (hm : 1 ≤ m) {q : Unit × fS} {φ : Nat → Nat} {h : eH} {s : fS} {p0' : Int32} {p0 : Int} (R : fC m b φ0 σo φ h s) (ep0 : p0' = iI p0) (rp0 : r32 p0) (hF : FX35_putOfBody p0 s = some q) : gG m b φ0 σo lU q (fX35_putOfBody 192 p0' h) := by
  subst ep0
  unfold FX35_putOfBody at hF
  unfold fX35_putOfBody
  refine s_gI R (t_192 hm R.S) (Nat.le_of_ble_eq_true rfl) rfl ?_
  refine s_if (i_le rfl (c_lit 10000 10000 rfl) (R.ri (t_192 hm R.S) (Nat.le_of_ble_eq_true rfl) rfl) ⟨by decide, by decide⟩) hF (fun c2 hF => ?_) (fun c2 hF => ?_)
  ·
    exact SX35_putOfBody_b15 hm R rfl rp0 hF
  ·
    refine s_kok R (t_192 hm R.S) (Nat.le_of_ble_eq_true rfl) ?_
    refine s_call R (Nat.zero_le _) (fun _ hq => SX35_fail (b := 0) hm (R.rf) (c_lit 2 2 rfl) ⟨by decide, by decide⟩ hq) hF (fun f4 rv4 h4 q5 R4 e4 E4 hF => ?_)
    exact SX35_putOfBody_b15 hm R4 rfl rp0 hF
def FX35_call_b67 (N : Nat) (K7 : Int → Int → fS → Option (Unit × fS)) (l1 : Int) (l2 : Int) (s : fS) : Option (Unit × fS) :=
  K7 l1 (iadd l2 1) s
theorem SX35_call_b67 {m b : Nat} {φ0 : Nat → Nat} {σo : fS} (hm : 1 ≤ m) {N : Nat} {k7 : Nat → Int32 → Int32 → eH → Option (Unit × eH)} {K7 : Int → Int → fS → Option (Unit × fS)} {q : Unit × fS} (hk7 : ∀ {φ : Nat → Nat} {h : eH} {s : fS} {l1' : Int32} {l1 : Int} {l2' : Int32} {l2 : Int}, fC m b φ0 σo φ h s → l1' = iI l1 → r32 l1 → l2' = iI l2 → r32 l2 → K7 l1 l2 s = some q → gG m b φ0 σo lU q (k7 192 l1' l2' h)) {φ : Nat → Nat} {h : eH} {s : fS} {l1' : Int32} {l1 : Int} {l2' : Int32} {l2 : Int} (R : fC m b φ0 σo φ h s) (el1 : l1' = iI l1) (rl1 : r32 l1) (el2 : l2' = iI l2) (rl2 : r32 l2) (hF : FX35_call_b67 N K7 l1 l2 s = some q) : gG m b φ0 σo lU q (fX35_call_b67 N k7 192 l1' l2' h) := by
  subst el1; subst el2
  unfold FX35_call_b67 at hF
  unfold fX35_call_b67
  exact hk7 R rfl rl1 (c_add rfl (c_lit 1 1 rfl)) (rr_I _) hF
def FX35_call_b155 (N : Nat) (K75 : Int → Int → Int → fS → Option (Unit × fS)) (l1 : Int) (l3 : Int) (l5 : Int) (s : fS) : Option (Unit × fS) :=
  K75 l1 l5 (iadd l3 1) s
theorem SX35_call_b155 {m b : Nat} {φ0 : Nat → Nat} {σo : fS} (hm : 1 ≤ m) {N : Nat} {k75 : Nat → Int32 → Int32 → Int32 → eH → Option (Unit × eH)} {K75 : Int → Int → Int → fS → Option (Unit × fS)} {q : Unit × fS} (hk75 : ∀ {φ : Nat → Nat} {h : eH} {s : fS} {l1' : Int32} {l1 : Int} {l2' : Int32} {l2 : Int} {l3' : Int32} {l3 : Int}, fC m b φ0 σo φ h s → l1' = iI l1 → r32 l1 → l2' = iI l2 → r32 l2 → l3' = iI l3 → r32 l3 → K75 l1 l2 l3 s = some q → gG m b φ0 σo lU q (k75 192 l1' l2' l3' h)) {φ : Nat → Nat} {h : eH} {s : fS} {l1' : Int32} {l1 : Int} {l3' : Int32} {l3 : Int} {l5' : Int32} {l5 : Int} (R : fC m b φ0 σo φ h s) (el1 : l1' = iI l1) (rl1 : r32 l1) (el3 : l3' = iI l3) (rl3 : r32 l3) (el5 : l5' = iI l5) (rl5 : r32 l5) (hF : FX35_call_b155 N K75 l1 l3 l5 s = some q) : gG m b φ0 σo lU q (fX35_call_b155 N k75 192 l1' l3' l5' h) := by
  subst el1; subst el3; subst el5
  unfold FX35_call_b155 at hF
  unfold fX35_call_b155
  exact hk75 R rfl rl1 rfl rl5 (c_add rfl (c_lit 1 1 rfl)) (rr_I _) hF
def FX35_call_b131 (N : Nat) (K75 : Int → Int → Int → fS → Option (Unit × fS)) (l1 : Int) (l3 : Int) (l4 : Int) (l5 : Int) (s : fS) : Option (Unit × fS) :=
  if ¬ (l4 = l5) then
    (FX35_takeUpTo N l3 l4 l5 s).bind fun q3 =>
    FX35_call_b155 N K75 l1 l3 l5 q3.2
  else
    (FX35_takeOne N l3 s).bind fun q5 =>
    FX35_call_b155 N K75 l1 l3 l5 q5.2
theorem SX35_call_b131 {m b : Nat} {φ0 : Nat → Nat} {σo : fS} (hm : 1 ≤ m) {N : Nat} {k75 : Nat → Int32 → Int32 → Int32 → eH → Option (Unit × eH)} {K75 : Int → Int → Int → fS → Option (Unit × fS)} {q : Unit × fS} (hk75 : ∀ {φ : Nat → Nat} {h : eH} {s : fS} {l1' : Int32} {l1 : Int} {l2' : Int32} {l2 : Int} {l3' : Int32} {l3 : Int}, fC m b φ0 σo φ h s → l1' = iI l1 → r32 l1 → l2' = iI l2 → r32 l2 → l3' = iI l3 → r32 l3 → K75 l1 l2 l3 s = some q → gG m b φ0 σo lU q (k75 192 l1' l2' l3' h)) {φ : Nat → Nat} {h : eH} {s : fS} {l1' : Int32} {l1 : Int} {l3' : Int32} {l3 : Int} {l4' : Int32} {l4 : Int} {l5' : Int32} {l5 : Int} (R : fC m b φ0 σo φ h s) (el1 : l1' = iI l1) (rl1 : r32 l1) (el3 : l3' = iI l3) (rl3 : r32 l3) (el4 : l4' = iI l4) (rl4 : r32 l4) (el5 : l5' = iI l5) (rl5 : r32 l5) (hF : FX35_call_b131 N K75 l1 l3 l4 l5 s = some q) : gG m b φ0 σo lU q (fX35_call_b131 N k75 192 l1' l3' l4' l5' h) := by
  subst el1; subst el3; subst el4; subst el5
  unfold FX35_call_b131 at hF
  unfold fX35_call_b131
  refine s_if (not_congr (i_eq rfl rfl rl4 rl5)) hF (fun c1 hF => ?_) (fun c1 hF => ?_)
  ·
    refine s_kok R (t_192 hm R.S) (Nat.le_of_ble_eq_true rfl) ?_
    refine s_call R (Nat.zero_le _) (fun _ hq => SX35_takeUpTo (b := 0) (N := N) hm (R.rf) rfl rl3 rfl rl4 rfl rl5 hq) hF (fun f3 rv3 h3 q3 R3 e3 E3 hF => ?_)
    exact SX35_call_b155 (N := N) (k75 := k75) (K75 := K75) hm @hk75 R3 rfl rl1 rfl rl3 rfl rl5 hF
  ·
    refine s_kok R (t_192 hm R.S) (Nat.le_of_ble_eq_true rfl) ?_
    refine s_call R (Nat.zero_le _) (fun _ hq => SX35_takeOne (b := 0) (N := N) hm (R.rf) rfl rl3 hq) hF (fun f5 rv5 h5 q5 R5 e5 E5 hF => ?_)
    exact SX35_call_b155 (N := N) (k75 := k75) (K75 := K75) hm @hk75 R5 rfl rl1 rfl rl3 rfl rl5 hF
def FX35_call_b101 (N : Nat) (K75 : Int → Int → Int → fS → Option (Unit × fS)) : Nat → Int → Int → Int → Int → fS → Option (Unit × fS)
  | 0, _, _, _, _, _ => none
  | n + 1, l1, l3, l4, l5, s =>
    (uRI s 275 l1).bind fun x3 =>
    if x3 ≤ l5 then
      FX35_call_b131 N K75 l1 l3 l4 l5 s
    else
      (uRI s 277 l5).bind fun x8 =>
      if 262144 ≤ x8 then
        FX35_call_b131 N K75 l1 l3 l4 l5 s
      else
        FX35_call_b101 N K75 n l1 l3 l4 (iadd l5 1) s
theorem SX35_call_b101 {m b : Nat} {φ0 : Nat → Nat} {σo : fS} (hm : 1 ≤ m) {N : Nat} {k75 : Nat → Int32 → Int32 → Int32 → eH → Option (Unit × eH)} {K75 : Int → Int → Int → fS → Option (Unit × fS)} {q : Unit × fS} (hk75 : ∀ {φ : Nat → Nat} {h : eH} {s : fS} {l1' : Int32} {l1 : Int} {l2' : Int32} {l2 : Int} {l3' : Int32} {l3 : Int}, fC m b φ0 σo φ h s → l1' = iI l1 → r32 l1 → l2' = iI l2 → r32 l2 → l3' = iI l3 → r32 l3 → K75 l1 l2 l3 s = some q → gG m b φ0 σo lU q (k75 192 l1' l2' l3' h)) : ∀ {n : Nat} {φ : Nat → Nat} {h : eH} {s : fS} {l1' : Int32} {l1 : Int} {l3' : Int32} {l3 : Int} {l4' : Int32} {l4 : Int} {l5' : Int32} {l5 : Int}, fC m b φ0 σo φ h s → l1' = iI l1 → r32 l1 → l3' = iI l3 → r32 l3 → l4' = iI l4 → r32 l4 → l5' = iI l5 → r32 l5 → FX35_call_b101 N K75 n l1 l3 l4 l5 s = some q → gG m b φ0 σo lU q (fX35_call_b101 N k75 n 192 l1' l3' l4' l5' h) := by
  intro n
  induction n with
 | zero => intro φ h s l1' l1 l3' l3 l4' l4 l5' l5 R el1 rl1 el3 rl3 el4 rl4 el5 rl5 hF; simp [FX35_call_b101] at hF
  | succ n ih =>
    intro φ h s l1' l1 l3' l3 l4' l4 l5' l5 R el1 rl1 el3 rl3 el4 rl4 el5 rl5 hF
    subst el1; subst el3; subst el4; subst el5
    rw [FX35_call_b101] at hF
    rw [fX35_call_b101]
    refine s_gAs R (t_192 hm R.S) (Nat.le_of_ble_eq_true rfl) rfl (o_192_33 hm R.S) (a_275 hm R) ?_
    refine s_rI R (u_275 hm R.S).1 (u_275 hm R.S).2 (by decide) (a_275 hm R) rfl rl1 hF (fun x3 ra2 hF => ?_)
    refine s_if (i_le rfl rfl ra2 rl5) hF (fun c3 hF => ?_) (fun c3 hF => ?_)
    ·
      exact SX35_call_b131 (N := N) (k75 := k75) (K75 := K75) hm @hk75 R rfl rl1 rfl rl3 rfl rl4 rfl rl5 hF
    ·
      refine s_gAs R (t_192 hm R.S) (Nat.le_of_ble_eq_true rfl) rfl (o_192_36 hm R.S) (a_277 hm R) ?_
      refine s_rI R (u_277 hm R.S).1 (u_277 hm R.S).2 (by decide) (a_277 hm R) rfl rl5 hF (fun x8 ra5 hF => ?_)
      refine s_if (i_le (c_lit 262144 262144 rfl) rfl ⟨by decide, by decide⟩ ra5) hF (fun c6 hF => ?_) (fun c6 hF => ?_)
      ·
        exact SX35_call_b131 (N := N) (k75 := k75) (K75 := K75) hm @hk75 R rfl rl1 rfl rl3 rfl rl4 rfl rl5 hF
      ·
        exact ih R rfl rl1 rfl rl3 rfl rl4 (c_add rfl (c_lit 1 1 rfl)) (rr_I _) hF
def FX35_call_b276 (N : Nat) (K173 : Int → Int → fS → Option (Unit × fS)) (l1 : Int) (l3 : Int) (s : fS) : Option (Unit × fS) :=
  K173 l1 (iadd l3 (-1)) s
theorem SX35_call_b276 {m b : Nat} {φ0 : Nat → Nat} {σo : fS} (hm : 1 ≤ m) {N : Nat} {k173 : Nat → Int32 → Int32 → eH → Option (Unit × eH)} {K173 : Int → Int → fS → Option (Unit × fS)} {q : Unit × fS} (hk173 : ∀ {φ : Nat → Nat} {h : eH} {s : fS} {l1' : Int32} {l1 : Int} {l3' : Int32} {l3 : Int}, fC m b φ0 σo φ h s → l1' = iI l1 → r32 l1 → l3' = iI l3 → r32 l3 → K173 l1 l3 s = some q → gG m b φ0 σo lU q (k173 192 l1' l3' h)) {φ : Nat → Nat} {h : eH} {s : fS} {l1' : Int32} {l1 : Int} {l3' : Int32} {l3 : Int} (R : fC m b φ0 σo φ h s) (el1 : l1' = iI l1) (rl1 : r32 l1) (el3 : l3' = iI l3) (rl3 : r32 l3) (hF : FX35_call_b276 N K173 l1 l3 s = some q) : gG m b φ0 σo lU q (fX35_call_b276 N k173 192 l1' l3' h) := by
  subst el1; subst el3
  unfold FX35_call_b276 at hF
  unfold fX35_call_b276
  exact hk173 R rfl rl1 (c_add rfl (c_lit (-1) (-1) rfl)) (rr_I _) hF
def FX35_call_b240 (N : Nat) (K173 : Int → Int → fS → Option (Unit × fS)) : Nat → Int → Int → Int → Int → fS → Option (Unit × fS)
  | 0, _, _, _, _, _ => none
  | n + 1, l1, l3, l4, l5, s =>
    if l5 < 0 then
      FX35_call_b276 N K173 l1 l3 s
    else
      if ¬ ((s.i 192 46) = 0) then
        FX35_call_b276 N K173 l1 l3 s
      else
        (uRI s 279 (iadd (imul 11000 l4) l5)).bind fun x7 =>
        (FX35_putOfBody x7 s).bind fun q10 =>
        FX35_call_b240 N K173 n l1 l3 l4 (iadd l5 (-1)) q10.2
theorem SX35_call_b240 {m b : Nat} {φ0 : Nat → Nat} {σo : fS} (hm : 1 ≤ m) {N : Nat} {k173 : Nat → Int32 → Int32 → eH → Option (Unit × eH)} {K173 : Int → Int → fS → Option (Unit × fS)} {q : Unit × fS} (hk173 : ∀ {φ : Nat → Nat} {h : eH} {s : fS} {l1' : Int32} {l1 : Int} {l3' : Int32} {l3 : Int}, fC m b φ0 σo φ h s → l1' = iI l1 → r32 l1 → l3' = iI l3 → r32 l3 → K173 l1 l3 s = some q → gG m b φ0 σo lU q (k173 192 l1' l3' h)) : ∀ {n : Nat} {φ : Nat → Nat} {h : eH} {s : fS} {l1' : Int32} {l1 : Int} {l3' : Int32} {l3 : Int} {l4' : Int32} {l4 : Int} {l5' : Int32} {l5 : Int}, fC m b φ0 σo φ h s → l1' = iI l1 → r32 l1 → l3' = iI l3 → r32 l3 → l4' = iI l4 → r32 l4 → l5' = iI l5 → r32 l5 → FX35_call_b240 N K173 n l1 l3 l4 l5 s = some q → gG m b φ0 σo lU q (fX35_call_b240 N k173 n 192 l1' l3' l4' l5' h) := by
  intro n
  induction n with
 | zero => intro φ h s l1' l1 l3' l3 l4' l4 l5' l5 R el1 rl1 el3 rl3 el4 rl4 el5 rl5 hF; simp [FX35_call_b240] at hF
  | succ n ih =>
    intro φ h s l1' l1 l3' l3 l4' l4 l5' l5 R el1 rl1 el3 rl3 el4 rl4 el5 rl5 hF
    subst el1; subst el3; subst el4; subst el5
    rw [FX35_call_b240] at hF
    rw [fX35_call_b240]
    refine s_if (i_lt rfl (c_lit 0 0 rfl) rl5 ⟨by decide, by decide⟩) hF (fun c1 hF => ?_) (fun c1 hF => ?_)
    ·
      exact SX35_call_b276 (N := N) (k173 := k173) (K173 := K173) hm @hk173 R rfl rl1 rfl rl3 hF
    ·
      refine s_gI R (t_192 hm R.S) (Nat.le_of_ble_eq_true rfl) rfl ?_
      refine s_if (not_congr (i_eq rfl (c_lit 0 0 rfl) (R.ri (t_192 hm R.S) (Nat.le_of_ble_eq_true rfl) rfl) ⟨by decide, by decide⟩)) hF (fun c3 hF => ?_) (fun c3 hF => ?_)
      ·
        exact SX35_call_b276 (N := N) (k173 := k173) (K173 := K173) hm @hk173 R rfl rl1 rfl rl3 hF
      ·
        refine s_gAs R (t_192 hm R.S) (Nat.le_of_ble_eq_true rfl) rfl (o_192_39 hm R.S) (a_279 hm R) ?_
        refine s_rI R (u_279 hm R.S).1 (u_279 hm R.S).2 (by decide) (a_279 hm R) (c_add (c_mul (c_lit 11000 11000 rfl) rfl) rfl) (rr_I _) hF (fun x7 ra5 hF => ?_)
        refine s_kok R (t_192 hm R.S) (Nat.le_of_ble_eq_true rfl) ?_
        refine s_call R (Nat.zero_le _) (fun _ hq => SX35_putOfBody (b := 0) hm (R.rf) rfl ra5 hq) hF (fun f7 rv7 h7 q10 R7 e7 E7 hF => ?_)
        exact ih R7 rfl rl1 rfl rl3 rfl rl4 (c_add rfl (c_lit (-1) (-1) rfl)) (rr_I _) hF
def FX35_call_b282 (N : Nat) (s : fS) : Option (Unit × fS) :=
  some ((), s)
theorem SX35_call_b282 {m b : Nat} {φ0 : Nat → Nat} {σo : fS} (hm : 1 ≤ m) {N : Nat} {q : Unit × fS} {φ : Nat → Nat} {h : eH} {s : fS} (R : fC m b φ0 σo φ h s) (hF : FX35_call_b282 N s = some q) : gG m b φ0 σo lU q (fX35_call_b282 N h) := by
  unfold FX35_call_b282 at hF
  unfold fX35_call_b282
  exact g_ret R hF trivial
def FX35_call_b173 (N : Nat) : Nat → Int → Int → fS → Option (Unit × fS)
  | 0, _, _, _ => none
  | n + 1, l1, l3, s =>
    (uRI s 275 l1).bind fun x3 =>
    if l3 < x3 then
      FX35_call_b282 N s
    else
      if ¬ ((s.i 192 46) = 0) then
        FX35_call_b282 N s
      else
        (uRI s 277 l3).bind fun x11 =>
        if 262144 ≤ x11 then
          (uRI s 277 l3).bind fun x16 =>
          (uRI s 280 (isub (isub x16 262144) 1)).bind fun x20 =>
          FX35_call_b240 N (FX35_call_b173 N n) N l1 l3 (isub (isub x16 262144) 1) (isub x20 1) s
        else
          (uRI s 277 l3).bind fun x24 =>
          (FX35_putOfBody x24 s).bind fun q27 =>
          FX35_call_b276 N (FX35_call_b173 N n) l1 l3 q27.2
theorem SX35_call_b173 {m b : Nat} {φ0 : Nat → Nat} {σo : fS} (hm : 1 ≤ m) {N : Nat} {q : Unit × fS} : ∀ {n : Nat} {φ : Nat → Nat} {h : eH} {s : fS} {l1' : Int32} {l1 : Int} {l3' : Int32} {l3 : Int}, fC m b φ0 σo φ h s → l1' = iI l1 → r32 l1 → l3' = iI l3 → r32 l3 → FX35_call_b173 N n l1 l3 s = some q → gG m b φ0 σo lU q (fX35_call_b173 N n 192 l1' l3' h) := by
  intro n
  induction n with
 | zero => intro φ h s l1' l1 l3' l3 R el1 rl1 el3 rl3 hF; simp [FX35_call_b173] at hF
  | succ n ih =>
    intro φ h s l1' l1 l3' l3 R el1 rl1 el3 rl3 hF
    subst el1; subst el3
    rw [FX35_call_b173] at hF
    rw [fX35_call_b173]
    refine s_gAs R (t_192 hm R.S) (Nat.le_of_ble_eq_true rfl) rfl (o_192_33 hm R.S) (a_275 hm R) ?_
    refine s_rI R (u_275 hm R.S).1 (u_275 hm R.S).2 (by decide) (a_275 hm R) rfl rl1 hF (fun x3 ra2 hF => ?_)
    refine s_if (i_lt rfl rfl rl3 ra2) hF (fun c3 hF => ?_) (fun c3 hF => ?_)
    ·
      exact SX35_call_b282 (N := N) hm R hF
    ·
      refine s_gI R (t_192 hm R.S) (Nat.le_of_ble_eq_true rfl) rfl ?_
      refine s_if (not_congr (i_eq rfl (c_lit 0 0 rfl) (R.ri (t_192 hm R.S) (Nat.le_of_ble_eq_true rfl) rfl) ⟨by decide, by decide⟩)) hF (fun c5 hF => ?_) (fun c5 hF => ?_)
      ·
        exact SX35_call_b282 (N := N) hm R hF
      ·
        refine s_gAs R (t_192 hm R.S) (Nat.le_of_ble_eq_true rfl) rfl (o_192_36 hm R.S) (a_277 hm R) ?_
        refine s_rI R (u_277 hm R.S).1 (u_277 hm R.S).2 (by decide) (a_277 hm R) rfl rl3 hF (fun x11 ra7 hF => ?_)
        refine s_if (i_le (c_lit 262144 262144 rfl) rfl ⟨by decide, by decide⟩ ra7) hF (fun c8 hF => ?_) (fun c8 hF => ?_)
        ·
          refine s_gAs R (t_192 hm R.S) (Nat.le_of_ble_eq_true rfl) rfl (o_192_36 hm R.S) (a_277 hm R) ?_
          refine s_rI R (u_277 hm R.S).1 (u_277 hm R.S).2 (by decide) (a_277 hm R) rfl rl3 hF (fun x16 ra10 hF => ?_)
          refine s_gAs R (t_192 hm R.S) (Nat.le_of_ble_eq_true rfl) rfl (o_192_40 hm R.S) (a_280 hm R) ?_
          refine s_rI R (u_280 hm R.S).1 (u_280 hm R.S).2 (by decide) (a_280 hm R) (c_sub (c_sub rfl (c_lit 262144 262144 rfl)) (c_lit 1 1 rfl)) (rr_I _) hF (fun x20 ra12 hF => ?_)
          exact SX35_call_b240 (N := N) (k173 := fX35_call_b173 N n) (K173 := FX35_call_b173 N n) hm @ih R rfl rl1 rfl rl3 (c_sub (c_sub rfl (c_lit 262144 262144 rfl)) (c_lit 1 1 rfl)) (rr_I _) (c_sub rfl (c_lit 1 1 rfl)) (rr_I _) hF
        ·
          refine s_gAs R (t_192 hm R.S) (Nat.le_of_ble_eq_true rfl) rfl (o_192_36 hm R.S) (a_277 hm R) ?_
          refine s_rI R (u_277 hm R.S).1 (u_277 hm R.S).2 (by decide) (a_277 hm R) rfl rl3 hF (fun x24 ra14 hF => ?_)
          refine s_kok R (t_192 hm R.S) (Nat.le_of_ble_eq_true rfl) ?_
          refine s_call R (Nat.zero_le _) (fun _ hq => SX35_putOfBody (b := 0) hm (R.rf) rfl ra14 hq) hF (fun f16 rv16 h16 q27 R16 e16 E16 hF => ?_)
          exact SX35_call_b276 (N := N) (k173 := fX35_call_b173 N n) (K173 := FX35_call_b173 N n) hm @ih R16 rfl rl1 rfl rl3 hF
def FX35_call_b164 (N : Nat) (l1 : Int) (s : fS) : Option (Unit × fS) :=
  (uRI s 276 l1).bind fun x3 =>
  FX35_call_b173 N N l1 (isub x3 1) s
theorem SX35_call_b164 {m b : Nat} {φ0 : Nat → Nat} {σo : fS} (hm : 1 ≤ m) {N : Nat} {q : Unit × fS} {φ : Nat → Nat} {h : eH} {s : fS} {l1' : Int32} {l1 : Int} (R : fC m b φ0 σo φ h s) (el1 : l1' = iI l1) (rl1 : r32 l1) (hF : FX35_call_b164 N l1 s = some q) : gG m b φ0 σo lU q (fX35_call_b164 N 192 l1' h) := by
  subst el1
  unfold FX35_call_b164 at hF
  unfold fX35_call_b164
  refine s_gAs R (t_192 hm R.S) (Nat.le_of_ble_eq_true rfl) rfl (o_192_34 hm R.S) (a_276 hm R) ?_
  refine s_rI R (u_276 hm R.S).1 (u_276 hm R.S).2 (by decide) (a_276 hm R) rfl rl1 hF (fun x3 ra2 hF => ?_)
  exact SX35_call_b173 (N := N) hm R rfl rl1 (c_sub rfl (c_lit 1 1 rfl)) (rr_I _) hF
def FX35_call_b75 (N : Nat) : Nat → Int → Int → Int → fS → Option (Unit × fS)
  | 0, _, _, _, _ => none
  | n + 1, l1, l2, l3, s =>
    (uRI s 273 l1).bind fun x3 =>
    if x3 ≤ l3 then
      FX35_call_b164 N l1 s
    else
      if ¬ ((s.i 192 46) = 0) then
        FX35_call_b164 N l1 s
      else
        FX35_call_b101 N (FX35_call_b75 N n) N l1 l3 (iadd l2 1) (iadd l2 1) s
theorem SX35_call_b75 {m b : Nat} {φ0 : Nat → Nat} {σo : fS} (hm : 1 ≤ m) {N : Nat} {q : Unit × fS} : ∀ {n : Nat} {φ : Nat → Nat} {h : eH} {s : fS} {l1' : Int32} {l1 : Int} {l2' : Int32} {l2 : Int} {l3' : Int32} {l3 : Int}, fC m b φ0 σo φ h s → l1' = iI l1 → r32 l1 → l2' = iI l2 → r32 l2 → l3' = iI l3 → r32 l3 → FX35_call_b75 N n l1 l2 l3 s = some q → gG m b φ0 σo lU q (fX35_call_b75 N n 192 l1' l2' l3' h) := by
  intro n
  induction n with
 | zero => intro φ h s l1' l1 l2' l2 l3' l3 R el1 rl1 el2 rl2 el3 rl3 hF; simp [FX35_call_b75] at hF
  | succ n ih =>
    intro φ h s l1' l1 l2' l2 l3' l3 R el1 rl1 el2 rl2 el3 rl3 hF
    subst el1; subst el2; subst el3
    rw [FX35_call_b75] at hF
    rw [fX35_call_b75]
    refine s_gAs R (t_192 hm R.S) (Nat.le_of_ble_eq_true rfl) rfl (o_192_31 hm R.S) (a_273 hm R) ?_
    refine s_rI R (u_273 hm R.S).1 (u_273 hm R.S).2 (by decide) (a_273 hm R) rfl rl1 hF (fun x3 ra2 hF => ?_)
    refine s_if (i_le rfl rfl ra2 rl3) hF (fun c3 hF => ?_) (fun c3 hF => ?_)
    ·
      exact SX35_call_b164 (N := N) hm R rfl rl1 hF
    ·
      refine s_gI R (t_192 hm R.S) (Nat.le_of_ble_eq_true rfl) rfl ?_
      refine s_if (not_congr (i_eq rfl (c_lit 0 0 rfl) (R.ri (t_192 hm R.S) (Nat.le_of_ble_eq_true rfl) rfl) ⟨by decide, by decide⟩)) hF (fun c5 hF => ?_) (fun c5 hF => ?_)
      ·
        exact SX35_call_b164 (N := N) hm R rfl rl1 hF
      ·
        exact SX35_call_b101 (N := N) (k75 := fX35_call_b75 N n) (K75 := FX35_call_b75 N n) hm @ih R rfl rl1 rfl rl3 (c_add rfl (c_lit 1 1 rfl)) (rr_I _) (c_add rfl (c_lit 1 1 rfl)) (rr_I _) hF
def FX35_call_b73 (N : Nat) (l1 : Int) (l2 : Int) (s : fS) : Option (Unit × fS) :=
  FX35_call_b75 N N l1 l2 0 s
theorem SX35_call_b73 {m b : Nat} {φ0 : Nat → Nat} {σo : fS} (hm : 1 ≤ m) {N : Nat} {q : Unit × fS} {φ : Nat → Nat} {h : eH} {s : fS} {l1' : Int32} {l1 : Int} {l2' : Int32} {l2 : Int} (R : fC m b φ0 σo φ h s) (el1 : l1' = iI l1) (rl1 : r32 l1) (el2 : l2' = iI l2) (rl2 : r32 l2) (hF : FX35_call_b73 N l1 l2 s = some q) : gG m b φ0 σo lU q (fX35_call_b73 N 192 l1' l2' h) := by
  subst el1; subst el2
  unfold FX35_call_b73 at hF
  unfold fX35_call_b73
  exact SX35_call_b75 (N := N) hm R rfl rl1 rfl rl2 (c_lit 0 0 rfl) ⟨by decide, by decide⟩ hF
def FX35_call_b7 (N : Nat) : Nat → Int → Int → fS → Option (Unit × fS)
  | 0, _, _, _ => none
  | n + 1, l1, l2, s =>
    if ¬ ((s.i 192 46) = 0) then
      FX35_call_b73 N l1 l2 s
    else
      (uRI s 275 l1).bind fun x6 =>
      if x6 ≤ l2 then
        FX35_call_b73 N l1 l2 s
      else
        (uRI s 277 l2).bind fun x11 =>
        if 262144 ≤ x11 then
          FX35_call_b73 N l1 l2 s
        else
          (FX35_need N s).bind fun q15 =>
          if ¬ ((q15.2.i 192 46) = 0) then
            FX35_call_b67 N (FX35_call_b7 N n) l1 l2 q15.2
          else
            (uRI q15.2 277 l2).bind fun x21 =>
            (FX35_isSame q15.1 x21 q15.2).bind fun q24 =>
            if ¬ (q24.1 = 0) then
              FX35_call_b67 N (FX35_call_b7 N n) l1 l2 q24.2
            else
              (FX35_fail 4 q24.2).bind fun q27 =>
              FX35_call_b67 N (FX35_call_b7 N n) l1 l2 q27.2
theorem SX35_call_b7 {m b : Nat} {φ0 : Nat → Nat} {σo : fS} (hm : 1 ≤ m) {N : Nat} {q : Unit × fS} : ∀ {n : Nat} {φ : Nat → Nat} {h : eH} {s : fS} {l1' : Int32} {l1 : Int} {l2' : Int32} {l2 : Int}, fC m b φ0 σo φ h s → l1' = iI l1 → r32 l1 → l2' = iI l2 → r32 l2 → FX35_call_b7 N n l1 l2 s = some q → gG m b φ0 σo lU q (fX35_call_b7 N n 192 l1' l2' h) := by
  intro n
  induction n with
 | zero => intro φ h s l1' l1 l2' l2 R el1 rl1 el2 rl2 hF; simp [FX35_call_b7] at hF
  | succ n ih =>
    intro φ h s l1' l1 l2' l2 R el1 rl1 el2 rl2 hF
    subst el1; subst el2
    rw [FX35_call_b7] at hF
    rw [fX35_call_b7]
    refine s_gI R (t_192 hm R.S) (Nat.le_of_ble_eq_true rfl) rfl ?_
    refine s_if (not_congr (i_eq rfl (c_lit 0 0 rfl) (R.ri (t_192 hm R.S) (Nat.le_of_ble_eq_true rfl) rfl) ⟨by decide, by decide⟩)) hF (fun c2 hF => ?_) (fun c2 hF => ?_)
    ·
      exact SX35_call_b73 (N := N) hm R rfl rl1 rfl rl2 hF
    ·
      refine s_gAs R (t_192 hm R.S) (Nat.le_of_ble_eq_true rfl) rfl (o_192_33 hm R.S) (a_275 hm R) ?_
      refine s_rI R (u_275 hm R.S).1 (u_275 hm R.S).2 (by decide) (a_275 hm R) rfl rl1 hF (fun x6 ra4 hF => ?_)
      refine s_if (i_le rfl rfl ra4 rl2) hF (fun c5 hF => ?_) (fun c5 hF => ?_)
      ·
        exact SX35_call_b73 (N := N) hm R rfl rl1 rfl rl2 hF
      ·
        refine s_gAs R (t_192 hm R.S) (Nat.le_of_ble_eq_true rfl) rfl (o_192_36 hm R.S) (a_277 hm R) ?_
        refine s_rI R (u_277 hm R.S).1 (u_277 hm R.S).2 (by decide) (a_277 hm R) rfl rl2 hF (fun x11 ra7 hF => ?_)
        refine s_if (i_le (c_lit 262144 262144 rfl) rfl ⟨by decide, by decide⟩ ra7) hF (fun c8 hF => ?_) (fun c8 hF => ?_)
        ·
          exact SX35_call_b73 (N := N) hm R rfl rl1 rfl rl2 hF
        ·
          refine s_kok R (t_192 hm R.S) (Nat.le_of_ble_eq_true rfl) ?_
          refine s_call R (Nat.zero_le _) (fun _ hq => SX35_need (b := 0) (N := N) hm (R.rf) hq) hF (fun f10 rv10 h10 q15 R10 e10 E10 hF => ?_)
          refine s_gI R10 (t_192 hm R10.S) (Nat.le_of_ble_eq_true rfl) rfl ?_
          refine s_if (not_congr (i_eq rfl (c_lit 0 0 rfl) (R10.ri (t_192 hm R10.S) (Nat.le_of_ble_eq_true rfl) rfl) ⟨by decide, by decide⟩)) hF (fun c12 hF => ?_) (fun c12 hF => ?_)
          ·
            exact SX35_call_b67 (N := N) (k7 := fX35_call_b7 N n) (K7 := FX35_call_b7 N n) hm @ih R10 rfl rl1 rfl rl2 hF
          ·
            refine s_gAs R10 (t_192 hm R10.S) (Nat.le_of_ble_eq_true rfl) rfl (o_192_36 hm R10.S) (a_277 hm R10) ?_
            refine s_rI R10 (u_277 hm R10.S).1 (u_277 hm R10.S).2 (by decide) (a_277 hm R10) rfl rl2 hF (fun x21 ra14 hF => ?_)
            refine s_kok R10 (t_192 hm R10.S) (Nat.le_of_ble_eq_true rfl) ?_
            refine s_call R10 (Nat.zero_le _) (fun _ hq => SX35_isSame (b := 0) hm (R10.rf) e10.1 e10.2 rfl ra14 hq) hF (fun f16 rv16 h16 q24 R16 e16 E16 hF => ?_)
            refine s_if (not_congr (i_eq e16.1 (c_lit 0 0 rfl) e16.2 ⟨by decide, by decide⟩)) hF (fun c17 hF => ?_) (fun c17 hF => ?_)
            ·
              exact SX35_call_b67 (N := N) (k7 := fX35_call_b7 N n) (K7 := FX35_call_b7 N n) hm @ih R16 rfl rl1 rfl rl2 hF
            ·
              refine s_kok R16 (t_192 hm R16.S) (Nat.le_of_ble_eq_true rfl) ?_
              refine s_call R16 (Nat.zero_le _) (fun _ hq => SX35_fail (b := 0) hm (R16.rf) (c_lit 4 4 rfl) ⟨by decide, by decide⟩ hq) hF (fun f19 rv19 h19 q27 R19 e19 E19 hF => ?_)
              exact SX35_call_b67 (N := N) (k7 := fX35_call_b7 N n) (K7 := FX35_call_b7 N n) hm @ih R19 rfl rl1 rfl rl2 hF
def FX35_call (N : Nat) (p0 : Int) (s : fS) : Option (Unit × fS) :=
  (uRI s 274 p0).bind fun x3 =>
  FX35_call_b7 N N p0 x3 s
theorem SX35_call {m b : Nat} {φ0 : Nat → Nat} {σo : fS} (hm : 1 ≤ m) {N : Nat} {q : Unit × fS} {φ : Nat → Nat} {h : eH} {s : fS} {p0' : Int32} {p0 : Int} (R : fC m b φ0 σo φ h s) (ep0 : p0' = iI p0) (rp0 : r32 p0) (hF : FX35_call N p0 s = some q) : gG m b φ0 σo lU q (fX35_call N 192 p0' h) := by
  subst ep0
  unfold FX35_call at hF
  unfold fX35_call
  refine s_gAs R (t_192 hm R.S) (Nat.le_of_ble_eq_true rfl) rfl (o_192_32 hm R.S) (a_274 hm R) ?_
  refine s_rI R (u_274 hm R.S).1 (u_274 hm R.S).2 (by decide) (a_274 hm R) rfl rp0 hF (fun x3 ra2 hF => ?_)
  exact SX35_call_b7 (N := N) hm R rfl rp0 rfl ra2 hF
def FX35_metrics (p0 : Int) (s : fS) : Option (Nat × fS) :=
  (uRI s 283 p0).bind fun x5 =>
  (uRO s 194 x5).bind fun a7 =>
  some (a7, s)
theorem SX35_metrics {m b : Nat} {φ0 : Nat → Nat} {σo : fS} (hm : 1 ≤ m) {q : Nat × fS} {φ : Nat → Nat} {h : eH} {s : fS} {p0' : Int32} {p0 : Int} (R : fC m b φ0 σo φ h s) (ep0 : p0' = iI p0) (rp0 : r32 p0) (hF : FX35_metrics p0 s = some q) : gG m b φ0 σo lO q (fX35_metrics 192 p0' h) := by
  subst ep0
  unfold FX35_metrics at hF
  unfold fX35_metrics
  refine s_gAs R (t_192 hm R.S) (Nat.le_of_ble_eq_true rfl) rfl (o_192_4 hm R.S) (a_194 hm R) ?_
  refine s_gAs R (t_192 hm R.S) (Nat.le_of_ble_eq_true rfl) rfl (o_192_49 hm R.S) (a_283 hm R) ?_
  refine s_rI R (u_283 hm R.S).1 (u_283 hm R.S).2 (by decide) (a_283 hm R) rfl rp0 hF (fun x5 ra3 hF => ?_)
  refine s_rO R (u_194 hm R.S).1 (u_194 hm R.S).2 rfl (fun _ => rfl) (Nat.le_of_ble_eq_true rfl) (a_194 hm R) rfl ra3 hF (fun a7 y4 hF => ?_)
  exact g_ret R hF rfl
def FX40_half (p0 : Nat) (p1 : Int) (s : fS) : Option (Int × fS) :=
  (uKA 102 s p0).bind fun _ =>
  (uRI s p0 (imul 2 p1)).bind fun x1 =>
  (uKA 102 s p0).bind fun _ =>
  (uRI s p0 (iadd (imul 2 p1) 1)).bind fun x3 =>
  some ((iadd (imul 256 (iand x1 255)) (iand x3 255)), s)
theorem SX40_half {m b : Nat} {φ0 : Nat → Nat} {σo : fS} (hm : 1 ≤ m) {q : Int × fS} {φ : Nat → Nat} {h : eH} {s : fS} {p0' : Nat} {p0 : Nat} {p1' : Int32} {p1 : Int} (R : fC m b φ0 σo φ h s) (ep0 : p0' = φ p0) (ap0 : s.t p0 < 128) (ep1 : p1' = iI p1) (rp1 : r32 p1) (hF : FX40_half p0 p1 s = some q) : gG m b φ0 σo lI q (fX40_half p0' p1' h) := by
  subst ep1
  unfold FX40_half at hF
  unfold fX40_half
  refine s_KA hF (fun y2 z2 hF => ?_)
  refine s_rI R y2 z2 (by decide) ep0 (c_mul (c_lit 2 2 rfl) rfl) (rr_I _) hF (fun x1 ra1 hF => ?_)
  refine s_KA hF (fun y4 z4 hF => ?_)
  refine s_rI R y4 z4 (by decide) ep0 (c_add (c_mul (c_lit 2 2 rfl) rfl) (c_lit 1 1 rfl)) (rr_I _) hF (fun x3 ra3 hF => ?_)
  exact g_ret R hF ⟨(c_add (c_mul (c_lit 256 256 rfl) (c_and rfl (c_lit 255 255 rfl))) (c_and rfl (c_lit 255 255 rfl))), (rr_I _)⟩
def FX40_words_b40 (s0 : Int) (s : fS) : Option (Int × fS) :=
  some (s0, s)
theorem SX40_words_b40 {m b : Nat} {φ0 : Nat → Nat} {σo : fS} (hm : 1 ≤ m) {q : Int × fS} {φ : Nat → Nat} {h : eH} {s : fS} {s0' : Int32} {s0 : Int} (R : fC m b φ0 σo φ h s) (es0 : s0' = iI s0) (rs0 : r32 s0) (hF : FX40_words_b40 s0 s = some q) : gG m b φ0 σo lI q (fX40_words_b40 s0' h) := by
  subst es0
  unfold FX40_words_b40 at hF
  unfold fX40_words_b40
  exact g_ret R hF ⟨rfl, rs0⟩
def FX40_words (p0 : Nat) (p1 : Int) (s : fS) : Option (Int × fS) :=
  if ¬ (p1 = 0) then
    if ¬ (p1 = 1) then
      (FX40_half p0 (iadd p1 2) s).bind fun q3 =>
      FX40_words_b40 q3.1 q3.2
    else
      (FX40_half p0 3 s).bind fun q4 =>
      (FX40_half p0 2 q4.2).bind fun q5 =>
      FX40_words_b40 (iadd (isub q4.1 q5.1) 1) q5.2
  else
    (FX40_half p0 1 s).bind fun q6 =>
    FX40_words_b40 q6.1 q6.2
theorem SX40_words {m b : Nat} {φ0 : Nat → Nat} {σo : fS} (hm : 1 ≤ m) {q : Int × fS} {φ : Nat → Nat} {h : eH} {s : fS} {p0' : Nat} {p0 : Nat} {p1' : Int32} {p1 : Int} (R : fC m b φ0 σo φ h s) (ep0 : p0' = φ p0) (ap0 : s.t p0 < 128) (ep1 : p1' = iI p1) (rp1 : r32 p1) (hF : FX40_words p0 p1 s = some q) : gG m b φ0 σo lI q (fX40_words p0' p1' h) := by
  subst ep1
  unfold FX40_words at hF
  unfold fX40_words
  refine s_if (not_congr (i_eq rfl (c_lit 0 0 rfl) rp1 ⟨by decide, by decide⟩)) hF (fun c1 hF => ?_) (fun c1 hF => ?_)
  ·
    refine s_if (not_congr (i_eq rfl (c_lit 1 1 rfl) rp1 ⟨by decide, by decide⟩)) hF (fun c2 hF => ?_) (fun c2 hF => ?_)
    ·
      refine s_call R (Nat.zero_le _) (fun _ hq => SX40_half (b := 0) hm (R.rf) ep0 ap0 (c_add rfl (c_lit 2 2 rfl)) (rr_I _) hq) hF (fun f3 rv3 h3 q3 R3 e3 E3 hF => ?_)
      exact SX40_words_b40 hm R3 e3.1 e3.2 hF
    ·
      refine s_call R (Nat.zero_le _) (fun _ hq => SX40_half (b := 0) hm (R.rf) ep0 ap0 (c_lit 3 3 rfl) ⟨by decide, by decide⟩ hq) hF (fun f4 rv4 h4 q4 R4 e4 E4 hF => ?_)
      refine s_call R4 (Nat.zero_le _) (fun _ hq => SX40_half (b := 0) hm (R4.rf) (ep0.trans (E4.k0 rfl _ ap0).1.symm) (by rw [(E4.k0 rfl _ ap0).2]; exact ap0) (c_lit 2 2 rfl) ⟨by decide, by decide⟩ hq) hF (fun f5 rv5 h5 q5 R5 e5 E5 hF => ?_)
      exact SX40_words_b40 hm R5 (c_add (c_sub e4.1 e5.1) (c_lit 1 1 rfl)) (rr_I _) hF
  ·
    refine s_call R (Nat.zero_le _) (fun _ hq => SX40_half (b := 0) hm (R.rf) ep0 ap0 (c_lit 1 1 rfl) ⟨by decide, by decide⟩ hq) hF (fun f6 rv6 h6 q6 R6 e6 E6 hF => ?_)
    exact SX40_words_b40 hm R6 e6.1 e6.2 hF
def FX40_start_b5 (N : Nat) : Nat → Nat → Int → Int → Int → fS → Option (Int × fS)
  | 0, _, _, _, _, _ => none
  | n + 1, l0, l1, l2, l3, s =>
    if l1 ≤ l3 then
      some (l2, s)
    else
      (FX40_words l0 l3 s).bind fun q2 =>
      FX40_start_b5 N n l0 l1 (iadd l2 q2.1) (iadd l3 1) q2.2
theorem SX40_start_b5 {m b : Nat} {φ0 : Nat → Nat} {σo : fS} (hm : 1 ≤ m) {N : Nat} {q : Int × fS} : ∀ {n : Nat} {φ : Nat → Nat} {h : eH} {s : fS} {l0' : Nat} {l0 : Nat} {l1' : Int32} {l1 : Int} {l2' : Int32} {l2 : Int} {l3' : Int32} {l3 : Int}, fC m b φ0 σo φ h s → l0' = φ l0 → s.t l0 < 128 → l1' = iI l1 → r32 l1 → l2' = iI l2 → r32 l2 → l3' = iI l3 → r32 l3 → FX40_start_b5 N n l0 l1 l2 l3 s = some q → gG m b φ0 σo lI q (fX40_start_b5 N n l0' l1' l2' l3' h) := by
  intro n
  induction n with
 | zero => intro φ h s l0' l0 l1' l1 l2' l2 l3' l3 R el0 al0 el1 rl1 el2 rl2 el3 rl3 hF; simp [FX40_start_b5] at hF
  | succ n ih =>
    intro φ h s l0' l0 l1' l1 l2' l2 l3' l3 R el0 al0 el1 rl1 el2 rl2 el3 rl3 hF
    subst el1; subst el2; subst el3
    rw [FX40_start_b5] at hF
    rw [fX40_start_b5]
    refine s_if (i_le rfl rfl rl1 rl3) hF (fun c1 hF => ?_) (fun c1 hF => ?_)
    ·
      exact g_ret R hF ⟨rfl, rl2⟩
    ·
      refine s_call R (Nat.zero_le _) (fun _ hq => SX40_words (b := 0) hm (R.rf) el0 al0 rfl rl3 hq) hF (fun f2 rv2 h2 q2 R2 e2 E2 hF => ?_)
      exact ih R2 (el0.trans (E2.k0 rfl _ al0).1.symm) (by rw [(E2.k0 rfl _ al0).2]; exact al0) rfl rl1 (c_add rfl e2.1) (rr_I _) (c_add rfl (c_lit 1 1 rfl)) (rr_I _) hF
def FX40_start (N : Nat) (p0 : Nat) (p1 : Int) (s : fS) : Option (Int × fS) :=
  FX40_start_b5 N N p0 p1 6 0 s
theorem SX40_start {m b : Nat} {φ0 : Nat → Nat} {σo : fS} (hm : 1 ≤ m) {N : Nat} {q : Int × fS} {φ : Nat → Nat} {h : eH} {s : fS} {p0' : Nat} {p0 : Nat} {p1' : Int32} {p1 : Int} (R : fC m b φ0 σo φ h s) (ep0 : p0' = φ p0) (ap0 : s.t p0 < 128) (ep1 : p1' = iI p1) (rp1 : r32 p1) (hF : FX40_start N p0 p1 s = some q) : gG m b φ0 σo lI q (fX40_start N p0' p1' h) := by
  subst ep1
  unfold FX40_start at hF
  unfold fX40_start
  exact SX40_start_b5 (N := N) hm R ep0 ap0 rfl rp1 (c_lit 6 6 rfl) ⟨by decide, by decide⟩ (c_lit 0 0 rfl) ⟨by decide, by decide⟩ hF
def FX40_at (N : Nat) (p0 : Nat) (p1 : Int) (p2 : Int) (p3 : Int) (s : fS) : Option (Int × fS) :=
  (FX40_start N p0 p1 s).bind fun q1 =>
  (uKA 102 q1.2 p0).bind fun _ =>
  (uRI q1.2 p0 (iadd (imul 4 (iadd q1.1 p2)) p3)).bind fun x2 =>
  some ((iand x2 255), q1.2)
theorem SX40_at {m b : Nat} {φ0 : Nat → Nat} {σo : fS} (hm : 1 ≤ m) {N : Nat} {q : Int × fS} {φ : Nat → Nat} {h : eH} {s : fS} {p0' : Nat} {p0 : Nat} {p1' : Int32} {p1 : Int} {p2' : Int32} {p2 : Int} {p3' : Int32} {p3 : Int} (R : fC m b φ0 σo φ h s) (ep0 : p0' = φ p0) (ap0 : s.t p0 < 128) (ep1 : p1' = iI p1) (rp1 : r32 p1) (ep2 : p2' = iI p2) (rp2 : r32 p2) (ep3 : p3' = iI p3) (rp3 : r32 p3) (hF : FX40_at N p0 p1 p2 p3 s = some q) : gG m b φ0 σo lI q (fX40_at N p0' p1' p2' p3' h) := by
  subst ep1; subst ep2; subst ep3
  unfold FX40_at at hF
  unfold fX40_at
  refine s_call R (Nat.zero_le _) (fun _ hq => SX40_start (b := 0) (N := N) hm (R.rf) ep0 ap0 rfl rp1 hq) hF (fun f1 rv1 h1 q1 R1 e1 E1 hF => ?_)
  refine s_KA hF (fun y3 z3 hF => ?_)
  refine s_rI R1 y3 z3 (by decide) (ep0.trans (E1.k0 rfl _ ap0).1.symm) (c_add (c_mul (c_lit 4 4 rfl) (c_add e1.1 rfl)) rfl) (rr_I _) hF (fun x2 ra2 hF => ?_)
  exact g_ret R1 hF ⟨(c_and rfl (c_lit 255 255 rfl)), (rr_I _)⟩
def FX40_isThere_b39 (N : Nat) (s0 : Int) (s : fS) : Option (Int × fS) :=
  uZ s0 (s0, s)
theorem SX40_isThere_b39 {m b : Nat} {φ0 : Nat → Nat} {σo : fS} (hm : 1 ≤ m) {N : Nat} {q : Int × fS} {φ : Nat → Nat} {h : eH} {s : fS} {s0' : Int32} {s0 : Int} (R : fC m b φ0 σo φ h s) (es0 : s0' = iI s0) (rs0 : r32 s0) (hF : FX40_isThere_b39 N s0 s = some q) : gG m b φ0 σo lI q (fX40_isThere_b39 N s0' h) := by
  subst es0
  unfold FX40_isThere_b39 at hF
  unfold fX40_isThere_b39
  exact g_z R rfl hF ⟨rfl, rs0⟩
def FX40_isThere_b38 (N : Nat) (s : fS) : Option (Int × fS) :=
  FX40_isThere_b39 N 0 s
theorem SX40_isThere_b38 {m b : Nat} {φ0 : Nat → Nat} {σo : fS} (hm : 1 ≤ m) {N : Nat} {q : Int × fS} {φ : Nat → Nat} {h : eH} {s : fS} (R : fC m b φ0 σo φ h s) (hF : FX40_isThere_b38 N s = some q) : gG m b φ0 σo lI q (fX40_isThere_b38 N h) := by
  unfold FX40_isThere_b38 at hF
  unfold fX40_isThere_b38
  exact SX40_isThere_b39 (N := N) hm R (c_lit 0 0 rfl) ⟨by decide, by decide⟩ hF
def FX40_isThere (N : Nat) (p0 : Nat) (p1 : Int) (s : fS) : Option (Int × fS) :=
  (FX40_half p0 2 s).bind fun q1 =>
  if p1 < q1.1 then
    FX40_isThere_b38 N q1.2
  else
    (FX40_half p0 3 q1.2).bind fun q3 =>
    if q3.1 < p1 then
      FX40_isThere_b38 N q3.2
    else
      (FX40_half p0 2 q3.2).bind fun q5 =>
      (FX40_at N p0 1 (isub p1 q5.1) 0 q5.2).bind fun q6 =>
      if q6.1 ≤ 0 then
        FX40_isThere_b38 N q6.2
      else
        FX40_isThere_b39 N 1 q6.2
theorem SX40_isThere {m b : Nat} {φ0 : Nat → Nat} {σo : fS} (hm : 1 ≤ m) {N : Nat} {q : Int × fS} {φ : Nat → Nat} {h : eH} {s : fS} {p0' : Nat} {p0 : Nat} {p1' : Int32} {p1 : Int} (R : fC m b φ0 σo φ h s) (ep0 : p0' = φ p0) (ap0 : s.t p0 < 128) (ep1 : p1' = iI p1) (rp1 : r32 p1) (hF : FX40_isThere N p0 p1 s = some q) : gG m b φ0 σo lI q (fX40_isThere N p0' p1' h) := by
  subst ep1
  unfold FX40_isThere at hF
  unfold fX40_isThere
  refine s_call R (Nat.zero_le _) (fun _ hq => SX40_half (b := 0) hm (R.rf) ep0 ap0 (c_lit 2 2 rfl) ⟨by decide, by decide⟩ hq) hF (fun f1 rv1 h1 q1 R1 e1 E1 hF => ?_)
  refine s_if (i_lt rfl e1.1 rp1 e1.2) hF (fun c2 hF => ?_) (fun c2 hF => ?_)
  ·
    exact SX40_isThere_b38 (N := N) hm R1 hF
  ·
    refine s_call R1 (Nat.zero_le _) (fun _ hq => SX40_half (b := 0) hm (R1.rf) (ep0.trans (E1.k0 rfl _ ap0).1.symm) (by rw [(E1.k0 rfl _ ap0).2]; exact ap0) (c_lit 3 3 rfl) ⟨by decide, by decide⟩ hq) hF (fun f3 rv3 h3 q3 R3 e3 E3 hF => ?_)
    refine s_if (i_lt e3.1 rfl e3.2 rp1) hF (fun c4 hF => ?_) (fun c4 hF => ?_)
    ·
      exact SX40_isThere_b38 (N := N) hm R3 hF
    ·
      refine s_call R3 (Nat.zero_le _) (fun _ hq => SX40_half (b := 0) hm (R3.rf) ((ep0.trans (E1.k0 rfl _ ap0).1.symm).trans (E3.k0 rfl _ (by rw [(E1.k0 rfl _ ap0).2]; exact ap0)).1.symm) (by rw [(E3.k0 rfl _ (by rw [(E1.k0 rfl _ ap0).2]; exact ap0)).2]; exact (by rw [(E1.k0 rfl _ ap0).2]; exact ap0)) (c_lit 2 2 rfl) ⟨by decide, by decide⟩ hq) hF (fun f5 rv5 h5 q5 R5 e5 E5 hF => ?_)
      refine s_call R5 (Nat.zero_le _) (fun _ hq => SX40_at (b := 0) (N := N) hm (R5.rf) (((ep0.trans (E1.k0 rfl _ ap0).1.symm).trans (E3.k0 rfl _ (by rw [(E1.k0 rfl _ ap0).2]; exact ap0)).1.symm).trans (E5.k0 rfl _ (by rw [(E3.k0 rfl _ (by rw [(E1.k0 rfl _ ap0).2]; exact ap0)).2]; exact (by rw [(E1.k0 rfl _ ap0).2]; exact ap0))).1.symm) (by rw [(E5.k0 rfl _ (by rw [(E3.k0 rfl _ (by rw [(E1.k0 rfl _ ap0).2]; exact ap0)).2]; exact (by rw [(E1.k0 rfl _ ap0).2]; exact ap0))).2]; exact (by rw [(E3.k0 rfl _ (by rw [(E1.k0 rfl _ ap0).2]; exact ap0)).2]; exact (by rw [(E1.k0 rfl _ ap0).2]; exact ap0))) (c_lit 1 1 rfl) ⟨by decide, by decide⟩ (c_sub rfl e5.1) (rr_I _) (c_lit 0 0 rfl) ⟨by decide, by decide⟩ hq) hF (fun f6 rv6 h6 q6 R6 e6 E6 hF => ?_)
      refine s_if (i_le e6.1 (c_lit 0 0 rfl) e6.2 ⟨by decide, by decide⟩) hF (fun c7 hF => ?_) (fun c7 hF => ?_)
      ·
        exact SX40_isThere_b38 (N := N) hm R6 hF
      ·
        exact SX40_isThere_b39 (N := N) hm R6 (c_lit 1 1 rfl) ⟨by decide, by decide⟩ hF
def FX40_isThere_2 (N : Nat) (this : Nat) (p0 : Int) (s : fS) : Option (Int × fS) :=
  (uK 42 s this).bind fun _ =>
  (s.o this 0).bind fun a1 =>
  (FX40_isThere N a1 p0 s).bind fun q3 =>
  uZ q3.1 (q3.1, q3.2)
theorem SX40_isThere_2 {m b : Nat} {φ0 : Nat → Nat} {σo : fS} (hm : 1 ≤ m) {N : Nat} {q : Int × fS} {φ : Nat → Nat} {h : eH} {s : fS} {this : Nat} {p0' : Int32} {p0 : Int} (R : fC m b φ0 σo φ h s) (ep0 : p0' = iI p0) (rp0 : r32 p0) (hF : FX40_isThere_2 N this p0 s = some q) : gG m b φ0 σo lI q (fX40_isThere_2 N this p0' h) := by
  subst ep0
  unfold FX40_isThere_2 at hF
  unfold fX40_isThere_2
  refine s_K hF (fun t2 hF => ?_)
  refine s_oo hF (fun a1 e1 hF => ?_)
  refine s_gA R t2 (Nat.le_of_ble_eq_true rfl) rfl e1 (fun x1_ y1_ => ?_)
  refine s_call R (Nat.zero_le _) (fun _ hq => SX40_isThere (b := 0) (N := N) hm (R.rf) rfl (Nat.lt_trans y1_ (Nat.le_of_ble_eq_true rfl)) rfl rp0 hq) hF (fun f3 rv3 h3 q3 R3 e3 E3 hF => ?_)
  exact g_z R3 e3.1 hF ⟨e3.1, e3.2⟩
def FX40_far (N : Nat) (p0 : Nat) (p1 : Int) (s : fS) : Option (Int × fS) :=
  (FX40_at N p0 6 p1 2 s).bind fun q1 =>
  (FX40_at N p0 6 p1 3 q1.2).bind fun q2 =>
  some ((iadd (imul 256 q1.1) q2.1), q2.2)
theorem SX40_far {m b : Nat} {φ0 : Nat → Nat} {σo : fS} (hm : 1 ≤ m) {N : Nat} {q : Int × fS} {φ : Nat → Nat} {h : eH} {s : fS} {p0' : Nat} {p0 : Nat} {p1' : Int32} {p1 : Int} (R : fC m b φ0 σo φ h s) (ep0 : p0' = φ p0) (ap0 : s.t p0 < 128) (ep1 : p1' = iI p1) (rp1 : r32 p1) (hF : FX40_far N p0 p1 s = some q) : gG m b φ0 σo lI q (fX40_far N p0' p1' h) := by
  subst ep1
  unfold FX40_far at hF
  unfold fX40_far
  refine s_call R (Nat.zero_le _) (fun _ hq => SX40_at (b := 0) (N := N) hm (R.rf) ep0 ap0 (c_lit 6 6 rfl) ⟨by decide, by decide⟩ rfl rp1 (c_lit 2 2 rfl) ⟨by decide, by decide⟩ hq) hF (fun f1 rv1 h1 q1 R1 e1 E1 hF => ?_)
  refine s_call R1 (Nat.zero_le _) (fun _ hq => SX40_at (b := 0) (N := N) hm (R1.rf) (ep0.trans (E1.k0 rfl _ ap0).1.symm) (by rw [(E1.k0 rfl _ ap0).2]; exact ap0) (c_lit 6 6 rfl) ⟨by decide, by decide⟩ rfl rp1 (c_lit 3 3 rfl) ⟨by decide, by decide⟩ hq) hF (fun f2 rv2 h2 q2 R2 e2 E2 hF => ?_)
  exact g_ret R2 hF ⟨(c_add (c_mul (c_lit 256 256 rfl) e1.1) e2.1), (rr_I _)⟩
def FX40_edgeProgram_b38 (N : Nat) (s0 : Int) (s : fS) : Option (Int × fS) :=
  some (s0, s)
theorem SX40_edgeProgram_b38 {m b : Nat} {φ0 : Nat → Nat} {σo : fS} (hm : 1 ≤ m) {N : Nat} {q : Int × fS} {φ : Nat → Nat} {h : eH} {s : fS} {s0' : Int32} {s0 : Int} (R : fC m b φ0 σo φ h s) (es0 : s0' = iI s0) (rs0 : r32 s0) (hF : FX40_edgeProgram_b38 N s0 s = some q) : gG m b φ0 σo lI q (fX40_edgeProgram_b38 N s0' h) := by
  subst es0
  unfold FX40_edgeProgram_b38 at hF
  unfold fX40_edgeProgram_b38
  exact g_ret R hF ⟨rfl, rs0⟩
def FX40_edgeProgram_b37 (N : Nat) (s : fS) : Option (Int × fS) :=
  FX40_edgeProgram_b38 N (-1) s
theorem SX40_edgeProgram_b37 {m b : Nat} {φ0 : Nat → Nat} {σo : fS} (hm : 1 ≤ m) {N : Nat} {q : Int × fS} {φ : Nat → Nat} {h : eH} {s : fS} (R : fC m b φ0 σo φ h s) (hF : FX40_edgeProgram_b37 N s = some q) : gG m b φ0 σo lI q (fX40_edgeProgram_b37 N h) := by
  unfold FX40_edgeProgram_b37 at hF
  unfold fX40_edgeProgram_b37
  exact SX40_edgeProgram_b38 (N := N) hm R (c_lit (-1) (-1) rfl) ⟨by decide, by decide⟩ hF
def FX40_edgeProgram (N : Nat) (p0 : Nat) (s : fS) : Option (Int × fS) :=
  (FX40_words p0 6 s).bind fun q1 =>
  if q1.1 ≤ 0 then
    FX40_edgeProgram_b37 N q1.2
  else
    (FX40_at N p0 6 (isub q1.1 1) 0 q1.2).bind fun q3 =>
    if ¬ (q3.1 = 255) then
      FX40_edgeProgram_b37 N q3.2
    else
      (FX40_far N p0 (isub q1.1 1) q3.2).bind fun q5 =>
      FX40_edgeProgram_b38 N q5.1 q5.2
theorem SX40_edgeProgram {m b : Nat} {φ0 : Nat → Nat} {σo : fS} (hm : 1 ≤ m) {N : Nat} {q : Int × fS} {φ : Nat → Nat} {h : eH} {s : fS} {p0' : Nat} {p0 : Nat} (R : fC m b φ0 σo φ h s) (ep0 : p0' = φ p0) (ap0 : s.t p0 < 128) (hF : FX40_edgeProgram N p0 s = some q) : gG m b φ0 σo lI q (fX40_edgeProgram N p0' h) := by
  unfold FX40_edgeProgram at hF
  unfold fX40_edgeProgram
  refine s_call R (Nat.zero_le _) (fun _ hq => SX40_words (b := 0) hm (R.rf) ep0 ap0 (c_lit 6 6 rfl) ⟨by decide, by decide⟩ hq) hF (fun f1 rv1 h1 q1 R1 e1 E1 hF => ?_)
  refine s_if (i_le e1.1 (c_lit 0 0 rfl) e1.2 ⟨by decide, by decide⟩) hF (fun c2 hF => ?_) (fun c2 hF => ?_)
  ·
    exact SX40_edgeProgram_b37 (N := N) hm R1 hF
  ·
    refine s_call R1 (Nat.zero_le _) (fun _ hq => SX40_at (b := 0) (N := N) hm (R1.rf) (ep0.trans (E1.k0 rfl _ ap0).1.symm) (by rw [(E1.k0 rfl _ ap0).2]; exact ap0) (c_lit 6 6 rfl) ⟨by decide, by decide⟩ (c_sub e1.1 (c_lit 1 1 rfl)) (rr_I _) (c_lit 0 0 rfl) ⟨by decide, by decide⟩ hq) hF (fun f3 rv3 h3 q3 R3 e3 E3 hF => ?_)
    refine s_if (not_congr (i_eq e3.1 (c_lit 255 255 rfl) e3.2 ⟨by decide, by decide⟩)) hF (fun c4 hF => ?_) (fun c4 hF => ?_)
    ·
      exact SX40_edgeProgram_b37 (N := N) hm R3 hF
    ·
      refine s_call R3 (Nat.zero_le _) (fun _ hq => SX40_far (b := 0) (N := N) hm (R3.rf) ((ep0.trans (E1.k0 rfl _ ap0).1.symm).trans (E3.k0 rfl _ (by rw [(E1.k0 rfl _ ap0).2]; exact ap0)).1.symm) (by rw [(E3.k0 rfl _ (by rw [(E1.k0 rfl _ ap0).2]; exact ap0)).2]; exact (by rw [(E1.k0 rfl _ ap0).2]; exact ap0)) (c_sub e1.1 (c_lit 1 1 rfl)) (rr_I _) hq) hF (fun f5 rv5 h5 q5 R5 e5 E5 hF => ?_)
      exact SX40_edgeProgram_b38 (N := N) hm R5 e5.1 e5.2 hF
def FX40_insert_b6 (N : Nat) : Nat → Nat → Int → Int → Int → Int → fS → Option (Unit × fS)
  | 0, _, _, _, _, _, _ => none
  | n + 1, l0, l1, l2, l3, l4, s =>
    if l4 ≤ l1 then
      (uK 42 s l0).bind fun _ =>
      (s.o l0 1).bind fun a2 =>
      (uKA 100 s a2).bind fun _ =>
      (uQI s a2 l1 l2).bind fun σ4 =>
      (uK 42 σ4 l0).bind fun _ =>
      (σ4.o l0 2).bind fun a6 =>
      (uKA 100 σ4 a6).bind fun _ =>
      (uQI σ4 a6 l1 l3).bind fun σ8 =>
      (uK 42 σ8 l0).bind fun _ =>
      (uK 42 σ8 l0).bind fun _ =>
      (uPI σ8 l0 3 (iadd (σ8.i l0 3) 1)).bind fun σ12 =>
      some ((), σ12)
    else
      (uK 42 s l0).bind fun _ =>
      (s.o l0 1).bind fun a14 =>
      (uK 42 s l0).bind fun _ =>
      (s.o l0 1).bind fun a16 =>
      (uKA 100 s a16).bind fun _ =>
      (uRI s a16 (isub l4 1)).bind fun x18 =>
      (uKA 100 s a14).bind fun _ =>
      (uQI s a14 l4 x18).bind fun σ20 =>
      (uK 42 σ20 l0).bind fun _ =>
      (σ20.o l0 2).bind fun a22 =>
      (uK 42 σ20 l0).bind fun _ =>
      (σ20.o l0 2).bind fun a24 =>
      (uKA 100 σ20 a24).bind fun _ =>
      (uRI σ20 a24 (isub l4 1)).bind fun x26 =>
      (uKA 100 σ20 a22).bind fun _ =>
      (uQI σ20 a22 l4 x26).bind fun σ28 =>
      FX40_insert_b6 N n l0 l1 l2 l3 (iadd l4 (-1)) σ28
theorem SX40_insert_b6 {m b : Nat} {φ0 : Nat → Nat} {σo : fS} (hm : 1 ≤ m) {N : Nat} {q : Unit × fS} : ∀ {n : Nat} {φ : Nat → Nat} {h : eH} {s : fS} {l0 : Nat} {l1' : Int32} {l1 : Int} {l2' : Int32} {l2 : Int} {l3' : Int32} {l3 : Int} {l4' : Int32} {l4 : Int}, fC m b φ0 σo φ h s → l1' = iI l1 → r32 l1 → l2' = iI l2 → r32 l2 → l3' = iI l3 → r32 l3 → l4' = iI l4 → r32 l4 → FX40_insert_b6 N n l0 l1 l2 l3 l4 s = some q → gG m b φ0 σo lU q (fX40_insert_b6 N n l0 l1' l2' l3' l4' h) := by
  intro n
  induction n with
 | zero => intro φ h s l0 l1' l1 l2' l2 l3' l3 l4' l4 R el1 rl1 el2 rl2 el3 rl3 el4 rl4 hF; simp [FX40_insert_b6] at hF
  | succ n ih =>
    intro φ h s l0 l1' l1 l2' l2 l3' l3 l4' l4 R el1 rl1 el2 rl2 el3 rl3 el4 rl4 hF
    subst el1; subst el2; subst el3; subst el4
    rw [FX40_insert_b6] at hF
    rw [fX40_insert_b6]
    refine s_if (i_le rfl rfl rl4 rl1) hF (fun c1 hF => ?_) (fun c1 hF => ?_)
    ·
      refine s_K hF (fun t3 hF => ?_)
      refine s_oo hF (fun a2 e2 hF => ?_)
      refine s_gA R t3 (Nat.le_of_ble_eq_true rfl) rfl e2 (fun x2_ y2_ => ?_)
      refine s_KA hF (fun y5 z5 hF => ?_)
      refine s_qI R y5 z5 (by decide) rfl rfl rl1 rfl rl2 hF (fun h4 σ4 R4 T4 hF => ?_)
      refine s_K hF (fun t7 hF => ?_)
      refine s_oo hF (fun a6 e6 hF => ?_)
      refine s_gA R4 t7 (Nat.le_of_ble_eq_true rfl) rfl e6 (fun x6_ y6_ => ?_)
      refine s_KA hF (fun y9 z9 hF => ?_)
      refine s_qI R4 y9 z9 (by decide) rfl rfl rl1 rfl rl3 hF (fun h8 σ8 R8 T8 hF => ?_)
      refine s_K hF (fun t11 hF => ?_)
      refine s_gI R8 t11 (Nat.le_of_ble_eq_true rfl) rfl ?_
      refine s_K hF (fun t13 hF => ?_)
      refine s_pI R8 t13 (Nat.le_of_ble_eq_true rfl) rfl (c_add rfl (c_lit 1 1 rfl)) (rr_I _) hF (fun h12 σ12 R12 T12 hF => ?_)
      exact g_ret R12 hF trivial
    ·
      refine s_K hF (fun t15 hF => ?_)
      refine s_oo hF (fun a14 e14 hF => ?_)
      refine s_gA R t15 (Nat.le_of_ble_eq_true rfl) rfl e14 (fun x14_ y14_ => ?_)
      refine s_K hF (fun t17 hF => ?_)
      refine s_oo hF (fun a16 e16 hF => ?_)
      refine s_gA R t17 (Nat.le_of_ble_eq_true rfl) rfl e16 (fun x16_ y16_ => ?_)
      refine s_KA hF (fun y19 z19 hF => ?_)
      refine s_rI R y19 z19 (by decide) rfl (c_sub rfl (c_lit 1 1 rfl)) (rr_I _) hF (fun x18 ra18 hF => ?_)
      refine s_KA hF (fun y21 z21 hF => ?_)
      refine s_qI R y21 z21 (by decide) rfl rfl rl4 rfl ra18 hF (fun h20 σ20 R20 T20 hF => ?_)
      refine s_K hF (fun t23 hF => ?_)
      refine s_oo hF (fun a22 e22 hF => ?_)
      refine s_gA R20 t23 (Nat.le_of_ble_eq_true rfl) rfl e22 (fun x22_ y22_ => ?_)
      refine s_K hF (fun t25 hF => ?_)
      refine s_oo hF (fun a24 e24 hF => ?_)
      refine s_gA R20 t25 (Nat.le_of_ble_eq_true rfl) rfl e24 (fun x24_ y24_ => ?_)
      refine s_KA hF (fun y27 z27 hF => ?_)
      refine s_rI R20 y27 z27 (by decide) rfl (c_sub rfl (c_lit 1 1 rfl)) (rr_I _) hF (fun x26 ra26 hF => ?_)
      refine s_KA hF (fun y29 z29 hF => ?_)
      refine s_qI R20 y29 z29 (by decide) rfl rfl rl4 rfl ra26 hF (fun h28 σ28 R28 T28 hF => ?_)
      exact ih R28 rfl rl1 rfl rl2 rfl rl3 (c_add rfl (c_lit (-1) (-1) rfl)) (rr_I _) hF
def FX40_insert (N : Nat) (this : Nat) (p0 : Int) (p1 : Int) (p2 : Int) (s : fS) : Option (Unit × fS) :=
  (uK 42 s this).bind fun _ =>
  FX40_insert_b6 N N this p0 p1 p2 (s.i this 3) s
theorem SX40_insert {m b : Nat} {φ0 : Nat → Nat} {σo : fS} (hm : 1 ≤ m) {N : Nat} {q : Unit × fS} {φ : Nat → Nat} {h : eH} {s : fS} {this : Nat} {p0' : Int32} {p0 : Int} {p1' : Int32} {p1 : Int} {p2' : Int32} {p2 : Int} (R : fC m b φ0 σo φ h s) (ep0 : p0' = iI p0) (rp0 : r32 p0) (ep1 : p1' = iI p1) (rp1 : r32 p1) (ep2 : p2' = iI p2) (rp2 : r32 p2) (hF : FX40_insert N this p0 p1 p2 s = some q) : gG m b φ0 σo lU q (fX40_insert N this p0' p1' p2' h) := by
  subst ep0; subst ep1; subst ep2
  unfold FX40_insert at hF
  unfold fX40_insert
  refine s_K hF (fun t2 hF => ?_)
  refine s_gI R t2 (Nat.le_of_ble_eq_true rfl) rfl ?_
  exact SX40_insert_b6 (N := N) hm R rfl rp0 rfl rp1 rfl rp2 rfl (R.ri t2 (Nat.le_of_ble_eq_true rfl) rfl) hF
def FX40_edgeOf_b35 (N : Nat) (s0 : Int) (s : fS) : Option (Int × fS) :=
  some (s0, s)
theorem SX40_edgeOf_b35 {m b : Nat} {φ0 : Nat → Nat} {σo : fS} (hm : 1 ≤ m) {N : Nat} {q : Int × fS} {φ : Nat → Nat} {h : eH} {s : fS} {s0' : Int32} {s0 : Int} (R : fC m b φ0 σo φ h s) (es0 : s0' = iI s0) (rs0 : r32 s0) (hF : FX40_edgeOf_b35 N s0 s = some q) : gG m b φ0 σo lI q (fX40_edgeOf_b35 N s0' h) := by
  subst es0
  unfold FX40_edgeOf_b35 at hF
  unfold fX40_edgeOf_b35
  exact g_ret R hF ⟨rfl, rs0⟩
def FX40_edgeOf_b34 (N : Nat) (s : fS) : Option (Int × fS) :=
  FX40_edgeOf_b35 N (-1) s
theorem SX40_edgeOf_b34 {m b : Nat} {φ0 : Nat → Nat} {σo : fS} (hm : 1 ≤ m) {N : Nat} {q : Int × fS} {φ : Nat → Nat} {h : eH} {s : fS} (R : fC m b φ0 σo φ h s) (hF : FX40_edgeOf_b34 N s = some q) : gG m b φ0 σo lI q (fX40_edgeOf_b34 N h) := by
  unfold FX40_edgeOf_b34 at hF
  unfold fX40_edgeOf_b34
  exact SX40_edgeOf_b35 (N := N) hm R (c_lit (-1) (-1) rfl) ⟨by decide, by decide⟩ hF
def FX40_edgeOf (N : Nat) (p0 : Nat) (s : fS) : Option (Int × fS) :=
  (FX40_words p0 6 s).bind fun q1 =>
  if q1.1 ≤ 0 then
    FX40_edgeOf_b34 N q1.2
  else
    (FX40_at N p0 6 0 0 q1.2).bind fun q3 =>
    if ¬ (q3.1 = 255) then
      FX40_edgeOf_b34 N q3.2
    else
      (FX40_at N p0 6 0 1 q3.2).bind fun q5 =>
      FX40_edgeOf_b35 N q5.1 q5.2
theorem SX40_edgeOf {m b : Nat} {φ0 : Nat → Nat} {σo : fS} (hm : 1 ≤ m) {N : Nat} {q : Int × fS} {φ : Nat → Nat} {h : eH} {s : fS} {p0' : Nat} {p0 : Nat} (R : fC m b φ0 σo φ h s) (ep0 : p0' = φ p0) (ap0 : s.t p0 < 128) (hF : FX40_edgeOf N p0 s = some q) : gG m b φ0 σo lI q (fX40_edgeOf N p0' h) := by
  unfold FX40_edgeOf at hF
  unfold fX40_edgeOf
  refine s_call R (Nat.zero_le _) (fun _ hq => SX40_words (b := 0) hm (R.rf) ep0 ap0 (c_lit 6 6 rfl) ⟨by decide, by decide⟩ hq) hF (fun f1 rv1 h1 q1 R1 e1 E1 hF => ?_)
  refine s_if (i_le e1.1 (c_lit 0 0 rfl) e1.2 ⟨by decide, by decide⟩) hF (fun c2 hF => ?_) (fun c2 hF => ?_)
  ·
    exact SX40_edgeOf_b34 (N := N) hm R1 hF
  ·
    refine s_call R1 (Nat.zero_le _) (fun _ hq => SX40_at (b := 0) (N := N) hm (R1.rf) (ep0.trans (E1.k0 rfl _ ap0).1.symm) (by rw [(E1.k0 rfl _ ap0).2]; exact ap0) (c_lit 6 6 rfl) ⟨by decide, by decide⟩ (c_lit 0 0 rfl) ⟨by decide, by decide⟩ (c_lit 0 0 rfl) ⟨by decide, by decide⟩ hq) hF (fun f3 rv3 h3 q3 R3 e3 E3 hF => ?_)
    refine s_if (not_congr (i_eq e3.1 (c_lit 255 255 rfl) e3.2 ⟨by decide, by decide⟩)) hF (fun c4 hF => ?_) (fun c4 hF => ?_)
    ·
      exact SX40_edgeOf_b34 (N := N) hm R3 hF
    ·
      refine s_call R3 (Nat.zero_le _) (fun _ hq => SX40_at (b := 0) (N := N) hm (R3.rf) ((ep0.trans (E1.k0 rfl _ ap0).1.symm).trans (E3.k0 rfl _ (by rw [(E1.k0 rfl _ ap0).2]; exact ap0)).1.symm) (by rw [(E3.k0 rfl _ (by rw [(E1.k0 rfl _ ap0).2]; exact ap0)).2]; exact (by rw [(E1.k0 rfl _ ap0).2]; exact ap0)) (c_lit 6 6 rfl) ⟨by decide, by decide⟩ (c_lit 0 0 rfl) ⟨by decide, by decide⟩ (c_lit 1 1 rfl) ⟨by decide, by decide⟩ hq) hF (fun f5 rv5 h5 q5 R5 e5 E5 hF => ?_)
      exact SX40_edgeOf_b35 (N := N) hm R5 e5.1 e5.2 hF
def FX40_tag (N : Nat) (p0 : Nat) (p1 : Int) (s : fS) : Option (Int × fS) :=
  (FX40_half p0 2 s).bind fun q1 =>
  (FX40_at N p0 1 (isub p1 q1.1) 2 q1.2).bind fun q2 =>
  some ((irem q2.1 4), q2.2)
theorem SX40_tag {m b : Nat} {φ0 : Nat → Nat} {σo : fS} (hm : 1 ≤ m) {N : Nat} {q : Int × fS} {φ : Nat → Nat} {h : eH} {s : fS} {p0' : Nat} {p0 : Nat} {p1' : Int32} {p1 : Int} (R : fC m b φ0 σo φ h s) (ep0 : p0' = φ p0) (ap0 : s.t p0 < 128) (ep1 : p1' = iI p1) (rp1 : r32 p1) (hF : FX40_tag N p0 p1 s = some q) : gG m b φ0 σo lI q (fX40_tag N p0' p1' h) := by
  subst ep1
  unfold FX40_tag at hF
  unfold fX40_tag
  refine s_call R (Nat.zero_le _) (fun _ hq => SX40_half (b := 0) hm (R.rf) ep0 ap0 (c_lit 2 2 rfl) ⟨by decide, by decide⟩ hq) hF (fun f1 rv1 h1 q1 R1 e1 E1 hF => ?_)
  refine s_call R1 (Nat.zero_le _) (fun _ hq => SX40_at (b := 0) (N := N) hm (R1.rf) (ep0.trans (E1.k0 rfl _ ap0).1.symm) (by rw [(E1.k0 rfl _ ap0).2]; exact ap0) (c_lit 1 1 rfl) ⟨by decide, by decide⟩ (c_sub rfl e1.1) (rr_I _) (c_lit 2 2 rfl) ⟨by decide, by decide⟩ hq) hF (fun f2 rv2 h2 q2 R2 e2 E2 hF => ?_)
  exact g_ret R2 hF ⟨(c_rem e2.1 (c_lit 4 4 rfl)), (rr_I _)⟩
def FX40_rest (N : Nat) (p0 : Nat) (p1 : Int) (s : fS) : Option (Int × fS) :=
  (FX40_half p0 2 s).bind fun q1 =>
  (FX40_at N p0 1 (isub p1 q1.1) 3 q1.2).bind fun q2 =>
  some (q2.1, q2.2)
theorem SX40_rest {m b : Nat} {φ0 : Nat → Nat} {σo : fS} (hm : 1 ≤ m) {N : Nat} {q : Int × fS} {φ : Nat → Nat} {h : eH} {s : fS} {p0' : Nat} {p0 : Nat} {p1' : Int32} {p1 : Int} (R : fC m b φ0 σo φ h s) (ep0 : p0' = φ p0) (ap0 : s.t p0 < 128) (ep1 : p1' = iI p1) (rp1 : r32 p1) (hF : FX40_rest N p0 p1 s = some q) : gG m b φ0 σo lI q (fX40_rest N p0' p1' h) := by
  subst ep1
  unfold FX40_rest at hF
  unfold fX40_rest
  refine s_call R (Nat.zero_le _) (fun _ hq => SX40_half (b := 0) hm (R.rf) ep0 ap0 (c_lit 2 2 rfl) ⟨by decide, by decide⟩ hq) hF (fun f1 rv1 h1 q1 R1 e1 E1 hF => ?_)
  refine s_call R1 (Nat.zero_le _) (fun _ hq => SX40_at (b := 0) (N := N) hm (R1.rf) (ep0.trans (E1.k0 rfl _ ap0).1.symm) (by rw [(E1.k0 rfl _ ap0).2]; exact ap0) (c_lit 1 1 rfl) ⟨by decide, by decide⟩ (c_sub rfl e1.1) (rr_I _) (c_lit 3 3 rfl) ⟨by decide, by decide⟩ hq) hF (fun f2 rv2 h2 q2 R2 e2 E2 hF => ?_)
  exact g_ret R2 hF ⟨e2.1, e2.2⟩
def FX40_found_b71 (N : Nat) (s : fS) : Option (Int × fS) :=
  some ((-1), s)
theorem SX40_found_b71 {m b : Nat} {φ0 : Nat → Nat} {σo : fS} (hm : 1 ≤ m) {N : Nat} {q : Int × fS} {φ : Nat → Nat} {h : eH} {s : fS} (R : fC m b φ0 σo φ h s) (hF : FX40_found_b71 N s = some q) : gG m b φ0 σo lI q (fX40_found_b71 N h) := by
  unfold FX40_found_b71 at hF
  unfold fX40_found_b71
  exact g_ret R hF ⟨(c_lit (-1) (-1) rfl), ⟨by decide, by decide⟩⟩
def FX40_found_b103 (N : Nat) : Nat → Nat → Int → Int → fS → Option (Int × fS)
  | 0, _, _, _, _ => none
  | n + 1, l0, l3, l4, s =>
    (uK 42 s l0).bind fun _ =>
    (s.o l0 0).bind fun a1 =>
    (FX40_at N a1 6 l3 0 s).bind fun q3 =>
    if 128 < q3.1 then
      some ((-1), q3.2)
    else
      (uK 42 q3.2 l0).bind fun _ =>
      (q3.2.o l0 0).bind fun a5 =>
      (FX40_at N a5 6 l3 1 q3.2).bind fun q7 =>
      if ¬ (q7.1 = l4) then
        (uK 42 q7.2 l0).bind fun _ =>
        (q7.2.o l0 0).bind fun a9 =>
        (FX40_at N a9 6 l3 0 q7.2).bind fun q11 =>
        if ¬ (q11.1 = 128) then
          (uK 42 q11.2 l0).bind fun _ =>
          (q11.2.o l0 0).bind fun a13 =>
          (FX40_at N a13 6 l3 0 q11.2).bind fun q15 =>
          FX40_found_b103 N n l0 (iadd (iadd l3 q15.1) 1) l4 q15.2
        else
          some ((-1), q11.2)
      else
        some (l3, q7.2)
theorem SX40_found_b103 {m b : Nat} {φ0 : Nat → Nat} {σo : fS} (hm : 1 ≤ m) {N : Nat} {q : Int × fS} : ∀ {n : Nat} {φ : Nat → Nat} {h : eH} {s : fS} {l0 : Nat} {l3' : Int32} {l3 : Int} {l4' : Int32} {l4 : Int}, fC m b φ0 σo φ h s → l3' = iI l3 → r32 l3 → l4' = iI l4 → r32 l4 → FX40_found_b103 N n l0 l3 l4 s = some q → gG m b φ0 σo lI q (fX40_found_b103 N n l0 l3' l4' h) := by
  intro n
  induction n with
 | zero => intro φ h s l0 l3' l3 l4' l4 R el3 rl3 el4 rl4 hF; simp [FX40_found_b103] at hF
  | succ n ih =>
    intro φ h s l0 l3' l3 l4' l4 R el3 rl3 el4 rl4 hF
    subst el3; subst el4
    rw [FX40_found_b103] at hF
    rw [fX40_found_b103]
    refine s_K hF (fun t2 hF => ?_)
    refine s_oo hF (fun a1 e1 hF => ?_)
    refine s_gA R t2 (Nat.le_of_ble_eq_true rfl) rfl e1 (fun x1_ y1_ => ?_)
    refine s_call R (Nat.zero_le _) (fun _ hq => SX40_at (b := 0) (N := N) hm (R.rf) rfl (Nat.lt_trans y1_ (Nat.le_of_ble_eq_true rfl)) (c_lit 6 6 rfl) ⟨by decide, by decide⟩ rfl rl3 (c_lit 0 0 rfl) ⟨by decide, by decide⟩ hq) hF (fun f3 rv3 h3 q3 R3 e3 E3 hF => ?_)
    refine s_if (i_lt (c_lit 128 128 rfl) e3.1 ⟨by decide, by decide⟩ e3.2) hF (fun c4 hF => ?_) (fun c4 hF => ?_)
    ·
      exact g_ret R3 hF ⟨(c_lit (-1) (-1) rfl), ⟨by decide, by decide⟩⟩
    ·
      refine s_K hF (fun t6 hF => ?_)
      refine s_oo hF (fun a5 e5 hF => ?_)
      refine s_gA R3 t6 (Nat.le_of_ble_eq_true rfl) rfl e5 (fun x5_ y5_ => ?_)
      refine s_call R3 (Nat.zero_le _) (fun _ hq => SX40_at (b := 0) (N := N) hm (R3.rf) rfl (Nat.lt_trans y5_ (Nat.le_of_ble_eq_true rfl)) (c_lit 6 6 rfl) ⟨by decide, by decide⟩ rfl rl3 (c_lit 1 1 rfl) ⟨by decide, by decide⟩ hq) hF (fun f7 rv7 h7 q7 R7 e7 E7 hF => ?_)
      refine s_if (not_congr (i_eq e7.1 rfl e7.2 rl4)) hF (fun c8 hF => ?_) (fun c8 hF => ?_)
      ·
        refine s_K hF (fun t10 hF => ?_)
        refine s_oo hF (fun a9 e9 hF => ?_)
        refine s_gA R7 t10 (Nat.le_of_ble_eq_true rfl) rfl e9 (fun x9_ y9_ => ?_)
        refine s_call R7 (Nat.zero_le _) (fun _ hq => SX40_at (b := 0) (N := N) hm (R7.rf) rfl (Nat.lt_trans y9_ (Nat.le_of_ble_eq_true rfl)) (c_lit 6 6 rfl) ⟨by decide, by decide⟩ rfl rl3 (c_lit 0 0 rfl) ⟨by decide, by decide⟩ hq) hF (fun f11 rv11 h11 q11 R11 e11 E11 hF => ?_)
        refine s_if (not_congr (i_eq e11.1 (c_lit 128 128 rfl) e11.2 ⟨by decide, by decide⟩)) hF (fun c12 hF => ?_) (fun c12 hF => ?_)
        ·
          refine s_K hF (fun t14 hF => ?_)
          refine s_oo hF (fun a13 e13 hF => ?_)
          refine s_gA R11 t14 (Nat.le_of_ble_eq_true rfl) rfl e13 (fun x13_ y13_ => ?_)
          refine s_call R11 (Nat.zero_le _) (fun _ hq => SX40_at (b := 0) (N := N) hm (R11.rf) rfl (Nat.lt_trans y13_ (Nat.le_of_ble_eq_true rfl)) (c_lit 6 6 rfl) ⟨by decide, by decide⟩ rfl rl3 (c_lit 0 0 rfl) ⟨by decide, by decide⟩ hq) hF (fun f15 rv15 h15 q15 R15 e15 E15 hF => ?_)
          exact ih R15 (c_add (c_add rfl e15.1) (c_lit 1 1 rfl)) (rr_I _) rfl rl4 hF
        ·
          exact g_ret R11 hF ⟨(c_lit (-1) (-1) rfl), ⟨by decide, by decide⟩⟩
      ·
        exact g_ret R7 hF ⟨rfl, rl3⟩
def FX40_found_b102 (N : Nat) (l0 : Nat) (l4 : Int) (s0 : Int) (s : fS) : Option (Int × fS) :=
  FX40_found_b103 N N l0 s0 l4 s
theorem SX40_found_b102 {m b : Nat} {φ0 : Nat → Nat} {σo : fS} (hm : 1 ≤ m) {N : Nat} {q : Int × fS} {φ : Nat → Nat} {h : eH} {s : fS} {l0 : Nat} {l4' : Int32} {l4 : Int} {s0' : Int32} {s0 : Int} (R : fC m b φ0 σo φ h s) (el4 : l4' = iI l4) (rl4 : r32 l4) (es0 : s0' = iI s0) (rs0 : r32 s0) (hF : FX40_found_b102 N l0 l4 s0 s = some q) : gG m b φ0 σo lI q (fX40_found_b102 N l0 l4' s0' h) := by
  subst el4; subst es0
  unfold FX40_found_b102 at hF
  unfold fX40_found_b102
  exact SX40_found_b103 (N := N) hm R rfl rs0 rfl rl4 hF
def FX40_found_b60 (N : Nat) (l0 : Nat) (l3 : Int) (s0 : Int) (s : fS) : Option (Int × fS) :=
  if l3 < 0 then
    FX40_found_b71 N s
  else
    if 0 ≤ s0 then
      (uK 42 s l0).bind fun _ =>
      (s.o l0 0).bind fun a3 =>
      (FX40_at N a3 6 l3 0 s).bind fun q5 =>
      if q5.1 ≤ 128 then
        FX40_found_b102 N l0 s0 l3 q5.2
      else
        (uK 42 q5.2 l0).bind fun _ =>
        (q5.2.o l0 0).bind fun a7 =>
        (FX40_far N a7 l3 q5.2).bind fun q9 =>
        FX40_found_b102 N l0 s0 q9.1 q9.2
    else
      FX40_found_b71 N s
theorem SX40_found_b60 {m b : Nat} {φ0 : Nat → Nat} {σo : fS} (hm : 1 ≤ m) {N : Nat} {q : Int × fS} {φ : Nat → Nat} {h : eH} {s : fS} {l0 : Nat} {l3' : Int32} {l3 : Int} {s0' : Int32} {s0 : Int} (R : fC m b φ0 σo φ h s) (el3 : l3' = iI l3) (rl3 : r32 l3) (es0 : s0' = iI s0) (rs0 : r32 s0) (hF : FX40_found_b60 N l0 l3 s0 s = some q) : gG m b φ0 σo lI q (fX40_found_b60 N l0 l3' s0' h) := by
  subst el3; subst es0
  unfold FX40_found_b60 at hF
  unfold fX40_found_b60
  refine s_if (i_lt rfl (c_lit 0 0 rfl) rl3 ⟨by decide, by decide⟩) hF (fun c1 hF => ?_) (fun c1 hF => ?_)
  ·
    exact SX40_found_b71 (N := N) hm R hF
  ·
    refine s_if (i_le (c_lit 0 0 rfl) rfl ⟨by decide, by decide⟩ rs0) hF (fun c2 hF => ?_) (fun c2 hF => ?_)
    ·
      refine s_K hF (fun t4 hF => ?_)
      refine s_oo hF (fun a3 e3 hF => ?_)
      refine s_gA R t4 (Nat.le_of_ble_eq_true rfl) rfl e3 (fun x3_ y3_ => ?_)
      refine s_call R (Nat.zero_le _) (fun _ hq => SX40_at (b := 0) (N := N) hm (R.rf) rfl (Nat.lt_trans y3_ (Nat.le_of_ble_eq_true rfl)) (c_lit 6 6 rfl) ⟨by decide, by decide⟩ rfl rl3 (c_lit 0 0 rfl) ⟨by decide, by decide⟩ hq) hF (fun f5 rv5 h5 q5 R5 e5 E5 hF => ?_)
      refine s_if (i_le e5.1 (c_lit 128 128 rfl) e5.2 ⟨by decide, by decide⟩) hF (fun c6 hF => ?_) (fun c6 hF => ?_)
      ·
        exact SX40_found_b102 (N := N) hm R5 rfl rs0 rfl rl3 hF
      ·
        refine s_K hF (fun t8 hF => ?_)
        refine s_oo hF (fun a7 e7 hF => ?_)
        refine s_gA R5 t8 (Nat.le_of_ble_eq_true rfl) rfl e7 (fun x7_ y7_ => ?_)
        refine s_call R5 (Nat.zero_le _) (fun _ hq => SX40_far (b := 0) (N := N) hm (R5.rf) rfl (Nat.lt_trans y7_ (Nat.le_of_ble_eq_true rfl)) rfl rl3 hq) hF (fun f9 rv9 h9 q9 R9 e9 E9 hF => ?_)
        exact SX40_found_b102 (N := N) hm R9 rfl rs0 e9.1 e9.2 hF
    ·
      exact SX40_found_b71 (N := N) hm R hF
def FX40_found_b41 (N : Nat) (l0 : Nat) (l2 : Int) (s0 : Int) (s : fS) : Option (Int × fS) :=
  if ¬ (l2 = 256) then
    FX40_found_b60 N l0 s0 l2 s
  else
    (uK 42 s l0).bind fun _ =>
    (s.o l0 0).bind fun a2 =>
    (FX40_edgeOf N a2 s).bind fun q4 =>
    FX40_found_b60 N l0 s0 q4.1 q4.2
theorem SX40_found_b41 {m b : Nat} {φ0 : Nat → Nat} {σo : fS} (hm : 1 ≤ m) {N : Nat} {q : Int × fS} {φ : Nat → Nat} {h : eH} {s : fS} {l0 : Nat} {l2' : Int32} {l2 : Int} {s0' : Int32} {s0 : Int} (R : fC m b φ0 σo φ h s) (el2 : l2' = iI l2) (rl2 : r32 l2) (es0 : s0' = iI s0) (rs0 : r32 s0) (hF : FX40_found_b41 N l0 l2 s0 s = some q) : gG m b φ0 σo lI q (fX40_found_b41 N l0 l2' s0' h) := by
  subst el2; subst es0
  unfold FX40_found_b41 at hF
  unfold fX40_found_b41
  refine s_if (not_congr (i_eq rfl (c_lit 256 256 rfl) rl2 ⟨by decide, by decide⟩)) hF (fun c1 hF => ?_) (fun c1 hF => ?_)
  ·
    exact SX40_found_b60 (N := N) hm R rfl rs0 rfl rl2 hF
  ·
    refine s_K hF (fun t3 hF => ?_)
    refine s_oo hF (fun a2 e2 hF => ?_)
    refine s_gA R t3 (Nat.le_of_ble_eq_true rfl) rfl e2 (fun x2_ y2_ => ?_)
    refine s_call R (Nat.zero_le _) (fun _ hq => SX40_edgeOf (b := 0) (N := N) hm (R.rf) rfl (Nat.lt_trans y2_ (Nat.le_of_ble_eq_true rfl)) hq) hF (fun f4 rv4 h4 q4 R4 e4 E4 hF => ?_)
    exact SX40_found_b60 (N := N) hm R4 rfl rs0 e4.1 e4.2 hF
def FX40_found (N : Nat) (this : Nat) (p0 : Int) (p1 : Int) (s : fS) : Option (Int × fS) :=
  if ¬ (p0 = 256) then
    (uK 42 s this).bind fun _ =>
    (s.o this 0).bind fun a2 =>
    (FX40_tag N a2 p0 s).bind fun q4 =>
    if ¬ (q4.1 = 1) then
      FX40_found_b41 N this p1 (-1) q4.2
    else
      (uK 42 q4.2 this).bind fun _ =>
      (q4.2.o this 0).bind fun a6 =>
      (FX40_rest N a6 p0 q4.2).bind fun q8 =>
      FX40_found_b41 N this p1 q8.1 q8.2
  else
    (uK 42 s this).bind fun _ =>
    (s.o this 0).bind fun a9 =>
    (FX40_edgeProgram N a9 s).bind fun q11 =>
    FX40_found_b41 N this p1 q11.1 q11.2
theorem SX40_found {m b : Nat} {φ0 : Nat → Nat} {σo : fS} (hm : 1 ≤ m) {N : Nat} {q : Int × fS} {φ : Nat → Nat} {h : eH} {s : fS} {this : Nat} {p0' : Int32} {p0 : Int} {p1' : Int32} {p1 : Int} (R : fC m b φ0 σo φ h s) (ep0 : p0' = iI p0) (rp0 : r32 p0) (ep1 : p1' = iI p1) (rp1 : r32 p1) (hF : FX40_found N this p0 p1 s = some q) : gG m b φ0 σo lI q (fX40_found N this p0' p1' h) := by
  subst ep0; subst ep1
  unfold FX40_found at hF
  unfold fX40_found
  refine s_if (not_congr (i_eq rfl (c_lit 256 256 rfl) rp0 ⟨by decide, by decide⟩)) hF (fun c1 hF => ?_) (fun c1 hF => ?_)
  ·
    refine s_K hF (fun t3 hF => ?_)
    refine s_oo hF (fun a2 e2 hF => ?_)
    refine s_gA R t3 (Nat.le_of_ble_eq_true rfl) rfl e2 (fun x2_ y2_ => ?_)
    refine s_call R (Nat.zero_le _) (fun _ hq => SX40_tag (b := 0) (N := N) hm (R.rf) rfl (Nat.lt_trans y2_ (Nat.le_of_ble_eq_true rfl)) rfl rp0 hq) hF (fun f4 rv4 h4 q4 R4 e4 E4 hF => ?_)
    refine s_if (not_congr (i_eq e4.1 (c_lit 1 1 rfl) e4.2 ⟨by decide, by decide⟩)) hF (fun c5 hF => ?_) (fun c5 hF => ?_)
    ·
      exact SX40_found_b41 (N := N) hm R4 rfl rp1 (c_lit (-1) (-1) rfl) ⟨by decide, by decide⟩ hF
    ·
      refine s_K hF (fun t7 hF => ?_)
      refine s_oo hF (fun a6 e6 hF => ?_)
      refine s_gA R4 t7 (Nat.le_of_ble_eq_true rfl) rfl e6 (fun x6_ y6_ => ?_)
      refine s_call R4 (Nat.zero_le _) (fun _ hq => SX40_rest (b := 0) (N := N) hm (R4.rf) rfl (Nat.lt_trans y6_ (Nat.le_of_ble_eq_true rfl)) rfl rp0 hq) hF (fun f8 rv8 h8 q8 R8 e8 E8 hF => ?_)
      exact SX40_found_b41 (N := N) hm R8 rfl rp1 e8.1 e8.2 hF
  ·
    refine s_K hF (fun t10 hF => ?_)
    refine s_oo hF (fun a9 e9 hF => ?_)
    refine s_gA R t10 (Nat.le_of_ble_eq_true rfl) rfl e9 (fun x9_ y9_ => ?_)
    refine s_call R (Nat.zero_le _) (fun _ hq => SX40_edgeProgram (b := 0) (N := N) hm (R.rf) rfl (Nat.lt_trans y9_ (Nat.le_of_ble_eq_true rfl)) hq) hF (fun f11 rv11 h11 q11 R11 e11 E11 hF => ?_)
    exact SX40_found_b41 (N := N) hm R11 rfl rp1 e11.1 e11.2 hF
def FX40_scaled_b119 (N : Nat) (s0 : Int) (s : fS) : Option (Int × fS) :=
  some ((l2i s0), s)
theorem SX40_scaled_b119 {m b : Nat} {φ0 : Nat → Nat} {σo : fS} (hm : 1 ≤ m) {N : Nat} {q : Int × fS} {φ : Nat → Nat} {h : eH} {s : fS} {s0' : Int64} {s0 : Int} (R : fC m b φ0 σo φ h s) (es0 : s0' = iJ s0) (rs0 : r64 s0) (hF : FX40_scaled_b119 N s0 s = some q) : gG m b φ0 σo lI q (fX40_scaled_b119 N s0' h) := by
  subst es0
  unfold FX40_scaled_b119 at hF
  unfold fX40_scaled_b119
  exact g_ret R hF ⟨(d_2i rfl), (rr_I _)⟩
def FX40_scaled_b7 (N : Nat) : Nat → Nat → Int → Int → Int → Int → fS → Option (Int × fS)
  | 0, _, _, _, _, _, _ => none
  | n + 1, l0, l1, l2, l4, l6, s =>
    if l4 < 8388608 then
      (uK 42 s l0).bind fun _ =>
      (s.o l0 0).bind fun a2 =>
      (FX40_at N a2 l1 l2 1 s).bind fun q4 =>
      (uK 42 q4.2 l0).bind fun _ =>
      (q4.2.o l0 0).bind fun a5 =>
      (FX40_at N a5 l1 l2 2 q4.2).bind fun q7 =>
      (uK 42 q7.2 l0).bind fun _ =>
      (q7.2.o l0 0).bind fun a8 =>
      (FX40_at N a8 l1 l2 3 q7.2).bind fun q10 =>
      (uK 42 q10.2 l0).bind fun _ =>
      (q10.2.o l0 0).bind fun a11 =>
      (FX40_at N a11 l1 l2 0 q10.2).bind fun q13 =>
      if ¬ (q13.1 = 255) then
        FX40_scaled_b119 N (lshr (lmul (ladd (ladd (lmul 65536 q4.1) (lmul 256 q7.1)) q10.1) l4) (isub 20 l6)) q13.2
      else
        FX40_scaled_b119 N (lsub (lshr (lmul (ladd (ladd (lmul 65536 q4.1) (lmul 256 q7.1)) q10.1) l4) (isub 20 l6)) (lshl l4 (iadd 4 l6))) q13.2
    else
      FX40_scaled_b7 N n l0 l1 l2 (ldiv l4 2) (iadd l6 1) s
theorem SX40_scaled_b7 {m b : Nat} {φ0 : Nat → Nat} {σo : fS} (hm : 1 ≤ m) {N : Nat} {q : Int × fS} : ∀ {n : Nat} {φ : Nat → Nat} {h : eH} {s : fS} {l0 : Nat} {l1' : Int32} {l1 : Int} {l2' : Int32} {l2 : Int} {l4' : Int64} {l4 : Int} {l6' : Int32} {l6 : Int}, fC m b φ0 σo φ h s → l1' = iI l1 → r32 l1 → l2' = iI l2 → r32 l2 → l4' = iJ l4 → r64 l4 → l6' = iI l6 → r32 l6 → FX40_scaled_b7 N n l0 l1 l2 l4 l6 s = some q → gG m b φ0 σo lI q (fX40_scaled_b7 N n l0 l1' l2' l4' l6' h) := by
  intro n
  induction n with
 | zero => intro φ h s l0 l1' l1 l2' l2 l4' l4 l6' l6 R el1 rl1 el2 rl2 el4 rl4 el6 rl6 hF; simp [FX40_scaled_b7] at hF
  | succ n ih =>
    intro φ h s l0 l1' l1 l2' l2 l4' l4 l6' l6 R el1 rl1 el2 rl2 el4 rl4 el6 rl6 hF
    subst el1; subst el2; subst el4; subst el6
    rw [FX40_scaled_b7] at hF
    rw [fX40_scaled_b7]
    refine s_if (lg_lt.trans (j_lt rfl (d_lit 8388608 8388608 rfl) rl4 ⟨by decide, by decide⟩)) hF (fun c1 hF => ?_) (fun c1 hF => ?_)
    ·
      refine s_K hF (fun t3 hF => ?_)
      refine s_oo hF (fun a2 e2 hF => ?_)
      refine s_gA R t3 (Nat.le_of_ble_eq_true rfl) rfl e2 (fun x2_ y2_ => ?_)
      refine s_call R (Nat.zero_le _) (fun _ hq => SX40_at (b := 0) (N := N) hm (R.rf) rfl (Nat.lt_trans y2_ (Nat.le_of_ble_eq_true rfl)) rfl rl1 rfl rl2 (c_lit 1 1 rfl) ⟨by decide, by decide⟩ hq) hF (fun f4 rv4 h4 q4 R4 e4 E4 hF => ?_)
      refine s_K hF (fun t6 hF => ?_)
      refine s_oo hF (fun a5 e5 hF => ?_)
      refine s_gA R4 t6 (Nat.le_of_ble_eq_true rfl) rfl e5 (fun x5_ y5_ => ?_)
      refine s_call R4 (Nat.zero_le _) (fun _ hq => SX40_at (b := 0) (N := N) hm (R4.rf) rfl (Nat.lt_trans y5_ (Nat.le_of_ble_eq_true rfl)) rfl rl1 rfl rl2 (c_lit 2 2 rfl) ⟨by decide, by decide⟩ hq) hF (fun f7 rv7 h7 q7 R7 e7 E7 hF => ?_)
      refine s_K hF (fun t9 hF => ?_)
      refine s_oo hF (fun a8 e8 hF => ?_)
      refine s_gA R7 t9 (Nat.le_of_ble_eq_true rfl) rfl e8 (fun x8_ y8_ => ?_)
      refine s_call R7 (Nat.zero_le _) (fun _ hq => SX40_at (b := 0) (N := N) hm (R7.rf) rfl (Nat.lt_trans y8_ (Nat.le_of_ble_eq_true rfl)) rfl rl1 rfl rl2 (c_lit 3 3 rfl) ⟨by decide, by decide⟩ hq) hF (fun f10 rv10 h10 q10 R10 e10 E10 hF => ?_)
      refine s_K hF (fun t12 hF => ?_)
      refine s_oo hF (fun a11 e11 hF => ?_)
      refine s_gA R10 t12 (Nat.le_of_ble_eq_true rfl) rfl e11 (fun x11_ y11_ => ?_)
      refine s_call R10 (Nat.zero_le _) (fun _ hq => SX40_at (b := 0) (N := N) hm (R10.rf) rfl (Nat.lt_trans y11_ (Nat.le_of_ble_eq_true rfl)) rfl rl1 rfl rl2 (c_lit 0 0 rfl) ⟨by decide, by decide⟩ hq) hF (fun f13 rv13 h13 q13 R13 e13 E13 hF => ?_)
      refine s_if (not_congr (i_eq e13.1 (c_lit 255 255 rfl) e13.2 ⟨by decide, by decide⟩)) hF (fun c14 hF => ?_) (fun c14 hF => ?_)
      ·
        exact SX40_scaled_b119 (N := N) hm R13 (d_shr (d_mul (d_add (d_add (d_mul (d_lit 65536 65536 rfl) (c_2l e4.1 e4.2)) (d_mul (d_lit 256 256 rfl) (c_2l e7.1 e7.2))) (c_2l e10.1 e10.2)) rfl) (c_2l (c_sub (c_lit 20 20 rfl) rfl) (rr_I _))) (rr_J _) hF
      ·
        exact SX40_scaled_b119 (N := N) hm R13 (d_sub (d_shr (d_mul (d_add (d_add (d_mul (d_lit 65536 65536 rfl) (c_2l e4.1 e4.2)) (d_mul (d_lit 256 256 rfl) (c_2l e7.1 e7.2))) (c_2l e10.1 e10.2)) rfl) (c_2l (c_sub (c_lit 20 20 rfl) rfl) (rr_I _))) (d_shl rfl (c_2l (c_add (c_lit 4 4 rfl) rfl) (rr_I _)))) (rr_J _) hF
    ·
      exact ih R rfl rl1 rfl rl2 (d_div rfl (d_lit 2 2 rfl)) (rr_J _) (c_add rfl (c_lit 1 1 rfl)) (rr_I _) hF
def FX40_scaled (N : Nat) (this : Nat) (p0 : Int) (p1 : Int) (p2 : Int) (s : fS) : Option (Int × fS) :=
  FX40_scaled_b7 N N this p0 p1 p2 0 s
theorem SX40_scaled {m b : Nat} {φ0 : Nat → Nat} {σo : fS} (hm : 1 ≤ m) {N : Nat} {q : Int × fS} {φ : Nat → Nat} {h : eH} {s : fS} {this : Nat} {p0' : Int32} {p0 : Int} {p1' : Int32} {p1 : Int} {p2' : Int32} {p2 : Int} (R : fC m b φ0 σo φ h s) (ep0 : p0' = iI p0) (rp0 : r32 p0) (ep1 : p1' = iI p1) (rp1 : r32 p1) (ep2 : p2' = iI p2) (rp2 : r32 p2) (hF : FX40_scaled N this p0 p1 p2 s = some q) : gG m b φ0 σo lI q (fX40_scaled N this p0' p1' p2' h) := by
  subst ep0; subst ep1; subst ep2
  unfold FX40_scaled at hF
  unfold fX40_scaled
  exact SX40_scaled_b7 (N := N) hm R rfl rp0 rfl rp1 (c_2l rfl rp2) (r32.w rp2) (c_lit 0 0 rfl) ⟨by decide, by decide⟩ hF
