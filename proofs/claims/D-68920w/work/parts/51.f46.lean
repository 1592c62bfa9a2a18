set_option maxRecDepth 100000
set_option maxHeartbeats 4000000
def FX0_about_b12 (s0 : Nat) (s : fS) : Option (Int × fS) :=
  some (1, s)
theorem SX0_about_b12 {m b : Nat} {φ0 : Nat → Nat} {σo : fS} (hm : 2 ≤ m) {q : Int × fS} {φ : Nat → Nat} {h : eH} {s : fS} {s0 : Nat} (R : fC m b φ0 σo φ h s) (hF : FX0_about_b12 s0 s = some q) : gG m b φ0 σo lI q (fX0_about_b12 s0 h) := by
  unfold FX0_about_b12 at hF
  unfold fX0_about_b12
  exact g_ret R hF ⟨(c_lit 1 1 rfl), ⟨by decide, by decide⟩⟩
def FX0_about (p1 : Int) (s : fS) : Option (Int × fS) :=
  tC 52 (FX1_about p1 s) (kt := fun a4 σ5 =>
    FX0_about_b12 a4 σ5
    ) (k := fun x2 σ3 =>
  (uQJ σ3 325 0 x2).bind fun σ6 =>
  some (0, σ6)
  )
theorem SX0_about {m b : Nat} {φ0 : Nat → Nat} {σo : fS} (hm : 2 ≤ m) {q : Int × fS} {φ : Nat → Nat} {h : eH} {s : fS} {p1' : Int32} {p1 : Int} (R : fC m b φ0 σo φ h s) (ep1 : p1' = iI p1) (rp1 : r32 p1) (hF : FX0_about p1 s = some q) : gG m b φ0 σo lI q (fX0_about 0 p1' 325 h) := by
  subst ep1
  unfold FX0_about at hF
  unfold fX0_about
  refine s_kok R (t_0 R.S) (Nat.le_of_ble_eq_true rfl) ?_
  refine s_tC R (Nat.zero_le _) (Nat.le_of_ble_eq_true rfl) (fun _ hq => SX1_about (b := 0) (R.rf) rfl rp1 hq) hF (fun f2 a4 h2 σ5 R2 E2 hF => ?_) (fun f2 rv2 h2 x2 σ3 R2 e2 E2 hF => ?_)
  ·
    exact SX0_about_b12 hm R2 hF
  ·
    refine s_qJ R2 (u_325 hm R2.S).1 (u_325 hm R2.S).2 (a_325 hm R2) (c_lit 0 0 rfl) ⟨by decide, by decide⟩ (c_2l e2.1 e2.2) (r32.w e2.2) hF (fun h3 σ6 R3 T3 hF => ?_)
    exact g_ret R3 hF ⟨(c_lit 0 0 rfl), ⟨by decide, by decide⟩⟩
def FX0_count_b12 (s0 : Nat) (s : fS) : Option (Int × fS) :=
  some (1, s)
theorem SX0_count_b12 {m b : Nat} {φ0 : Nat → Nat} {σo : fS} (hm : 2 ≤ m) {q : Int × fS} {φ : Nat → Nat} {h : eH} {s : fS} {s0 : Nat} (R : fC m b φ0 σo φ h s) (hF : FX0_count_b12 s0 s = some q) : gG m b φ0 σo lI q (fX0_count_b12 s0 h) := by
  unfold FX0_count_b12 at hF
  unfold fX0_count_b12
  exact g_ret R hF ⟨(c_lit 1 1 rfl), ⟨by decide, by decide⟩⟩
def FX0_count (p1 : Int) (s : fS) : Option (Int × fS) :=
  tC 52 (FX1_count p1 s) (kt := fun a4 σ5 =>
    FX0_count_b12 a4 σ5
    ) (k := fun x2 σ3 =>
  (uQJ σ3 325 0 x2).bind fun σ6 =>
  some (0, σ6)
  )
theorem SX0_count {m b : Nat} {φ0 : Nat → Nat} {σo : fS} (hm : 2 ≤ m) {q : Int × fS} {φ : Nat → Nat} {h : eH} {s : fS} {p1' : Int32} {p1 : Int} (R : fC m b φ0 σo φ h s) (ep1 : p1' = iI p1) (rp1 : r32 p1) (hF : FX0_count p1 s = some q) : gG m b φ0 σo lI q (fX0_count 0 p1' 325 h) := by
  subst ep1
  unfold FX0_count at hF
  unfold fX0_count
  refine s_kok R (t_0 R.S) (Nat.le_of_ble_eq_true rfl) ?_
  refine s_tC R (Nat.zero_le _) (Nat.le_of_ble_eq_true rfl) (fun _ hq => SX1_count (b := 0) (R.rf) rfl rp1 hq) hF (fun f2 a4 h2 σ5 R2 E2 hF => ?_) (fun f2 rv2 h2 x2 σ3 R2 e2 E2 hF => ?_)
  ·
    exact SX0_count_b12 hm R2 hF
  ·
    refine s_qJ R2 (u_325 hm R2.S).1 (u_325 hm R2.S).2 (a_325 hm R2) (c_lit 0 0 rfl) ⟨by decide, by decide⟩ (c_2l e2.1 e2.2) (r32.w e2.2) hF (fun h3 σ6 R3 T3 hF => ?_)
    exact g_ret R3 hF ⟨(c_lit 0 0 rfl), ⟨by decide, by decide⟩⟩
def FX0_end_b13 (N : Nat) (RE : Int → fS → Option ((Unit ⊕ Nat) × fS)) (RN : fS → Option ((Int ⊕ Nat) × fS)) (s0 : Nat) (s : fS) : Option (Int × fS) :=
  some (1, s)
theorem SX0_end_b13 {m b : Nat} {φ0 : Nat → Nat} {σo : fS} (hm : 2 ≤ m) {N : Nat} {rE : Nat → Int32 → eH → Option ((Unit ⊕ Nat) × eH)} {RE : Int → fS → Option ((Unit ⊕ Nat) × fS)} {rN : Nat → eH → Option ((Int32 ⊕ Nat) × eH)} {RN : fS → Option ((Int ⊕ Nat) × fS)} {q : Int × fS} (hrE : ∀ {φ : Nat → Nat} {h : eH} {s : fS} {x1' : Int32} {x1 : Int} {q}, fC m 3 φ s φ h s → x1' = iI x1 → r32 x1 → RE x1 s = some q → gG m 3 φ s (lT lU) q (rE 22 x1' h)) (hrN : ∀ {φ : Nat → Nat} {h : eH} {s : fS} {q}, fC m 3 φ s φ h s → RN s = some q → gG m 3 φ s (lT lI) q (rN 22 h)) {φ : Nat → Nat} {h : eH} {s : fS} {s0 : Nat} (R : fC m b φ0 σo φ h s) (hF : FX0_end_b13 N RE RN s0 s = some q) : gG m b φ0 σo lI q (fX0_end_b13 N rE rN s0 h) := by
  unfold FX0_end_b13 at hF
  unfold fX0_end_b13
  exact g_ret R hF ⟨(c_lit 1 1 rfl), ⟨by decide, by decide⟩⟩
def FX0_end (N : Nat) (RE : Int → fS → Option ((Unit ⊕ Nat) × fS)) (RN : fS → Option ((Int ⊕ Nat) × fS)) (p1 : Int) (p2 : Int) (s : fS) : Option (Int × fS) :=
  tC 50 (FX1_end N RE RN p1 p2 s) (kt := fun a4 σ5 =>
    FX0_end_b13 N RE RN a4 σ5
    ) (k := fun x2 σ3 =>
  (uQJ σ3 325 0 x2).bind fun σ6 =>
  some (0, σ6)
  )
theorem SX0_end {m b : Nat} {φ0 : Nat → Nat} {σo : fS} (hm : 2 ≤ m) (hb : 3 ≤ b) {N : Nat} {rE : Nat → Int32 → eH → Option ((Unit ⊕ Nat) × eH)} {RE : Int → fS → Option ((Unit ⊕ Nat) × fS)} {rN : Nat → eH → Option ((Int32 ⊕ Nat) × eH)} {RN : fS → Option ((Int ⊕ Nat) × fS)} {q : Int × fS} (hrE : ∀ {φ : Nat → Nat} {h : eH} {s : fS} {x1' : Int32} {x1 : Int} {q}, fC m 3 φ s φ h s → x1' = iI x1 → r32 x1 → RE x1 s = some q → gG m 3 φ s (lT lU) q (rE 22 x1' h)) (hrN : ∀ {φ : Nat → Nat} {h : eH} {s : fS} {q}, fC m 3 φ s φ h s → RN s = some q → gG m 3 φ s (lT lI) q (rN 22 h)) {φ : Nat → Nat} {h : eH} {s : fS} {p1' : Int32} {p1 : Int} {p2' : Int32} {p2 : Int} (R : fC m b φ0 σo φ h s) (ep1 : p1' = iI p1) (rp1 : r32 p1) (ep2 : p2' = iI p2) (rp2 : r32 p2) (hF : FX0_end N RE RN p1 p2 s = some q) : gG m b φ0 σo lI q (fX0_end N rE rN 0 p1' p2' 325 h) := by
  subst ep1; subst ep2
  unfold FX0_end at hF
  unfold fX0_end
  refine s_kok R (t_0 R.S) (Nat.le_of_ble_eq_true rfl) ?_
  refine s_tC R hb (Nat.le_of_ble_eq_true rfl) (fun _ hq => SX1_end (b := 3) (N := N) (rE := rE) (RE := RE) (rN := rN) (RN := RN) (Nat.le_of_ble_eq_true rfl) @hrE @hrN (R.rf) rfl rp1 rfl rp2 hq) hF (fun f2 a4 h2 σ5 R2 E2 hF => ?_) (fun f2 rv2 h2 x2 σ3 R2 e2 E2 hF => ?_)
  ·
    exact SX0_end_b13 (N := N) (rE := rE) (RE := RE) (rN := rN) (RN := RN) hm @hrE @hrN R2 hF
  ·
    refine s_qJ R2 (u_325 hm R2.S).1 (u_325 hm R2.S).2 (a_325 hm R2) (c_lit 0 0 rfl) ⟨by decide, by decide⟩ (c_2l e2.1 e2.2) (r32.w e2.2) hF (fun h3 σ6 R3 T3 hF => ?_)
    exact g_ret R3 hF ⟨(c_lit 0 0 rfl), ⟨by decide, by decide⟩⟩
def FX0_feed_b14 (N : Nat) (s0 : Nat) (s : fS) : Option (Int × fS) :=
  some (1, s)
theorem SX0_feed_b14 {m b : Nat} {φ0 : Nat → Nat} {σo : fS} (hm : 2 ≤ m) {N : Nat} {q : Int × fS} {φ : Nat → Nat} {h : eH} {s : fS} {s0 : Nat} (R : fC m b φ0 σo φ h s) (hF : FX0_feed_b14 N s0 s = some q) : gG m b φ0 σo lI q (fX0_feed_b14 N s0 h) := by
  unfold FX0_feed_b14 at hF
  unfold fX0_feed_b14
  exact g_ret R hF ⟨(c_lit 1 1 rfl), ⟨by decide, by decide⟩⟩
def FX0_feed (N : Nat) (p1 : Int) (p2 : Int) (p3 : Int) (p4 : Int) (p5 : Int) (s : fS) : Option (Int × fS) :=
  tC 51 (FX1_feed N p1 p2 p3 p4 p5 s) (kt := fun a4 σ5 =>
    FX0_feed_b14 N a4 σ5
    ) (k := fun x2 σ3 =>
  some (0, σ3)
  )
theorem SX0_feed {m b : Nat} {φ0 : Nat → Nat} {σo : fS} (hm : 2 ≤ m) {N : Nat} {q : Int × fS} {φ : Nat → Nat} {h : eH} {s : fS} {p1' : Int32} {p1 : Int} {p2' : Int32} {p2 : Int} {p3' : Int32} {p3 : Int} {p4' : Int32} {p4 : Int} {p5' : Int32} {p5 : Int} (R : fC m b φ0 σo φ h s) (ep1 : p1' = iI p1) (rp1 : r32 p1) (ep2 : p2' = iI p2) (rp2 : r32 p2) (ep3 : p3' = iI p3) (rp3 : r32 p3) (ep4 : p4' = iI p4) (rp4 : r32 p4) (ep5 : p5' = iI p5) (rp5 : r32 p5) (hF : FX0_feed N p1 p2 p3 p4 p5 s = some q) : gG m b φ0 σo lI q (fX0_feed N 0 p1' p2' p3' p4' p5' h) := by
  subst ep1; subst ep2; subst ep3; subst ep4; subst ep5
  unfold FX0_feed at hF
  unfold fX0_feed
  refine s_kok R (t_0 R.S) (Nat.le_of_ble_eq_true rfl) ?_
  refine s_tC R (Nat.zero_le _) (Nat.le_of_ble_eq_true rfl) (fun _ hq => SX1_feed (b := 0) (N := N) (R.rf) rfl rp1 rfl rp2 rfl rp3 rfl rp4 rfl rp5 hq) hF (fun f2 a4 h2 σ5 R2 E2 hF => ?_) (fun f2 rv2 h2 x2 σ3 R2 e2 E2 hF => ?_)
  ·
    exact SX0_feed_b14 (N := N) hm R2 hF
  ·
    exact g_ret R2 hF ⟨(c_lit 0 0 rfl), ⟨by decide, by decide⟩⟩
def FX0_fuel_b8 (s0 : Nat) (s : fS) : Option (Int × fS) :=
  some (1, s)
theorem SX0_fuel_b8 {m b : Nat} {φ0 : Nat → Nat} {σo : fS} (hm : 2 ≤ m) {q : Int × fS} {φ : Nat → Nat} {h : eH} {s : fS} {s0 : Nat} (R : fC m b φ0 σo φ h s) (hF : FX0_fuel_b8 s0 s = some q) : gG m b φ0 σo lI q (fX0_fuel_b8 s0 h) := by
  unfold FX0_fuel_b8 at hF
  unfold fX0_fuel_b8
  exact g_ret R hF ⟨(c_lit 1 1 rfl), ⟨by decide, by decide⟩⟩
def FX0_fuel (p1 : Int) (s : fS) : Option (Int × fS) :=
  tC 50 (FX1_fuel p1 s) (kt := fun a4 σ5 =>
    FX0_fuel_b8 a4 σ5
    ) (k := fun x2 σ3 =>
  some (0, σ3)
  )
theorem SX0_fuel {m b : Nat} {φ0 : Nat → Nat} {σo : fS} (hm : 2 ≤ m) {q : Int × fS} {φ : Nat → Nat} {h : eH} {s : fS} {p1' : Int32} {p1 : Int} (R : fC m b φ0 σo φ h s) (ep1 : p1' = iI p1) (rp1 : r32 p1) (hF : FX0_fuel p1 s = some q) : gG m b φ0 σo lI q (fX0_fuel 0 p1' h) := by
  subst ep1
  unfold FX0_fuel at hF
  unfold fX0_fuel
  refine s_kok R (t_0 R.S) (Nat.le_of_ble_eq_true rfl) ?_
  refine s_tC R (Nat.zero_le _) (Nat.le_of_ble_eq_true rfl) (fun _ hq => SX1_fuel (b := 0) (R.rf) rfl rp1 hq) hF (fun f2 a4 h2 σ5 R2 E2 hF => ?_) (fun f2 rv2 h2 x2 σ3 R2 e2 E2 hF => ?_)
  ·
    exact SX0_fuel_b8 hm R2 hF
  ·
    exact g_ret R2 hF ⟨(c_lit 0 0 rfl), ⟨by decide, by decide⟩⟩
def FX0_out_b12 (s0 : Nat) (s : fS) : Option (Int × fS) :=
  some (1, s)
theorem SX0_out_b12 {m b : Nat} {φ0 : Nat → Nat} {σo : fS} (hm : 2 ≤ m) {q : Int × fS} {φ : Nat → Nat} {h : eH} {s : fS} {s0 : Nat} (R : fC m b φ0 σo φ h s) (hF : FX0_out_b12 s0 s = some q) : gG m b φ0 σo lI q (fX0_out_b12 s0 h) := by
  unfold FX0_out_b12 at hF
  unfold fX0_out_b12
  exact g_ret R hF ⟨(c_lit 1 1 rfl), ⟨by decide, by decide⟩⟩
def FX0_out (p1 : Int) (s : fS) : Option (Int × fS) :=
  tC 52 (FX1_out p1 s) (kt := fun a4 σ5 =>
    FX0_out_b12 a4 σ5
    ) (k := fun x2 σ3 =>
  (uQJ σ3 325 0 x2).bind fun σ6 =>
  some (0, σ6)
  )
theorem SX0_out {m b : Nat} {φ0 : Nat → Nat} {σo : fS} (hm : 2 ≤ m) {q : Int × fS} {φ : Nat → Nat} {h : eH} {s : fS} {p1' : Int32} {p1 : Int} (R : fC m b φ0 σo φ h s) (ep1 : p1' = iI p1) (rp1 : r32 p1) (hF : FX0_out p1 s = some q) : gG m b φ0 σo lI q (fX0_out 0 p1' 325 h) := by
  subst ep1
  unfold FX0_out at hF
  unfold fX0_out
  refine s_kok R (t_0 R.S) (Nat.le_of_ble_eq_true rfl) ?_
  refine s_tC R (Nat.zero_le _) (Nat.le_of_ble_eq_true rfl) (fun _ hq => SX1_out (b := 0) (R.rf) rfl rp1 hq) hF (fun f2 a4 h2 σ5 R2 E2 hF => ?_) (fun f2 rv2 h2 x2 σ3 R2 e2 E2 hF => ?_)
  ·
    exact SX0_out_b12 hm R2 hF
  ·
    refine s_qJ R2 (u_325 hm R2.S).1 (u_325 hm R2.S).2 (a_325 hm R2) (c_lit 0 0 rfl) ⟨by decide, by decide⟩ (c_2l e2.1 e2.2) (r32.w e2.2) hF (fun h3 σ6 R3 T3 hF => ?_)
    exact g_ret R3 hF ⟨(c_lit 0 0 rfl), ⟨by decide, by decide⟩⟩
def FL_law_b498 (N : Nat) (L : Nat) (xs : Nat → Int32) (RE : Int → fS → Option ((Unit ⊕ Nat) × fS)) (RN : fS → Option ((Int ⊕ Nat) × fS)) (SE : Int → fS → Option (Unit × fS)) (SL : Int → Int → Int → fS → Option (Int × fS)) (SN : fS → Option (Int × fS)) (K23 : Int → fS → Option (Int × fS)) (l4 : Int) (s : fS) : Option (Int × fS) :=
  K23 (iadd l4 6) s
theorem SL_law_b498 {m b : Nat} {φ0 : Nat → Nat} {σo : fS} (hm : 2 ≤ m) (hb : 3 ≤ b) {N : Nat} {L : Nat} {xs : Nat → Int32} {rE : Nat → Int32 → eH → Option ((Unit ⊕ Nat) × eH)} {RE : Int → fS → Option ((Unit ⊕ Nat) × fS)} {rN : Nat → eH → Option ((Int32 ⊕ Nat) × eH)} {RN : fS → Option ((Int ⊕ Nat) × fS)} {sE : Nat → Int32 → eH → Option (Unit × eH)} {SE : Int → fS → Option (Unit × fS)} {sL : Nat → Int32 → Int64 → Int64 → eH → Option (Int32 × eH)} {SL : Int → Int → Int → fS → Option (Int × fS)} {sN : Nat → eH → Option (Int32 × eH)} {SN : fS → Option (Int × fS)} {k23 : Nat → Nat → Nat → Int32 → eH → Option (Int32 × eH)} {K23 : Int → fS → Option (Int × fS)} {q : Int × fS} (hL : L ≤ 384) (hrE : ∀ {φ : Nat → Nat} {h : eH} {s : fS} {x1' : Int32} {x1 : Int} {q}, fC m 3 φ s φ h s → x1' = iI x1 → r32 x1 → RE x1 s = some q → gG m 3 φ s (lT lU) q (rE 22 x1' h)) (hrN : ∀ {φ : Nat → Nat} {h : eH} {s : fS} {q}, fC m 3 φ s φ h s → RN s = some q → gG m 3 φ s (lT lI) q (rN 22 h)) (hsE : ∀ {φ : Nat → Nat} {h : eH} {s : fS} {x1' : Int32} {x1 : Int} {q}, fC m 1 φ s φ h s → x1' = iI x1 → r32 x1 → SE x1 s = some q → gG m 1 φ s lU q (sE 192 x1' h)) (hsL : ∀ {φ : Nat → Nat} {h : eH} {s : fS} {x1' : Int32} {x1 : Int} {x2' : Int64} {x2 : Int} {x3' : Int64} {x3 : Int} {q}, fC m 1 φ s φ h s → x1' = iI x1 → r32 x1 → x2' = iJ x2 → r64 x2 → x3' = iJ x3 → r64 x3 → SL x1 x2 x3 s = some q → gG m 1 φ s lI q (sL 192 x1' x2' x3' h)) (hsN : ∀ {φ : Nat → Nat} {h : eH} {s : fS} {q}, fC m 1 φ s φ h s → SN s = some q → gG m 1 φ s lI q (sN 192 h)) (hk23 : ∀ {φ : Nat → Nat} {h : eH} {s : fS} {l4' : Int32} {l4 : Int}, fC m b φ0 σo φ h s → l4' = iI l4 → r32 l4 → K23 l4 s = some q → gG m b φ0 σo lI q (k23 0 192 325 l4' h)) {φ : Nat → Nat} {h : eH} {s : fS} {l4' : Int32} {l4 : Int} (R : fC m b φ0 σo φ h s) (el4 : l4' = iI l4) (rl4 : r32 l4) (hF : FL_law_b498 N L xs RE RN SE SL SN K23 l4 s = some q) : gG m b φ0 σo lI q (fL_law_b498 N L xs rE rN sE sL sN k23 0 192 325 l4' h) := by
  subst el4
  unfold FL_law_b498 at hF
  unfold fL_law_b498
  exact hk23 R (c_add rfl (c_lit 6 6 rfl)) (rr_I _) hF
def FL_law_b273 (N : Nat) (L : Nat) (xs : Nat → Int32) (RE : Int → fS → Option ((Unit ⊕ Nat) × fS)) (RN : fS → Option ((Int ⊕ Nat) × fS)) (SE : Int → fS → Option (Unit × fS)) (SL : Int → Int → Int → fS → Option (Int × fS)) (SN : fS → Option (Int × fS)) (K23 : Int → fS → Option (Int × fS)) (l4 : Int) (s : fS) : Option (Int × fS) :=
  FL_law_b498 N L xs RE RN SE SL SN K23 l4 s
theorem SL_law_b273 {m b : Nat} {φ0 : Nat → Nat} {σo : fS} (hm : 2 ≤ m) (hb : 3 ≤ b) {N : Nat} {L : Nat} {xs : Nat → Int32} {rE : Nat → Int32 → eH → Option ((Unit ⊕ Nat) × eH)} {RE : Int → fS → Option ((Unit ⊕ Nat) × fS)} {rN : Nat → eH → Option ((Int32 ⊕ Nat) × eH)} {RN : fS → Option ((Int ⊕ Nat) × fS)} {sE : Nat → Int32 → eH → Option (Unit × eH)} {SE : Int → fS → Option (Unit × fS)} {sL : Nat → Int32 → Int64 → Int64 → eH → Option (Int32 × eH)} {SL : Int → Int → Int → fS → Option (Int × fS)} {sN : Nat → eH → Option (Int32 × eH)} {SN : fS → Option (Int × fS)} {k23 : Nat → Nat → Nat → Int32 → eH → Option (Int32 × eH)} {K23 : Int → fS → Option (Int × fS)} {q : Int × fS} (hL : L ≤ 384) (hrE : ∀ {φ : Nat → Nat} {h : eH} {s : fS} {x1' : Int32} {x1 : Int} {q}, fC m 3 φ s φ h s → x1' = iI x1 → r32 x1 → RE x1 s = some q → gG m 3 φ s (lT lU) q (rE 22 x1' h)) (hrN : ∀ {φ : Nat → Nat} {h : eH} {s : fS} {q}, fC m 3 φ s φ h s → RN s = some q → gG m 3 φ s (lT lI) q (rN 22 h)) (hsE : ∀ {φ : Nat → Nat} {h : eH} {s : fS} {x1' : Int32} {x1 : Int} {q}, fC m 1 φ s φ h s → x1' = iI x1 → r32 x1 → SE x1 s = some q → gG m 1 φ s lU q (sE 192 x1' h)) (hsL : ∀ {φ : Nat → Nat} {h : eH} {s : fS} {x1' : Int32} {x1 : Int} {x2' : Int64} {x2 : Int} {x3' : Int64} {x3 : Int} {q}, fC m 1 φ s φ h s → x1' = iI x1 → r32 x1 → x2' = iJ x2 → r64 x2 → x3' = iJ x3 → r64 x3 → SL x1 x2 x3 s = some q → gG m 1 φ s lI q (sL 192 x1' x2' x3' h)) (hsN : ∀ {φ : Nat → Nat} {h : eH} {s : fS} {q}, fC m 1 φ s φ h s → SN s = some q → gG m 1 φ s lI q (sN 192 h)) (hk23 : ∀ {φ : Nat → Nat} {h : eH} {s : fS} {l4' : Int32} {l4 : Int}, fC m b φ0 σo φ h s → l4' = iI l4 → r32 l4 → K23 l4 s = some q → gG m b φ0 σo lI q (k23 0 192 325 l4' h)) {φ : Nat → Nat} {h : eH} {s : fS} {l4' : Int32} {l4 : Int} (R : fC m b φ0 σo φ h s) (el4 : l4' = iI l4) (rl4 : r32 l4) (hF : FL_law_b273 N L xs RE RN SE SL SN K23 l4 s = some q) : gG m b φ0 σo lI q (fL_law_b273 N L xs rE rN sE sL sN k23 0 192 325 l4' h) := by
  subst el4
  unfold FL_law_b273 at hF
  unfold fL_law_b273
  exact SL_law_b498 (N := N) (L := L) (xs := xs) (rE := rE) (RE := RE) (rN := rN) (RN := RN) (sE := sE) (SE := SE) (sL := sL) (SL := SL) (sN := sN) (SN := SN) (k23 := k23) (K23 := K23) hm hb hL @hrE @hrN @hsE @hsL @hsN @hk23 R rfl rl4 hF
def FL_law_b309 (N : Nat) (L : Nat) (xs : Nat → Int32) (RE : Int → fS → Option ((Unit ⊕ Nat) × fS)) (RN : fS → Option ((Int ⊕ Nat) × fS)) (SE : Int → fS → Option (Unit × fS)) (SL : Int → Int → Int → fS → Option (Int × fS)) (SN : fS → Option (Int × fS)) (K23 : Int → fS → Option (Int × fS)) (l4 : Int) (s0 : Int) (s2 : Int) (s : fS) : Option (Int × fS) :=
  (FX35_clear_2 s2 s).bind fun q2 =>
  if s0 = q2.1 then
    FL_law_b498 N L xs RE RN SE SL SN K23 l4 q2.2
  else
    some (0, q2.2)
theorem SL_law_b309 {m b : Nat} {φ0 : Nat → Nat} {σo : fS} (hm : 2 ≤ m) (hb : 3 ≤ b) {N : Nat} {L : Nat} {xs : Nat → Int32} {rE : Nat → Int32 → eH → Option ((Unit ⊕ Nat) × eH)} {RE : Int → fS → Option ((Unit ⊕ Nat) × fS)} {rN : Nat → eH → Option ((Int32 ⊕ Nat) × eH)} {RN : fS → Option ((Int ⊕ Nat) × fS)} {sE : Nat → Int32 → eH → Option (Unit × eH)} {SE : Int → fS → Option (Unit × fS)} {sL : Nat → Int32 → Int64 → Int64 → eH → Option (Int32 × eH)} {SL : Int → Int → Int → fS → Option (Int × fS)} {sN : Nat → eH → Option (Int32 × eH)} {SN : fS → Option (Int × fS)} {k23 : Nat → Nat → Nat → Int32 → eH → Option (Int32 × eH)} {K23 : Int → fS → Option (Int × fS)} {q : Int × fS} (hL : L ≤ 384) (hrE : ∀ {φ : Nat → Nat} {h : eH} {s : fS} {x1' : Int32} {x1 : Int} {q}, fC m 3 φ s φ h s → x1' = iI x1 → r32 x1 → RE x1 s = some q → gG m 3 φ s (lT lU) q (rE 22 x1' h)) (hrN : ∀ {φ : Nat → Nat} {h : eH} {s : fS} {q}, fC m 3 φ s φ h s → RN s = some q → gG m 3 φ s (lT lI) q (rN 22 h)) (hsE : ∀ {φ : Nat → Nat} {h : eH} {s : fS} {x1' : Int32} {x1 : Int} {q}, fC m 1 φ s φ h s → x1' = iI x1 → r32 x1 → SE x1 s = some q → gG m 1 φ s lU q (sE 192 x1' h)) (hsL : ∀ {φ : Nat → Nat} {h : eH} {s : fS} {x1' : Int32} {x1 : Int} {x2' : Int64} {x2 : Int} {x3' : Int64} {x3 : Int} {q}, fC m 1 φ s φ h s → x1' = iI x1 → r32 x1 → x2' = iJ x2 → r64 x2 → x3' = iJ x3 → r64 x3 → SL x1 x2 x3 s = some q → gG m 1 φ s lI q (sL 192 x1' x2' x3' h)) (hsN : ∀ {φ : Nat → Nat} {h : eH} {s : fS} {q}, fC m 1 φ s φ h s → SN s = some q → gG m 1 φ s lI q (sN 192 h)) (hk23 : ∀ {φ : Nat → Nat} {h : eH} {s : fS} {l4' : Int32} {l4 : Int}, fC m b φ0 σo φ h s → l4' = iI l4 → r32 l4 → K23 l4 s = some q → gG m b φ0 σo lI q (k23 0 192 325 l4' h)) {φ : Nat → Nat} {h : eH} {s : fS} {l4' : Int32} {l4 : Int} {s0' : Int32} {s0 : Int} {s2' : Int32} {s2 : Int} (R : fC m b φ0 σo φ h s) (el4 : l4' = iI l4) (rl4 : r32 l4) (es0 : s0' = iI s0) (rs0 : r32 s0) (es2 : s2' = iI s2) (rs2 : r32 s2) (hF : FL_law_b309 N L xs RE RN SE SL SN K23 l4 s0 s2 s = some q) : gG m b φ0 σo lI q (fL_law_b309 N L xs rE rN sE sL sN k23 0 192 325 l4' s0' 192 s2' h) := by
  subst el4; subst es0; subst es2
  unfold FL_law_b309 at hF
  unfold fL_law_b309
  refine s_kok R (t_192 (Nat.le_of_succ_le hm) R.S) (Nat.le_of_ble_eq_true rfl) ?_
  refine s_call R (Nat.zero_le _) (fun _ hq => SX35_clear_2 (b := 0) (Nat.le_of_succ_le hm) (R.rf) rfl rs2 hq) hF (fun f2 rv2 h2 q2 R2 e2 E2 hF => ?_)
  refine s_if (i_eq rfl e2.1 rs0 e2.2) hF (fun c3 hF => ?_) (fun c3 hF => ?_)
  ·
    exact SL_law_b498 (N := N) (L := L) (xs := xs) (rE := rE) (RE := RE) (rN := rN) (RN := RN) (sE := sE) (SE := SE) (sL := sL) (SL := SL) (sN := sN) (SN := SN) (k23 := k23) (K23 := K23) hm hb hL @hrE @hrN @hsE @hsL @hsN @hk23 R2 rfl rl4 hF
  ·
    exact g_ret R2 hF ⟨(c_lit 0 0 rfl), ⟨by decide, by decide⟩⟩
def FL_law_b291 (N : Nat) (L : Nat) (xs : Nat → Int32) (RE : Int → fS → Option ((Unit ⊕ Nat) × fS)) (RN : fS → Option ((Int ⊕ Nat) × fS)) (SE : Int → fS → Option (Unit × fS)) (SL : Int → Int → Int → fS → Option (Int × fS)) (SN : fS → Option (Int × fS)) (K23 : Int → fS → Option (Int × fS)) (l4 : Int) (s1 : Int) (s : fS) : Option (Int × fS) :=
  (FX1_clear N s1 s).bind fun q2 =>
  (uSG L xs (iadd l4 1)).bind fun x3 =>
  if x3 = 0 then
    FL_law_b309 N L xs RE RN SE SL SN K23 l4 q2.1 0 q2.2
  else
    FL_law_b309 N L xs RE RN SE SL SN K23 l4 q2.1 1 q2.2
theorem SL_law_b291 {m b : Nat} {φ0 : Nat → Nat} {σo : fS} (hm : 2 ≤ m) (hb : 3 ≤ b) {N : Nat} {L : Nat} {xs : Nat → Int32} {rE : Nat → Int32 → eH → Option ((Unit ⊕ Nat) × eH)} {RE : Int → fS → Option ((Unit ⊕ Nat) × fS)} {rN : Nat → eH → Option ((Int32 ⊕ Nat) × eH)} {RN : fS → Option ((Int ⊕ Nat) × fS)} {sE : Nat → Int32 → eH → Option (Unit × eH)} {SE : Int → fS → Option (Unit × fS)} {sL : Nat → Int32 → Int64 → Int64 → eH → Option (Int32 × eH)} {SL : Int → Int → Int → fS → Option (Int × fS)} {sN : Nat → eH → Option (Int32 × eH)} {SN : fS → Option (Int × fS)} {k23 : Nat → Nat → Nat → Int32 → eH → Option (Int32 × eH)} {K23 : Int → fS → Option (Int × fS)} {q : Int × fS} (hL : L ≤ 384) (hrE : ∀ {φ : Nat → Nat} {h : eH} {s : fS} {x1' : Int32} {x1 : Int} {q}, fC m 3 φ s φ h s → x1' = iI x1 → r32 x1 → RE x1 s = some q → gG m 3 φ s (lT lU) q (rE 22 x1' h)) (hrN : ∀ {φ : Nat → Nat} {h : eH} {s : fS} {q}, fC m 3 φ s φ h s → RN s = some q → gG m 3 φ s (lT lI) q (rN 22 h)) (hsE : ∀ {φ : Nat → Nat} {h : eH} {s : fS} {x1' : Int32} {x1 : Int} {q}, fC m 1 φ s φ h s → x1' = iI x1 → r32 x1 → SE x1 s = some q → gG m 1 φ s lU q (sE 192 x1' h)) (hsL : ∀ {φ : Nat → Nat} {h : eH} {s : fS} {x1' : Int32} {x1 : Int} {x2' : Int64} {x2 : Int} {x3' : Int64} {x3 : Int} {q}, fC m 1 φ s φ h s → x1' = iI x1 → r32 x1 → x2' = iJ x2 → r64 x2 → x3' = iJ x3 → r64 x3 → SL x1 x2 x3 s = some q → gG m 1 φ s lI q (sL 192 x1' x2' x3' h)) (hsN : ∀ {φ : Nat → Nat} {h : eH} {s : fS} {q}, fC m 1 φ s φ h s → SN s = some q → gG m 1 φ s lI q (sN 192 h)) (hk23 : ∀ {φ : Nat → Nat} {h : eH} {s : fS} {l4' : Int32} {l4 : Int}, fC m b φ0 σo φ h s → l4' = iI l4 → r32 l4 → K23 l4 s = some q → gG m b φ0 σo lI q (k23 0 192 325 l4' h)) {φ : Nat → Nat} {h : eH} {s : fS} {l4' : Int32} {l4 : Int} {s1' : Int32} {s1 : Int} (R : fC m b φ0 σo φ h s) (el4 : l4' = iI l4) (rl4 : r32 l4) (es1 : s1' = iI s1) (rs1 : r32 s1) (hF : FL_law_b291 N L xs RE RN SE SL SN K23 l4 s1 s = some q) : gG m b φ0 σo lI q (fL_law_b291 N L xs rE rN sE sL sN k23 0 192 325 l4' 0 s1' h) := by
  subst el4; subst es1
  unfold FL_law_b291 at hF
  unfold fL_law_b291
  refine s_kok R (t_0 R.S) (Nat.le_of_ble_eq_true rfl) ?_
  refine s_call R (Nat.le_trans (Nat.le_of_ble_eq_true rfl) hb) (fun _ hq => SX1_clear (b := 1) (N := N) (Nat.le_of_ble_eq_true rfl) (R.rf) rfl rs1 hq) hF (fun f2 rv2 h2 q2 R2 e2 E2 hF => ?_)
  refine s_sg (c_add rfl (c_lit 1 1 rfl)) (rr_I _) hF (fun x3 ra3 hF => ?_)
  refine s_if (i_eq rfl (c_lit 0 0 rfl) ra3 ⟨by decide, by decide⟩) hF (fun c4 hF => ?_) (fun c4 hF => ?_)
  ·
    exact SL_law_b309 (N := N) (L := L) (xs := xs) (rE := rE) (RE := RE) (rN := rN) (RN := RN) (sE := sE) (SE := SE) (sL := sL) (SL := SL) (sN := sN) (SN := SN) (k23 := k23) (K23 := K23) hm hb hL @hrE @hrN @hsE @hsL @hsN @hk23 R2 rfl rl4 e2.1 e2.2 (c_lit 0 0 rfl) ⟨by decide, by decide⟩ hF
  ·
    exact SL_law_b309 (N := N) (L := L) (xs := xs) (rE := rE) (RE := RE) (rN := rN) (RN := RN) (sE := sE) (SE := SE) (sL := sL) (SL := SL) (sN := sN) (SN := SN) (k23 := k23) (K23 := K23) hm hb hL @hrE @hrN @hsE @hsL @hsN @hk23 R2 rfl rl4 e2.1 e2.2 (c_lit 1 1 rfl) ⟨by decide, by decide⟩ hF
def FL_law_b383 (N : Nat) (L : Nat) (xs : Nat → Int32) (RE : Int → fS → Option ((Unit ⊕ Nat) × fS)) (RN : fS → Option ((Int ⊕ Nat) × fS)) (SE : Int → fS → Option (Unit × fS)) (SL : Int → Int → Int → fS → Option (Int × fS)) (SN : fS → Option (Int × fS)) (K23 : Int → fS → Option (Int × fS)) (l4 : Int) (s : fS) : Option (Int × fS) :=
  FL_law_b498 N L xs RE RN SE SL SN K23 l4 s
theorem SL_law_b383 {m b : Nat} {φ0 : Nat → Nat} {σo : fS} (hm : 2 ≤ m) (hb : 3 ≤ b) {N : Nat} {L : Nat} {xs : Nat → Int32} {rE : Nat → Int32 → eH → Option ((Unit ⊕ Nat) × eH)} {RE : Int → fS → Option ((Unit ⊕ Nat) × fS)} {rN : Nat → eH → Option ((Int32 ⊕ Nat) × eH)} {RN : fS → Option ((Int ⊕ Nat) × fS)} {sE : Nat → Int32 → eH → Option (Unit × eH)} {SE : Int → fS → Option (Unit × fS)} {sL : Nat → Int32 → Int64 → Int64 → eH → Option (Int32 × eH)} {SL : Int → Int → Int → fS → Option (Int × fS)} {sN : Nat → eH → Option (Int32 × eH)} {SN : fS → Option (Int × fS)} {k23 : Nat → Nat → Nat → Int32 → eH → Option (Int32 × eH)} {K23 : Int → fS → Option (Int × fS)} {q : Int × fS} (hL : L ≤ 384) (hrE : ∀ {φ : Nat → Nat} {h : eH} {s : fS} {x1' : Int32} {x1 : Int} {q}, fC m 3 φ s φ h s → x1' = iI x1 → r32 x1 → RE x1 s = some q → gG m 3 φ s (lT lU) q (rE 22 x1' h)) (hrN : ∀ {φ : Nat → Nat} {h : eH} {s : fS} {q}, fC m 3 φ s φ h s → RN s = some q → gG m 3 φ s (lT lI) q (rN 22 h)) (hsE : ∀ {φ : Nat → Nat} {h : eH} {s : fS} {x1' : Int32} {x1 : Int} {q}, fC m 1 φ s φ h s → x1' = iI x1 → r32 x1 → SE x1 s = some q → gG m 1 φ s lU q (sE 192 x1' h)) (hsL : ∀ {φ : Nat → Nat} {h : eH} {s : fS} {x1' : Int32} {x1 : Int} {x2' : Int64} {x2 : Int} {x3' : Int64} {x3 : Int} {q}, fC m 1 φ s φ h s → x1' = iI x1 → r32 x1 → x2' = iJ x2 → r64 x2 → x3' = iJ x3 → r64 x3 → SL x1 x2 x3 s = some q → gG m 1 φ s lI q (sL 192 x1' x2' x3' h)) (hsN : ∀ {φ : Nat → Nat} {h : eH} {s : fS} {q}, fC m 1 φ s φ h s → SN s = some q → gG m 1 φ s lI q (sN 192 h)) (hk23 : ∀ {φ : Nat → Nat} {h : eH} {s : fS} {l4' : Int32} {l4 : Int}, fC m b φ0 σo φ h s → l4' = iI l4 → r32 l4 → K23 l4 s = some q → gG m b φ0 σo lI q (k23 0 192 325 l4' h)) {φ : Nat → Nat} {h : eH} {s : fS} {l4' : Int32} {l4 : Int} (R : fC m b φ0 σo φ h s) (el4 : l4' = iI l4) (rl4 : r32 l4) (hF : FL_law_b383 N L xs RE RN SE SL SN K23 l4 s = some q) : gG m b φ0 σo lI q (fL_law_b383 N L xs rE rN sE sL sN k23 0 192 325 l4' h) := by
  subst el4
  unfold FL_law_b383 at hF
  unfold fL_law_b383
  exact SL_law_b498 (N := N) (L := L) (xs := xs) (rE := rE) (RE := RE) (rN := rN) (RN := RN) (sE := sE) (SE := SE) (sL := sL) (SL := SL) (sN := sN) (SN := SN) (k23 := k23) (K23 := K23) hm hb hL @hrE @hrN @hsE @hsL @hsN @hk23 R rfl rl4 hF
def FL_law_b439 (N : Nat) (L : Nat) (xs : Nat → Int32) (RE : Int → fS → Option ((Unit ⊕ Nat) × fS)) (RN : fS → Option ((Int ⊕ Nat) × fS)) (SE : Int → fS → Option (Unit × fS)) (SL : Int → Int → Int → fS → Option (Int × fS)) (SN : fS → Option (Int × fS)) (K23 : Int → fS → Option (Int × fS)) (l4 : Int) (s : fS) : Option (Int × fS) :=
  FL_law_b498 N L xs RE RN SE SL SN K23 l4 s
theorem SL_law_b439 {m b : Nat} {φ0 : Nat → Nat} {σo : fS} (hm : 2 ≤ m) (hb : 3 ≤ b) {N : Nat} {L : Nat} {xs : Nat → Int32} {rE : Nat → Int32 → eH → Option ((Unit ⊕ Nat) × eH)} {RE : Int → fS → Option ((Unit ⊕ Nat) × fS)} {rN : Nat → eH → Option ((Int32 ⊕ Nat) × eH)} {RN : fS → Option ((Int ⊕ Nat) × fS)} {sE : Nat → Int32 → eH → Option (Unit × eH)} {SE : Int → fS → Option (Unit × fS)} {sL : Nat → Int32 → Int64 → Int64 → eH → Option (Int32 × eH)} {SL : Int → Int → Int → fS → Option (Int × fS)} {sN : Nat → eH → Option (Int32 × eH)} {SN : fS → Option (Int × fS)} {k23 : Nat → Nat → Nat → Int32 → eH → Option (Int32 × eH)} {K23 : Int → fS → Option (Int × fS)} {q : Int × fS} (hL : L ≤ 384) (hrE : ∀ {φ : Nat → Nat} {h : eH} {s : fS} {x1' : Int32} {x1 : Int} {q}, fC m 3 φ s φ h s → x1' = iI x1 → r32 x1 → RE x1 s = some q → gG m 3 φ s (lT lU) q (rE 22 x1' h)) (hrN : ∀ {φ : Nat → Nat} {h : eH} {s : fS} {q}, fC m 3 φ s φ h s → RN s = some q → gG m 3 φ s (lT lI) q (rN 22 h)) (hsE : ∀ {φ : Nat → Nat} {h : eH} {s : fS} {x1' : Int32} {x1 : Int} {q}, fC m 1 φ s φ h s → x1' = iI x1 → r32 x1 → SE x1 s = some q → gG m 1 φ s lU q (sE 192 x1' h)) (hsL : ∀ {φ : Nat → Nat} {h : eH} {s : fS} {x1' : Int32} {x1 : Int} {x2' : Int64} {x2 : Int} {x3' : Int64} {x3 : Int} {q}, fC m 1 φ s φ h s → x1' = iI x1 → r32 x1 → x2' = iJ x2 → r64 x2 → x3' = iJ x3 → r64 x3 → SL x1 x2 x3 s = some q → gG m 1 φ s lI q (sL 192 x1' x2' x3' h)) (hsN : ∀ {φ : Nat → Nat} {h : eH} {s : fS} {q}, fC m 1 φ s φ h s → SN s = some q → gG m 1 φ s lI q (sN 192 h)) (hk23 : ∀ {φ : Nat → Nat} {h : eH} {s : fS} {l4' : Int32} {l4 : Int}, fC m b φ0 σo φ h s → l4' = iI l4 → r32 l4 → K23 l4 s = some q → gG m b φ0 σo lI q (k23 0 192 325 l4' h)) {φ : Nat → Nat} {h : eH} {s : fS} {l4' : Int32} {l4 : Int} (R : fC m b φ0 σo φ h s) (el4 : l4' = iI l4) (rl4 : r32 l4) (hF : FL_law_b439 N L xs RE RN SE SL SN K23 l4 s = some q) : gG m b φ0 σo lI q (fL_law_b439 N L xs rE rN sE sL sN k23 0 192 325 l4' h) := by
  subst el4
  unfold FL_law_b439 at hF
  unfold fL_law_b439
  exact SL_law_b498 (N := N) (L := L) (xs := xs) (rE := rE) (RE := RE) (rN := rN) (RN := RN) (sE := sE) (SE := SE) (sL := sL) (SL := SL) (sN := sN) (SN := SN) (k23 := k23) (K23 := K23) hm hb hL @hrE @hrN @hsE @hsL @hsN @hk23 R rfl rl4 hF
def FL_law_b495 (N : Nat) (L : Nat) (xs : Nat → Int32) (RE : Int → fS → Option ((Unit ⊕ Nat) × fS)) (RN : fS → Option ((Int ⊕ Nat) × fS)) (SE : Int → fS → Option (Unit × fS)) (SL : Int → Int → Int → fS → Option (Int × fS)) (SN : fS → Option (Int × fS)) (K23 : Int → fS → Option (Int × fS)) (l4 : Int) (s : fS) : Option (Int × fS) :=
  FL_law_b498 N L xs RE RN SE SL SN K23 l4 s
theorem SL_law_b495 {m b : Nat} {φ0 : Nat → Nat} {σo : fS} (hm : 2 ≤ m) (hb : 3 ≤ b) {N : Nat} {L : Nat} {xs : Nat → Int32} {rE : Nat → Int32 → eH → Option ((Unit ⊕ Nat) × eH)} {RE : Int → fS → Option ((Unit ⊕ Nat) × fS)} {rN : Nat → eH → Option ((Int32 ⊕ Nat) × eH)} {RN : fS → Option ((Int ⊕ Nat) × fS)} {sE : Nat → Int32 → eH → Option (Unit × eH)} {SE : Int → fS → Option (Unit × fS)} {sL : Nat → Int32 → Int64 → Int64 → eH → Option (Int32 × eH)} {SL : Int → Int → Int → fS → Option (Int × fS)} {sN : Nat → eH → Option (Int32 × eH)} {SN : fS → Option (Int × fS)} {k23 : Nat → Nat → Nat → Int32 → eH → Option (Int32 × eH)} {K23 : Int → fS → Option (Int × fS)} {q : Int × fS} (hL : L ≤ 384) (hrE : ∀ {φ : Nat → Nat} {h : eH} {s : fS} {x1' : Int32} {x1 : Int} {q}, fC m 3 φ s φ h s → x1' = iI x1 → r32 x1 → RE x1 s = some q → gG m 3 φ s (lT lU) q (rE 22 x1' h)) (hrN : ∀ {φ : Nat → Nat} {h : eH} {s : fS} {q}, fC m 3 φ s φ h s → RN s = some q → gG m 3 φ s (lT lI) q (rN 22 h)) (hsE : ∀ {φ : Nat → Nat} {h : eH} {s : fS} {x1' : Int32} {x1 : Int} {q}, fC m 1 φ s φ h s → x1' = iI x1 → r32 x1 → SE x1 s = some q → gG m 1 φ s lU q (sE 192 x1' h)) (hsL : ∀ {φ : Nat → Nat} {h : eH} {s : fS} {x1' : Int32} {x1 : Int} {x2' : Int64} {x2 : Int} {x3' : Int64} {x3 : Int} {q}, fC m 1 φ s φ h s → x1' = iI x1 → r32 x1 → x2' = iJ x2 → r64 x2 → x3' = iJ x3 → r64 x3 → SL x1 x2 x3 s = some q → gG m 1 φ s lI q (sL 192 x1' x2' x3' h)) (hsN : ∀ {φ : Nat → Nat} {h : eH} {s : fS} {q}, fC m 1 φ s φ h s → SN s = some q → gG m 1 φ s lI q (sN 192 h)) (hk23 : ∀ {φ : Nat → Nat} {h : eH} {s : fS} {l4' : Int32} {l4 : Int}, fC m b φ0 σo φ h s → l4' = iI l4 → r32 l4 → K23 l4 s = some q → gG m b φ0 σo lI q (k23 0 192 325 l4' h)) {φ : Nat → Nat} {h : eH} {s : fS} {l4' : Int32} {l4 : Int} (R : fC m b φ0 σo φ h s) (el4 : l4' = iI l4) (rl4 : r32 l4) (hF : FL_law_b495 N L xs RE RN SE SL SN K23 l4 s = some q) : gG m b φ0 σo lI q (fL_law_b495 N L xs rE rN sE sL sN k23 0 192 325 l4' h) := by
  subst el4
  unfold FL_law_b495 at hF
  unfold fL_law_b495
  exact SL_law_b498 (N := N) (L := L) (xs := xs) (rE := rE) (RE := RE) (rN := rN) (RN := RN) (sE := sE) (SE := SE) (sL := sL) (SL := SL) (sN := sN) (SN := SN) (k23 := k23) (K23 := K23) hm hb hL @hrE @hrN @hsE @hsL @hsN @hk23 R rfl rl4 hF
def FL_law_b23 (N : Nat) (L : Nat) (xs : Nat → Int32) (RE : Int → fS → Option ((Unit ⊕ Nat) × fS)) (RN : fS → Option ((Int ⊕ Nat) × fS)) (SE : Int → fS → Option (Unit × fS)) (SL : Int → Int → Int → fS → Option (Int × fS)) (SN : fS → Option (Int × fS)) : Nat → Int → fS → Option (Int × fS)
  | 0, _, _ => none
  | n + 1, l4, s =>
    if (isub (L : Int) 6) < l4 then
      some (1, s)
    else
      (uSG L xs l4).bind fun x2 =>
      if (iand x2 7) = 0 then
        (uSG L xs (iadd l4 1)).bind fun x5 =>
        (uSG L xs (iadd l4 2)).bind fun x7 =>
        (uSG L xs (iadd l4 3)).bind fun x9 =>
        (uSG L xs (iadd l4 4)).bind fun x11 =>
        (uSG L xs (iadd l4 5)).bind fun x13 =>
        (FX0_feed N x5 x7 x9 x11 x13 s).bind fun q15 =>
        (uSG L xs (iadd l4 1)).bind fun x16 =>
        (uSG L xs (iadd l4 2)).bind fun x18 =>
        (uSG L xs (iadd l4 3)).bind fun x20 =>
        (uSG L xs (iadd l4 4)).bind fun x22 =>
        (uSG L xs (iadd l4 5)).bind fun x24 =>
        (FX35_feed N x16 x18 x20 x22 x24 q15.2).bind fun q27 =>
        (FX35_thrown q27.2).bind fun q29 =>
        if q29.1 = q15.1 then
          FL_law_b498 N L xs RE RN SE SL SN (FL_law_b23 N L xs RE RN SE SL SN n) l4 q29.2
        else
          some (0, q29.2)
      else
        if (iand x2 7) = 1 then
          (uSG L xs (iadd l4 1)).bind fun x32 =>
          (FX0_fuel x32 s).bind fun q34 =>
          (uSG L xs (iadd l4 1)).bind fun x35 =>
          (FX35_fuel x35 q34.2).bind fun q38 =>
          (FX35_thrown q38.2).bind fun q40 =>
          if q40.1 = q34.1 then
            FL_law_b498 N L xs RE RN SE SL SN (FL_law_b23 N L xs RE RN SE SL SN n) l4 q40.2
          else
            some (0, q40.2)
        else
          if (iand x2 7) = 2 then
            (uSG L xs (iadd l4 1)).bind fun x43 =>
            (uSG L xs (iadd l4 2)).bind fun x45 =>
            (FX0_end N RE RN x43 x45 s).bind fun q47 =>
            (uSG L xs (iadd l4 1)).bind fun x48 =>
            (uSG L xs (iadd l4 2)).bind fun x50 =>
            (FX35_end N SE SL SN x48 x50 q47.2).bind fun q53 =>
            (FX35_thrown q53.2).bind fun q55 =>
            if q55.1 = q47.1 then
              if ¬ (q47.1 = 0) then
                FL_law_b273 N L xs RE RN SE SL SN (FL_law_b23 N L xs RE RN SE SL SN n) l4 q55.2
              else
                (uRJ q55.2 325 0).bind fun x58 =>
                if x58 = q53.1 then
                  FL_law_b273 N L xs RE RN SE SL SN (FL_law_b23 N L xs RE RN SE SL SN n) l4 q55.2
                else
                  some (0, q55.2)
            else
              some (0, q55.2)
          else
            if (iand x2 7) = 3 then
              (uSG L xs (iadd l4 1)).bind fun x62 =>
              if x62 = 0 then
                FL_law_b291 N L xs RE RN SE SL SN (FL_law_b23 N L xs RE RN SE SL SN n) l4 0 s
              else
                FL_law_b291 N L xs RE RN SE SL SN (FL_law_b23 N L xs RE RN SE SL SN n) l4 1 s
            else
              if (iand x2 7) = 4 then
                (FX1_size s).bind fun q67 =>
                (FX35_size q67.2).bind fun q69 =>
                if q67.1 = q69.1 then
                  FL_law_b498 N L xs RE RN SE SL SN (FL_law_b23 N L xs RE RN SE SL SN n) l4 q69.2
                else
                  some (0, q69.2)
              else
                if (iand x2 7) = 5 then
                  (uSG L xs (iadd l4 1)).bind fun x72 =>
                  (FX0_out x72 s).bind fun q74 =>
                  (uSG L xs (iadd l4 1)).bind fun x75 =>
                  (FX35_out x75 q74.2).bind fun q78 =>
                  (FX35_thrown q78.2).bind fun q80 =>
                  if q80.1 = q74.1 then
                    if ¬ (q74.1 = 0) then
                      FL_law_b383 N L xs RE RN SE SL SN (FL_law_b23 N L xs RE RN SE SL SN n) l4 q80.2
                    else
                      (uRJ q80.2 325 0).bind fun x83 =>
                      if x83 = q78.1 then
                        FL_law_b383 N L xs RE RN SE SL SN (FL_law_b23 N L xs RE RN SE SL SN n) l4 q80.2
                      else
                        some (0, q80.2)
                  else
                    some (0, q80.2)
                else
                  if (iand x2 7) = 6 then
                    (uSG L xs (iadd l4 1)).bind fun x87 =>
                    (FX0_about x87 s).bind fun q89 =>
                    (uSG L xs (iadd l4 1)).bind fun x90 =>
                    (FX35_about x90 q89.2).bind fun q93 =>
                    (FX35_thrown q93.2).bind fun q95 =>
                    if q95.1 = q89.1 then
                      if ¬ (q89.1 = 0) then
                        FL_law_b439 N L xs RE RN SE SL SN (FL_law_b23 N L xs RE RN SE SL SN n) l4 q95.2
                      else
                        (uRJ q95.2 325 0).bind fun x98 =>
                        if x98 = q93.1 then
                          FL_law_b439 N L xs RE RN SE SL SN (FL_law_b23 N L xs RE RN SE SL SN n) l4 q95.2
                        else
                          some (0, q95.2)
                    else
                      some (0, q95.2)
                  else
                    if (iand x2 7) = 7 then
                      (uSG L xs (iadd l4 1)).bind fun x102 =>
                      (FX0_count x102 s).bind fun q104 =>
                      (uSG L xs (iadd l4 1)).bind fun x105 =>
                      (FX35_count x105 q104.2).bind fun q108 =>
                      (FX35_thrown q108.2).bind fun q110 =>
                      if q110.1 = q104.1 then
                        if ¬ (q104.1 = 0) then
                          FL_law_b495 N L xs RE RN SE SL SN (FL_law_b23 N L xs RE RN SE SL SN n) l4 q110.2
                        else
                          (uRJ q110.2 325 0).bind fun x113 =>
                          if x113 = q108.1 then
                            FL_law_b495 N L xs RE RN SE SL SN (FL_law_b23 N L xs RE RN SE SL SN n) l4 q110.2
                          else
                            some (0, q110.2)
                      else
                        some (0, q110.2)
                    else
                      FL_law_b498 N L xs RE RN SE SL SN (FL_law_b23 N L xs RE RN SE SL SN n) l4 s
theorem SL_law_b23 {m b : Nat} {φ0 : Nat → Nat} {σo : fS} (hm : 2 ≤ m) (hb : 3 ≤ b) {N : Nat} {L : Nat} {xs : Nat → Int32} {rE : Nat → Int32 → eH → Option ((Unit ⊕ Nat) × eH)} {RE : Int → fS → Option ((Unit ⊕ Nat) × fS)} {rN : Nat → eH → Option ((Int32 ⊕ Nat) × eH)} {RN : fS → Option ((Int ⊕ Nat) × fS)} {sE : Nat → Int32 → eH → Option (Unit × eH)} {SE : Int → fS → Option (Unit × fS)} {sL : Nat → Int32 → Int64 → Int64 → eH → Option (Int32 × eH)} {SL : Int → Int → Int → fS → Option (Int × fS)} {sN : Nat → eH → Option (Int32 × eH)} {SN : fS → Option (Int × fS)} {q : Int × fS} (hL : L ≤ 384) (hrE : ∀ {φ : Nat → Nat} {h : eH} {s : fS} {x1' : Int32} {x1 : Int} {q}, fC m 3 φ s φ h s → x1' = iI x1 → r32 x1 → RE x1 s = some q → gG m 3 φ s (lT lU) q (rE 22 x1' h)) (hrN : ∀ {φ : Nat → Nat} {h : eH} {s : fS} {q}, fC m 3 φ s φ h s → RN s = some q → gG m 3 φ s (lT lI) q (rN 22 h)) (hsE : ∀ {φ : Nat → Nat} {h : eH} {s : fS} {x1' : Int32} {x1 : Int} {q}, fC m 1 φ s φ h s → x1' = iI x1 → r32 x1 → SE x1 s = some q → gG m 1 φ s lU q (sE 192 x1' h)) (hsL : ∀ {φ : Nat → Nat} {h : eH} {s : fS} {x1' : Int32} {x1 : Int} {x2' : Int64} {x2 : Int} {x3' : Int64} {x3 : Int} {q}, fC m 1 φ s φ h s → x1' = iI x1 → r32 x1 → x2' = iJ x2 → r64 x2 → x3' = iJ x3 → r64 x3 → SL x1 x2 x3 s = some q → gG m 1 φ s lI q (sL 192 x1' x2' x3' h)) (hsN : ∀ {φ : Nat → Nat} {h : eH} {s : fS} {q}, fC m 1 φ s φ h s → SN s = some q → gG m 1 φ s lI q (sN 192 h)) : ∀ {n : Nat} {φ : Nat → Nat} {h : eH} {s : fS} {l4' : Int32} {l4 : Int}, fC m b φ0 σo φ h s → l4' = iI l4 → r32 l4 → FL_law_b23 N L xs RE RN SE SL SN n l4 s = some q → gG m b φ0 σo lI q (fL_law_b23 N L xs rE rN sE sL sN n 0 192 325 l4' h) := by
  intro n
  induction n with
 | zero => intro φ h s l4' l4 R el4 rl4 hF; simp [FL_law_b23] at hF
  | succ n ih =>
    intro φ h s l4' l4 R el4 rl4 hF
    subst el4
    rw [FL_law_b23] at hF
    rw [fL_law_b23]
    refine s_if (i_lt (c_sub (nI_iI hL) (c_lit 6 6 rfl)) rfl (rr_I _) rl4) hF (fun c1 hF => ?_) (fun c1 hF => ?_)
    ·
      exact g_ret R hF ⟨(c_lit 1 1 rfl), ⟨by decide, by decide⟩⟩
    ·
      refine s_sg rfl rl4 hF (fun x2 ra2 hF => ?_)
      refine s_if (i_eq (c_and rfl (c_lit 7 7 rfl)) (c_lit 0 0 rfl) (rr_I _) ⟨by decide, by decide⟩) hF (fun c3 hF => ?_) (fun c3 hF => ?_)
      ·
        refine s_sg (c_add rfl (c_lit 1 1 rfl)) (rr_I _) hF (fun x5 ra4 hF => ?_)
        refine s_sg (c_add rfl (c_lit 2 2 rfl)) (rr_I _) hF (fun x7 ra5 hF => ?_)
        refine s_sg (c_add rfl (c_lit 3 3 rfl)) (rr_I _) hF (fun x9 ra6 hF => ?_)
        refine s_sg (c_add rfl (c_lit 4 4 rfl)) (rr_I _) hF (fun x11 ra7 hF => ?_)
        refine s_sg (c_add rfl (c_lit 5 5 rfl)) (rr_I _) hF (fun x13 ra8 hF => ?_)
        refine s_call R (Nat.zero_le _) (fun _ hq => SX0_feed (b := 0) (N := N) hm (R.rf) rfl ra4 rfl ra5 rfl ra6 rfl ra7 rfl ra8 hq) hF (fun f9 rv9 h9 q15 R9 e9 E9 hF => ?_)
        refine s_sg (c_add rfl (c_lit 1 1 rfl)) (rr_I _) hF (fun x16 ra10 hF => ?_)
        refine s_sg (c_add rfl (c_lit 2 2 rfl)) (rr_I _) hF (fun x18 ra11 hF => ?_)
        refine s_sg (c_add rfl (c_lit 3 3 rfl)) (rr_I _) hF (fun x20 ra12 hF => ?_)
        refine s_sg (c_add rfl (c_lit 4 4 rfl)) (rr_I _) hF (fun x22 ra13 hF => ?_)
        refine s_sg (c_add rfl (c_lit 5 5 rfl)) (rr_I _) hF (fun x24 ra14 hF => ?_)
        refine s_kok R9 (t_192 (Nat.le_of_succ_le hm) R9.S) (Nat.le_of_ble_eq_true rfl) ?_
        refine s_call R9 (Nat.zero_le _) (fun _ hq => SX35_feed (b := 0) (N := N) (Nat.le_of_succ_le hm) (R9.rf) rfl ra10 rfl ra11 rfl ra12 rfl ra13 rfl ra14 hq) hF (fun f16 rv16 h16 q27 R16 e16 E16 hF => ?_)
        refine s_kok R16 (t_192 (Nat.le_of_succ_le hm) R16.S) (Nat.le_of_ble_eq_true rfl) ?_
        refine s_call R16 (Nat.zero_le _) (fun _ hq => SX35_thrown (b := 0) (Nat.le_of_succ_le hm) (R16.rf) hq) hF (fun f18 rv18 h18 q29 R18 e18 E18 hF => ?_)
        refine s_if (i_eq e18.1 e9.1 e18.2 e9.2) hF (fun c19 hF => ?_) (fun c19 hF => ?_)
        ·
          exact SL_law_b498 (N := N) (L := L) (xs := xs) (rE := rE) (RE := RE) (rN := rN) (RN := RN) (sE := sE) (SE := SE) (sL := sL) (SL := SL) (sN := sN) (SN := SN) (k23 := fL_law_b23 N L xs rE rN sE sL sN n) (K23 := FL_law_b23 N L xs RE RN SE SL SN n) hm hb hL @hrE @hrN @hsE @hsL @hsN @ih R18 rfl rl4 hF
        ·
          exact g_ret R18 hF ⟨(c_lit 0 0 rfl), ⟨by decide, by decide⟩⟩
      ·
        refine s_if (i_eq (c_and rfl (c_lit 7 7 rfl)) (c_lit 1 1 rfl) (rr_I _) ⟨by decide, by decide⟩) hF (fun c20 hF => ?_) (fun c20 hF => ?_)
        ·
          refine s_sg (c_add rfl (c_lit 1 1 rfl)) (rr_I _) hF (fun x32 ra21 hF => ?_)
          refine s_call R (Nat.zero_le _) (fun _ hq => SX0_fuel (b := 0) hm (R.rf) rfl ra21 hq) hF (fun f22 rv22 h22 q34 R22 e22 E22 hF => ?_)
          refine s_sg (c_add rfl (c_lit 1 1 rfl)) (rr_I _) hF (fun x35 ra23 hF => ?_)
          refine s_kok R22 (t_192 (Nat.le_of_succ_le hm) R22.S) (Nat.le_of_ble_eq_true rfl) ?_
          refine s_call R22 (Nat.zero_le _) (fun _ hq => SX35_fuel (b := 0) (Nat.le_of_succ_le hm) (R22.rf) rfl ra23 hq) hF (fun f25 rv25 h25 q38 R25 e25 E25 hF => ?_)
          refine s_kok R25 (t_192 (Nat.le_of_succ_le hm) R25.S) (Nat.le_of_ble_eq_true rfl) ?_
          refine s_call R25 (Nat.zero_le _) (fun _ hq => SX35_thrown (b := 0) (Nat.le_of_succ_le hm) (R25.rf) hq) hF (fun f27 rv27 h27 q40 R27 e27 E27 hF => ?_)
          refine s_if (i_eq e27.1 e22.1 e27.2 e22.2) hF (fun c28 hF => ?_) (fun c28 hF => ?_)
          ·
            exact SL_law_b498 (N := N) (L := L) (xs := xs) (rE := rE) (RE := RE) (rN := rN) (RN := RN) (sE := sE) (SE := SE) (sL := sL) (SL := SL) (sN := sN) (SN := SN) (k23 := fL_law_b23 N L xs rE rN sE sL sN n) (K23 := FL_law_b23 N L xs RE RN SE SL SN n) hm hb hL @hrE @hrN @hsE @hsL @hsN @ih R27 rfl rl4 hF
          ·
            exact g_ret R27 hF ⟨(c_lit 0 0 rfl), ⟨by decide, by decide⟩⟩
        ·
          refine s_if (i_eq (c_and rfl (c_lit 7 7 rfl)) (c_lit 2 2 rfl) (rr_I _) ⟨by decide, by decide⟩) hF (fun c29 hF => ?_) (fun c29 hF => ?_)
          ·
            refine s_sg (c_add rfl (c_lit 1 1 rfl)) (rr_I _) hF (fun x43 ra30 hF => ?_)
            refine s_sg (c_add rfl (c_lit 2 2 rfl)) (rr_I _) hF (fun x45 ra31 hF => ?_)
            refine s_call R hb (fun _ hq => SX0_end (b := 3) (N := N) (rE := rE) (RE := RE) (rN := rN) (RN := RN) hm (Nat.le_of_ble_eq_true rfl) @hrE @hrN (R.rf) rfl ra30 rfl ra31 hq) hF (fun f32 rv32 h32 q47 R32 e32 E32 hF => ?_)
            refine s_sg (c_add rfl (c_lit 1 1 rfl)) (rr_I _) hF (fun x48 ra33 hF => ?_)
            refine s_sg (c_add rfl (c_lit 2 2 rfl)) (rr_I _) hF (fun x50 ra34 hF => ?_)
            refine s_kok R32 (t_192 (Nat.le_of_succ_le hm) R32.S) (Nat.le_of_ble_eq_true rfl) ?_
            refine s_call R32 (Nat.le_trans (Nat.le_of_ble_eq_true rfl) hb) (fun _ hq => SX35_end (b := 1) (N := N) (sE := sE) (SE := SE) (sL := sL) (SL := SL) (sN := sN) (SN := SN) (Nat.le_of_succ_le hm) (Nat.le_of_ble_eq_true rfl) @hsE @hsL @hsN (R32.rf) rfl ra33 rfl ra34 hq) hF (fun f36 rv36 h36 q53 R36 e36 E36 hF => ?_)
            refine s_kok R36 (t_192 (Nat.le_of_succ_le hm) R36.S) (Nat.le_of_ble_eq_true rfl) ?_
            refine s_call R36 (Nat.zero_le _) (fun _ hq => SX35_thrown (b := 0) (Nat.le_of_succ_le hm) (R36.rf) hq) hF (fun f38 rv38 h38 q55 R38 e38 E38 hF => ?_)
            refine s_if (i_eq e38.1 e32.1 e38.2 e32.2) hF (fun c39 hF => ?_) (fun c39 hF => ?_)
            ·
              refine s_if (not_congr (i_eq e32.1 (c_lit 0 0 rfl) e32.2 ⟨by decide, by decide⟩)) hF (fun c40 hF => ?_) (fun c40 hF => ?_)
              ·
                exact SL_law_b273 (N := N) (L := L) (xs := xs) (rE := rE) (RE := RE) (rN := rN) (RN := RN) (sE := sE) (SE := SE) (sL := sL) (SL := SL) (sN := sN) (SN := SN) (k23 := fL_law_b23 N L xs rE rN sE sL sN n) (K23 := FL_law_b23 N L xs RE RN SE SL SN n) hm hb hL @hrE @hrN @hsE @hsL @hsN @ih R38 rfl rl4 hF
              ·
                refine s_rJ R38 (u_325 hm R38.S).1 (u_325 hm R38.S).2 (a_325 hm R38) (c_lit 0 0 rfl) ⟨by decide, by decide⟩ hF (fun x58 ra41 hF => ?_)
                refine s_if (lg_eq.trans (j_eq rfl (c_2l e36.1 e36.2) ra41 (r32.w e36.2))) hF (fun c42 hF => ?_) (fun c42 hF => ?_)
                ·
                  exact SL_law_b273 (N := N) (L := L) (xs := xs) (rE := rE) (RE := RE) (rN := rN) (RN := RN) (sE := sE) (SE := SE) (sL := sL) (SL := SL) (sN := sN) (SN := SN) (k23 := fL_law_b23 N L xs rE rN sE sL sN n) (K23 := FL_law_b23 N L xs RE RN SE SL SN n) hm hb hL @hrE @hrN @hsE @hsL @hsN @ih R38 rfl rl4 hF
                ·
                  exact g_ret R38 hF ⟨(c_lit 0 0 rfl), ⟨by decide, by decide⟩⟩
            ·
              exact g_ret R38 hF ⟨(c_lit 0 0 rfl), ⟨by decide, by decide⟩⟩
          ·
            refine s_if (i_eq (c_and rfl (c_lit 7 7 rfl)) (c_lit 3 3 rfl) (rr_I _) ⟨by decide, by decide⟩) hF (fun c43 hF => ?_) (fun c43 hF => ?_)
            ·
              refine s_sg (c_add rfl (c_lit 1 1 rfl)) (rr_I _) hF (fun x62 ra44 hF => ?_)
              refine s_if (i_eq rfl (c_lit 0 0 rfl) ra44 ⟨by decide, by decide⟩) hF (fun c45 hF => ?_) (fun c45 hF => ?_)
              ·
                exact SL_law_b291 (N := N) (L := L) (xs := xs) (rE := rE) (RE := RE) (rN := rN) (RN := RN) (sE := sE) (SE := SE) (sL := sL) (SL := SL) (sN := sN) (SN := SN) (k23 := fL_law_b23 N L xs rE rN sE sL sN n) (K23 := FL_law_b23 N L xs RE RN SE SL SN n) hm hb hL @hrE @hrN @hsE @hsL @hsN @ih R rfl rl4 (c_lit 0 0 rfl) ⟨by decide, by decide⟩ hF
              ·
                exact SL_law_b291 (N := N) (L := L) (xs := xs) (rE := rE) (RE := RE) (rN := rN) (RN := RN) (sE := sE) (SE := SE) (sL := sL) (SL := SL) (sN := sN) (SN := SN) (k23 := fL_law_b23 N L xs rE rN sE sL sN n) (K23 := FL_law_b23 N L xs RE RN SE SL SN n) hm hb hL @hrE @hrN @hsE @hsL @hsN @ih R rfl rl4 (c_lit 1 1 rfl) ⟨by decide, by decide⟩ hF
            ·
              refine s_if (i_eq (c_and rfl (c_lit 7 7 rfl)) (c_lit 4 4 rfl) (rr_I _) ⟨by decide, by decide⟩) hF (fun c46 hF => ?_) (fun c46 hF => ?_)
              ·
                refine s_kok R (t_0 R.S) (Nat.le_of_ble_eq_true rfl) ?_
                refine s_call R (Nat.zero_le _) (fun _ hq => SX1_size (b := 0) (R.rf) hq) hF (fun f48 rv48 h48 q67 R48 e48 E48 hF => ?_)
                refine s_kok R48 (t_192 (Nat.le_of_succ_le hm) R48.S) (Nat.le_of_ble_eq_true rfl) ?_
                refine s_call R48 (Nat.zero_le _) (fun _ hq => SX35_size (b := 0) (Nat.le_of_succ_le hm) (R48.rf) hq) hF (fun f50 rv50 h50 q69 R50 e50 E50 hF => ?_)
                refine s_if (i_eq e48.1 e50.1 e48.2 e50.2) hF (fun c51 hF => ?_) (fun c51 hF => ?_)
                ·
                  exact SL_law_b498 (N := N) (L := L) (xs := xs) (rE := rE) (RE := RE) (rN := rN) (RN := RN) (sE := sE) (SE := SE) (sL := sL) (SL := SL) (sN := sN) (SN := SN) (k23 := fL_law_b23 N L xs rE rN sE sL sN n) (K23 := FL_law_b23 N L xs RE RN SE SL SN n) hm hb hL @hrE @hrN @hsE @hsL @hsN @ih R50 rfl rl4 hF
                ·
                  exact g_ret R50 hF ⟨(c_lit 0 0 rfl), ⟨by decide, by decide⟩⟩
              ·
                refine s_if (i_eq (c_and rfl (c_lit 7 7 rfl)) (c_lit 5 5 rfl) (rr_I _) ⟨by decide, by decide⟩) hF (fun c52 hF => ?_) (fun c52 hF => ?_)
                ·
                  refine s_sg (c_add rfl (c_lit 1 1 rfl)) (rr_I _) hF (fun x72 ra53 hF => ?_)
                  refine s_call R (Nat.zero_le _) (fun _ hq => SX0_out (b := 0) hm (R.rf) rfl ra53 hq) hF (fun f54 rv54 h54 q74 R54 e54 E54 hF => ?_)
                  refine s_sg (c_add rfl (c_lit 1 1 rfl)) (rr_I _) hF (fun x75 ra55 hF => ?_)
                  refine s_kok R54 (t_192 (Nat.le_of_succ_le hm) R54.S) (Nat.le_of_ble_eq_true rfl) ?_
                  refine s_call R54 (Nat.zero_le _) (fun _ hq => SX35_out (b := 0) (Nat.le_of_succ_le hm) (R54.rf) rfl ra55 hq) hF (fun f57 rv57 h57 q78 R57 e57 E57 hF => ?_)
                  refine s_kok R57 (t_192 (Nat.le_of_succ_le hm) R57.S) (Nat.le_of_ble_eq_true rfl) ?_
                  refine s_call R57 (Nat.zero_le _) (fun _ hq => SX35_thrown (b := 0) (Nat.le_of_succ_le hm) (R57.rf) hq) hF (fun f59 rv59 h59 q80 R59 e59 E59 hF => ?_)
                  refine s_if (i_eq e59.1 e54.1 e59.2 e54.2) hF (fun c60 hF => ?_) (fun c60 hF => ?_)
                  ·
                    refine s_if (not_congr (i_eq e54.1 (c_lit 0 0 rfl) e54.2 ⟨by decide, by decide⟩)) hF (fun c61 hF => ?_) (fun c61 hF => ?_)
                    ·
                      exact SL_law_b383 (N := N) (L := L) (xs := xs) (rE := rE) (RE := RE) (rN := rN) (RN := RN) (sE := sE) (SE := SE) (sL := sL) (SL := SL) (sN := sN) (SN := SN) (k23 := fL_law_b23 N L xs rE rN sE sL sN n) (K23 := FL_law_b23 N L xs RE RN SE SL SN n) hm hb hL @hrE @hrN @hsE @hsL @hsN @ih R59 rfl rl4 hF
                    ·
                      refine s_rJ R59 (u_325 hm R59.S).1 (u_325 hm R59.S).2 (a_325 hm R59) (c_lit 0 0 rfl) ⟨by decide, by decide⟩ hF (fun x83 ra62 hF => ?_)
                      refine s_if (lg_eq.trans (j_eq rfl (c_2l e57.1 e57.2) ra62 (r32.w e57.2))) hF (fun c63 hF => ?_) (fun c63 hF => ?_)
                      ·
                        exact SL_law_b383 (N := N) (L := L) (xs := xs) (rE := rE) (RE := RE) (rN := rN) (RN := RN) (sE := sE) (SE := SE) (sL := sL) (SL := SL) (sN := sN) (SN := SN) (k23 := fL_law_b23 N L xs rE rN sE sL sN n) (K23 := FL_law_b23 N L xs RE RN SE SL SN n) hm hb hL @hrE @hrN @hsE @hsL @hsN @ih R59 rfl rl4 hF
                      ·
                        exact g_ret R59 hF ⟨(c_lit 0 0 rfl), ⟨by decide, by decide⟩⟩
                  ·
                    exact g_ret R59 hF ⟨(c_lit 0 0 rfl), ⟨by decide, by decide⟩⟩
                ·
                  refine s_if (i_eq (c_and rfl (c_lit 7 7 rfl)) (c_lit 6 6 rfl) (rr_I _) ⟨by decide, by decide⟩) hF (fun c64 hF => ?_) (fun c64 hF => ?_)
                  ·
                    refine s_sg (c_add rfl (c_lit 1 1 rfl)) (rr_I _) hF (fun x87 ra65 hF => ?_)
                    refine s_call R (Nat.zero_le _) (fun _ hq => SX0_about (b := 0) hm (R.rf) rfl ra65 hq) hF (fun f66 rv66 h66 q89 R66 e66 E66 hF => ?_)
                    refine s_sg (c_add rfl (c_lit 1 1 rfl)) (rr_I _) hF (fun x90 ra67 hF => ?_)
                    refine s_kok R66 (t_192 (Nat.le_of_succ_le hm) R66.S) (Nat.le_of_ble_eq_true rfl) ?_
                    refine s_call R66 (Nat.zero_le _) (fun _ hq => SX35_about (b := 0) (Nat.le_of_succ_le hm) (R66.rf) rfl ra67 hq) hF (fun f69 rv69 h69 q93 R69 e69 E69 hF => ?_)
                    refine s_kok R69 (t_192 (Nat.le_of_succ_le hm) R69.S) (Nat.le_of_ble_eq_true rfl) ?_
                    refine s_call R69 (Nat.zero_le _) (fun _ hq => SX35_thrown (b := 0) (Nat.le_of_succ_le hm) (R69.rf) hq) hF (fun f71 rv71 h71 q95 R71 e71 E71 hF => ?_)
                    refine s_if (i_eq e71.1 e66.1 e71.2 e66.2) hF (fun c72 hF => ?_) (fun c72 hF => ?_)
                    ·
                      refine s_if (not_congr (i_eq e66.1 (c_lit 0 0 rfl) e66.2 ⟨by decide, by decide⟩)) hF (fun c73 hF => ?_) (fun c73 hF => ?_)
                      ·
                        exact SL_law_b439 (N := N) (L := L) (xs := xs) (rE := rE) (RE := RE) (rN := rN) (RN := RN) (sE := sE) (SE := SE) (sL := sL) (SL := SL) (sN := sN) (SN := SN) (k23 := fL_law_b23 N L xs rE rN sE sL sN n) (K23 := FL_law_b23 N L xs RE RN SE SL SN n) hm hb hL @hrE @hrN @hsE @hsL @hsN @ih R71 rfl rl4 hF
                      ·
                        refine s_rJ R71 (u_325 hm R71.S).1 (u_325 hm R71.S).2 (a_325 hm R71) (c_lit 0 0 rfl) ⟨by decide, by decide⟩ hF (fun x98 ra74 hF => ?_)
                        refine s_if (lg_eq.trans (j_eq rfl (c_2l e69.1 e69.2) ra74 (r32.w e69.2))) hF (fun c75 hF => ?_) (fun c75 hF => ?_)
                        ·
                          exact SL_law_b439 (N := N) (L := L) (xs := xs) (rE := rE) (RE := RE) (rN := rN) (RN := RN) (sE := sE) (SE := SE) (sL := sL) (SL := SL) (sN := sN) (SN := SN) (k23 := fL_law_b23 N L xs rE rN sE sL sN n) (K23 := FL_law_b23 N L xs RE RN SE SL SN n) hm hb hL @hrE @hrN @hsE @hsL @hsN @ih R71 rfl rl4 hF
                        ·
                          exact g_ret R71 hF ⟨(c_lit 0 0 rfl), ⟨by decide, by decide⟩⟩
                    ·
                      exact g_ret R71 hF ⟨(c_lit 0 0 rfl), ⟨by decide, by decide⟩⟩
                  ·
                    refine s_if (i_eq (c_and rfl (c_lit 7 7 rfl)) (c_lit 7 7 rfl) (rr_I _) ⟨by decide, by decide⟩) hF (fun c76 hF => ?_) (fun c76 hF => ?_)
                    ·
                      refine s_sg (c_add rfl (c_lit 1 1 rfl)) (rr_I _) hF (fun x102 ra77 hF => ?_)
                      refine s_call R (Nat.zero_le _) (fun _ hq => SX0_count (b := 0) hm (R.rf) rfl ra77 hq) hF (fun f78 rv78 h78 q104 R78 e78 E78 hF => ?_)
                      refine s_sg (c_add rfl (c_lit 1 1 rfl)) (rr_I _) hF (fun x105 ra79 hF => ?_)
                      refine s_kok R78 (t_192 (Nat.le_of_succ_le hm) R78.S) (Nat.le_of_ble_eq_true rfl) ?_
                      refine s_call R78 (Nat.zero_le _) (fun _ hq => SX35_count (b := 0) (Nat.le_of_succ_le hm) (R78.rf) rfl ra79 hq) hF (fun f81 rv81 h81 q108 R81 e81 E81 hF => ?_)
                      refine s_kok R81 (t_192 (Nat.le_of_succ_le hm) R81.S) (Nat.le_of_ble_eq_true rfl) ?_
                      refine s_call R81 (Nat.zero_le _) (fun _ hq => SX35_thrown (b := 0) (Nat.le_of_succ_le hm) (R81.rf) hq) hF (fun f83 rv83 h83 q110 R83 e83 E83 hF => ?_)
                      refine s_if (i_eq e83.1 e78.1 e83.2 e78.2) hF (fun c84 hF => ?_) (fun c84 hF => ?_)
                      ·
                        refine s_if (not_congr (i_eq e78.1 (c_lit 0 0 rfl) e78.2 ⟨by decide, by decide⟩)) hF (fun c85 hF => ?_) (fun c85 hF => ?_)
                        ·
                          exact SL_law_b495 (N := N) (L := L) (xs := xs) (rE := rE) (RE := RE) (rN := rN) (RN := RN) (sE := sE) (SE := SE) (sL := sL) (SL := SL) (sN := sN) (SN := SN) (k23 := fL_law_b23 N L xs rE rN sE sL sN n) (K23 := FL_law_b23 N L xs RE RN SE SL SN n) hm hb hL @hrE @hrN @hsE @hsL @hsN @ih R83 rfl rl4 hF
                        ·
                          refine s_rJ R83 (u_325 hm R83.S).1 (u_325 hm R83.S).2 (a_325 hm R83) (c_lit 0 0 rfl) ⟨by decide, by decide⟩ hF (fun x113 ra86 hF => ?_)
                          refine s_if (lg_eq.trans (j_eq rfl (c_2l e81.1 e81.2) ra86 (r32.w e81.2))) hF (fun c87 hF => ?_) (fun c87 hF => ?_)
                          ·
                            exact SL_law_b495 (N := N) (L := L) (xs := xs) (rE := rE) (RE := RE) (rN := rN) (RN := RN) (sE := sE) (SE := SE) (sL := sL) (SL := SL) (sN := sN) (SN := SN) (k23 := fL_law_b23 N L xs rE rN sE sL sN n) (K23 := FL_law_b23 N L xs RE RN SE SL SN n) hm hb hL @hrE @hrN @hsE @hsL @hsN @ih R83 rfl rl4 hF
                          ·
                            exact g_ret R83 hF ⟨(c_lit 0 0 rfl), ⟨by decide, by decide⟩⟩
                      ·
                        exact g_ret R83 hF ⟨(c_lit 0 0 rfl), ⟨by decide, by decide⟩⟩
                    ·
                      exact SL_law_b498 (N := N) (L := L) (xs := xs) (rE := rE) (RE := RE) (rN := rN) (RN := RN) (sE := sE) (SE := SE) (sL := sL) (SL := SL) (sN := sN) (SN := SN) (k23 := fL_law_b23 N L xs rE rN sE sL sN n) (K23 := FL_law_b23 N L xs RE RN SE SL SN n) hm hb hL @hrE @hrN @hsE @hsL @hsN @ih R rfl rl4 hF
