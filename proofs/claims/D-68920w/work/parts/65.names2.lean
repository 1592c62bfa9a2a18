set_option maxRecDepth 100000
set_option maxHeartbeats 4000000
theorem pI_ne {s : fS} {a k x : Nat} {v : Int} (h : x ≠ a) : (s.pI a k v).i x = s.i x := if_neg h
theorem cp_ne {s : fS} {a y b z n x : Nat} (h : x ≠ b) : (s.cp a y b z n).i x = s.i x := if_neg h
theorem bA.st {m : Nat} {s : fS} (S : sS m s) {a : Nat} (h : a < 192) : bA s a := Or.inl (by have := S.c; have := f_lim_le m; omega)
theorem Ex.i {l : List Nat} {s s' : fS} (h : Ex l s s') {m : Nat} (S : sS m s) {a : Nat} (ha : a < 192) (hn : a ∉ l) : s'.i a = s.i a := (h.2 a (bA.st S ha) hn).1
theorem Ex.j {l : List Nat} {s s' : fS} (h : Ex l s s') {m : Nat} (S : sS m s) {a : Nat} (ha : a < 192) (hn : a ∉ l) : s'.j a = s.j a := (h.2 a (bA.st S ha) hn).2.1
theorem Ex.n {l : List Nat} {s s' : fS} (h : Ex l s s') {m : Nat} (S : sS m s) {a : Nat} (ha : a < 192) (hn : a ∉ l) : s'.n a = s.n a := (h.2 a (bA.st S ha) hn).2.2.1
theorem Ex.t {l : List Nat} {s s' : fS} (h : Ex l s s') {m : Nat} (S : sS m s) {a : Nat} (ha : a < 192) (hn : a ∉ l) : s'.t a = s.t a := (h.2 a (bA.st S ha) hn).2.2.2.2.1
/-- the growing of an array of ints, by what is known then -/
theorem grow' {m : Nat} {s : fS} (S : sS m s) {g : Nat} (hg : g ∈ f_G) (ht : s.t g = 100) (hgc : g < 192) {e : Int} (he : 0 ≤ e) (he2 : e ≤ 10000000) (hr : s.c + 1 ≤ 170145) (hz : s.z + (2 * e).toNat ≤ 8591047) :
    ∃ σ, (∀ {γ : Type} (K : fS → Option γ), ((FX1_grown g e s).bind fun q => (uMV q.2 g q.1).bind K) = K σ) ∧ sS m σ ∧ Ex [g] s σ ∧ e ≤ σ.n g ∧ s.n g ≤ σ.n g ∧ (∀ k, k < s.n g → σ.i g k = s.i g k) ∧ σ.c ≤ s.c + 1 ∧ s.z ≤ σ.z ∧ σ.z + 2 * s.n g ≤ s.z + 2 * σ.n g ∧ ((σ.n g = s.n g ∧ σ.z = s.z) ∨ ((σ.n g : Int) = 2 * e ∧ σ.z = s.z + σ.n g)) := by
  obtain ⟨σ, h1, h2⟩ := grow S hg ht (bA.st S hgc) he he2 hr hz
  refine ⟨σ, h1, ?_⟩
  rcases h2 with ⟨c, e1⟩ | ⟨c, e1⟩
  · subst e1; exact ⟨S, Ex.rf _ _, c, Nat.le_refl _, fun _ _ => rfl, Nat.le_succ _, Nat.le_refl _, Nat.le_refl _, Or.inl ⟨rfl, rfl⟩⟩
  · subst e1
    refine ⟨S.gr hg (by omega), Ex.gr (by omega), by rw [gr_n]; omega, by rw [gr_n]; omega, fun k hk => by rw [gr_i, if_pos hk], Nat.le_refl _, Nat.le_add_right _ _, ?_, Or.inr ⟨by rw [gr_n]; omega, by rw [gr_n]; rfl⟩⟩
    rw [gr_n]; show s.z + (2 * e).toNat + 2 * s.n g ≤ _; omega
theorem N_make {m : Nat} {s : fS} (S : sS m s) {p : Nat} (hp : p < 4096) (hc0 : 0 ≤ (s.i 44 6)) (hc1 : (s.i 44 6) ≤ 1352) (hu0 : 0 ≤ (s.i 44 5)) (hu1 : (s.i 44 5) ≤ 50000) (hul : (s.i 44 5) ≤ s.n 48) (hs0 : 0 ≤ (s.i 44 8)) (hs1 : (s.i 44 8) ≤ 40) (hr : s.c + 3 ≤ 170145) (hz : s.z + 200000 ≤ 8591047) :
    ∃ σ, FX10_make p s = some ((), σ) ∧ sS m σ ∧ Ex [44, 45, 46, 47, 48] s σ ∧ (σ.i 44 6) = (s.i 44 6) + 1 ∧ (σ.i 44 5) = (s.i 44 5) + (s.i 44 8) ∧ (σ.i 44 8) = (s.i 44 8) ∧
      (∀ q, σ.i 45 q = if q = p then (s.i 44 6) else s.i 45 q) ∧
      (∀ x : Nat, x < s.n 46 → (x : Int) ≠ (s.i 44 6) → σ.i 46 x = s.i 46 x) ∧ σ.i 46 ((s.i 44 6)).toNat = (s.i 44 5) ∧
      (∀ x : Nat, x < s.n 47 → (x : Int) ≠ (s.i 44 6) → σ.i 47 x = s.i 47 x) ∧ σ.i 47 ((s.i 44 6)).toNat = (s.i 44 8) ∧
      (∀ k : Nat, (k : Int) < (s.i 44 5) → σ.i 48 k = s.i 48 k) ∧ (∀ k : Nat, (k : Int) < (s.i 44 8) → σ.i 48 (((s.i 44 5)).toNat + k) = s.i 49 k) ∧
      (s.i 44 6) + 1 ≤ σ.n 46 ∧ (s.i 44 6) + 1 ≤ σ.n 47 ∧ (s.i 44 5) + (s.i 44 8) ≤ σ.n 48 ∧
      s.n 46 ≤ σ.n 46 ∧ s.n 47 ≤ σ.n 47 ∧ s.n 48 ≤ σ.n 48 ∧
      (σ.n 46 ≤ s.n 46 ∨ σ.n 46 ≤ 2706) ∧ (σ.n 47 ≤ s.n 47 ∨ σ.n 47 ≤ 2706) ∧ (σ.n 48 ≤ s.n 48 ∨ σ.n 48 ≤ 100080) ∧
      σ.c ≤ s.c + 3 ∧ s.z ≤ σ.z ∧ σ.z + 2 * (s.n 46 + s.n 47 + s.n 48) ≤ s.z + 2 * (σ.n 46 + σ.n 47 + σ.n 48) := by
  unfold FX10_make
  rw [iadd_eq ⟨by omega, by omega⟩]
  obtain ⟨a, ha, Sa, Xa, a1, a2, a3, a4, a5, a6, a7⟩ := grow' S (g := 46) (by decide) (t_46 S) (by decide) (e := (s.i 44 6) + 1) (by omega) (by omega) (by omega) (by omega)
  rw [ha]
  have ai := Xa.i S (a := 44) (by decide) (by decide)
  rw [ai, iadd_eq ⟨by omega, by omega⟩]
  have az : a.z ≤ s.z + 2706 ∨ a.z ≤ s.z := by rcases a7 with w | w <;> omega
  obtain ⟨b, hb, Sb, Xb, b1, b2, b3, b4, b5, b6, b7⟩ := grow' Sa (g := 47) (by decide) (t_47 Sa) (by decide) (e := (s.i 44 6) + 1) (by omega) (by omega) (by omega) (by omega)
  rw [hb]
  have bi : b.i 44 = s.i 44 := (Xb.i Sa (a := 44) (by decide) (by decide)).trans ai
  have Xab : Ex [44, 45, 46, 47, 48] s b := (Xa.mono (by decide)).tr (Xb.mono (by decide))
  have an47 : a.n 47 = s.n 47 := Xa.n S (by decide) (by decide)
  have bn46 : b.n 46 = a.n 46 := Xb.n Sa (by decide) (by decide)
  have bi46 : b.i 46 = a.i 46 := Xb.i Sa (by decide) (by decide)
  have ai47 : a.i 47 = s.i 47 := Xa.i S (by decide) (by decide)
  have bn48 : b.n 48 = s.n 48 := (Xb.n Sa (by decide) (by decide)).trans (Xa.n S (by decide) (by decide))
  have bi48 : b.i 48 = s.i 48 := (Xb.i Sa (by decide) (by decide)).trans (Xa.i S (by decide) (by decide))
  have bi45 : b.i 45 = s.i 45 := (Xb.i Sa (by decide) (by decide)).trans (Xa.i S (by decide) (by decide))
  have bi49 : b.i 49 = s.i 49 := (Xb.i Sa (by decide) (by decide)).trans (Xa.i S (by decide) (by decide))
  have bz : b.z ≤ s.z + 5412 := by rcases a7 with w | w <;> rcases b7 with v | v <;> omega
  -- behind the growing of all three
  have fin : ∀ d : fS, sS m d → Ex [48] b d → (∀ k : Nat, (k : Int) < (s.i 44 5) → d.i 48 k = s.i 48 k) → (s.i 44 5) + (s.i 44 8) ≤ d.n 48 → s.n 48 ≤ d.n 48 → (d.n 48 ≤ s.n 48 ∨ d.n 48 ≤ 100080) → d.c ≤ b.c + 1 → b.z ≤ d.z → d.z + 2 * s.n 48 ≤ b.z + 2 * d.n 48 → ∃ σ, FX10_make_b84 p d = some ((), σ) ∧ sS m σ ∧ Ex [44, 45, 46, 47, 48] d σ ∧ σ.n = d.n ∧ σ.c = d.c ∧ σ.z = d.z ∧ σ.i 44 6 = s.i 44 6 + 1 ∧ σ.i 44 5 = s.i 44 5 + s.i 44 8 ∧ σ.i 44 8 = s.i 44 8 ∧ (∀ q, σ.i 45 q = if q = p then s.i 44 6 else s.i 45 q) ∧ (∀ x, σ.i 46 x = if x = (s.i 44 6).toNat then s.i 44 5 else d.i 46 x) ∧ (∀ x, σ.i 47 x = if x = (s.i 44 6).toNat then s.i 44 8 else d.i 47 x) ∧ (∀ x, σ.i 48 x = if (s.i 44 5).toNat ≤ x ∧ x < (s.i 44 5).toNat + (s.i 44 8).toNat then s.i 49 (x - (s.i 44 5).toNat) else d.i 48 x) := by
    intro d Sd Xd d1 d2 d3 d4 d5 d6 d7
    have di : d.i 44 = s.i 44 := (Xd.i Sb (by decide) (by decide)).trans bi
    have dn46 : d.n 46 = b.n 46 := Xd.n Sb (by decide) (by decide)
    have dn47 : d.n 47 = b.n 47 := Xd.n Sb (by decide) (by decide)
    have di49 : d.i 49 = s.i 49 := (Xd.i Sb (by decide) (by decide)).trans bi49
    have di45 : d.i 45 = s.i 45 := (Xd.i Sb (by decide) (by decide)).trans bi45
    unfold FX10_make_b84
    rw [di, uQI_ok hc0 (by rw [dn46, bn46]; omega), Option.bind_some]
    have e1 : (d.pI 46 (s.i 44 6).toNat (s.i 44 5)).i 44 = s.i 44 := di
    rw [e1, uQI_ok hc0 (by show s.i 44 6 < ((d.n 47 : Nat) : Int); rw [dn47]; omega), Option.bind_some]
    have e2 : ((d.pI 46 (s.i 44 6).toNat (s.i 44 5)).pI 47 (s.i 44 6).toNat (s.i 44 8)).i 44 = s.i 44 := di
    rw [e2]
    have hcp : uCP ((d.pI 46 (s.i 44 6).toNat (s.i 44 5)).pI 47 (s.i 44 6).toNat (s.i 44 8)) 49 0 48 (s.i 44 5) (s.i 44 8) = some (((d.pI 46 (s.i 44 6).toNat (s.i 44 5)).pI 47 (s.i 44 6).toNat (s.i 44 8)).cp 49 0 48 (s.i 44 5).toNat (s.i 44 8).toNat) := by
      unfold uCP; rw [if_pos]; rfl
      refine ⟨⟨by omega, by omega, by omega⟩, ?_, ?_, ?_⟩
      · show ut (d.t 49) = ut (d.t 48); rw [t_49 Sd, t_48 Sd]
      · show 0 + (s.i 44 8).toNat ≤ d.n 49; rw [n_49 Sd]; omega
      · show (s.i 44 5).toNat + (s.i 44 8).toNat ≤ d.n 48; omega
    rw [hcp]
    generalize hc : (((d.pI 46 (s.i 44 6).toNat (s.i 44 5)).pI 47 (s.i 44 6).toNat (s.i 44 8)).cp 49 0 48 (s.i 44 5).toNat (s.i 44 8).toNat) = u
    have ui : u.i 44 = s.i 44 := by rw [← hc]; exact di
    rw [Option.bind_some]
    rw [ui, iadd_eq ⟨by omega, by omega⟩]
    have p1 : ∀ v, uPI u 44 5 v = some (u.pI 44 5 v) := fun _ => rfl
    rw [p1, Option.bind_some]
    have e3 : (u.pI 44 5 (s.i 44 5 + s.i 44 8)).i 44 6 = s.i 44 6 := by rw [fS.pI_i, if_neg (by decide), ui]
    rw [e3, iadd_eq ⟨by omega, by omega⟩]
    have p2 : ∀ v, uPI (u.pI 44 5 (s.i 44 5 + s.i 44 8)) 44 6 v = some ((u.pI 44 5 (s.i 44 5 + s.i 44 8)).pI 44 6 v) := fun _ => rfl
    rw [p2, Option.bind_some]
    have Su : sS m u := by rw [← hc]; exact ((Sd.pI _ _ _).pI _ _ _).cp _ _ _ _ _
    have Xu : Ex [44, 45, 46, 47, 48] d u := by
      rw [← hc]
      exact (((Ex.pI _ _ _ _).mono (by decide)).tr ((Ex.pI _ _ _ _).mono (by decide))).tr ((Ex.cp _ _ _ _ _ _).mono (by decide))
    have S2 : sS m ((u.pI 44 5 (s.i 44 5 + s.i 44 8)).pI 44 6 (s.i 44 6 + 1)) := (Su.pI _ _ _).pI _ _ _
    rw [uQI_ok (by omega) (by rw [n_45 S2]; omega)]
    refine ⟨_, rfl, S2.pI _ _ _, (Xu.tr (((Ex.pI _ _ _ _).mono (by decide)).tr ((Ex.pI _ _ _ _).mono (by decide)))).tr ((Ex.pI _ _ _ _).mono (by decide)), by rw [← hc]; rfl, by rw [← hc]; rfl, by rw [← hc]; rfl, ?_, ?_, ?_, fun q => ?_, fun x => ?_, fun x => ?_, fun x => ?_⟩
    · rw [pI_ne (by decide), fS.pI_i, if_pos ⟨rfl, rfl⟩]
    · rw [pI_ne (by decide), fS.pI_i, if_neg (by decide), fS.pI_i, if_pos ⟨rfl, rfl⟩]
    · rw [pI_ne (by decide), fS.pI_i, if_neg (by decide), fS.pI_i, if_neg (by decide), ui]
    · rw [fS.pI_i, pI_ne (by decide), pI_ne (by decide), ← hc, cp_ne (by decide), pI_ne (by decide), pI_ne (by decide), di45]
      have e5 : ((p : Int)).toNat = p := by omega
      by_cases w : q = p
      · rw [if_pos w, if_pos ⟨rfl, by rw [e5]; exact w⟩]
      · rw [if_neg w, if_neg (fun v => w (by rw [e5] at v; exact v.2))]
    · rw [pI_ne (by decide), pI_ne (by decide), pI_ne (by decide), ← hc, cp_ne (by decide), pI_ne (by decide), fS.pI_i]
      by_cases w : x = (s.i 44 6).toNat
      · rw [if_pos w, if_pos ⟨rfl, w⟩]
      · rw [if_neg w, if_neg (fun v => w v.2)]
    · rw [pI_ne (by decide), pI_ne (by decide), pI_ne (by decide), ← hc, cp_ne (by decide), fS.pI_i, pI_ne (by decide)]
      by_cases w : x = (s.i 44 6).toNat
      · rw [if_pos w, if_pos ⟨rfl, w⟩]
      · rw [if_neg w, if_neg (fun v => w v.2)]
    · rw [pI_ne (by decide), pI_ne (by decide), pI_ne (by decide), ← hc, cp_i, if_pos rfl, pI_ne (by decide), pI_ne (by decide), pI_ne (by decide), pI_ne (by decide), di49, Nat.zero_add]
  have done : ∀ d : fS, sS m d → Ex [48] b d → (∀ k : Nat, (k : Int) < (s.i 44 5) → d.i 48 k = s.i 48 k) → (s.i 44 5) + (s.i 44 8) ≤ d.n 48 → s.n 48 ≤ d.n 48 → (d.n 48 ≤ s.n 48 ∨ d.n 48 ≤ 100080) → d.c ≤ b.c + 1 → b.z ≤ d.z → d.z + 2 * s.n 48 ≤ b.z + 2 * d.n 48 → ∃ σ, FX10_make_b84 p d = some ((), σ) ∧ sS m σ ∧ Ex [44, 45, 46, 47, 48] s σ ∧ (σ.i 44 6) = (s.i 44 6) + 1 ∧ (σ.i 44 5) = (s.i 44 5) + (s.i 44 8) ∧ (σ.i 44 8) = (s.i 44 8) ∧
      (∀ q, σ.i 45 q = if q = p then (s.i 44 6) else s.i 45 q) ∧
      (∀ x : Nat, x < s.n 46 → (x : Int) ≠ (s.i 44 6) → σ.i 46 x = s.i 46 x) ∧ σ.i 46 ((s.i 44 6)).toNat = (s.i 44 5) ∧
      (∀ x : Nat, x < s.n 47 → (x : Int) ≠ (s.i 44 6) → σ.i 47 x = s.i 47 x) ∧ σ.i 47 ((s.i 44 6)).toNat = (s.i 44 8) ∧
      (∀ k : Nat, (k : Int) < (s.i 44 5) → σ.i 48 k = s.i 48 k) ∧ (∀ k : Nat, (k : Int) < (s.i 44 8) → σ.i 48 (((s.i 44 5)).toNat + k) = s.i 49 k) ∧
      (s.i 44 6) + 1 ≤ σ.n 46 ∧ (s.i 44 6) + 1 ≤ σ.n 47 ∧ (s.i 44 5) + (s.i 44 8) ≤ σ.n 48 ∧
      s.n 46 ≤ σ.n 46 ∧ s.n 47 ≤ σ.n 47 ∧ s.n 48 ≤ σ.n 48 ∧
      (σ.n 46 ≤ s.n 46 ∨ σ.n 46 ≤ 2706) ∧ (σ.n 47 ≤ s.n 47 ∨ σ.n 47 ≤ 2706) ∧ (σ.n 48 ≤ s.n 48 ∨ σ.n 48 ≤ 100080) ∧
      σ.c ≤ s.c + 3 ∧ s.z ≤ σ.z ∧ σ.z + 2 * (s.n 46 + s.n 47 + s.n 48) ≤ s.z + 2 * (σ.n 46 + σ.n 47 + σ.n 48) := by
    intro d Sd Xd d1 d2 d3 d4 d5 d6 d7
    obtain ⟨σ, f0, f1, f2, f3, f4, f5, f6, f7, f8, f9, f10, f11, f12⟩ := fin d Sd Xd d1 d2 d3 d4 d5 d6 d7
    have dn46 : d.n 46 = b.n 46 := Xd.n Sb (by decide) (by decide)
    have dn47 : d.n 47 = b.n 47 := Xd.n Sb (by decide) (by decide)
    have di46 : d.i 46 = b.i 46 := Xd.i Sb (by decide) (by decide)
    have di47 : d.i 47 = b.i 47 := Xd.i Sb (by decide) (by decide)
    refine ⟨σ, f0, f1, (Xab.tr (Xd.mono (by decide))).tr f2, f6, f7, f8, f9, fun x hx hne => ?_, ?_, fun x hx hne => ?_, ?_, fun k hk => ?_, fun k hk => ?_, ?_⟩
    · rw [f10, if_neg (by omega), di46, bi46, a3 x hx]
    · rw [f10, if_pos rfl]
    · rw [f11, if_neg (by omega), di47, b3 x (by rw [an47]; exact hx), ai47]
    · rw [f11, if_pos rfl]
    · rw [f12, if_neg (by omega), d1 k hk]
    · rw [f12, if_pos (by omega)]; congr 1; omega
    · rw [f3, f4, f5, dn46, dn47, bn46]
      rcases a7 with w | w <;> rcases b7 with v | v <;> omega
  rw [bi, iadd_eq (a := s.i 44 5) ⟨by omega, by omega⟩]
  by_cases c : (s.i 44 5) + (s.i 44 8) ≤ (b.n 48 : Int)
  · rw [if_pos c]
    exact done b Sb (Ex.rf _ _) (fun k _ => by rw [bi48]) c (by rw [bn48]; exact Nat.le_refl _) (Or.inl (by rw [bn48]; exact Nat.le_refl _)) (Nat.le_succ _) (Nat.le_refl _) (by rw [bn48]; omega)
  · rw [if_neg c, imul_eq ⟨by omega, by omega⟩, uNA_ok (by omega) (by omega) (by omega) (by omega)]
    have hbl : bA b 48 := bA.st Sb (by decide)
    have hbc : ¬ 44 = b.c := fun e => by have := Sb.c; have := f_lim_le m; omega
    have hcm := cpmv (t_48 Sb) (Or.inr (Or.inl rfl)) hbl (l := (2 * (s.i 44 5 + s.i 44 8)).toNat) hu0 (by rw [bn48]; exact hul) (by omega) (by omega) (fun σ36 => FX10_make_b84 p σ36)
    rw [show (102 + 10 : Nat) = 112 from rfl] at hcm
    simp only [Option.bind_some]
    rw [nw_i, if_neg hbc, bi, hcm]
    refine done _ (Sb.grn (by decide) (by omega)) (Ex.grn (by omega)) (fun k hk => ?_) ?_ ?_ ?_ (Nat.le_refl _) (Nat.le_add_right _ _) ?_
    · rw [grn_i, if_pos (by omega), bi48]
    · rw [grn_n]; omega
    · rw [grn_n]; rw [bn48] at c; omega
    · rw [grn_n]; exact Or.inr (by omega)
    · rw [grn_n]; show b.z + _ + _ ≤ _; rw [bn48] at c; omega
