/-! pure readers and writers of the heap (none: the machine would throw, or it can't be told), and their rows -/
def g_V (c : Nat) (h : eH) (a k : Nat) : Option Value := if a < h.1 ∧ e_t h a = c then some (e_v h a k) else none
def v_I (v : Value) : Option Int32 := match v with
  | .int x => some x
  | _ => none
def v_J (v : Value) : Option Int64 := match v with
  | .long x => some x
  | _ => none
def v_A (v : Value) : Option Nat := match v with
  | .ref x => some x
  | _ => none
def v_O (v : Value) : Option (Option Nat) := match v with
  | .ref x => some (some x)
  | .null => some none
  | _ => none
def g_I (c : Nat) (h : eH) (a k : Nat) : Option Int32 := (g_V c h a k).bind v_I
def g_J (c : Nat) (h : eH) (a k : Nat) : Option Int64 := (g_V c h a k).bind v_J
def g_A (c : Nat) (h : eH) (a k : Nat) : Option Nat := (g_V c h a k).bind v_A
def g_O (c : Nat) (h : eH) (a k : Nat) : Option (Option Nat) := (g_V c h a k).bind v_O
/-- writes of fields: of class c, not final; a boolean is 0 or 1; a final one has no reference yet -/
def p_V (c : Nat) (h : eH) (a k : Nat) (v : Value) : Option eH := if a < h.1 ∧ e_t h a = c then some (e_set h a k v) else none
def p_Z (c : Nat) (h : eH) (a k : Nat) (x : Int32) : Option eH := if (a < h.1 ∧ e_t h a = c) ∧ (x = 0 ∨ x = 1) then some (e_set h a k (.int x)) else none
def p_F (c : Nat) (h : eH) (a k : Nat) (v : Value) : Option eH := if (a < h.1 ∧ e_t h a = c) ∧ (v_A (e_v h a k) = none) then some (e_set h a k v) else none
/-- arrays -/
def r_V (c : Nat) (h : eH) (a : Nat) (i : Int32) : Option Value := if (a < h.1 ∧ e_t h a = c) ∧ ¬ i < 0 ∧ i.toNatClampNeg < e_n h a then some (e_v h a i.toNatClampNeg) else none
def r_I (c : Nat) (h : eH) (a : Nat) (i : Int32) : Option Int32 := (r_V c h a i).bind v_I
def r_J (h : eH) (a : Nat) (i : Int32) : Option Int64 := (r_V 101 h a i).bind v_J
def r_A (c : Nat) (h : eH) (a : Nat) (i : Int32) : Option Nat := (r_V c h a i).bind v_A
def r_O (c : Nat) (h : eH) (a : Nat) (i : Int32) : Option (Option Nat) := (r_V c h a i).bind v_O
def q_V (c : Nat) (h : eH) (a : Nat) (i : Int32) (v : Value) : Option eH := if (a < h.1 ∧ e_t h a = c) ∧ ¬ i < 0 ∧ i.toNatClampNeg < e_n h a then some (e_set h a i.toNatClampNeg v) else none
def q_A (c cb : Nat) (h : eH) (a : Nat) (i : Int32) (b : Nat) : Option eH := if b < h.1 ∧ e_t h b = cb then q_V c h a i (.ref b) else none
def a_len (h : eH) (a : Nat) : Option Int32 := if a < h.1 ∧ 100 ≤ e_t h a then some (nI (e_n h a)) else none
def n_arr (c g : Nat) (dv : Value) (h : eH) (n : Int32) : Option (Nat × eH) := if ¬ n < 0 ∧ n.toNatClampNeg < 60000000 ∧ h.1 + 1 ≤ 170145 ∧ h.2.1 + n.toNatClampNeg ≤ 8591047 then some (h.1, e_new h (c + 128 * g) n.toNatClampNeg (fun _ => dv)) else none
def n_obj (c g N : Nat) (ty : Nat → FieldType) (h : eH) : Option (Nat × eH) := if h.1 + 1 ≤ 170145 ∧ h.2.1 + N ≤ 8591047 then some (h.1, e_new h (c + 128 * g) N (fun j => defaultValue (ty j))) else none
theorem g_V_some {c : Nat} {h : eH} {a k : Nat} {v : Value} (hv : g_V c h a k = some v) : a < h.1 ∧ e_t h a = c ∧ e_v h a k = v := by
  unfold g_V at hv
  split at hv
  · rename_i hc; exact ⟨hc.1, hc.2, Option.some.inj hv⟩
  · cases hv
theorem v_I_some {v : Value} {x : Int32} (h : v_I v = some x) : v = .int x := by cases v <;> simp [v_I] at h; rw [h]
theorem v_J_some {v : Value} {x : Int64} (h : v_J v = some x) : v = .long x := by cases v <;> simp [v_J] at h; rw [h]
theorem v_A_some {v : Value} {x : Nat} (h : v_A v = some x) : v = .ref x := by cases v <;> simp [v_A] at h; rw [h]
theorem g_I_some {c : Nat} {h : eH} {a k : Nat} {x : Int32} (hv : g_I c h a k = some x) : a < h.1 ∧ e_t h a = c ∧ e_v h a k = .int x := by
  obtain ⟨v, h1, h2⟩ := Option.bind_eq_some_iff.mp hv
  obtain ⟨p, q, r⟩ := g_V_some h1
  exact ⟨p, q, r.trans (v_I_some h2)⟩
theorem g_J_some {c : Nat} {h : eH} {a k : Nat} {x : Int64} (hv : g_J c h a k = some x) : a < h.1 ∧ e_t h a = c ∧ e_v h a k = .long x := by
  obtain ⟨v, h1, h2⟩ := Option.bind_eq_some_iff.mp hv
  obtain ⟨p, q, r⟩ := g_V_some h1
  exact ⟨p, q, r.trans (v_J_some h2)⟩
theorem g_A_some {c : Nat} {h : eH} {a k : Nat} {x : Nat} (hv : g_A c h a k = some x) : a < h.1 ∧ e_t h a = c ∧ e_v h a k = .ref x := by
  obtain ⟨v, h1, h2⟩ := Option.bind_eq_some_iff.mp hv
  obtain ⟨p, q, r⟩ := g_V_some h1
  exact ⟨p, q, r.trans (v_A_some h2)⟩
theorem r_V_some {c : Nat} {h : eH} {a : Nat} {i : Int32} {v : Value} (hv : r_V c h a i = some v) : a < h.1 ∧ e_t h a = c ∧ e_ix i (e_n h a) i.toNatClampNeg ∧ e_v h a i.toNatClampNeg = v := by
  unfold r_V at hv
  split at hv
  · rename_i hc
    refine ⟨hc.1.1, hc.1.2, ⟨?_, hc.2.2⟩, Option.some.inj hv⟩
    obtain ⟨j, hj, e⟩ := nI_of hc.2.1
    rw [e, nI_clamp hj]
  · cases hv
theorem q_V_some {c : Nat} {h h' : eH} {a : Nat} {i : Int32} {v : Value} (hv : q_V c h a i v = some h') : a < h.1 ∧ e_t h a = c ∧ e_ix i (e_n h a) i.toNatClampNeg ∧ h' = e_set h a i.toNatClampNeg v := by
  unfold q_V at hv
  split at hv
  · rename_i hc
    refine ⟨hc.1.1, hc.1.2, ⟨?_, hc.2.2⟩, (Option.some.inj hv).symm⟩
    obtain ⟨j, hj, e⟩ := nI_of hc.2.1
    rw [e, nI_clamp hj]
  · cases hv
theorem p_V_some {c : Nat} {h h' : eH} {a k : Nat} {v : Value} (hv : p_V c h a k v = some h') : a < h.1 ∧ e_t h a = c ∧ h' = e_set h a k v := by
  unfold p_V at hv
  split at hv
  · rename_i hc; exact ⟨hc.1, hc.2, (Option.some.inj hv).symm⟩
  · cases hv
theorem p_Z_some {c : Nat} {h h' : eH} {a k : Nat} {x : Int32} (hv : p_Z c h a k x = some h') : a < h.1 ∧ e_t h a = c ∧ (narrow .boolean (.int x) = .int x ∧ fits .boolean (.int x) = true) ∧ h' = e_set h a k (.int x) := by
  unfold p_Z at hv
  split at hv
  · rename_i hc
    refine ⟨hc.1.1, hc.1.2, ?_, (Option.some.inj hv).symm⟩
    rcases hc.2 with e | e <;> subst e <;> exact ⟨rfl, rfl⟩
  · cases hv
theorem p_F_some {c : Nat} {h h' : eH} {a k : Nat} {v : Value} (hv : p_F c h a k v = some h') : a < h.1 ∧ e_t h a = c ∧ (∀ b, e_v h a k ≠ .ref b) ∧ h' = e_set h a k v := by
  unfold p_F at hv
  split at hv
  · rename_i hc
    refine ⟨hc.1.1, hc.1.2, fun b hb => ?_, (Option.some.inj hv).symm⟩
    rw [hb] at hc; exact absurd hc.2 (by simp [v_A])
  · cases hv
theorem n_arr_some {c g : Nat} {dv : Value} {h h' : eH} {n : Int32} {a : Nat} (hv : n_arr c g dv h n = some (a, h')) : ∃ N : Nat, n = nI N ∧ N < 60000000 ∧ h.1 + 1 ≤ 170145 ∧ h.2.1 + N ≤ 8591047 ∧ a = h.1 ∧ h' = e_new h (c + 128 * g) N (fun _ => dv) := by
  unfold n_arr at hv
  split at hv
  · rename_i hc
    cases hv
    obtain ⟨j, hj, e⟩ := nI_of hc.1
    have e2 : n.toNatClampNeg = j := by rw [e, nI_clamp hj]
    rw [e2] at hc ⊢
    exact ⟨j, e, hc.2.1, hc.2.2.1, hc.2.2.2, rfl, rfl⟩
  · cases hv
theorem n_obj_some {c g N : Nat} {ty : Nat → FieldType} {h h' : eH} {a : Nat} (hv : n_obj c g N ty h = some (a, h')) : h.1 + 1 ≤ 170145 ∧ h.2.1 + N ≤ 8591047 ∧ a = h.1 ∧ h' = e_new h (c + 128 * g) N (fun j => defaultValue (ty j)) := by
  unfold n_obj at hv
  split at hv
  · rename_i hc; cases hv; exact ⟨hc.1, hc.2, rfl, rfl⟩
  · cases hv
/-- exactly so it ends -/
def e_is (r : eO × eH) : eO → eH → Prop := fun o h' => (o, h') = r
section
variable {w : eW} {d : Nat} {Y : eY} {pc : Nat} {ls : eL} {st : List Value} {h : eH} {Q : eO → eH → Prop}
theorem x_gI {idx a ci k : Nat} {C : String} {T : u_T} {N : Nat} {x : Int32} (hf : g_I ci h a k = some x) (hd : decode Y.2.1 pc = .ok (.getfield idx, 3)) (hc : e_cl[ci]? = some (C, T, N)) (hk : k < N) (hl : Cond.fieldLink Y.1.cls idx (T k).1 (T k).2.1 (T k).2.2.1 ∈ lw_all) (kk : wp w d Y (pc + 3) ls (.int x :: st) h Q) : wp w d Y pc ls (.ref a :: st) h Q := w_get hd hc hk hl (g_I_some hf).1 (g_I_some hf).2.1 (g_I_some hf).2.2 kk
theorem x_gJ {idx a ci k : Nat} {C : String} {T : u_T} {N : Nat} {x : Int64} (hf : g_J ci h a k = some x) (hd : decode Y.2.1 pc = .ok (.getfield idx, 3)) (hc : e_cl[ci]? = some (C, T, N)) (hk : k < N) (hl : Cond.fieldLink Y.1.cls idx (T k).1 (T k).2.1 (T k).2.2.1 ∈ lw_all) (kk : wp w d Y (pc + 3) ls (.long x :: st) h Q) : wp w d Y pc ls (.ref a :: st) h Q := w_get hd hc hk hl (g_J_some hf).1 (g_J_some hf).2.1 (g_J_some hf).2.2 kk
theorem x_gA {idx a ci k : Nat} {C : String} {T : u_T} {N : Nat} {x : Nat} (hf : g_A ci h a k = some x) (hd : decode Y.2.1 pc = .ok (.getfield idx, 3)) (hc : e_cl[ci]? = some (C, T, N)) (hk : k < N) (hl : Cond.fieldLink Y.1.cls idx (T k).1 (T k).2.1 (T k).2.2.1 ∈ lw_all) (kk : wp w d Y (pc + 3) ls (.ref x :: st) h Q) : wp w d Y pc ls (.ref a :: st) h Q := w_get hd hc hk hl (g_A_some hf).1 (g_A_some hf).2.1 (g_A_some hf).2.2 kk
theorem x_gIN {idx a ci k : Nat} {C host : String} {T : u_T} {N : Nat} {x : Int32} (hf : g_I ci h a k = some x) (hd : decode Y.2.1 pc = .ok (.getfield idx, 3)) (hc : e_cl[ci]? = some (C, T, N)) (hk : k < N) (hl : Cond.fieldLinkNest Y.1.cls idx (T k).1 (T k).2.1 (T k).2.2.1 host ∈ lw_tbl) (kk : wp w d Y (pc + 3) ls (.int x :: st) h Q) : wp w d Y pc ls (.ref a :: st) h Q := w_getN hd hc hk hl (g_I_some hf).1 (g_I_some hf).2.1 (g_I_some hf).2.2 kk
theorem x_gJN {idx a ci k : Nat} {C host : String} {T : u_T} {N : Nat} {x : Int64} (hf : g_J ci h a k = some x) (hd : decode Y.2.1 pc = .ok (.getfield idx, 3)) (hc : e_cl[ci]? = some (C, T, N)) (hk : k < N) (hl : Cond.fieldLinkNest Y.1.cls idx (T k).1 (T k).2.1 (T k).2.2.1 host ∈ lw_tbl) (kk : wp w d Y (pc + 3) ls (.long x :: st) h Q) : wp w d Y pc ls (.ref a :: st) h Q := w_getN hd hc hk hl (g_J_some hf).1 (g_J_some hf).2.1 (g_J_some hf).2.2 kk
theorem x_gAN {idx a ci k : Nat} {C host : String} {T : u_T} {N : Nat} {x : Nat} (hf : g_A ci h a k = some x) (hd : decode Y.2.1 pc = .ok (.getfield idx, 3)) (hc : e_cl[ci]? = some (C, T, N)) (hk : k < N) (hl : Cond.fieldLinkNest Y.1.cls idx (T k).1 (T k).2.1 (T k).2.2.1 host ∈ lw_tbl) (kk : wp w d Y (pc + 3) ls (.ref x :: st) h Q) : wp w d Y pc ls (.ref a :: st) h Q := w_getN hd hc hk hl (g_A_some hf).1 (g_A_some hf).2.1 (g_A_some hf).2.2 kk
theorem x_pI {idx a ci k : Nat} {C : String} {T : u_T} {N : Nat} {x : Int32} {h' : eH} (hf : p_V ci h a k (.int x) = some h') (hd : decode Y.2.1 pc = .ok (.putfield idx, 3)) (hc : e_cl[ci]? = some (C, T, N)) (hk : k < N) (hl : Cond.fieldLink Y.1.cls idx (T k).1 (T k).2.1 (T k).2.2.1 ∈ lw_all) (hfin : (T k).2.2.2 = false) (hty : parseFieldDescriptor (T k).2.2.1 = some .int) (kk : wp w d Y (pc + 3) ls st h' Q) : wp w d Y pc ls (.int x :: .ref a :: st) h Q := by
  obtain ⟨h1, h2, rfl⟩ := p_V_some hf
  exact w_put hd hc hk hl hfin hty rfl rfl h1 h2 kk
theorem x_pJ {idx a ci k : Nat} {C : String} {T : u_T} {N : Nat} {x : Int64} {h' : eH} (hf : p_V ci h a k (.long x) = some h') (hd : decode Y.2.1 pc = .ok (.putfield idx, 3)) (hc : e_cl[ci]? = some (C, T, N)) (hk : k < N) (hl : Cond.fieldLink Y.1.cls idx (T k).1 (T k).2.1 (T k).2.2.1 ∈ lw_all) (hfin : (T k).2.2.2 = false) (hty : parseFieldDescriptor (T k).2.2.1 = some .long) (kk : wp w d Y (pc + 3) ls st h' Q) : wp w d Y pc ls (.long x :: .ref a :: st) h Q := by
  obtain ⟨h1, h2, rfl⟩ := p_V_some hf
  exact w_put hd hc hk hl hfin hty rfl rfl h1 h2 kk
theorem x_pA {idx a ci k b : Nat} {C : String} {T : u_T} {N : Nat} {ty : FieldType} {h' : eH} (hf : p_V ci h a k (.ref b) = some h') (hd : decode Y.2.1 pc = .ok (.putfield idx, 3)) (hc : e_cl[ci]? = some (C, T, N)) (hk : k < N) (hl : Cond.fieldLink Y.1.cls idx (T k).1 (T k).2.1 (T k).2.2.1 ∈ lw_all) (hfin : (T k).2.2.2 = false) (hty : parseFieldDescriptor (T k).2.2.1 = some ty) (hn : narrow ty (.ref b) = .ref b) (hfit : fits ty (.ref b) = true) (kk : wp w d Y (pc + 3) ls st h' Q) : wp w d Y pc ls (.ref b :: .ref a :: st) h Q := by
  obtain ⟨h1, h2, rfl⟩ := p_V_some hf
  exact w_put hd hc hk hl hfin hty hn hfit h1 h2 kk
theorem x_pZ {idx a ci k : Nat} {C : String} {T : u_T} {N : Nat} {x : Int32} {h' : eH} (hf : p_Z ci h a k x = some h') (hd : decode Y.2.1 pc = .ok (.putfield idx, 3)) (hc : e_cl[ci]? = some (C, T, N)) (hk : k < N) (hl : Cond.fieldLink Y.1.cls idx (T k).1 (T k).2.1 (T k).2.2.1 ∈ lw_all) (hfin : (T k).2.2.2 = false) (hty : parseFieldDescriptor (T k).2.2.1 = some .boolean) (kk : wp w d Y (pc + 3) ls st h' Q) : wp w d Y pc ls (.int x :: .ref a :: st) h Q := by
  obtain ⟨h1, h2, h3, rfl⟩ := p_Z_some hf
  exact w_put hd hc hk hl hfin hty h3.1 h3.2 h1 h2 kk
theorem x_pIN {idx a ci k : Nat} {C host : String} {T : u_T} {N : Nat} {x : Int32} {h' : eH} (hf : p_V ci h a k (.int x) = some h') (hd : decode Y.2.1 pc = .ok (.putfield idx, 3)) (hc : e_cl[ci]? = some (C, T, N)) (hk : k < N) (hl : Cond.fieldLinkNest Y.1.cls idx (T k).1 (T k).2.1 (T k).2.2.1 host ∈ lw_tbl) (hfin : (T k).2.2.2 = false) (hty : parseFieldDescriptor (T k).2.2.1 = some .int) (kk : wp w d Y (pc + 3) ls st h' Q) : wp w d Y pc ls (.int x :: .ref a :: st) h Q := by
  obtain ⟨h1, h2, rfl⟩ := p_V_some hf
  exact w_putN hd hc hk hl hfin hty rfl rfl h1 h2 kk
theorem x_pJN {idx a ci k : Nat} {C host : String} {T : u_T} {N : Nat} {x : Int64} {h' : eH} (hf : p_V ci h a k (.long x) = some h') (hd : decode Y.2.1 pc = .ok (.putfield idx, 3)) (hc : e_cl[ci]? = some (C, T, N)) (hk : k < N) (hl : Cond.fieldLinkNest Y.1.cls idx (T k).1 (T k).2.1 (T k).2.2.1 host ∈ lw_tbl) (hfin : (T k).2.2.2 = false) (hty : parseFieldDescriptor (T k).2.2.1 = some .long) (kk : wp w d Y (pc + 3) ls st h' Q) : wp w d Y pc ls (.long x :: .ref a :: st) h Q := by
  obtain ⟨h1, h2, rfl⟩ := p_V_some hf
  exact w_putN hd hc hk hl hfin hty rfl rfl h1 h2 kk
theorem x_pAN {idx a ci k b : Nat} {C host : String} {T : u_T} {N : Nat} {ty : FieldType} {h' : eH} (hf : p_V ci h a k (.ref b) = some h') (hd : decode Y.2.1 pc = .ok (.putfield idx, 3)) (hc : e_cl[ci]? = some (C, T, N)) (hk : k < N) (hl : Cond.fieldLinkNest Y.1.cls idx (T k).1 (T k).2.1 (T k).2.2.1 host ∈ lw_tbl) (hfin : (T k).2.2.2 = false) (hty : parseFieldDescriptor (T k).2.2.1 = some ty) (hn : narrow ty (.ref b) = .ref b) (hfit : fits ty (.ref b) = true) (kk : wp w d Y (pc + 3) ls st h' Q) : wp w d Y pc ls (.ref b :: .ref a :: st) h Q := by
  obtain ⟨h1, h2, rfl⟩ := p_V_some hf
  exact w_putN hd hc hk hl hfin hty hn hfit h1 h2 kk
theorem x_pZN {idx a ci k : Nat} {C host : String} {T : u_T} {N : Nat} {x : Int32} {h' : eH} (hf : p_Z ci h a k x = some h') (hd : decode Y.2.1 pc = .ok (.putfield idx, 3)) (hc : e_cl[ci]? = some (C, T, N)) (hk : k < N) (hl : Cond.fieldLinkNest Y.1.cls idx (T k).1 (T k).2.1 (T k).2.2.1 host ∈ lw_tbl) (hfin : (T k).2.2.2 = false) (hty : parseFieldDescriptor (T k).2.2.1 = some .boolean) (kk : wp w d Y (pc + 3) ls st h' Q) : wp w d Y pc ls (.int x :: .ref a :: st) h Q := by
  obtain ⟨h1, h2, h3, rfl⟩ := p_Z_some hf
  exact w_putN hd hc hk hl hfin hty h3.1 h3.2 h1 h2 kk
theorem x_pF {idx a ci k : Nat} {C : String} {T : u_T} {N : Nat} {ty : FieldType} {v : Value} {h' : eH} (hf : p_F ci h a k v = some h') (hd : decode Y.2.1 pc = .ok (.putfield idx, 3)) (hc : e_cl[ci]? = some (C, T, N)) (hk : k < N) (hl : Cond.fieldLink Y.1.cls idx (T k).1 (T k).2.1 (T k).2.2.1 ∈ lw_all) (hfin : (T k).2.2.2 = true) (hin : Y.1.name = "<init>") (hdecl : (T k).1 = Y.1.cls) (hty : parseFieldDescriptor (T k).2.2.1 = some ty) (hn : narrow ty v = v) (hfit : fits ty v = true) (kk : wp w d Y (pc + 3) ls st h' Q) : wp w d Y pc ls (v :: .ref a :: st) h Q := by
  obtain ⟨h1, h2, h3, rfl⟩ := p_F_some hf
  exact w_putF hd hc hk hl hfin hin hdecl hty hn hfit h3 h1 h2 kk
theorem x_rI {a : Nat} {i x : Int32} (hf : r_I 100 h a i = some x) (hd : decode Y.2.1 pc = .ok (.iaload, 1)) (kk : wp w d Y (pc + 1) ls (.int x :: st) h Q) : wp w d Y pc ls (.int i :: .ref a :: st) h Q := by
  obtain ⟨v, h1, h2⟩ := Option.bind_eq_some_iff.mp hf
  obtain ⟨q1, q2, q3, q4⟩ := r_V_some h1
  exact w_iald hd q1 q2 q3 (q4.trans (v_I_some h2)) kk
theorem x_rB {a : Nat} {i x : Int32} (hf : r_I 102 h a i = some x) (hd : decode Y.2.1 pc = .ok (.baload, 1)) (kk : wp w d Y (pc + 1) ls (.int x :: st) h Q) : wp w d Y pc ls (.int i :: .ref a :: st) h Q := by
  obtain ⟨v, h1, h2⟩ := Option.bind_eq_some_iff.mp hf
  obtain ⟨q1, q2, q3, q4⟩ := r_V_some h1
  exact w_bald hd q1 q2 q3 (q4.trans (v_I_some h2)) kk
theorem x_rZ {a : Nat} {i x : Int32} (hf : r_I 103 h a i = some x) (hd : decode Y.2.1 pc = .ok (.baload, 1)) (kk : wp w d Y (pc + 1) ls (.int x :: st) h Q) : wp w d Y pc ls (.int i :: .ref a :: st) h Q := by
  obtain ⟨v, h1, h2⟩ := Option.bind_eq_some_iff.mp hf
  obtain ⟨q1, q2, q3, q4⟩ := r_V_some h1
  exact w_zald hd q1 q2 q3 (q4.trans (v_I_some h2)) kk
theorem x_rJ {a : Nat} {i : Int32} {x : Int64} (hf : r_J h a i = some x) (hd : decode Y.2.1 pc = .ok (.laload, 1)) (kk : wp w d Y (pc + 1) ls (.long x :: st) h Q) : wp w d Y pc ls (.int i :: .ref a :: st) h Q := by
  obtain ⟨v, h1, h2⟩ := Option.bind_eq_some_iff.mp hf
  obtain ⟨q1, q2, q3, q4⟩ := r_V_some h1
  exact w_lald hd q1 q2 q3 (q4.trans (v_J_some h2)) kk
theorem x_rA {a c x : Nat} {i : Int32} (hc : 104 ≤ c) (hf : r_A c h a i = some x) (hd : decode Y.2.1 pc = .ok (.aaload, 1)) (kk : wp w d Y (pc + 1) ls (.ref x :: st) h Q) : wp w d Y pc ls (.int i :: .ref a :: st) h Q := by
  obtain ⟨v, h1, h2⟩ := Option.bind_eq_some_iff.mp hf
  obtain ⟨q1, q2, q3, q4⟩ := r_V_some h1
  exact w_aald hd q1 q2 hc q3 (q4.trans (v_A_some h2)) kk
/-- an element that may be null, and the question whether it is -/
theorem x_rO {a c : Nat} {i : Int32} {o : Option Nat} (hc : 104 ≤ c) (hf : r_O c h a i = some o) (hd : decode Y.2.1 pc = .ok (.aaload, 1)) (kk : wp w d Y (pc + 1) ls (va_rf o :: st) h Q) : wp w d Y pc ls (.int i :: .ref a :: st) h Q := by
  obtain ⟨v, h1, h2⟩ := Option.bind_eq_some_iff.mp hf
  obtain ⟨q1, q2, q3, q4⟩ := r_V_some h1
  refine w_aald hd q1 q2 hc q3 (q4.trans ?_) kk
  cases v <;> simp [v_O] at h2 <;> subst h2 <;> rfl
theorem x_qI {a : Nat} {i x : Int32} {h' : eH} (hf : q_V 100 h a i (.int x) = some h') (hd : decode Y.2.1 pc = .ok (.iastore, 1)) (kk : wp w d Y (pc + 1) ls st h' Q) : wp w d Y pc ls (.int x :: .int i :: .ref a :: st) h Q := by
  obtain ⟨q1, q2, q3, rfl⟩ := q_V_some hf
  exact w_iast hd q1 q2 q3 kk
theorem x_qB {a : Nat} {i x : Int32} {h' : eH} (hf : q_V 102 h a i (.int x.toInt8.toInt32) = some h') (hd : decode Y.2.1 pc = .ok (.bastore, 1)) (kk : wp w d Y (pc + 1) ls st h' Q) : wp w d Y pc ls (.int x :: .int i :: .ref a :: st) h Q := by
  obtain ⟨q1, q2, q3, rfl⟩ := q_V_some hf
  exact w_bast hd q1 q2 q3 kk
theorem x_qZ {a : Nat} {i x : Int32} {h' : eH} (hf : q_V 103 h a i (.int (x &&& 1)) = some h') (hd : decode Y.2.1 pc = .ok (.bastore, 1)) (kk : wp w d Y (pc + 1) ls st h' Q) : wp w d Y pc ls (.int x :: .int i :: .ref a :: st) h Q := by
  obtain ⟨q1, q2, q3, rfl⟩ := q_V_some hf
  exact w_zast hd q1 q2 q3 kk
theorem x_qJ {a : Nat} {i : Int32} {x : Int64} {h' : eH} (hf : q_V 101 h a i (.long x) = some h') (hd : decode Y.2.1 pc = .ok (.lastore, 1)) (kk : wp w d Y (pc + 1) ls st h' Q) : wp w d Y pc ls (.long x :: .int i :: .ref a :: st) h Q := by
  obtain ⟨q1, q2, q3, rfl⟩ := q_V_some hf
  exact w_last hd q1 q2 q3 kk
theorem x_qA {a b c cb : Nat} {i : Int32} {q : vw_C} {h' : eH} (hc : 104 ≤ c) (hq : e_cl[cb]? = some q) (hkC : e_ty c = .object q.1) (hf : q_A c cb h a i b = some h') (hd : decode Y.2.1 pc = .ok (.aastore, 1)) (kk : wp w d Y (pc + 1) ls st h' Q) : wp w d Y pc ls (.ref b :: .int i :: .ref a :: st) h Q := by
  unfold q_A at hf
  split at hf
  · rename_i hb
    obtain ⟨q1, q2, q3, rfl⟩ := q_V_some hf
    exact w_aast hd q1 q2 hc q3 hb.1 hb.2 hq hkC kk
  · cases hf
theorem x_len {a : Nat} {x : Int32} (hf : a_len h a = some x) (hd : decode Y.2.1 pc = .ok (.arraylength, 1)) (kk : wp w d Y (pc + 1) ls (.int x :: st) h Q) : wp w d Y pc ls (.ref a :: st) h Q := by
  unfold a_len at hf
  split at hf
  · rename_i hc
    cases hf
    exact w_alen hd hc.1 rfl hc.2 kk
  · cases hf
theorem x_newI {n : Int32} {a g : Nat} {h' : eH} (hf : n_arr 100 g (.int 0) h n = some (a, h')) (hd : decode Y.2.1 pc = .ok (.newarray .int, 2)) (hq : Cond.arrayClass .int ∈ lw_all) (kk : wp w d Y (pc + 2) ls (.ref a :: st) h' Q) : wp w d Y pc ls (.int n :: st) h Q := by
  obtain ⟨N, h1, h2, h3, h4, rfl, rfl⟩ := n_arr_some hf
  exact w_newI g hd hq h1 h2 h3 h4 kk
theorem x_newL {n : Int32} {a g : Nat} {h' : eH} (hf : n_arr 101 g (.long 0) h n = some (a, h')) (hd : decode Y.2.1 pc = .ok (.newarray .long, 2)) (hq : Cond.arrayClass .long ∈ lw_all) (kk : wp w d Y (pc + 2) ls (.ref a :: st) h' Q) : wp w d Y pc ls (.int n :: st) h Q := by
  obtain ⟨N, h1, h2, h3, h4, rfl, rfl⟩ := n_arr_some hf
  exact w_newL g hd hq h1 h2 h3 h4 kk
theorem x_newB {n : Int32} {a g : Nat} {h' : eH} (hf : n_arr 102 g (.int 0) h n = some (a, h')) (hd : decode Y.2.1 pc = .ok (.newarray .byte, 2)) (hq : Cond.arrayClass .byte ∈ lw_all) (kk : wp w d Y (pc + 2) ls (.ref a :: st) h' Q) : wp w d Y pc ls (.int n :: st) h Q := by
  obtain ⟨N, h1, h2, h3, h4, rfl, rfl⟩ := n_arr_some hf
  exact w_newB g hd hq h1 h2 h3 h4 kk
theorem x_newZ {n : Int32} {a g : Nat} {h' : eH} (hf : n_arr 103 g (.int 0) h n = some (a, h')) (hd : decode Y.2.1 pc = .ok (.newarray .boolean, 2)) (hq : Cond.arrayClass .boolean ∈ lw_all) (kk : wp w d Y (pc + 2) ls (.ref a :: st) h' Q) : wp w d Y pc ls (.int n :: st) h Q := by
  obtain ⟨N, h1, h2, h3, h4, rfl, rfl⟩ := n_arr_some hf
  exact w_newZ g hd hq h1 h2 h3 h4 kk
theorem x_anew {idx k g a : Nat} {C : String} {n : Int32} {h' : eH} (hf : n_arr k g .null h n = some (a, h')) (hd : decode Y.2.1 pc = .ok (.anewarray idx, 3)) (hk : 104 ≤ k) (hk2 : k < 108) (hkC : e_ty k = .object C) (h1 : Cond.classLink Y.1.cls idx C ∈ lw_all) (h2 : Cond.arrayOver (.object C) ∈ lw_tbl) (kk : wp w d Y (pc + 3) ls (.ref a :: st) h' Q) : wp w d Y pc ls (.int n :: st) h Q := by
  obtain ⟨N, q1, q2, q3, q4, rfl, rfl⟩ := n_arr_some hf
  exact w_anew g hd hk hk2 hkC h1 h2 q1 q2 q3 q4 kk
theorem x_new {idx ci N g a : Nat} {C : String} {T : u_T} {ty : Nat → FieldType} {h' : eH} (hf : n_obj ci g N ty h = some (a, h')) (hd : decode Y.2.1 pc = .ok (.new idx, 3)) (hc : e_cl[ci]? = some (C, T, N)) (hty : ∀ k, k < N → parseFieldDescriptor (T k).2.2.1 = some (ty k)) (h1 : Cond.classLink Y.1.cls idx C ∈ lw_all) (h2 : Cond.instantiable C N ∈ lw_all) (h3 : Cond.initialized C ∈ lw_all) (kk : wp w d Y (pc + 3) ls (.ref a :: st) h' Q) : wp w d Y pc ls st h Q := by
  obtain ⟨q1, q2, rfl, rfl⟩ := n_obj_some hf
  exact w_new g ty hd hc hty h1 h2 h3 q1 q2 kk
end
