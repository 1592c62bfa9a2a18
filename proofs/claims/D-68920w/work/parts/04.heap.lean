/-! rows of the heap: fields, arrays, new -/
section
variable {w : eW} {d : Nat} {Y : eY} {pc : Nat} {ls : eL} {st : List Value} {h : eH} {Q : eO → eH → Prop}
theorem e_r_lt {w : eW} {a : Nat} (ha : a < 1000000000) : e_r w a = w_sz w + a := if_pos ha
theorem e_R.lt {H : Heap} (hR : e_R w h H) {a : Nat} (ha : a < h.1) : a < 1000000000 := by have := hR.2.2.2.1; omega
/-- the machine's cell of an object -/
theorem e_R.obj {H : Heap} (hR : e_R w h H) {a ci : Nat} (ha : a < h.1) (hK : e_t h a = ci) {q : vw_C} (hc : e_cl[ci]? = some q) :
    t_OB (e_r w a) (w_dC w ci) q.2.2 (w_dI w ci) H (fun j => e_c w (e_v h a j)) := by
  have h5 : ci < e_cl.length := (List.getElem?_eq_some_iff.mp hc).1
  have h6 : e_cl.length = 43 := rfl
  rcases hR.2.1 a ha with ⟨h1, q', h2, h3, h4⟩ | ⟨h1, -⟩ | ⟨h1, -⟩
  · rw [hK] at h2 h4
    cases hc.symm.trans h2
    exact h4
  · exfalso; omega
  · exfalso; omega
theorem e_R.arr {H : Heap} (hR : e_R w h H) {a k : Nat} (ha : a < h.1) (hK : e_t h a = k) (hk : 100 ≤ k) :
    k < 108 ∧ e_n h a < 2147483648 ∧ H[e_r w a]? = some (arrV (w_dA w k) (e_n h a) (fun j => e_c w (e_v h a j))) ∧ ∀ j, j < e_n h a → fits (e_ty k) (e_v h a j) = true := by
  rcases hR.2.1 a ha with ⟨h1, -⟩ | ⟨h1, h2, h3, h4, h5⟩ | ⟨h1, h2, -⟩
  · omega
  · rw [hK] at h2 h4 h5; exact ⟨h2, h3, h4, h5⟩
  · omega
theorem e_cell.keep {h h' : eH} {H H' : Heap} {b : Nat} (hc : e_cell w h H b) (e1 : e_t h' b = e_t h b) (e2 : e_n h' b = e_n h b) (e3 : e_v h' b = e_v h b) (e4 : H'[e_r w b]? = H[e_r w b]?) : e_cell w h' H' b := by
  rcases hc with ⟨h1, q', h2, h3, h4⟩ | ⟨h1, h2, h3, h4, h5⟩ | ⟨h1, h2, cell, h3, h4⟩
  · left; rw [e1, e2]; refine ⟨h1, q', h2, h3, ?_⟩
    rw [e3]; exact h4.kept e4
  · right; left; rw [e1, e2]; refine ⟨h1, h2, h3, ?_, ?_⟩
    · rw [e3, e4]; exact h4
    · rw [e3]; exact h5
  · right; right; rw [e1]; exact ⟨h1, h2, cell, by rw [e4]; exact h3, h4⟩
theorem e_R.len {H : Heap} (hR : e_R w h H) {a ci : Nat} (ha : a < h.1) (hK : e_t h a = ci) {q : vw_C} (hc : e_cl[ci]? = some q) : e_n h a = q.2.2 := by
  have h5 : ci < e_cl.length := (List.getElem?_eq_some_iff.mp hc).1
  have h6 : e_cl.length = 43 := rfl
  rcases hR.2.1 a ha with ⟨-, q', h2, h3, -⟩ | ⟨h1, -⟩ | ⟨h1, -⟩
  · rw [hK] at h2; cases hc.symm.trans h2; exact h3
  · exfalso; omega
  · exfalso; omega
/-- what a write of one cell leaves -/
theorem e_R.put {H H' : Heap} (hR : e_R w h H) {a i : Nat} {v : Value} (ha : a < h.1) (hcell : e_cell w (e_set h a i v) H' a) (hsz : H'.size = H.size) (hoff : ∀ q, q ≠ e_r w a → H'[q]? = H[q]?) : e_R w (e_set h a i v) H' := by
  have hlt := hR.lt ha
  refine ⟨hsz.trans hR.1, fun b hb => ?_, fun q hq => ?_, hR.2.2.2⟩
  · by_cases e : b = a
    · rw [e]; exact hcell
    · have hb' : b < h.1 := hb
      have e1 : e_t (e_set h a i v) b = e_t h b := by simp [e_t, e_k, e_set, e]
      have e2 : e_n (e_set h a i v) b = e_n h b := by simp [e_n, e_set, e]
      have e3 : e_v (e_set h a i v) b = e_v h b := by funext j; simp [e_v, e_set, e]
      have e4 : H'[e_r w b]? = H[e_r w b]? := hoff _ (by rw [e_r_lt (hR.lt hb'), e_r_lt hlt]; omega)
      exact e_cell.keep (hR.2.1 b hb') e1 e2 e3 e4
  · rw [hoff q (by rw [e_r_lt hlt]; omega)]; exact hR.2.2.1 q hq
theorem e_v_set_same (h : eH) (a i : Nat) (v : Value) : e_v (e_set h a i v) a = updV (e_v h a) i v := by funext j; simp [e_v, e_set, updV]
theorem e_c_upd (w : eW) (f : Nat → Value) (i : Nat) (v : Value) : (fun j => e_c w (updV f i v j)) = updV (fun j => e_c w (f j)) i (e_c w v) := by
  funext j; unfold updV; split <;> rfl
theorem e_loc {locs : List Loc} (hl : ∀ q ∈ locs, w_sz w ≤ q.base) {a i : Nat} (ha : a < 1000000000) : ∀ q ∈ locs ++ [(⟨e_r w a, i⟩ : Loc)], w_sz w ≤ q.base := by
  intro q hq
  rcases List.mem_append.mp hq with h1 | h1
  · exact hl q h1
  · rw [List.mem_singleton.mp h1]; show w_sz w ≤ e_r w a; rw [e_r_lt ha]; omega
theorem w_get {idx a ci k : Nat} {C : String} {T : u_T} {N : Nat} {v : Value} (hd : decode Y.2.1 pc = .ok (.getfield idx, 3)) (hc : e_cl[ci]? = some (C, T, N)) (hk : k < N) (hl : Cond.fieldLink Y.1.cls idx (T k).1 (T k).2.1 (T k).2.2.1 ∈ lw_all)
    (ha : a < h.1) (hK : e_t h a = ci) (hv : e_v h a k = v) (kk : wp w d Y (pc + 3) ls (v :: st) h Q) : wp w d Y pc ls (.ref a :: st) h Q := by
  intro p l e R s m args below meth c H locs cells slots L a1 a2 a3 a4 a5 a6 a7 a8 a9 a10 a11
  obtain ⟨cell, q1, q2, q3, q4⟩ := a5.obj ha hK hc
  obtain ⟨hS, hfc, kC, hkC, hkind⟩ := a4.2.1 ci _ hc
  obtain ⟨cf, kf, fi, f, hi, hsl⟩ := hS k hk
  refine W.getf a1 a3.2.2.1 a3.1 (a4.all _ hl) hi (u_facts hfc hkC (u_lays (a4.all (A := args)) (e_clf ci _ hc).1 hk) hi).1 q1 (by rw [q3]; exact fun h => by cases h) (v := e_c w v) ?_ rfl rfl hd (kk p l e R s m args below meth c H locs cells slots L a1 a2 a3 a4 a5 a6 a7 a8 a9 a10 a11)
  rw [hsl, q4 k hk]
  show some (e_c w (e_v h a k)) = some (e_c w v)
  rw [hv]
theorem w_getN {idx a ci k : Nat} {C host : String} {T : u_T} {N : Nat} {v : Value} (hd : decode Y.2.1 pc = .ok (.getfield idx, 3)) (hc : e_cl[ci]? = some (C, T, N)) (hk : k < N) (hl : Cond.fieldLinkNest Y.1.cls idx (T k).1 (T k).2.1 (T k).2.2.1 host ∈ lw_tbl)
    (ha : a < h.1) (hK : e_t h a = ci) (hv : e_v h a k = v) (kk : wp w d Y (pc + 3) ls (v :: st) h Q) : wp w d Y pc ls (.ref a :: st) h Q := by
  intro p l e R s m args below meth c H locs cells slots L a1 a2 a3 a4 a5 a6 a7 a8 a9 a10 a11
  obtain ⟨cell, q1, q2, q3, q4⟩ := a5.obj ha hK hc
  obtain ⟨hS, hfc, kC, hkC, hkind⟩ := a4.2.1 ci _ hc
  obtain ⟨cf, kf, fi, f, hi, hsl⟩ := hS k hk
  refine va_Wgetf a1 a3.2.2.1 a3.1 (a4.use hl rfl) hi (u_facts hfc hkC (u_lays (a4.all (A := args)) (e_clf ci _ hc).1 hk) hi).1 q1 (by rw [q3]; exact fun h => by cases h) (v := e_c w v) ?_ rfl rfl hd (kk p l e R s m args below meth c H locs cells slots L a1 a2 a3 a4 a5 a6 a7 a8 a9 a10 a11)
  rw [hsl, q4 k hk]
  show some (e_c w (e_v h a k)) = some (e_c w v)
  rw [hv]
theorem fits_c (w : eW) (ty : FieldType) (v : Value) : fits ty (e_c w v) = fits ty v := by cases ty <;> cases v <;> rfl
theorem narrow_c (w : eW) {ty : FieldType} {v : Value} (hn : narrow ty v = v) : narrow ty (e_c w v) = e_c w v := by
  cases v <;> first | exact hn | (cases ty <;> rfl)
/-- a field is written -/
theorem w_put {idx a ci k : Nat} {C : String} {T : u_T} {N : Nat} {v : Value} {ty : FieldType} (hd : decode Y.2.1 pc = .ok (.putfield idx, 3)) (hc : e_cl[ci]? = some (C, T, N)) (hk : k < N) (hl : Cond.fieldLink Y.1.cls idx (T k).1 (T k).2.1 (T k).2.2.1 ∈ lw_all)
    (hfin : (T k).2.2.2 = false) (hty : parseFieldDescriptor (T k).2.2.1 = some ty) (hn : narrow ty v = v) (hfit : fits ty v = true) (ha : a < h.1) (hK : e_t h a = ci) (kk : wp w d Y (pc + 3) ls st (e_set h a k v) Q) : wp w d Y pc ls (v :: .ref a :: st) h Q := by
  intro p l e R s m args below meth c H locs cells slots L a1 a2 a3 a4 a5 a6 a7 a8 a9 a10 a11
  obtain ⟨f1, f2, ty0, f3⟩ := e_clf ci _ hc
  have hts := a4.all (A := args)
  obtain ⟨cell, q1, q2, q3, q4⟩ := a5.obj ha hK hc
  obtain ⟨hS, hfc, kC, hkC, hkind⟩ := a4.2.1 ci _ hc
  have hap : ∀ x y, x < N → y < N → x ≠ y → w_dI w ci x ≠ w_dI w ci y := by
    intro x y hx hy hne
    obtain ⟨_, _, _, fa, hia, ea⟩ := hS x hx
    obtain ⟨_, _, _, fb, hib, eb⟩ := hS y hy
    rw [← ea, ← eb]
    refine u_apart (u_lays hts f1 hx) (u_lays hts f1 hy) hia hib ?_
    rw [(State.fieldFound?_type hia (f3 x hx)).1, (State.fieldFound?_type hib (f3 y hy)).1]
    exact f2 x hx y hy hne
  obtain ⟨cf, kf, fi, f, hi, hsl⟩ := hS k hk
  have hlay := hts _ (f1 _ (u_in_lay hk))
  unfold u_lay at hlay
  rw [if_neg (by rw [hfin]; decide)] at hlay
  have hst := (u_facts hfc hkC (u_lays hts f1 hk) hi).1
  have h6 := u_store hfc hkC hkind hlay hi hty (narrow_c w hn) ((fits_c w ty v).trans hfit)
  refine W.putK a1 a3.2.2.1 (f := f) ⟨a3.1, hts _ hl, ⟨_, _, _, hi⟩, hst⟩ (by rw [q2]; exact h6) q1 q3 (by rw [hsl]; exact k2_hasslot (q4 k hk)) rfl rfl hd fun H' e1 e2 e3 => ?_
  rw [hsl] at e1 ⊢
  have hlt := a5.lt ha
  have hnf : e_fin (e_t h a) k = true → ∀ b, e_v h a k ≠ .ref b := fun hx => by rw [hK] at hx; unfold e_fin at hx; rw [hc] at hx; simp [hfin] at hx
  refine W_mono (fun t ht => ht.mono (e_x.set h a k v hnf) (fun _ _ _ x => x)) (kk p l e R s m args below meth c H' _ cells slots L a1 a2 a3 a4 (a5.put ha ?_ e2 e3) a6 (e_loc a7 hlt) a8 a9 a10 a11)
  left
  have k1 : e_t (e_set h a k v) a = ci := by unfold e_t; rw [((e_x.set h a k v hnf).2.1 a ha).1]; exact hK
  have k2 : e_n (e_set h a k v) a = e_n h a := ((e_x.set h a k v hnf).2.1 a ha).2
  rw [k1, k2]
  have hN : e_n h a = N := a5.len ha hK hc
  refine ⟨by have h5 : ci < e_cl.length := (List.getElem?_eq_some_iff.mp hc).1
             have h6 : e_cl.length = 43 := rfl
             omega, _, hc, hN, ?_⟩
  rw [e_v_set_same, e_c_upd]
  exact ⟨_, e1, q2, q3, t_set q4 hap hk _⟩
theorem w_putN {idx a ci k : Nat} {C host : String} {T : u_T} {N : Nat} {v : Value} {ty : FieldType} (hd : decode Y.2.1 pc = .ok (.putfield idx, 3)) (hc : e_cl[ci]? = some (C, T, N)) (hk : k < N) (hl : Cond.fieldLinkNest Y.1.cls idx (T k).1 (T k).2.1 (T k).2.2.1 host ∈ lw_tbl)
    (hfin : (T k).2.2.2 = false) (hty : parseFieldDescriptor (T k).2.2.1 = some ty) (hn : narrow ty v = v) (hfit : fits ty v = true) (ha : a < h.1) (hK : e_t h a = ci) (kk : wp w d Y (pc + 3) ls st (e_set h a k v) Q) : wp w d Y pc ls (v :: .ref a :: st) h Q := by
  intro p l e R s m args below meth c H locs cells slots L a1 a2 a3 a4 a5 a6 a7 a8 a9 a10 a11
  obtain ⟨f1, f2, ty0, f3⟩ := e_clf ci _ hc
  have hts := a4.all (A := args)
  obtain ⟨cell, q1, q2, q3, q4⟩ := a5.obj ha hK hc
  obtain ⟨hS, hfc, kC, hkC, hkind⟩ := a4.2.1 ci _ hc
  have hap : ∀ x y, x < N → y < N → x ≠ y → w_dI w ci x ≠ w_dI w ci y := by
    intro x y hx hy hne
    obtain ⟨_, _, _, fa, hia, ea⟩ := hS x hx
    obtain ⟨_, _, _, fb, hib, eb⟩ := hS y hy
    rw [← ea, ← eb]
    refine u_apart (u_lays hts f1 hx) (u_lays hts f1 hy) hia hib ?_
    rw [(State.fieldFound?_type hia (f3 x hx)).1, (State.fieldFound?_type hib (f3 y hy)).1]
    exact f2 x hx y hy hne
  obtain ⟨cf, kf, fi, f, hi, hsl⟩ := hS k hk
  have hlay := hts _ (f1 _ (u_in_lay hk))
  unfold u_lay at hlay
  rw [if_neg (by rw [hfin]; decide)] at hlay
  have hst := (u_facts hfc hkC (u_lays hts f1 hk) hi).1
  have h6 := u_store hfc hkC hkind hlay hi hty (narrow_c w hn) ((fits_c w ty v).trans hfit)
  refine va_WputK a1 a3.2.2.1 a3.1 (a4.use hl rfl) hi hst (by rw [q2]; exact h6) q1 q3 (by rw [hsl]; exact k2_hasslot (q4 k hk)) rfl rfl hd fun H' e1 e2 e3 => ?_
  rw [hsl] at e1 ⊢
  have hlt := a5.lt ha
  have hnf : e_fin (e_t h a) k = true → ∀ b, e_v h a k ≠ .ref b := fun hx => by rw [hK] at hx; unfold e_fin at hx; rw [hc] at hx; simp [hfin] at hx
  refine W_mono (fun t ht => ht.mono (e_x.set h a k v hnf) (fun _ _ _ x => x)) (kk p l e R s m args below meth c H' _ cells slots L a1 a2 a3 a4 (a5.put ha ?_ e2 e3) a6 (e_loc a7 hlt) a8 a9 a10 a11)
  left
  have k1 : e_t (e_set h a k v) a = ci := by unfold e_t; rw [((e_x.set h a k v hnf).2.1 a ha).1]; exact hK
  have k2 : e_n (e_set h a k v) a = e_n h a := ((e_x.set h a k v hnf).2.1 a ha).2
  rw [k1, k2]
  have hN : e_n h a = N := a5.len ha hK hc
  refine ⟨by have h5 : ci < e_cl.length := (List.getElem?_eq_some_iff.mp hc).1
             have h6 : e_cl.length = 43 := rfl
             omega, _, hc, hN, ?_⟩
  rw [e_v_set_same, e_c_upd]
  exact ⟨_, e1, q2, q3, t_set q4 hap hk _⟩
/-- a final field, in its own constructor -/
theorem w_putF {idx a ci k : Nat} {C : String} {T : u_T} {N : Nat} {v : Value} {ty : FieldType} (hd : decode Y.2.1 pc = .ok (.putfield idx, 3)) (hc : e_cl[ci]? = some (C, T, N)) (hk : k < N) (hl : Cond.fieldLink Y.1.cls idx (T k).1 (T k).2.1 (T k).2.2.1 ∈ lw_all)
    (hfin : (T k).2.2.2 = true) (hin : Y.1.name = "<init>") (hdecl : (T k).1 = Y.1.cls) (hty : parseFieldDescriptor (T k).2.2.1 = some ty) (hn : narrow ty v = v) (hfit : fits ty v = true) (hz : ∀ b, e_v h a k ≠ .ref b) (ha : a < h.1) (hK : e_t h a = ci) (kk : wp w d Y (pc + 3) ls st (e_set h a k v) Q) : wp w d Y pc ls (v :: .ref a :: st) h Q := by
  intro p l e R s m args below meth c H locs cells slots L a1 a2 a3 a4 a5 a6 a7 a8 a9 a10 a11
  obtain ⟨f1, f2, ty0, f3⟩ := e_clf ci _ hc
  have hts := a4.all (A := args)
  obtain ⟨cell, q1, q2, q3, q4⟩ := a5.obj ha hK hc
  obtain ⟨hS, hfc, kC, hkC, hkind⟩ := a4.2.1 ci _ hc
  have hap : ∀ x y, x < N → y < N → x ≠ y → w_dI w ci x ≠ w_dI w ci y := by
    intro x y hx hy hne
    obtain ⟨_, _, _, fa, hia, ea⟩ := hS x hx
    obtain ⟨_, _, _, fb, hib, eb⟩ := hS y hy
    rw [← ea, ← eb]
    refine u_apart (u_lays hts f1 hx) (u_lays hts f1 hy) hia hib ?_
    rw [(State.fieldFound?_type hia (f3 x hx)).1, (State.fieldFound?_type hib (f3 y hy)).1]
    exact f2 x hx y hy hne
  obtain ⟨cf, kf, fi, f, hi, hsl⟩ := hS k hk
  have hlay := hts _ (f1 _ (u_in_lay hk))
  unfold u_lay at hlay
  rw [if_pos hfin] at hlay
  have hst := (u_facts hfc hkC (u_lays hts f1 hk) hi).1
  have hcf : m.cls = cf := by
    obtain ⟨_, _, c', _, _, _, -, -, hf', -, -, -, hown2, -⟩ := Cond.laysFinal_spec hlay
    have e1 : c' = cf := by have := hi.symm.trans hf'; simp at this; exact this.1.symm
    rw [hdecl] at hown2
    rw [← e1]; exact Option.some.inj (a3.1.symm.trans hown2)
  have h6 := u_fits hfc hkC hkind (Or.inr hlay) hi hty (narrow_c w hn) ((fits_c w ty v).trans hfit)
  refine W.putFinK a1 a3.2.2.1 a3.1 (hts _ hl) hi hst hcf (a3.2.1.trans hin) (by rw [q2]; exact h6) q1 q3 (by rw [hsl]; exact k2_hasslot (q4 k hk)) rfl rfl hd fun H' e1 e2 e3 => ?_
  rw [hsl] at e1 ⊢
  have hlt := a5.lt ha
  have hnf : e_fin (e_t h a) k = true → ∀ b, e_v h a k ≠ .ref b := fun _ => hz
  refine W_mono (fun t ht => ht.mono (e_x.set h a k v hnf) (fun _ _ _ x => x)) (kk p l e R s m args below meth c H' _ cells slots L a1 a2 a3 a4 (a5.put ha ?_ e2 e3) a6 (e_loc a7 hlt) a8 a9 a10 a11)
  left
  have k1 : e_t (e_set h a k v) a = ci := by unfold e_t; rw [((e_x.set h a k v hnf).2.1 a ha).1]; exact hK
  have k2 : e_n (e_set h a k v) a = e_n h a := ((e_x.set h a k v hnf).2.1 a ha).2
  rw [k1, k2]
  have hN : e_n h a = N := a5.len ha hK hc
  refine ⟨by have h5 : ci < e_cl.length := (List.getElem?_eq_some_iff.mp hc).1
             have h6 : e_cl.length = 43 := rfl
             omega, _, hc, hN, ?_⟩
  rw [e_v_set_same, e_c_upd]
  exact ⟨_, e1, q2, q3, t_set q4 hap hk _⟩
end
