/-! rows of arrays, and what is made -/
section
variable {w : eW} {d : Nat} {Y : eY} {pc : Nat} {ls : eL} {st : List Value} {h : eH} {Q : eO → eH → Prop}
/-- an index in range: its place -/
def e_ix (i : Int32) (n j : Nat) : Prop := i = nI j ∧ j < n
theorem e_ix.in {i : Int32} {n j : Nat} (hi : e_ix i n j) (hn : n < 2147483648) : ¬ (i < 0 ∨ n ≤ i.toNatClampNeg) ∧ i.toNatClampNeg = j := by
  obtain ⟨rfl, hj⟩ := hi
  have h1 : (nI j).toNatClampNeg = j := nI_clamp (by omega)
  exact ⟨nI_in hj (by omega), h1⟩
theorem e_T.arr {s : State} (hT : e_T w s) {k : Nat} (h1 : 100 ≤ k) (h2 : k < 108) (n : Nat) (f : Nat → Value) : s.isArrayOf (arrV (w_dA w k) n f) (e_ty k) := (hT.2.2.1 k h1 h2).1 n f
theorem w_iald {a j : Nat} {i : Int32} {v : Value} (hd : decode Y.2.1 pc = .ok (.iaload, 1)) (ha : a < h.1) (hK : e_t h a = 100) (hi : e_ix i (e_n h a) j) (hv : e_v h a j = v) (kk : wp w d Y (pc + 1) ls (v :: st) h Q) : wp w d Y pc ls (.int i :: .ref a :: st) h Q := by
  intro p l e R s m args below meth c H locs cells slots L a1 a2 a3 a4 a5 a6 a7 a8 a9 a10 a11
  obtain ⟨g1, g2, g3, g4⟩ := a5.arr ha hK (by decide)
  obtain ⟨i1, i2⟩ := hi.in g2
  refine W.iald a1 a3.2.2.1 g3 (a4.arr (k := 100) (by decide) (by decide) _ _) (fun h => by cases h) (by rw [arrV_size]; exact i1) (v := e_c w v) (by rw [i2, arrV_read _ _ hi.2, hv]) rfl rfl hd (kk p l e R s m args below meth c H locs cells slots L a1 a2 a3 a4 a5 a6 a7 a8 a9 a10 a11)
theorem w_lald {a j : Nat} {i : Int32} {v : Value} (hd : decode Y.2.1 pc = .ok (.laload, 1)) (ha : a < h.1) (hK : e_t h a = 101) (hi : e_ix i (e_n h a) j) (hv : e_v h a j = v) (kk : wp w d Y (pc + 1) ls (v :: st) h Q) : wp w d Y pc ls (.int i :: .ref a :: st) h Q := by
  intro p l e R s m args below meth c H locs cells slots L a1 a2 a3 a4 a5 a6 a7 a8 a9 a10 a11
  obtain ⟨g1, g2, g3, g4⟩ := a5.arr ha hK (by decide)
  obtain ⟨i1, i2⟩ := hi.in g2
  refine W.lald a1 a3.2.2.1 g3 (a4.arr (k := 101) (by decide) (by decide) _ _) (fun h => by cases h) (by rw [arrV_size]; exact i1) (v := e_c w v) (by rw [i2, arrV_read _ _ hi.2, hv]) rfl rfl hd (kk p l e R s m args below meth c H locs cells slots L a1 a2 a3 a4 a5 a6 a7 a8 a9 a10 a11)
theorem w_bald {a j : Nat} {i : Int32} {v : Value} (hd : decode Y.2.1 pc = .ok (.baload, 1)) (ha : a < h.1) (hK : e_t h a = 102) (hi : e_ix i (e_n h a) j) (hv : e_v h a j = v) (kk : wp w d Y (pc + 1) ls (v :: st) h Q) : wp w d Y pc ls (.int i :: .ref a :: st) h Q := by
  intro p l e R s m args below meth c H locs cells slots L a1 a2 a3 a4 a5 a6 a7 a8 a9 a10 a11
  obtain ⟨g1, g2, g3, g4⟩ := a5.arr ha hK (by decide)
  obtain ⟨i1, i2⟩ := hi.in g2
  refine W.bald a1 a3.2.2.1 g3 (a4.arr (k := 102) (by decide) (by decide) _ _) (fun h => by cases h) (by rw [arrV_size]; exact i1) (v := e_c w v) (by rw [i2, arrV_read _ _ hi.2, hv]) rfl rfl hd (kk p l e R s m args below meth c H locs cells slots L a1 a2 a3 a4 a5 a6 a7 a8 a9 a10 a11)
theorem w_zald {a j : Nat} {i : Int32} {v : Value} (hd : decode Y.2.1 pc = .ok (.baload, 1)) (ha : a < h.1) (hK : e_t h a = 103) (hi : e_ix i (e_n h a) j) (hv : e_v h a j = v) (kk : wp w d Y (pc + 1) ls (v :: st) h Q) : wp w d Y pc ls (.int i :: .ref a :: st) h Q := by
  intro p l e R s m args below meth c H locs cells slots L a1 a2 a3 a4 a5 a6 a7 a8 a9 a10 a11
  obtain ⟨g1, g2, g3, g4⟩ := a5.arr ha hK (by decide)
  obtain ⟨i1, i2⟩ := hi.in g2
  refine W.zald a1 a3.2.2.1 g3 (a4.arr (k := 103) (by decide) (by decide) _ _) (fun h => by cases h) (by rw [arrV_size]; exact i1) (v := e_c w v) (by rw [i2, arrV_read _ _ hi.2, hv]) rfl rfl hd (kk p l e R s m args below meth c H locs cells slots L a1 a2 a3 a4 a5 a6 a7 a8 a9 a10 a11)
theorem w_aald {a j k : Nat} {i : Int32} {v : Value} (hd : decode Y.2.1 pc = .ok (.aaload, 1)) (ha : a < h.1) (hK : e_t h a = k) (hk : 104 ≤ k) (hi : e_ix i (e_n h a) j) (hv : e_v h a j = v) (kk : wp w d Y (pc + 1) ls (v :: st) h Q) : wp w d Y pc ls (.int i :: .ref a :: st) h Q := by
  intro p l e R s m args below meth c H locs cells slots L a1 a2 a3 a4 a5 a6 a7 a8 a9 a10 a11
  obtain ⟨g1, g2, g3, g4⟩ := a5.arr ha hK (by omega)
  obtain ⟨i1, i2⟩ := hi.in g2
  have href : (e_ty k).isReference = true := by
    rcases (by omega : k = 104 ∨ k = 105 ∨ k = 106 ∨ k = 107) with e | e | e | e <;> subst e <;> rfl
  refine W.aald a1 a3.2.2.1 g3 (a4.arr (k := k) (by omega) (by omega) _ _) href (fun h => by cases h) (by rw [arrV_size]; exact i1) (v := e_c w v) (by rw [i2, arrV_read _ _ hi.2, hv]) rfl rfl hd (kk p l e R s m args below meth c H locs cells slots L a1 a2 a3 a4 a5 a6 a7 a8 a9 a10 a11)
theorem w_alen {a k : Nat} (hd : decode Y.2.1 pc = .ok (.arraylength, 1)) (ha : a < h.1) (hK : e_t h a = k) (hk : 100 ≤ k) (kk : wp w d Y (pc + 1) ls (.int (nI (e_n h a)) :: st) h Q) : wp w d Y pc ls (.ref a :: st) h Q := by
  intro p l e R s m args below meth c H locs cells slots L a1 a2 a3 a4 a5 a6 a7 a8 a9 a10 a11
  obtain ⟨g1, g2, g3, g4⟩ := a5.arr ha hK hk
  exact W.alen a1 a3.2.2.1 g3 (a4.arr (k := k) hk g1 _ _) (by rw [arrV_size]; rfl) rfl rfl hd (kk p l e R s m args below meth c H locs cells slots L a1 a2 a3 a4 a5 a6 a7 a8 a9 a10 a11)
theorem e_cell_set {H' : Heap} {h : eH} {a k j : Nat} {v : Value} (ha : a < h.1) (hnf : e_fin (e_t h a) j = true → ∀ b, e_v h a j ≠ .ref b) (hK : e_t h a = k) (g0 : 100 ≤ k) (g1 : k < 108) (g2 : e_n h a < 2147483648) (g4 : ∀ j, j < e_n h a → fits (e_ty k) (e_v h a j) = true) (hv : fits (e_ty k) v = true) (e1 : H'[e_r w a]? = some (arrV (w_dA w k) (e_n h a) (updV (fun j => e_c w (e_v h a j)) j (e_c w v)))) : e_cell w (e_set h a j v) H' a := by
  right; left
  have k1 : e_t (e_set h a j v) a = k := by unfold e_t; rw [((e_x.set h a j v hnf).2.1 a ha).1]; exact hK
  have k2 : e_n (e_set h a j v) a = e_n h a := ((e_x.set h a j v hnf).2.1 a ha).2
  rw [k1, k2]
  refine ⟨g0, g1, g2, ?_, ?_⟩
  · rw [e_v_set_same, e_c_upd]
    exact e1
  · intro i hi
    rw [e_v_set_same]
    unfold updV
    split
    · exact hv
    · exact g4 i hi
theorem fits_and1 (x : Int32) : fits .boolean (.int (x &&& 1)) = true := by
  have h : x &&& 1 = 0 ∨ x &&& 1 = 1 := by
    obtain ⟨j, hj, e⟩ := pk_andE x (m := 1) 1 (by decide)
    rcases (by omega : j = 0 ∨ j = 1) with r | r
    · subst r; left; exact e
    · subst r; right; exact e
  rcases h with e | e <;> rw [e] <;> rfl
theorem w_iast {a j : Nat} {i : Int32} {x : Int32} (hd : decode Y.2.1 pc = .ok (.iastore, 1)) (ha : a < h.1) (hK : e_t h a = 100) (hi : e_ix i (e_n h a) j) (kk : wp w d Y (pc + 1) ls st (e_set h a j (.int x)) Q) : wp w d Y pc ls (.int x :: .int i :: .ref a :: st) h Q := by
  intro p l e R s m args below meth c H locs cells slots L a1 a2 a3 a4 a5 a6 a7 a8 a9 a10 a11
  obtain ⟨g1, g2, g3, g4⟩ := a5.arr ha hK (by decide)
  obtain ⟨i1, i2⟩ := hi.in g2
  have hlt := a5.lt ha
  have hnf : e_fin (e_t h a) j = true → ∀ b, e_v h a j ≠ .ref b := fun hx => by rw [hK, e_fin_big (by decide)] at hx; cases hx
  refine W.iast a1 a3.2.2.1 g3 (a4.arr (k := 100) (by decide) (by decide) _ _) (fun h => by cases h) (by rw [arrV_size]; exact i1) rfl rfl hd fun H' e1 e2 e3 => ?_
  rw [i2] at e1 ⊢
  rw [arrV_store] at e1
  exact W_mono (fun t ht => ht.mono (e_x.set h a j _ hnf) (fun _ _ _ x => x)) (kk p l e R s m args below meth c H' _ cells slots L a1 a2 a3 a4 (a5.put ha (e_cell_set (v := .int x) ha hnf hK (by decide) g1 g2 g4 rfl e1) e2 e3) a6 (e_loc a7 hlt) a8 a9 a10 a11)
theorem w_last {a j : Nat} {i : Int32} {x : Int64} (hd : decode Y.2.1 pc = .ok (.lastore, 1)) (ha : a < h.1) (hK : e_t h a = 101) (hi : e_ix i (e_n h a) j) (kk : wp w d Y (pc + 1) ls st (e_set h a j (.long x)) Q) : wp w d Y pc ls (.long x :: .int i :: .ref a :: st) h Q := by
  intro p l e R s m args below meth c H locs cells slots L a1 a2 a3 a4 a5 a6 a7 a8 a9 a10 a11
  obtain ⟨g1, g2, g3, g4⟩ := a5.arr ha hK (by decide)
  obtain ⟨i1, i2⟩ := hi.in g2
  have hlt := a5.lt ha
  have hnf : e_fin (e_t h a) j = true → ∀ b, e_v h a j ≠ .ref b := fun hx => by rw [hK, e_fin_big (by decide)] at hx; cases hx
  refine W.last a1 a3.2.2.1 g3 (a4.arr (k := 101) (by decide) (by decide) _ _) (fun h => by cases h) (by rw [arrV_size]; exact i1) rfl rfl hd fun H' e1 e2 e3 => ?_
  rw [i2] at e1 ⊢
  rw [arrV_store] at e1
  exact W_mono (fun t ht => ht.mono (e_x.set h a j _ hnf) (fun _ _ _ x => x)) (kk p l e R s m args below meth c H' _ cells slots L a1 a2 a3 a4 (a5.put ha (e_cell_set (v := .long x) ha hnf hK (by decide) g1 g2 g4 rfl e1) e2 e3) a6 (e_loc a7 hlt) a8 a9 a10 a11)
theorem w_bast {a j : Nat} {i : Int32} {x : Int32} (hd : decode Y.2.1 pc = .ok (.bastore, 1)) (ha : a < h.1) (hK : e_t h a = 102) (hi : e_ix i (e_n h a) j) (kk : wp w d Y (pc + 1) ls st (e_set h a j (.int x.toInt8.toInt32)) Q) : wp w d Y pc ls (.int x :: .int i :: .ref a :: st) h Q := by
  intro p l e R s m args below meth c H locs cells slots L a1 a2 a3 a4 a5 a6 a7 a8 a9 a10 a11
  obtain ⟨g1, g2, g3, g4⟩ := a5.arr ha hK (by decide)
  obtain ⟨i1, i2⟩ := hi.in g2
  have hlt := a5.lt ha
  have hnf : e_fin (e_t h a) j = true → ∀ b, e_v h a j ≠ .ref b := fun hx => by rw [hK, e_fin_big (by decide)] at hx; cases hx
  refine W.bast a1 a3.2.2.1 g3 (a4.arr (k := 102) (by decide) (by decide) _ _) (fun h => by cases h) (by rw [arrV_size]; exact i1) rfl rfl hd fun H' e1 e2 e3 => ?_
  rw [i2] at e1 ⊢
  rw [arrV_store] at e1
  exact W_mono (fun t ht => ht.mono (e_x.set h a j _ hnf) (fun _ _ _ x => x)) (kk p l e R s m args below meth c H' _ cells slots L a1 a2 a3 a4 (a5.put ha (e_cell_set (v := .int x.toInt8.toInt32) ha hnf hK (by decide) g1 g2 g4 (pk_fb x) e1) e2 e3) a6 (e_loc a7 hlt) a8 a9 a10 a11)
theorem w_zast {a j : Nat} {i : Int32} {x : Int32} (hd : decode Y.2.1 pc = .ok (.bastore, 1)) (ha : a < h.1) (hK : e_t h a = 103) (hi : e_ix i (e_n h a) j) (kk : wp w d Y (pc + 1) ls st (e_set h a j (.int (x &&& 1))) Q) : wp w d Y pc ls (.int x :: .int i :: .ref a :: st) h Q := by
  intro p l e R s m args below meth c H locs cells slots L a1 a2 a3 a4 a5 a6 a7 a8 a9 a10 a11
  obtain ⟨g1, g2, g3, g4⟩ := a5.arr ha hK (by decide)
  obtain ⟨i1, i2⟩ := hi.in g2
  have hlt := a5.lt ha
  have hnf : e_fin (e_t h a) j = true → ∀ b, e_v h a j ≠ .ref b := fun hx => by rw [hK, e_fin_big (by decide)] at hx; cases hx
  refine W.zast a1 a3.2.2.1 g3 (a4.arr (k := 103) (by decide) (by decide) _ _) (fun h => by cases h) (by rw [arrV_size]; exact i1) rfl rfl hd fun H' e1 e2 e3 => ?_
  rw [i2] at e1 ⊢
  rw [arrV_store] at e1
  exact W_mono (fun t ht => ht.mono (e_x.set h a j _ hnf) (fun _ _ _ x => x)) (kk p l e R s m args below meth c H' _ cells slots L a1 a2 a3 a4 (a5.put ha (e_cell_set (v := .int (x &&& 1)) ha hnf hK (by decide) g1 g2 g4 (fits_and1 x) e1) e2 e3) a6 (e_loc a7 hlt) a8 a9 a10 a11)
theorem e_R.new {H H' : Heap} (hR : e_R w h H) {k n : Nat} {f : Nat → Value} (hc : h.1 + 1 ≤ 170145) (hs : h.2.1 + n ≤ 8591047) (hcell : e_cell w (e_new h k n f) H' h.1) (hsz : H'.size = w_sz w + h.1 + 1) (hoff : ∀ q, q < w_sz w + h.1 → H'[q]? = H[q]?) : e_R w (e_new h k n f) H' := by
  refine ⟨hsz, fun b hb => ?_, fun q hq => ?_, hc, hs⟩
  · have hb' : b < h.1 + 1 := hb
    by_cases e : b = h.1
    · rw [e]; exact hcell
    · have hb2 : b < h.1 := by omega
      have e1 : e_t (e_new h k n f) b = e_t h b := by simp [e_t, e_k, e_new, e]
      have e2 : e_n (e_new h k n f) b = e_n h b := by simp [e_n, e_new, e]
      have e3 : e_v (e_new h k n f) b = e_v h b := by funext j; simp [e_v, e_new, e]
      have e4 : H'[e_r w b]? = H[e_r w b]? := hoff _ (by rw [e_r_lt (hR.lt hb2)]; omega)
      exact (hR.2.1 b hb2).keep e1 e2 e3 e4
  · rw [hoff q (by omega)]; exact hR.2.2.1 q hq
theorem e_new_k (h : eH) (k n : Nat) (f : Nat → Value) : e_k (e_new h k n f) h.1 = k := by simp [e_k, e_new]
theorem e_new_t (h : eH) (k g n : Nat) (f : Nat → Value) (hk : k < 128) : e_t (e_new h (k + 128 * g) n f) h.1 = k := by unfold e_t; rw [e_new_k]; omega
theorem e_new_n (h : eH) (k n : Nat) (f : Nat → Value) : e_n (e_new h k n f) h.1 = n := by simp [e_n, e_new]
theorem e_new_v (h : eH) (k n : Nat) (f : Nat → Value) : e_v (e_new h k n f) h.1 = f := by funext j; simp [e_v, e_new]
theorem w_newI {n : Int32} {N : Nat} (g : Nat) (hd : decode Y.2.1 pc = .ok (.newarray .int, 2)) (hq : Cond.arrayClass .int ∈ lw_all) (hn : n = nI N) (hN : N < 60000000) (hc : h.1 + 1 ≤ 170145) (hs : h.2.1 + N ≤ 8591047) (kk : wp w d Y (pc + 2) ls (.ref h.1 :: st) (e_new h (100 + 128 * g) N (fun _ => .int 0)) Q) : wp w d Y pc ls (.int n :: st) h Q := by
  intro p l e R s m args below meth c H locs cells slots L a1 a2 a3 a4 a5 a6 a7 a8 a9 a10 a11
  subst hn
  have hlt : h.1 < 1000000000 := by omega
  have hcl : (nI N).toNatClampNeg = N := nI_clamp (by omega)
  refine va_newaK a1 a3.2.2.1 (atype := .int) (a4.all _ hq) rfl hd rfl (nI_pos (by omega)) hcl (by show N * _ ≤ _; simp only [componentBytes, newarray.typeOf]; omega) (by omega) (by omega) a5.1 fun H' cA e1 e2 e3 e4 e5 => ?_
  have hcA : cA = w_dA w 100 := Option.some.inj (e5.symm.trans (a4.2.2.1 100 (by decide) (by decide)).2)
  subst hcA
  have hR' : e_R w (e_new h (100 + 128 * g) N (fun _ => .int 0)) H' := by
    refine a5.new hc hs (Or.inr (Or.inl ?_)) e2 e3
    rw [e_new_t _ _ _ _ _ (by decide), e_new_n, e_new_v, e_r_lt hlt]
    exact ⟨by decide, by decide, by omega, e1, fun _ _ => rfl⟩
  have hgo := kk p l e R s m args below meth c H' locs (cells + 1) (slots + N) L a1 a2 a3 a4 hR' a6 a7 a8 a9 (by show cells + 1 + (170145 - (h.1 + 1)) ≤ _; omega) (by show slots + N + (8591047 - (h.2.1 + N)) ≤ _; omega)
  have hst : (Value.ref h.1 :: st).map (e_c w) = .ref (w_sz w + h.1) :: st.map (e_c w) := by show Value.ref (e_r w h.1) :: _ = _; rw [e_r_lt hlt]
  rw [hst] at hgo
  exact W_mono (fun t ht => ht.mono (e_x.new h _ _ _) (fun _ _ _ x => x)) hgo
theorem w_newL {n : Int32} {N : Nat} (g : Nat) (hd : decode Y.2.1 pc = .ok (.newarray .long, 2)) (hq : Cond.arrayClass .long ∈ lw_all) (hn : n = nI N) (hN : N < 60000000) (hc : h.1 + 1 ≤ 170145) (hs : h.2.1 + N ≤ 8591047) (kk : wp w d Y (pc + 2) ls (.ref h.1 :: st) (e_new h (101 + 128 * g) N (fun _ => .long 0)) Q) : wp w d Y pc ls (.int n :: st) h Q := by
  intro p l e R s m args below meth c H locs cells slots L a1 a2 a3 a4 a5 a6 a7 a8 a9 a10 a11
  subst hn
  have hlt : h.1 < 1000000000 := by omega
  have hcl : (nI N).toNatClampNeg = N := nI_clamp (by omega)
  refine va_newaK a1 a3.2.2.1 (atype := .long) (a4.all _ hq) rfl hd rfl (nI_pos (by omega)) hcl (by show N * _ ≤ _; simp only [componentBytes, newarray.typeOf]; omega) (by omega) (by omega) a5.1 fun H' cA e1 e2 e3 e4 e5 => ?_
  have hcA : cA = w_dA w 101 := Option.some.inj (e5.symm.trans (a4.2.2.1 101 (by decide) (by decide)).2)
  subst hcA
  have hR' : e_R w (e_new h (101 + 128 * g) N (fun _ => .long 0)) H' := by
    refine a5.new hc hs (Or.inr (Or.inl ?_)) e2 e3
    rw [e_new_t _ _ _ _ _ (by decide), e_new_n, e_new_v, e_r_lt hlt]
    exact ⟨by decide, by decide, by omega, e1, fun _ _ => rfl⟩
  have hgo := kk p l e R s m args below meth c H' locs (cells + 1) (slots + N) L a1 a2 a3 a4 hR' a6 a7 a8 a9 (by show cells + 1 + (170145 - (h.1 + 1)) ≤ _; omega) (by show slots + N + (8591047 - (h.2.1 + N)) ≤ _; omega)
  have hst : (Value.ref h.1 :: st).map (e_c w) = .ref (w_sz w + h.1) :: st.map (e_c w) := by show Value.ref (e_r w h.1) :: _ = _; rw [e_r_lt hlt]
  rw [hst] at hgo
  exact W_mono (fun t ht => ht.mono (e_x.new h _ _ _) (fun _ _ _ x => x)) hgo
theorem w_newB {n : Int32} {N : Nat} (g : Nat) (hd : decode Y.2.1 pc = .ok (.newarray .byte, 2)) (hq : Cond.arrayClass .byte ∈ lw_all) (hn : n = nI N) (hN : N < 60000000) (hc : h.1 + 1 ≤ 170145) (hs : h.2.1 + N ≤ 8591047) (kk : wp w d Y (pc + 2) ls (.ref h.1 :: st) (e_new h (102 + 128 * g) N (fun _ => .int 0)) Q) : wp w d Y pc ls (.int n :: st) h Q := by
  intro p l e R s m args below meth c H locs cells slots L a1 a2 a3 a4 a5 a6 a7 a8 a9 a10 a11
  subst hn
  have hlt : h.1 < 1000000000 := by omega
  have hcl : (nI N).toNatClampNeg = N := nI_clamp (by omega)
  refine va_newaK a1 a3.2.2.1 (atype := .byte) (a4.all _ hq) rfl hd rfl (nI_pos (by omega)) hcl (by show N * _ ≤ _; simp only [componentBytes, newarray.typeOf]; omega) (by omega) (by omega) a5.1 fun H' cA e1 e2 e3 e4 e5 => ?_
  have hcA : cA = w_dA w 102 := Option.some.inj (e5.symm.trans (a4.2.2.1 102 (by decide) (by decide)).2)
  subst hcA
  have hR' : e_R w (e_new h (102 + 128 * g) N (fun _ => .int 0)) H' := by
    refine a5.new hc hs (Or.inr (Or.inl ?_)) e2 e3
    rw [e_new_t _ _ _ _ _ (by decide), e_new_n, e_new_v, e_r_lt hlt]
    exact ⟨by decide, by decide, by omega, e1, fun _ _ => rfl⟩
  have hgo := kk p l e R s m args below meth c H' locs (cells + 1) (slots + N) L a1 a2 a3 a4 hR' a6 a7 a8 a9 (by show cells + 1 + (170145 - (h.1 + 1)) ≤ _; omega) (by show slots + N + (8591047 - (h.2.1 + N)) ≤ _; omega)
  have hst : (Value.ref h.1 :: st).map (e_c w) = .ref (w_sz w + h.1) :: st.map (e_c w) := by show Value.ref (e_r w h.1) :: _ = _; rw [e_r_lt hlt]
  rw [hst] at hgo
  exact W_mono (fun t ht => ht.mono (e_x.new h _ _ _) (fun _ _ _ x => x)) hgo
theorem w_newZ {n : Int32} {N : Nat} (g : Nat) (hd : decode Y.2.1 pc = .ok (.newarray .boolean, 2)) (hq : Cond.arrayClass .boolean ∈ lw_all) (hn : n = nI N) (hN : N < 60000000) (hc : h.1 + 1 ≤ 170145) (hs : h.2.1 + N ≤ 8591047) (kk : wp w d Y (pc + 2) ls (.ref h.1 :: st) (e_new h (103 + 128 * g) N (fun _ => .int 0)) Q) : wp w d Y pc ls (.int n :: st) h Q := by
  intro p l e R s m args below meth c H locs cells slots L a1 a2 a3 a4 a5 a6 a7 a8 a9 a10 a11
  subst hn
  have hlt : h.1 < 1000000000 := by omega
  have hcl : (nI N).toNatClampNeg = N := nI_clamp (by omega)
  refine va_newaK a1 a3.2.2.1 (atype := .boolean) (a4.all _ hq) rfl hd rfl (nI_pos (by omega)) hcl (by show N * _ ≤ _; simp only [componentBytes, newarray.typeOf]; omega) (by omega) (by omega) a5.1 fun H' cA e1 e2 e3 e4 e5 => ?_
  have hcA : cA = w_dA w 103 := Option.some.inj (e5.symm.trans (a4.2.2.1 103 (by decide) (by decide)).2)
  subst hcA
  have hR' : e_R w (e_new h (103 + 128 * g) N (fun _ => .int 0)) H' := by
    refine a5.new hc hs (Or.inr (Or.inl ?_)) e2 e3
    rw [e_new_t _ _ _ _ _ (by decide), e_new_n, e_new_v, e_r_lt hlt]
    exact ⟨by decide, by decide, by omega, e1, fun _ _ => rfl⟩
  have hgo := kk p l e R s m args below meth c H' locs (cells + 1) (slots + N) L a1 a2 a3 a4 hR' a6 a7 a8 a9 (by show cells + 1 + (170145 - (h.1 + 1)) ≤ _; omega) (by show slots + N + (8591047 - (h.2.1 + N)) ≤ _; omega)
  have hst : (Value.ref h.1 :: st).map (e_c w) = .ref (w_sz w + h.1) :: st.map (e_c w) := by show Value.ref (e_r w h.1) :: _ = _; rw [e_r_lt hlt]
  rw [hst] at hgo
  exact W_mono (fun t ht => ht.mono (e_x.new h _ _ _) (fun _ _ _ x => x)) hgo
end
