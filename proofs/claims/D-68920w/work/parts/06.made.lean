/-! objects and arrays of references that are made; ends of methods -/
section
variable {w : eW} {d : Nat} {Y : eY} {pc : Nat} {ls : eL} {st : List Value} {h : eH} {Q : eO → eH → Prop}
theorem e_c_dflt (w : eW) (t : FieldType) : e_c w (defaultValue t) = defaultValue t := by cases t <;> rfl
theorem w_new {idx ci N : Nat} {C : String} {T : u_T} (g : Nat) (ty : Nat → FieldType) (hd : decode Y.2.1 pc = .ok (.new idx, 3)) (hc : e_cl[ci]? = some (C, T, N)) (hty : ∀ k, k < N → parseFieldDescriptor (T k).2.2.1 = some (ty k)) (h1 : Cond.classLink Y.1.cls idx C ∈ lw_all) (h2 : Cond.instantiable C N ∈ lw_all) (h3 : Cond.initialized C ∈ lw_all)
    (hcl : h.1 + 1 ≤ 170145) (hs : h.2.1 + N ≤ 8591047) (kk : wp w d Y (pc + 3) ls (.ref h.1 :: st) (e_new h (ci + 128 * g) N (fun j => defaultValue (ty j))) Q) : wp w d Y pc ls st h Q := by
  intro p l e R s m args below meth c H locs cells slots L a1 a2 a3 a4 a5 a6 a7 a8 a9 a10 a11
  have hlt : h.1 < 1000000000 := by omega
  have hK := a4.2.1 ci _ hc
  refine W.newcK a1 a3.2.2.1 a3.1 (a4.all _ h1) (a4.all _ h2) (a4.all _ h3) rfl hd (by omega) (by omega) hK.2.1 a5.1 fun H' kC g1 g2 g3 g4 => ?_
  have hR' : e_R w (e_new h (ci + 128 * g) N (fun j => defaultValue (ty j))) H' := by
    refine a5.new hcl hs (Or.inl ?_) g3 g4
    have hci : ci < 128 := by
      have h5 : ci < e_cl.length := (List.getElem?_eq_some_iff.mp hc).1
      have h6 : e_cl.length = 43 := rfl
      omega
    rw [e_new_t _ _ _ _ _ hci, e_new_n, e_new_v, e_r_lt hlt]
    refine ⟨by have h5 : ci < e_cl.length := (List.getElem?_eq_some_iff.mp hc).1
               have h6 : e_cl.length = 43 := rfl
               omega, _, hc, rfl, ?_⟩
    simp only [e_c_dflt]
    exact u_born ty (a4.all (A := args)) (e_clf ci _ hc).1 hK g1 g2 hty
  have hgo := kk p l e R s m args below meth c H' locs (cells + 1) (slots + N) L a1 a2 a3 a4 hR' a6 a7 a8 a9 (by show cells + 1 + (170145 - (h.1 + 1)) ≤ _; omega) (by show slots + N + (8591047 - (h.2.1 + N)) ≤ _; omega)
  have hst : (Value.ref h.1 :: st).map (e_c w) = .ref (w_sz w + h.1) :: st.map (e_c w) := by show Value.ref (e_r w h.1) :: _ = _; rw [e_r_lt hlt]
  rw [hst] at hgo
  exact W_mono (fun t ht => ht.mono (e_x.new h _ _ _) (fun _ _ _ x => x)) hgo
theorem w_anew {idx k : Nat} {C : String} {n : Int32} {N : Nat} (g : Nat) (hd : decode Y.2.1 pc = .ok (.anewarray idx, 3)) (hk : 104 ≤ k) (hk2 : k < 108) (hkC : e_ty k = .object C) (h1 : Cond.classLink Y.1.cls idx C ∈ lw_all) (h2 : Cond.arrayOver (.object C) ∈ lw_tbl) (hn : n = nI N) (hN : N < 60000000)
    (hc : h.1 + 1 ≤ 170145) (hs : h.2.1 + N ≤ 8591047) (kk : wp w d Y (pc + 3) ls (.ref h.1 :: st) (e_new h (k + 128 * g) N (fun _ => .null)) Q) : wp w d Y pc ls (.int n :: st) h Q := by
  intro p l e R s m args below meth c H locs cells slots L a1 a2 a3 a4 a5 a6 a7 a8 a9 a10 a11
  subst hn
  have hlt : h.1 < 1000000000 := by omega
  have hcl : (nI N).toNatClampNeg = N := nI_clamp (by omega)
  refine W.anew a1 a3.2.2.1 a3.1 (a4.all _ h1) (a4.use h2 rfl) rfl hd rfl (nI_pos (by omega)) (by rw [hcl]; omega) (by omega) (by rw [hcl]; omega) fun cA kA comp f1 f2 f3 f4 => ?_
  rw [hcl]
  have hRA := (a4.2.2.1 k (by omega) hk2).2
  rw [hkC] at hRA
  obtain ⟨_, _, _, _, _, hfc⟩ := hRA
  have hcA : cA = w_dA w k := Option.some.inj (f1.symm.trans hfc)
  subst hcA
  generalize hH1 : H.push ({ cls := w_dA w k, slots := Array.replicate N .null, vm := .none } : Cell) = H1
  have z1 : H1.size = H.size + 1 := by rw [← hH1, Array.size_push]
  have e1 : H1[H.size]? = some (arrV (w_dA w k) N (fun _ => .null)) := by rw [← hH1, Array.getElem?_push_size, ← arrV_new]
  have o1 : ∀ q : Nat, q < H.size → H1[q]? = H[q]? := fun q hq => by rw [← hH1, Array.getElem?_push, if_neg (Nat.ne_of_lt hq)]
  have hR' : e_R w (e_new h (k + 128 * g) N (fun _ => .null)) H1 := by
    refine a5.new hc hs (Or.inr (Or.inl ?_)) (by rw [z1, a5.1]) (fun q hq => o1 q (by rw [a5.1]; exact hq))
    rw [e_new_t _ _ _ _ _ (by omega), e_new_n, e_new_v, e_r_lt hlt, ← a5.1]
    exact ⟨by omega, hk2, by omega, e1, fun _ _ => by rw [hkC]; rfl⟩
  have hgo := kk p l e R s m args below meth c H1 locs (cells + 1) (slots + N) L a1 a2 a3 a4 hR' a6 a7 a8 a9 (by show cells + 1 + (170145 - (h.1 + 1)) ≤ _; omega) (by show slots + N + (8591047 - (h.2.1 + N)) ≤ _; omega)
  have hst : (Value.ref h.1 :: st).map (e_c w) = .ref H.size :: st.map (e_c w) := by show Value.ref (e_r w h.1) :: _ = _; rw [e_r_lt hlt, a5.1]
  rw [hst] at hgo
  exact W_mono (fun t ht => ht.mono (e_x.new h _ _ _) (fun _ _ _ x => x)) hgo
/-- an object into an array of its class -/
theorem w_aast {a b j k ci : Nat} {i : Int32} {q : vw_C} (hd : decode Y.2.1 pc = .ok (.aastore, 1)) (ha : a < h.1) (hK : e_t h a = k) (hk : 104 ≤ k) (hi : e_ix i (e_n h a) j) (hb : b < h.1) (hKb : e_t h b = ci) (hc : e_cl[ci]? = some q) (hkC : e_ty k = .object q.1)
    (kk : wp w d Y (pc + 1) ls st (e_set h a j (.ref b)) Q) : wp w d Y pc ls (.ref b :: .int i :: .ref a :: st) h Q := by
  intro p l e R s m args below meth c H locs cells slots L a1 a2 a3 a4 a5 a6 a7 a8 a9 a10 a11
  obtain ⟨g1, g2, g3, g4⟩ := a5.arr ha hK (by omega)
  obtain ⟨i1, i2⟩ := hi.in g2
  have hlt := a5.lt ha
  have hnf : e_fin (e_t h a) j = true → ∀ b, e_v h a j ≠ .ref b := fun hx => by rw [hK, e_fin_big (by omega)] at hx; cases hx
  obtain ⟨cellV, v1, v2, v3, -⟩ := a5.obj hb hKb hc
  have hcls := (a4.2.1 ci q hc).2
  have hRA := (a4.2.2.1 k (by omega) g1).2
  rw [hkC] at hRA
  obtain ⟨kA, comp, k1, k2, k3, -⟩ := hRA
  have hcomp : comp = w_dC w ci := Option.some.inj (k3.symm.trans hcls.1)
  subst hcomp
  obtain ⟨kC, hkCC, -⟩ := hcls.2
  refine W.aast a1 a3.2.2.1 g3 (fun q h => by cases h) (fun h => by cases h) k1 k2 rfl hkCC ⟨fun q => i1 (Or.inl q), by rw [arrV_size, i2]; exact hi.2⟩ v1 (fun q h => by rw [v3] at h; cases h) (by rw [v2]; exact hkCC) (by rw [v2]; exact va_assign hcls) rfl rfl hd fun H' e1 e2 e3 => ?_
  rw [i2] at e1 ⊢
  rw [arrV_store] at e1
  exact W_mono (fun t ht => ht.mono (e_x.set h a j _ hnf) (fun _ _ _ x => x)) (kk p l e R s m args below meth c H' _ cells slots L a1 a2 a3 a4 (a5.put ha (e_cell_set (v := .ref b) ha hnf hK (by omega) g1 g2 g4 (by rw [hkC]; rfl) e1) e2 e3) a6 (e_loc a7 hlt) a8 a9 a10 a11)
/-- Object's own constructor -/
theorem w_obj {idx a : Nat} (hd : decode Y.2.1 pc = .ok (.invokespecial idx, 3)) (hl : Cond.methodLink Y.1.cls idx Lib.objectInit ∈ lw_all) (h2 : Cond.instanceMethod Lib.objectInit ∈ lw_all) (h3 : Cond.code Lib.objectInit ⟨#[0xb1]⟩ 1 none ∈ lw_all) (hw : st.length ≤ 20) (kk : wp w (d + 1) Y (pc + 3) ls st h Q) : wp w (d + 1) Y pc ls (.ref a :: st) h Q := by
  intro p l e R s m args below meth c H locs cells slots L a1 a2 a3 a4 a5 a6 a7 a8 a9 a10 a11
  refine W.objInit a1 a3.2.2.1 a3.1 (a4.all _ hl) (a4.all _ h2) (a4.all _ h3) rfl (by rw [a3.2.2.2.1]; exact a6.2.1) rfl hd (by omega) ?_ (kk p l e R s m args below meth c H locs cells slots L a1 a2 a3 a4 a5 a6 a7 a8 a9 a10 a11)
  have : ∀ l : List Value, ((l.map (e_c w)).map fun v => v.category).sum ≤ 2 * l.length := by
    intro l
    induction l with
    | nil => simp
    | cons v t ih => have hv : (e_c w v).category ≤ 2 := by rcases lv_cat (e_c w v) with h | h <;> omega
                     simp only [List.map_cons, List.sum_cons, List.length_cons]; omega
  have h1 := this st
  show 2 * 0 + _ + 12 ≤ R.locals
  omega
/-- what a return owes -/
theorem e_end {R : Room} {s : State} {below : List Frame} {args : Array Value} {H : Heap} {locs : List Loc} {cells slots : Nat} (a5 : e_R w h H) (a7 : ∀ q ∈ locs, w_sz w ≤ q.base) (a10 : cells + (170145 - h.1) ≤ R.cells) (a11 : slots + (8591047 - h.2.1) ≤ R.slots) {v : Option Value} (hq : Q (.inl v) h) (t : State)
    (ht : MQ below (fun _ st o t => o = .returned (v.map (e_c w)) ∧ t.heap = H ∧ st = s) args s cells slots (fun q => w_sz w ≤ q) t) : e_Q w h Q below s R t := by
  obtain ⟨o, b1, b2, ⟨rfl, b4, -⟩, Lc, ⟨-, b6, b7⟩, b8⟩ := ht
  exact ⟨.inl v, h, Lc, cells, slots, b1, b2, b6, b7, b8, a10, a11, by rw [b4]; exact a5, e_x.rf h, hq⟩
theorem w_iret {x : Int32} {ty : FieldType} (hd : decode Y.2.1 pc = .ok (.ireturn, 1)) (hr : Y.2.2.2.1 = some ty) (hn : narrow ty (.int x) = .int x) (hq : Q (.inl (some (.int x))) h) : wp w d Y pc ls [.int x] h Q := by
  intro p l e R s m args below meth c H locs cells slots L a1 a2 a3 a4 a5 a6 a7 a8 a9 a10 a11
  exact W_mono (e_end a5 a7 a10 a11 hq) (W.zret a1 a3.2.2.1 (a3.2.2.2.2.1.trans hr) hn (fun t ht _ => ⟨rfl, ht, rfl⟩) a7 hd a3.2.2.2.2.2.1)
theorem w_lret {x : Int64} (hd : decode Y.2.1 pc = .ok (.lreturn, 1)) (hr : Y.2.2.2.1 = some .long) (hq : Q (.inl (some (.long x))) h) : wp w d Y pc ls [.long x] h Q := by
  intro p l e R s m args below meth c H locs cells slots L a1 a2 a3 a4 a5 a6 a7 a8 a9 a10 a11
  exact W_mono (e_end a5 a7 a10 a11 hq) (W.lret a1 a3.2.2.1 (a3.2.2.2.2.1.trans hr) (fun t ht _ => ⟨rfl, ht, rfl⟩) a7 hd a3.2.2.2.2.2.1)
theorem w_aret {v : Value} {ty : FieldType} (hd : decode Y.2.1 pc = .ok (.areturn, 1)) (hr : Y.2.2.2.1 = some ty) (hty : (∃ n, ty = .object n) ∨ ∃ t, ty = .array t) (hv : v = .null ∨ ∃ a, v = .ref a) (hq : Q (.inl (some v)) h) : wp w d Y pc ls [v] h Q := by
  intro p l e R s m args below meth c H locs cells slots L a1 a2 a3 a4 a5 a6 a7 a8 a9 a10 a11
  refine W_mono (e_end a5 a7 a10 a11 hq) (W.aret a1 a3.2.2.1 (a3.2.2.2.2.1.trans hr) hty ?_ (fun t ht _ => ⟨rfl, ht, rfl⟩) a7 hd a3.2.2.2.2.2.1)
  rcases hv with rfl | ⟨a, rfl⟩
  · exact Or.inl rfl
  · exact Or.inr ⟨_, rfl⟩
theorem w_vret (hd : decode Y.2.1 pc = .ok (.return_, 1)) (hr : Y.2.2.2.1 = none) (hq : Q (.inl none) h) : wp w d Y pc ls [] h Q := by
  intro p l e R s m args below meth c H locs cells slots L a1 a2 a3 a4 a5 a6 a7 a8 a9 a10 a11
  exact W_mono (e_end a5 a7 a10 a11 hq) (W.vret a1 a3.2.2.1 (a3.2.2.2.2.1.trans hr) (fun t ht _ => ⟨rfl, ht, rfl⟩) a7 hd a3.2.2.2.2.2.1)
end
