/-! what was there before the run: strings, statics, old arrays -/
section
variable {w : eW} {d : Nat} {Y : eY} {pc : Nat} {ls : eL} {st : List Value} {h : eH} {Q : eO → eH → Prop}
/-- the string constant k, its byte array, an old array -/
def o_str (a : Nat) : Option Nat := if 1000000100 ≤ a ∧ a < 1000000144 then some (a - 1000000100) else none
def o_val (a : Nat) : Option Nat := (o_str a).map (fun k => 1000000200 + k)
def o_byt (a : Nat) : Option Nat := if 1000000200 ≤ a ∧ a < 1000000244 then some (a - 1000000200) else none
def o_cod (a : Nat) : Option Int32 := (o_str a).map (fun _ => 0)
def o_len (a : Nat) : Option Int32 := (o_byt a).map (fun k => nI (e_sL.getD k 0))
def o_get (a : Nat) (i : Int32) : Option Int32 := (o_byt a).bind fun k => if ¬ i < 0 ∧ i.toNatClampNeg < e_sL.getD k 0 then some ((e_sT.getD k []).getD i.toNatClampNeg 0) else none
theorem e_r_old {w : eW} {a k : Nat} (h1 : ¬ a < 1000000000) (h2 : a - 1000000000 = k) : e_r w a = w_old w k := by unfold e_r; rw [if_neg h1, h2]
theorem o_str_some {a k : Nat} (h : o_str a = some k) : k < 44 ∧ a = 1000000100 + k ∧ ∀ w : eW, e_r w a = w_old w (100 + k) := by
  unfold o_str at h
  split at h
  · rename_i hc
    have e := Option.some.inj h
    clear h
    obtain ⟨j, rfl⟩ : ∃ j, a = 1000000100 + j := ⟨a - 1000000100, by omega⟩
    have e2 : j = k := by omega
    clear e
    subst e2
    exact ⟨by omega, rfl, fun w => e_r_old (by omega) (by omega)⟩
  · cases h
theorem o_byt_some {a k : Nat} (h : o_byt a = some k) : k < 44 ∧ a = 1000000200 + k ∧ ∀ w : eW, e_r w a = w_old w (200 + k) := by
  unfold o_byt at h
  split at h
  · rename_i hc
    have e := Option.some.inj h
    clear h
    obtain ⟨j, rfl⟩ : ∃ j, a = 1000000200 + j := ⟨a - 1000000200, by omega⟩
    have e2 : j = k := by omega
    clear e
    subst e2
    exact ⟨by omega, rfl, fun w => e_r_old (by omega) (by omega)⟩
  · cases h
/-- the old heap stands -/
theorem e_R.old {H : Heap} (hR : e_R w h H) {a : Nat} (ha : ¬ w_A w a) : H[a]? = (w_H0 w)[a]? := hR.2.2.1 a (by unfold w_A at ha; omega)
theorem x_gs {idx j : Nat} {q : String × String × String × Value} (hd : decode Y.2.1 pc = .ok (.getstatic idx, 3)) (hj : (e_sts w)[j]? = some q) (hl : Cond.fieldLink Y.1.cls idx q.1 q.2.1 q.2.2.1 ∈ lw_all) (kk : wp w d Y (pc + 3) ls (q.2.2.2 :: st) h Q) : wp w d Y pc ls st h Q := by
  intro p l e R s m args below meth c H locs cells slots L a1 a2 a3 a4 a5 a6 a7 a8 a9 a10 a11
  obtain ⟨cf, kf, fi, f, a, cell, h1, h2, h3, h4, h5, h6, h7, h8⟩ := a4.2.2.2.2.2.2.1 q (List.mem_of_getElem? hj)
  exact W.gets a1 a3.2.2.1 a3.1 (a4.all _ hl) h1 h2 h3 h4 (by rw [a5.old h8]; exact h5) (fun e => by rw [e] at h6; cases h6) h7 rfl hd (kk p l e R s m args below meth c H locs cells slots L a1 a2 a3 a4 a5 a6 a7 a8 a9 a10 a11)
theorem x_ldcS {idx k : Nat} {tx : String} (hd : decode Y.2.1 pc = .ok (.ldc idx, 2)) (hk : e_sO[k]? = some (Y.1.cls, idx, tx)) (kk : wp w d Y (pc + 2) ls (.ref (1000000100 + k) :: st) h Q) : wp w d Y pc ls st h Q := by
  intro p l e R s m args below meth c H locs cells slots L a1 a2 a3 a4 a5 a6 a7 a8 a9 a10 a11
  have hk4 : k < 44 := by have := (List.getElem?_eq_some_iff.mp hk).1; rw [e_s_len.1] at this; exact this
  have hr : e_r w (1000000100 + k) = w_old w (100 + k) := e_r_old (by omega) (by omega)
  have hgo := kk p l e R s m args below meth c H locs cells slots L a1 a2 a3 a4 a5 a6 a7 a8 a9 a10 a11
  refine va_ldcS a1 a3.2.2.1 a3.1 (a4.2.2.2.2.2.1 k hk4 _ hk) hd ?_
  rw [← hr]; exact hgo
theorem e_ldcW {p : Program} {l : Launch} {e : Env} {R : Room} {s : State} {m : MethodId} {args : Array Value} {below : List Frame} {meth : Method} {c : Code} {T : State} {locs : List Loc} {cells slots : Nat}
    (X : Stand p l e R s m args below meth c T locs cells slots) (hexec : p.tables.exec = Jvm.exec) {own text : String} {index : Nat} {a : Addr} (hown : s.vm.findClass own = some m.cls)
    (hconst : (Cond.stringRef own index text).before #[] s = true) (hev : (Term.string own index).eval #[] s none [] s = some (.ref a)) {g : JFrame} (hg : g.method = m) (hdg : decode c.code g.pc = .ok (.ldc_w index, 3)) :
    ∀ target, Steps p.tables e below (T.setTop { g with pc := g.pc + 3, stack := .ref a :: g.stack }) target → Steps p.tables e below (T.setTop g) target := by
  obtain ⟨k, cf, i, a', hk, hcf, hcp, -, hr, hev'⟩ := Cond.stringRef_spec hown hconst
  cases hev.symm.trans hev'
  obtain ⟨k', hk', he⟩ := X.warmed.alike.2.2 _ _ hk
  have hr' : k'.resolved[index]? = some (some (.string a)) := by
    rcases X.warmed.entry hk hk' index with h | ⟨h, -⟩
    · rw [h]; exact hr
    · rw [hr] at h; cases h
  intro target hrest
  subst hg
  jvm_step X.here [hexec, hdg, ldc_w.wp_string (e := e) (s := T) (f := g) X.here.top hk' (by rw [he]; exact hcf) hcp hr']
  exact hrest
theorem x_ldcSw {idx k : Nat} {tx : String} (hd : decode Y.2.1 pc = .ok (.ldc_w idx, 3)) (hk : e_sO[k]? = some (Y.1.cls, idx, tx)) (kk : wp w d Y (pc + 3) ls (.ref (1000000100 + k) :: st) h Q) : wp w d Y pc ls st h Q := by
  intro p l e R s m args below meth c H locs cells slots L a1 a2 a3 a4 a5 a6 a7 a8 a9 a10 a11 T hT X
  have hk4 : k < 44 := by have := (List.getElem?_eq_some_iff.mp hk).1; rw [e_s_len.1] at this; exact this
  have hr : e_r w (1000000100 + k) = w_old w (100 + k) := e_r_old (by omega) (by omega)
  obtain ⟨t, b1, b2⟩ := kk p l e R s m args below meth c H locs cells slots L a1 a2 a3 a4 a5 a6 a7 a8 a9 a10 a11 T hT X
  have hZ := a4.2.2.2.2.2.1 k hk4 _ hk
  rw [← hr] at hZ
  exact ⟨t, e_ldcW X a1 a3.1 (text := tx) (a := e_r w (1000000100 + k)) hZ.1 hZ.2 (g := F0 m pc L (st.map (e_c w))) rfl (by rw [a3.2.2.1]; exact hd) t b1, b2⟩
theorem x_cod {idx a : Nat} {x : Int32} (hf : o_cod a = some x) (hd : decode Y.2.1 pc = .ok (.getfield idx, 3)) (hl : Cond.fieldLink Y.1.cls idx "java/lang/String" "coder" "B" ∈ lw_all) (kk : wp w d Y (pc + 3) ls (.int x :: st) h Q) : wp w d Y pc ls (.ref a :: st) h Q := by
  intro p l e R s m args below meth c H locs cells slots L a1 a2 a3 a4 a5 a6 a7 a8 a9 a10 a11
  unfold o_cod at hf
  obtain ⟨k, hk, rfl⟩ := Option.map_eq_some_iff.mp hf
  obtain ⟨k1, k2, k3⟩ := o_str_some hk
  obtain ⟨cf, kk', fi, f, cell, h1, h2, h3, h4, h5, h6⟩ := (a4.2.2.2.2.1 k k1).2.1
  have hgo := kk p l e R s m args below meth c H locs cells slots L a1 a2 a3 a4 a5 a6 a7 a8 a9 a10 a11
  exact W.getf a1 a3.2.2.1 a3.1 (a4.all _ hl) h1 h2 (by rw [k3, a5.old h6]; exact h3) h4 (v := .int 0) h5 rfl rfl hd hgo
theorem x_val {idx a b : Nat} (hf : o_val a = some b) (hd : decode Y.2.1 pc = .ok (.getfield idx, 3)) (hl : Cond.fieldLink Y.1.cls idx "java/lang/String" "value" "[B" ∈ lw_all) (kk : wp w d Y (pc + 3) ls (.ref b :: st) h Q) : wp w d Y pc ls (.ref a :: st) h Q := by
  intro p l e R s m args below meth c H locs cells slots L a1 a2 a3 a4 a5 a6 a7 a8 a9 a10 a11
  unfold o_val at hf
  obtain ⟨k, hk, rfl⟩ := Option.map_eq_some_iff.mp hf
  obtain ⟨k1, k2, k3⟩ := o_str_some hk
  obtain ⟨cf, kk', fi, f, cell, h1, h2, h3, h4, h5, h6⟩ := (a4.2.2.2.2.1 k k1).2.2.1
  have hr : e_r w (1000000200 + k) = w_old w (200 + k) := e_r_old (by omega) (by omega)
  have hgo := kk p l e R s m args below meth c H locs cells slots L a1 a2 a3 a4 a5 a6 a7 a8 a9 a10 a11
  refine W.getf a1 a3.2.2.1 a3.1 (a4.all _ hl) h1 h2 (by rw [k3, a5.old h6]; exact h3) h4 (v := .ref (w_old w (200 + k))) h5 rfl rfl hd ?_
  rw [← hr]; exact hgo
theorem x_olen {a : Nat} {x : Int32} (hf : o_len a = some x) (hd : decode Y.2.1 pc = .ok (.arraylength, 1)) (kk : wp w d Y (pc + 1) ls (.int x :: st) h Q) : wp w d Y pc ls (.ref a :: st) h Q := by
  intro p l e R s m args below meth c H locs cells slots L a1 a2 a3 a4 a5 a6 a7 a8 a9 a10 a11
  unfold o_len at hf
  obtain ⟨k, hk, rfl⟩ := Option.map_eq_some_iff.mp hf
  obtain ⟨k1, k2, k3⟩ := o_byt_some hk
  obtain ⟨cell, h1, h2, h3, h4, h5, h6, h7⟩ := (a4.2.2.2.2.1 k k1).2.2.2
  exact W.alen a1 a3.2.2.1 (by rw [k3, a5.old h7]; exact h1) h2 h5 rfl rfl hd (kk p l e R s m args below meth c H locs cells slots L a1 a2 a3 a4 a5 a6 a7 a8 a9 a10 a11)
theorem x_oget {a : Nat} {i x : Int32} (hf : o_get a i = some x) (hd : decode Y.2.1 pc = .ok (.baload, 1)) (kk : wp w d Y (pc + 1) ls (.int x :: st) h Q) : wp w d Y pc ls (.int i :: .ref a :: st) h Q := by
  intro p l e R s m args below meth c H locs cells slots L a1 a2 a3 a4 a5 a6 a7 a8 a9 a10 a11
  unfold o_get at hf
  obtain ⟨k, hk, hf⟩ := Option.bind_eq_some_iff.mp hf
  split at hf
  case isFalse => cases hf
  rename_i hc
  cases hf
  obtain ⟨k1, k2, k3⟩ := o_byt_some hk
  obtain ⟨cell, h1, h2, h3, h4, h5, h6, h7⟩ := (a4.2.2.2.2.1 k k1).2.2.2
  exact W.bald a1 a3.2.2.1 (by rw [k3, a5.old h7]; exact h1) h2 h3 (fun hh => by rcases hh with hh | hh; exact hc.1 hh; omega) (v := .int ((e_sT.getD k []).getD i.toNatClampNeg 0)) (h6 _ hc.2) rfl rfl hd (kk p l e R s m args below meth c H locs cells slots L a1 a2 a3 a4 a5 a6 a7 a8 a9 a10 a11)
/-- an old int array -/
def o_A (w : eW) (a : Nat) : Option Nat := if 1000000000 ≤ a ∧ a < 1000000003 then some (a - 1000000000) else none
theorem w_oald {k j : Nat} {i : Int32} {v : Value} (hd : decode Y.2.1 pc = .ok (.iaload, 1)) (hk : k < 3) (hi : e_ix i (w_oc w k).2.1 j) (hv : (w_oc w k).2.2 j = v) (kk : wp w d Y (pc + 1) ls (v :: st) h Q) : wp w d Y pc ls (.int i :: .ref (1000000000 + k) :: st) h Q := by
  intro p l e R s m args below meth c H locs cells slots L a1 a2 a3 a4 a5 a6 a7 a8 a9 a10 a11
  obtain ⟨g1, g2, cell, g3, g4, g5, g6, g7, g8⟩ := a4.2.2.2.1 k hk
  obtain ⟨i1, i2⟩ := hi.in g2
  have hr : e_r w (1000000000 + k) = w_old w k := e_r_old (by omega) (by omega)
  exact W.iald a1 a3.2.2.1 (by rw [hr, a5.old (by unfold w_A; omega)]; exact g3) g4 g5 (fun hh => i1 (by rcases hh with hh | hh; exact Or.inl hh; right; omega)) (v := e_c w v) (by rw [i2, g8 j hi.2, hv]) rfl rfl hd (kk p l e R s m args below meth c H locs cells slots L a1 a2 a3 a4 a5 a6 a7 a8 a9 a10 a11)
theorem w_oalen {k : Nat} (hd : decode Y.2.1 pc = .ok (.arraylength, 1)) (hk : k < 3) (kk : wp w d Y (pc + 1) ls (.int (nI (w_oc w k).2.1) :: st) h Q) : wp w d Y pc ls (.ref (1000000000 + k) :: st) h Q := by
  intro p l e R s m args below meth c H locs cells slots L a1 a2 a3 a4 a5 a6 a7 a8 a9 a10 a11
  obtain ⟨g1, g2, cell, g3, g4, g5, g6, g7, g8⟩ := a4.2.2.2.1 k hk
  have hr : e_r w (1000000000 + k) = w_old w k := e_r_old (by omega) (by omega)
  exact W.alen a1 a3.2.2.1 (by rw [hr, a5.old (by unfold w_A; omega)]; exact g3) g4 g6 rfl rfl hd (kk p l e R s m args below meth c H locs cells slots L a1 a2 a3 a4 a5 a6 a7 a8 a9 a10 a11)
/-- a method of a string constant is called -/
theorem e_stVO {idx b k : Nat} {Yc : eY} {av : List Value} (hd : decode Y.2.1 pc = .ok (.invokevirtual idx, 3)) (hl : Cond.methodLink Y.1.cls idx Yc.1 ∈ lw_all) (hm : e_mv Yc "java/lang/String" av.length) (hb : o_str b = some k) : e_St w Y pc ls (av.reverse ++ .ref b :: st) st h Yc (.ref b :: av) := by
  intro p l e R s m args below meth c T locs cells slots L X a1 a3 a4 a5 a6
  obtain ⟨m1, m2, m3, m4, m5, m6⟩ := hm
  obtain ⟨mk, methM, hnamed, hmethM, hstM, habM⟩ := Cond.instanceMethod_spec (a4.all (A := args) _ m1)
  obtain ⟨methM', cM, hmethM', -, -, -, -, -, -, hsigM⟩ := e_cd_spec hnamed (a4.all (A := args) _ m3)
  cases hmethM.symm.trans hmethM'
  obtain ⟨c2, r2, m2', q1, q2, q3, q4, kP, hkP, hkPi⟩ := Cond.selects_spec (a4.all (A := args) _ m2)
  obtain ⟨k1, k2, k3⟩ := o_str_some hb
  obtain ⟨cell, v1, v3, v2, v4⟩ := (a4.2.2.2.2.1 k k1).1
  cases v2.symm.trans q1
  cases (State.methodFound?_of_named hnamed m4).symm.trans q2
  cases hnamed.symm.trans q3
  have hselP : selectMethod e.platform s.vm cell.cls mk = .method mk := by rw [Launch.admits_selectMethod X.admits]; exact q4
  obtain ⟨vm₁, X₁, hstep₁⟩ := X.invokevirtual a1 a3.1 (a4.all (A := args) _ hl) hnamed hmethM hstM hkP hkPi m4 (a := e_r w b) (cell := cell) (by rw [k3, a5.old v4]; exact v1)
    (fun z h => by rw [h] at v3; cases v3) hselP hmethM habM hkP hkPi (g := F0 m pc L ((av.reverse ++ .ref b :: st).map (e_c w))) rfl (argsL := av.map (e_c w)) (rest := st.map (e_c w)) (by rw [List.length_map]; exact m6 _ hsigM) (by simp [e_c]) (by rw [a3.2.2.1]; exact hd)
  exact ⟨mk, vm₁, _, hnamed, hd, X₁, fun target ht => hstep₁ target ht⟩
end
