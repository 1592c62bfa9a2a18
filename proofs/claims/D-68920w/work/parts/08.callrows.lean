/-! the call rows -/
section
variable {w : eW} {d : Nat} {Y : eY} {pc : Nat} {ls : eL} {st : List Value} {h : eH} {Q : eO → eH → Prop}
theorem e_cd_named {Y : eY} {args : Array Value} {s : State} (h : (e_cd Y).before args s = true) : ∃ m, s.methodNamed? Y.1 = some m := by
  obtain ⟨y, b, n, r, hh⟩ := Y
  cases hh with
  | nil => exact Cond.code_named (show (Cond.code y b n r).before args s = true from h)
  | cons q t =>
    obtain ⟨m', meth, c, h0, -⟩ := Cond.codeWith_spec (show (Cond.codeWith y b n r (q :: t)).before args s = true from h)
    exact ⟨m', h0⟩
/-- the step of an invoking instruction: to the callee's entry -/
def e_St (w : eW) (Y : eY) (pc : Nat) (ls : eL) (stk st : List Value) (h : eH) (Yc : eY) (av : List Value) : Prop :=
  ∀ (p : Program) (l : Launch) (e : Env) (R : Room) (s : State) (m : MethodId) (args : Array Value) (below : List Frame) (meth : Method) (c : Code) (T : State) (locs : List Loc) (cells slots : Nat) (L : Array Slot),
    Stand p l e R s m args below meth c T locs cells slots → p.tables.exec = Jvm.exec → e_F Y s m meth c → e_T w s → e_R w h T.heap → e_L w Y.2.2.1 L ls →
    ∃ (mk : MethodId) (vm₁ : Vm) (ig : Instr), s.methodNamed? Yc.1 = some mk ∧ decode Y.2.1 pc = .ok (ig, 3) ∧ Stand p l e R s m args below meth c (T.setVm vm₁) locs cells slots ∧
      ∀ target, (∀ acts, Steps p.tables e below (doInvoke e ((T.setVm vm₁).setTop (F0 m pc L (st.map (e_c w)))) acts mk (av.map (e_c w)).toArray).1 target) → Steps p.tables e below (T.setTop (F0 m pc L (stk.map (e_c w)))) target
/-- no handler there -/
def e_nh (Y : eY) (pc : Nat) : Bool := Y.2.2.2.2.all (fun q => !(decide (q.1 ≤ pc) && decide (pc < q.2.1)))
theorem e_nh_out {s : State} {m : MethodId} {meth : Method} {c : Code} (hF : e_F Y s m meth c) (hn : e_nh Y pc = true) : ∀ x ∈ c.exceptionTable.toList, covers x pc = false := by
  intro x hx
  unfold e_nh at hn
  rw [List.all_eq_true] at hn
  have h1 := hn (x.startPc, x.endPc, x.handlerPc, x.catchType) (by rw [← hF.2.2.2.2.2.2]; exact List.mem_map.mpr ⟨x, hx, rfl⟩)
  simp only [Bool.not_eq_true', Bool.and_eq_false_iff, decide_eq_false_iff_not] at h1
  simp only [covers, Bool.and_eq_false_iff, decide_eq_false_iff_not]
  exact h1
theorem w_callG {Yc : eY} {stk av : List Value} {Qc : eO → eH → Prop} (hS : e_St w Y pc ls stk st h Yc av) (hcd : e_cd Yc ∈ lw_all) (hpl : plainName Yc.1.cls = true) (hav : (e_fl av).length ≤ Yc.2.2.1) (hw : 2 * st.length + Yc.2.2.1 ≤ 29) (hm : wm w d Yc av h Qc) (hn : e_nh Y pc = true ∨ ∀ x h', ¬ Qc (.inr x) h')
    (kk : ∀ v h', e_x h h' → Qc (.inl v) h' → wp w (d + 1) Y (pc + 3) ls (v.toList ++ st) h' Q) (kt : ∀ x h', e_x h h' → Qc (.inr x) h' → Q (.inr x) h') : wp w (d + 1) Y pc ls stk h Q := by
  intro p l e R s m args below meth c H locs cells slots L a1 a2 a3 a4 a5 a6 a7 a8 a9 a10 a11 T hT X
  subst hT
  obtain ⟨mk, vm₁, ig, hnamed, hdg, X₁, hstep⟩ := hS p l e R s m args below meth c T locs cells slots L X a1 a3 a4 a5 a6
  obtain ⟨o, h', T', Lc, k, n, X', b1, b2, b3, b4, b5, b6, b7⟩ := e_go (h := h) X₁ a1 a2 a4 (show e_R w h (T.setVm vm₁).heap from a5) a8 a9 a10 a11 (rest := st) pc (L := L) (by rw [a3.2.2.2.1]; exact a6.2.1) (by rw [a3.2.2.1]; exact hdg) hw hnamed (a4.all _ hcd) hpl hav hm
  have hlo : ∀ q ∈ locs ++ Lc, w_sz w ≤ q.base := fun q hq => (List.mem_append.mp hq).elim (a7 q) (b1 q)
  have hst := hstep _ b7
  cases o with
  | inl v =>
    have hgo := kk v h' b5 b6 p l e R s m args below meth c T'.heap (locs ++ Lc) (cells + k) (slots + n) L a1 a2 a3 a4 b4 a6 hlo a8 a9 b2 b3 T' rfl X'
    obtain ⟨t, c1, c2⟩ := hgo
    refine ⟨t, hst.trans ?_, c2.mono b5 (fun _ _ _ x => x)⟩
    have e1 : (v.toList ++ st).map (e_c w) = (v.map (e_c w)).toList ++ st.map (e_c w) := by cases v <;> simp
    rw [e1] at c1
    exact c1
  | inr x =>
    have hn' : e_nh Y pc = true := hn.elim id (fun hx => absurd b6 (hx x h'))
    obtain ⟨c1, c2, c3, c4, c5⟩ := X'.leaveThrown (e_r w x) (g := F0 m pc L (st.map (e_c w))) rfl rfl rfl (e_nh_out a3 hn') a3.2.2.2.2.2.1
    exact ⟨_, hst.trans c1, .inr x, h', locs ++ Lc, cells + k, slots + n, c2, c3, c4, c5, hlo, b2, b3, b4, b5, kt x h' b5 b6⟩
/-- throwing, where no handler is -/
theorem w_throw {a : Nat} (hd : decode Y.2.1 pc = .ok (.athrow, 1)) (hn : e_nh Y pc = true) (hq : Q (.inr a) h) : wp w d Y pc ls (.ref a :: st) h Q := by
  intro p l e R s m args below meth c H locs cells slots L a1 a2 a3 a4 a5 a6 a7 a8 a9 a10 a11 T hT X
  subst hT
  obtain ⟨c1, c2, c3, c4, c5⟩ := X.athrowLeaves a1 (g := F0 m pc L ((Value.ref a :: st).map (e_c w))) rfl rfl rfl (e_nh_out a3 hn) (a := e_r w a) (rest := st.map (e_c w)) rfl (by rw [a3.2.2.1]; exact hd) a3.2.2.2.2.2.1
  exact ⟨_, c1, .inr a, h, locs, cells, slots, c2, c3, c4, c5, a7, a10, a11, a5, e_x.rf h, hq⟩
/-- what the tables say of an instance method, called on an object of class C with n arguments -/
def e_mv (Yc : eY) (C : String) (n : Nat) : Prop := Cond.instanceMethod Yc.1 ∈ lw_all ∧ Cond.selects C Yc.1 Yc.1 ∈ lw_all ∧ e_cd Yc ∈ lw_all ∧ (Yc.1.cls ≠ "java/lang/invoke/MethodHandle" ∧ Yc.1.cls ≠ "java/lang/invoke/VarHandle") ∧ plainName Yc.1.cls = true ∧ (∀ sig, parseMethodDescriptor Yc.1.desc = some sig → n = sig.parameters.length)
def e_ms (Yc : eY) (n : Nat) : Prop := Cond.static Yc.1 ∈ lw_all ∧ Cond.initialized Yc.1.cls ∈ lw_all ∧ e_cd Yc ∈ lw_all ∧ (Yc.1.cls ≠ "java/lang/invoke/MethodHandle" ∧ Yc.1.cls ≠ "java/lang/invoke/VarHandle") ∧ plainName Yc.1.cls = true ∧ (∀ sig, parseMethodDescriptor Yc.1.desc = some sig → n = sig.parameters.length)
def e_mi (Yc : eY) (n : Nat) : Prop := Cond.instanceMethod Yc.1 ∈ lw_all ∧ Yc.2.2.2 = (none, []) ∧ Yc.1.name = "<init>" ∧ Cond.code Yc.1 Yc.2.1 Yc.2.2.1 none ∈ lw_all ∧ (Yc.1.cls ≠ "java/lang/invoke/MethodHandle" ∧ Yc.1.cls ≠ "java/lang/invoke/VarHandle") ∧ plainName Yc.1.cls = true ∧ (∀ sig, parseMethodDescriptor Yc.1.desc = some sig → n = sig.parameters.length)
theorem e_mi.cd {Yc : eY} {n : Nat} (h : e_mi Yc n) : e_cd Yc ∈ lw_all := by
  obtain ⟨y, b, k, r⟩ := Yc
  obtain ⟨-, h2, -, h4, -⟩ := h
  cases h2
  exact h4
theorem e_stV {idx b ci : Nat} {q : vw_C} {Yc : eY} {av : List Value} (hd : decode Y.2.1 pc = .ok (.invokevirtual idx, 3)) (hl : Cond.methodLink Y.1.cls idx Yc.1 ∈ lw_all) (hm : e_mv Yc q.1 av.length) (hc : e_cl[ci]? = some q) (hb : b < h.1) (hK : e_t h b = ci) : e_St w Y pc ls (av.reverse ++ .ref b :: st) st h Yc (.ref b :: av) := by
  intro p l e R s m args below meth c T locs cells slots L X a1 a3 a4 a5 a6
  obtain ⟨m1, m2, m3, m4, m5, m6⟩ := hm
  obtain ⟨mk, methM, hnamed, hmethM, hstM, habM⟩ := Cond.instanceMethod_spec (a4.all (A := args) _ m1)
  obtain ⟨methM', cM, hmethM', -, -, -, -, -, -, hsigM⟩ := e_cd_spec hnamed (a4.all (A := args) _ m3)
  cases hmethM.symm.trans hmethM'
  obtain ⟨c2, r2, m2', q1, q2, q3, q4, kP, hkP, hkPi⟩ := Cond.selects_spec (a4.all (A := args) _ m2)
  obtain ⟨cell, v1, v2, v3, -⟩ := a5.obj hb hK hc
  have hcls : s.vm.findClass q.1 = some (w_dC w ci) := (a4.2.1 ci q hc).2.1
  cases hcls.symm.trans q1
  cases (State.methodFound?_of_named hnamed m4).symm.trans q2
  cases hnamed.symm.trans q3
  have hselP : selectMethod e.platform s.vm cell.cls mk = .method mk := by rw [Launch.admits_selectMethod X.admits, v2]; exact q4
  obtain ⟨vm₁, X₁, hstep₁⟩ := X.invokevirtual a1 a3.1 (a4.all (A := args) _ hl) hnamed hmethM hstM hkP hkPi m4 (a := e_r w b) (cell := cell) v1
    (fun z h => by rw [v3] at h; cases h) hselP hmethM habM hkP hkPi (g := F0 m pc L ((av.reverse ++ .ref b :: st).map (e_c w))) rfl (argsL := av.map (e_c w)) (rest := st.map (e_c w)) (by rw [List.length_map]; exact m6 _ hsigM) (by simp [e_c]) (by rw [a3.2.2.1]; exact hd)
  exact ⟨mk, vm₁, _, hnamed, hd, X₁, fun target ht => hstep₁ target ht⟩
theorem e_stVN {idx b ci : Nat} {host : String} {q : vw_C} {Yc : eY} {av : List Value} (hd : decode Y.2.1 pc = .ok (.invokevirtual idx, 3)) (hl : Cond.methodLinkNest Y.1.cls idx Yc.1 host ∈ lw_tbl) (hm : e_mv Yc q.1 av.length) (hc : e_cl[ci]? = some q) (hb : b < h.1) (hK : e_t h b = ci) : e_St w Y pc ls (av.reverse ++ .ref b :: st) st h Yc (.ref b :: av) := by
  intro p l e R s m args below meth c T locs cells slots L X a1 a3 a4 a5 a6
  obtain ⟨m1, m2, m3, m4, m5, m6⟩ := hm
  obtain ⟨mk, methM, hnamed, hmethM, hstM, habM⟩ := Cond.instanceMethod_spec (a4.all (A := args) _ m1)
  obtain ⟨methM', cM, hmethM', -, -, -, -, -, -, hsigM⟩ := e_cd_spec hnamed (a4.all (A := args) _ m3)
  cases hmethM.symm.trans hmethM'
  obtain ⟨c2, r2, m2', q1, q2, q3, q4, kP, hkP, hkPi⟩ := Cond.selects_spec (a4.all (A := args) _ m2)
  obtain ⟨cell, v1, v2, v3, -⟩ := a5.obj hb hK hc
  have hcls : s.vm.findClass q.1 = some (w_dC w ci) := (a4.2.1 ci q hc).2.1
  cases hcls.symm.trans q1
  cases (State.methodFound?_of_named hnamed m4).symm.trans q2
  cases hnamed.symm.trans q3
  have hselP : selectMethod e.platform s.vm cell.cls mk = .method mk := by rw [Launch.admits_selectMethod X.admits, v2]; exact q4
  obtain ⟨vm₁, X₁, hstep₁⟩ := X.invokevirtualNest a1 a3.1 (a4.use (A := args) hl rfl) hnamed hmethM hstM hkP hkPi m4 (a := e_r w b) (cell := cell) v1
    (fun z h => by rw [v3] at h; cases h) hselP hmethM habM hkP hkPi (g := F0 m pc L ((av.reverse ++ .ref b :: st).map (e_c w))) rfl (argsL := av.map (e_c w)) (rest := st.map (e_c w)) (by rw [List.length_map]; exact m6 _ hsigM) (by simp [e_c]) (by rw [a3.2.2.1]; exact hd)
  exact ⟨mk, vm₁, _, hnamed, hd, X₁, fun target ht => hstep₁ target ht⟩
theorem e_stS {idx : Nat} {Yc : eY} {av : List Value} (hd : decode Y.2.1 pc = .ok (.invokestatic idx, 3)) (hl : Cond.methodLink Y.1.cls idx Yc.1 ∈ lw_all) (hm : e_ms Yc av.length) : e_St w Y pc ls (av.reverse ++ st) st h Yc av := by
  intro p l e R s m args below meth c T locs cells slots L X a1 a3 a4 a5 a6
  obtain ⟨m1, m2, m3, m4, m5, m6⟩ := hm
  obtain ⟨mk, hnamed⟩ := e_cd_named (a4.all (A := args) _ m3)
  obtain ⟨methM, cM, hmethM, -, -, -, -, -, -, hsigM⟩ := e_cd_spec hnamed (a4.all (A := args) _ m3)
  have hstatic : methM.isStatic = true := Cond.static_spec hnamed hmethM (a4.all (A := args) _ m1)
  obtain ⟨kP, hkP, -⟩ := className_of_methodNamed hnamed
  have hinitP : kP.init = .initialized := Cond.initialized_spec (findClass_of_methodNamed hnamed) hkP (a4.all (A := args) _ m2)
  obtain ⟨vm₁, X₁, hstep₁⟩ := X.invokestatic a1 a3.1 (a4.all (A := args) _ hl) hnamed hmethM hstatic hkP hinitP m4 (g := F0 m pc L ((av.reverse ++ st).map (e_c w))) rfl (argsL := av.map (e_c w)) (rest := st.map (e_c w)) (by rw [List.length_map]; exact m6 _ hsigM) (by simp) (by rw [a3.2.2.1]; exact hd)
  exact ⟨mk, vm₁, _, hnamed, hd, X₁, fun target ht => hstep₁ target ht⟩
theorem e_stSN {idx : Nat} {host : String} {Yc : eY} {av : List Value} (hd : decode Y.2.1 pc = .ok (.invokestatic idx, 3)) (hl : Cond.methodLinkNest Y.1.cls idx Yc.1 host ∈ lw_tbl) (hm : e_ms Yc av.length) : e_St w Y pc ls (av.reverse ++ st) st h Yc av := by
  intro p l e R s m args below meth c T locs cells slots L X a1 a3 a4 a5 a6
  obtain ⟨m1, m2, m3, m4, m5, m6⟩ := hm
  obtain ⟨mk, hnamed⟩ := e_cd_named (a4.all (A := args) _ m3)
  obtain ⟨methM, cM, hmethM, -, -, -, -, -, -, hsigM⟩ := e_cd_spec hnamed (a4.all (A := args) _ m3)
  have hstatic : methM.isStatic = true := Cond.static_spec hnamed hmethM (a4.all (A := args) _ m1)
  obtain ⟨kP, hkP, -⟩ := className_of_methodNamed hnamed
  have hinitP : kP.init = .initialized := Cond.initialized_spec (findClass_of_methodNamed hnamed) hkP (a4.all (A := args) _ m2)
  obtain ⟨vm₁, X₁, hstep₁⟩ := X.invokestaticNest a1 a3.1 (a4.use (A := args) hl rfl) hnamed hmethM hstatic hkP hinitP m4 (g := F0 m pc L ((av.reverse ++ st).map (e_c w))) rfl (argsL := av.map (e_c w)) (rest := st.map (e_c w)) (by rw [List.length_map]; exact m6 _ hsigM) (by simp) (by rw [a3.2.2.1]; exact hd)
  exact ⟨mk, vm₁, _, hnamed, hd, X₁, fun target ht => hstep₁ target ht⟩
theorem e_stI {idx b : Nat} {Yc : eY} {av : List Value} (hd : decode Y.2.1 pc = .ok (.invokespecial idx, 3)) (hl : Cond.methodLink Y.1.cls idx Yc.1 ∈ lw_all) (hm : e_mi Yc av.length) : e_St w Y pc ls (av.reverse ++ .ref b :: st) st h Yc (.ref b :: av) := by
  intro p l e R s m args below meth c T locs cells slots L X a1 a3 a4 a5 a6
  obtain ⟨m1, m2, m3, m4, m5, m6, m7⟩ := hm
  have hpl : e.platform.magicAccessors = ({} : Platform).magicAccessors := by rw [X.admits.platform]
  obtain ⟨mk, methM, cM, kP, vm₁, hnamed, hmethM, hcodeM, -, hlocalsM, -, hkP, -, hW₁, hstep₁⟩ := Steps.initColdArgs (e := e) X.here a1 X.warmed hpl a3.1 m3 m5 (a4.all (A := args) _ hl) (a4.all (A := args) _ m1) (a4.all (A := args) _ m4) (f := F0 m pc L ((av.reverse ++ .ref b :: st).map (e_c w))) (a := e_r w b) (argsL := av.map (e_c w)) (rest := st.map (e_c w)) rfl (fun sig hsig => by rw [List.length_map]; exact m7 _ hsig) (by simp [e_c]) (by rw [a3.2.2.1]; exact hd)
  exact ⟨mk, vm₁, _, hnamed, hd, X.noted hW₁, fun target ht => hstep₁ target ht⟩
theorem e_stIN {idx b : Nat} {host : String} {Yc : eY} {av : List Value} (hd : decode Y.2.1 pc = .ok (.invokespecial idx, 3)) (hl : Cond.methodLinkNest Y.1.cls idx Yc.1 host ∈ lw_tbl) (hm : e_mi Yc av.length) : e_St w Y pc ls (av.reverse ++ .ref b :: st) st h Yc (.ref b :: av) := by
  intro p l e R s m args below meth c T locs cells slots L X a1 a3 a4 a5 a6
  obtain ⟨m1, m2, m3, m4, m5, m6, m7⟩ := hm
  have hpl : e.platform.magicAccessors = ({} : Platform).magicAccessors := by rw [X.admits.platform]
  obtain ⟨mk, methM, cM, kP, vm₁, hnamed, hmethM, hcodeM, -, hlocalsM, -, hkP, -, hW₁, hstep₁⟩ := Steps.initColdArgsNest (e := e) X.here a1 X.warmed hpl a3.1 m3 m5 (a4.use (A := args) hl rfl) (a4.all (A := args) _ m1) (a4.all (A := args) _ m4) (f := F0 m pc L ((av.reverse ++ .ref b :: st).map (e_c w))) (a := e_r w b) (argsL := av.map (e_c w)) (rest := st.map (e_c w)) rfl (fun sig hsig => by rw [List.length_map]; exact m7 _ hsig) (by simp [e_c]) (by rw [a3.2.2.1]; exact hd)
  exact ⟨mk, vm₁, _, hnamed, hd, X.noted hW₁, fun target ht => hstep₁ target ht⟩
end
