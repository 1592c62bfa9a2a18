/-! calls -/
def e_cd (Y : eY) : Cond := match Y.2.2.2.2 with
  | [] => .code Y.1 Y.2.1 Y.2.2.1 Y.2.2.2.1
  | q :: r => .codeWith Y.1 Y.2.1 Y.2.2.1 Y.2.2.2.1 (q :: r)
theorem e_cd_spec {Y : eY} {args : Array Value} {s : State} {m : MethodId} (hn : s.methodNamed? Y.1 = some m) (h : (e_cd Y).before args s = true) :
    ∃ meth c, s.vm.method? m = some meth ∧ meth.code = some c ∧ c.code = Y.2.1 ∧ c.maxLocals = Y.2.2.1 ∧ meth.sig.returnType = Y.2.2.2.1 ∧ meth.locks = false ∧
      c.exceptionTable.toList.map (fun x => (x.startPc, x.endPc, x.handlerPc, x.catchType)) = Y.2.2.2.2 ∧ parseMethodDescriptor Y.1.desc = some meth.sig := by
  obtain ⟨y, b, n, r, hh⟩ := Y
  cases hh with
  | nil =>
    obtain ⟨meth, c, h1, h2, h3, h4, h5, h6, h7, h8⟩ := Cond.code_spec hn (show (Cond.code y b n r).before args s = true from h)
    refine ⟨meth, c, h1, h2, h3, h4, h5, h6, ?_, h8⟩
    have : c.exceptionTable.toList = [] := by simpa using h7
    rw [this]; rfl
  | cons q t =>
    obtain ⟨m', meth, c, h0, h1, h2, h3, h4, h5, h6, h7, h8⟩ := Cond.codeWith_spec (show (Cond.codeWith y b n r (q :: t)).before args s = true from h)
    cases hn.symm.trans h0
    exact ⟨meth, c, h1, h2, h3, h4, h6, h7, h5, h8⟩
def e_fl : List Value → eL
  | [] => []
  | v :: t => if v.category = 2 then some v :: none :: e_fl t else some v :: e_fl t
def e_ent (n : Nat) (av : List Value) : eL := e_fl av ++ List.replicate (n - (e_fl av).length) none
theorem e_fl_len (w : eW) (av : List Value) : (lg_sl (av.map (e_c w))).length = (e_fl av).length := by
  induction av with
  | nil => rfl
  | cons v t ih =>
    simp only [List.map_cons, lg_sl, List.flatMap_cons, List.length_append, e_c_cat] at ih ⊢
    unfold e_fl
    split <;> simp [ih] <;> omega
theorem e_fl_mem (w : eW) (av : List Value) : ∀ (i : Nat) (q : Nat × Value) (r : Nat), q ∈ e_al w i (e_fl av ++ List.replicate r none) → q ∈ lv_args i (av.map (e_c w)) := by
  induction av with
  | nil =>
    intro i q r hq
    exfalso
    obtain ⟨j, v, h1, -⟩ := e_al_mem.mp hq
    simp [e_fl, List.getElem?_replicate] at h1
  | cons v t ih =>
    intro i q r hq
    unfold e_fl at hq
    simp only [List.map_cons, lv_args, e_c_cat]
    by_cases hc : v.category = 2
    · rw [if_pos hc] at hq ⊢
      simp only [List.cons_append, e_al] at hq
      rcases List.mem_cons.mp hq with h1 | h1
      · rw [h1]; exact List.mem_cons_self
      · exact List.mem_cons_of_mem _ (ih _ q r h1)
    · rw [if_neg hc] at hq ⊢
      simp only [List.cons_append, e_al] at hq
      rcases List.mem_cons.mp hq with h1 | h1
      · rw [h1]; exact List.mem_cons_self
      · exact List.mem_cons_of_mem _ (ih _ q r h1)
theorem e_ent_L (w : eW) (n : Nat) (av : List Value) (hn : (e_fl av).length ≤ n) : e_L w n ((lg_sl (av.map (e_c w)) ++ List.replicate (n - (lg_sl (av.map (e_c w))).length) Slot.unset).toArray) (e_ent n av) := by
  have h1 := lv_entry (av.map (e_c w)) (n := n) (by rw [e_fl_len]; exact hn)
  refine ⟨by unfold e_ent; rw [List.length_append, List.length_replicate]; omega, h1.1, h1.2.1, fun q hq => h1.2.2 q (e_fl_mem w av 0 q _ hq)⟩
/-- a method from its entry -/
def wm (w : eW) (d : Nat) (Y : eY) (av : List Value) (h : eH) (Q : eO → eH → Prop) : Prop := wp w d Y 0 (e_ent Y.2.2.1 av) [] h Q
theorem e_sum (w : eW) (l : List Value) : ((l.map (e_c w)).map fun v => v.category).sum ≤ 2 * l.length := by
  induction l with
  | nil => simp
  | cons v t ih => have hv : (e_c w v).category ≤ 2 := by rcases lv_cat (e_c w v) with h | h <;> omega
                   simp only [List.map_cons, List.sum_cons, List.length_cons]; omega
theorem e_weak {tb : Tables} {e : Env} {mid below : List Frame} {a b : State} (h : Steps tb e (mid ++ below) a b) : Steps tb e below a b := by
  obtain ⟨n, h1, h2⟩ := h
  exact ⟨n, h1, fun k hk => (h2 k hk).weaken⟩
section
variable {w : eW} {d : Nat} {Y : eY} {pc : Nat} {ls : eL} {st : List Value} {h : eH} {Q : eO → eH → Prop}
variable {p : Program} {l : Launch} {e : Env} {R : Room} {s : State} {m : MethodId} {args : Array Value} {below : List Frame} {meth : Method} {c : Code} {T : State} {locs : List Loc} {cells slots : Nat} {L : Array Slot}
/-- where a call has come to: behind it with a value, or with what it threw over the frame -/
def e_to (w : eW) (T' : State) (g : JFrame) (o : eO) : State := match o with
  | .inl v => T'.setTop { g with pc := g.pc + 3, stack := (v.map (e_c w)).toList ++ g.stack }
  | .inr x => (T'.setTop g).pushFrame (.throwing (e_r w x))
theorem e_go {Yc : eY} {av : List Value} {Qc : eO → eH → Prop} (X : Stand p l e R s m args below meth c T locs cells slots) (a1 : p.tables.exec = Jvm.exec) (a2 : e.platform.stackTraces = false) (a4 : e_T w s) (a5 : e_R w h T.heap)
    (a8 : d + 1 ≤ R.frames) (a9 : 40 * (d + 1) + 60 ≤ R.locals) (a10 : cells + (170145 - h.1) ≤ R.cells) (a11 : slots + (8591047 - h.2.1) ≤ R.slots)
    {rest : List Value} (pc' : Nat) (hsize : L.size = c.maxLocals) {ig : Instr} (hdg : decode c.code pc' = .ok (ig, 3)) (hw : 2 * rest.length + Yc.2.2.1 ≤ 29)
    {mk : MethodId} (hnamed : s.methodNamed? Yc.1 = some mk) (hcd : (e_cd Yc).before args s = true) (hpl : plainName Yc.1.cls = true) (hav : (e_fl av).length ≤ Yc.2.2.1) (hm : wm w d Yc av h Qc) :
    ∃ (o : eO) (h' : eH) (T' : State) (Lc : List Loc) (k n : Nat), Stand p l e R s m args below meth c T' (locs ++ Lc) (cells + k) (slots + n) ∧ (∀ q ∈ Lc, w_sz w ≤ q.base) ∧ cells + k + (170145 - h'.1) ≤ R.cells ∧ slots + n + (8591047 - h'.2.1) ≤ R.slots ∧
      e_R w h' T'.heap ∧ e_x h h' ∧ Qc o h' ∧ ∀ acts, Steps p.tables e below (doInvoke e (T.setTop (F0 m pc' L (rest.map (e_c w)))) acts mk (av.map (e_c w)).toArray).1 (e_to w T' (F0 m pc' L (rest.map (e_c w))) o) := by
  obtain ⟨methk, ck, hmk, hck, f1, f2, f3, f4, f5, f6⟩ := e_cd_spec hnamed hcd
  have hmk' : T.vm.method? mk = some methk := by rw [X.warmed.alike.method?]; exact hmk
  obtain ⟨kP, hkP, hkn⟩ := className_of_methodNamed hnamed
  have hpk : T.plainMethod mk := by
    intro k hk
    obtain ⟨k', hk', he⟩ := X.warmed.alike.2.2 _ _ hkP
    cases hk.symm.trans hk'
    have : k.name = Yc.1.cls := by rw [he]; exact hkn
    rw [this, hpl]; rfl
  have hsum := e_sum w rest
  let R' : Room := { frames := d, cells := 170145 - h.1, slots := 8591047 - h.2.1, locals := 40 * d + 60 }
  obtain ⟨Z, hdo⟩ := X.into (g := F0 m pc' L (rest.map (e_c w))) rfl hsize hdg ((av.map (e_c w)).toArray) (R' := R') hmk' hck f4 hpk (by show d + 1 ≤ R.frames; exact a8)
    (by show 2 * 0 + ((rest.map (e_c w)).map fun v => v.category).sum + (ck.maxLocals + 11) + (40 * d + 60) ≤ R.locals; rw [f2]; omega) (by show cells + (170145 - h.1) ≤ R.cells; exact a10) (by show slots + (8591047 - h.2.1) ≤ R.slots; exact a11)
  have hvm : (T.calling (F0 m pc' L (rest.map (e_c w))) mk ((av.map (e_c w)).toArray)).vm = T.vm := rfl
  have hWs : s.WarmedH (T.calling (F0 m pc' L (rest.map (e_c w))) mk ((av.map (e_c w)).toArray)).vm := X.warmed
  have hF : e_F Yc (T.calling (F0 m pc' L (rest.map (e_c w))) mk ((av.map (e_c w)).toArray)) mk methk ck := by
    refine ⟨?_, (name_of_methodNamed hnamed hmk).1, f1, f2, f3, f4, f5⟩
    rw [hvm, X.warmed.alike.findClass]; exact findClass_of_methodNamed hnamed
  have hheap : ((T.setTop (F0 m pc' L (rest.map (e_c w)))).pushFrame (.java (entryFrame mk ((av.map (e_c w)).toArray) ck.maxLocals))).heap = T.heap := rfl
  have hrun := hm p l e R' (T.calling (F0 m pc' L (rest.map (e_c w))) mk ((av.map (e_c w)).toArray)) mk ((av.map (e_c w)).toArray) (.java (F0 m pc' L (rest.map (e_c w))) :: below) methk ck T.heap [] 0 0
    _ a1 a2 hF (a4.moved hWs (fun q hq => a5.2.2.1 q hq)) a5 (e_ent_L w Yc.2.2.1 av hav) (fun q hq => by cases hq) (Nat.le_refl _) (Nat.le_refl _) (by show 0 + (170145 - h.1) ≤ 170145 - h.1; omega) (by show 0 + (8591047 - h.2.1) ≤ 8591047 - h.2.1; omega)
    _ hheap Z
  obtain ⟨t, st1, o, h', Lc, k, n, b1, b2, b3, b4, b5, b6, b7, b8, b9, b10⟩ := hrun
  have b6' : k + (170145 - h'.1) ≤ 170145 - h.1 := b6
  have b7' : n + (8591047 - h'.2.1) ≤ 8591047 - h.2.1 := b7
  have hsteps : ∀ acts, Steps p.tables e below (doInvoke e (T.setTop (F0 m pc' L (rest.map (e_c w)))) acts mk (av.map (e_c w)).toArray).1 t := by
    intro acts
    rw [hdo acts, f2, lg_entry_eq]
    rw [f2, lg_entry_eq] at st1
    exact e_weak (mid := [.java (F0 m pc' L (rest.map (e_c w)))]) st1
  cases o with
  | inl v =>
    obtain ⟨T', X', -, -, rfl⟩ := X.outOf (g := F0 m pc' L (rest.map (e_c w))) rfl hdg b2 b3 b4
    exact ⟨.inl v, h', T', Lc, k, n, X', b5, by omega, by omega, b8, b9, b10, hsteps⟩
  | inr x =>
    obtain ⟨T', X', -, -, rfl⟩ := X.outOfThrown (g := F0 m pc' L (rest.map (e_c w))) rfl b2 b3 b4
    exact ⟨.inr x, h', T', Lc, k, n, X', b5, by omega, by omega, b8, b9, b10, hsteps⟩
end
