/-! exceptions made and thrown -/
set_option maxRecDepth 100000
theorem e_T.thr {w : eW} {U : State} (h : e_T w U) {A : Array Value} : ∀ c ∈ Bundle.throwableAtoms, c.before A U = true := by
  unfold Bundle.throwableAtoms
  exact List.forall_mem_cons.mpr ⟨(h.use (lw_at lw_m1 45 rfl) rfl), List.forall_mem_cons.mpr ⟨(h.use (lw_at lw_m8 12 rfl) rfl), List.forall_mem_cons.mpr ⟨(h.use (lw_at lw_m8 21 rfl) rfl), List.forall_mem_cons.mpr ⟨(h.use (lw_at lw_m8 26 rfl) rfl), List.forall_mem_cons.mpr ⟨(h.use (lw_at lw_m8 29 rfl) rfl), List.forall_mem_cons.mpr ⟨(h.use (lw_at lw_m8 31 rfl) rfl), List.forall_mem_cons.mpr ⟨(h.use (lw_at lw_m8 13 rfl) rfl), List.forall_mem_cons.mpr ⟨(h.use (lw_at lw_m8 14 rfl) rfl), List.forall_mem_cons.mpr ⟨(h.use (lw_at lw_m1 65 rfl) rfl), List.forall_mem_cons.mpr ⟨(h.use (lw_at lw_m1 66 rfl) rfl), List.forall_mem_cons.mpr ⟨(h.use (lw_at lw_m8 15 rfl) rfl), List.forall_mem_cons.mpr ⟨(h.use (lw_at lw_m8 20 rfl) rfl), List.forall_mem_cons.mpr ⟨(h.use (lw_at lw_m8 27 rfl) rfl), List.forall_mem_cons.mpr ⟨(h.use (lw_at lw_m8 44 rfl) rfl), List.forall_mem_cons.mpr ⟨(h.use (lw_at lw_m8 2 rfl) rfl), List.forall_mem_cons.mpr ⟨(h.use (lw_at lw_m8 45 rfl) rfl), List.forall_mem_cons.mpr ⟨(h.use (lw_at lw_m8 4 rfl) rfl), List.forall_mem_cons.mpr ⟨(h.use (lw_at lw_m8 46 rfl) rfl), List.forall_mem_cons.mpr ⟨(h.use (lw_at lw_m8 6 rfl) rfl), List.forall_mem_cons.mpr ⟨(h.use (lw_at lw_m8 16 rfl) rfl), List.forall_mem_cons.mpr ⟨((h.2.2.2.2.2.2.2.2.2.1 _ (List.mem_of_getElem? (i := 0) rfl)).word h.2.2.2.2.2.2.2.2.1), List.forall_mem_cons.mpr ⟨(h.use (lw_at lw_m8 18 rfl) rfl), List.forall_mem_cons.mpr ⟨((h.2.2.2.2.2.2.2.2.2.1 _ (List.mem_of_getElem? (i := 1) rfl)).word h.2.2.2.2.2.2.2.2.1), List.forall_mem_cons.mpr ⟨(h.use (lw_at lw_m8 8 rfl) rfl), (fun _ hh => by cases hh)⟩⟩⟩⟩⟩⟩⟩⟩⟩⟩⟩⟩⟩⟩⟩⟩⟩⟩⟩⟩⟩⟩⟩⟩
def e_xu : List String := ["java/lang/RuntimeException", "java/lang/Exception"]
def e_xl (X : String) : List Cond := [.instantiable X 6, .selects X Bundle.tFill0 Bundle.tFill0, .selects X Bundle.tFill Bundle.tFill, .lays X Bundle.tN "cause" "Ljava/lang/Throwable;", .lays X Bundle.tN "stackTrace" Bundle.steD, .lays X Bundle.tN "suppressedExceptions" Bundle.listD, .lays X Bundle.tN "backtrace" "Ljava/lang/Object;", .fieldLink Bundle.tN 198 Bundle.tN "backtrace" "Ljava/lang/Object;", .lays Bundle.tN Bundle.tN "backtrace" "Ljava/lang/Object;"]
theorem e_T.xc50 {w : eW} {U : State} (h : e_T w U) {A : Array Value} : ∀ c ∈ Bundle.chain0Atoms (e_xn 50) e_xu, c.before A U = true := by
  simp only [e_xu, e_xn, Bundle.chain0Atoms, Bundle.passAtoms, List.cons_append, List.nil_append]
  exact List.forall_mem_cons.mpr ⟨(h.use (lw_at lw_m8 78 rfl) rfl), List.forall_mem_cons.mpr ⟨(h.use (lw_at lw_m8 79 rfl) rfl), List.forall_mem_cons.mpr ⟨(h.use (lw_at lw_m8 80 rfl) rfl), List.forall_mem_cons.mpr ⟨(h.use (lw_at lw_m8 36 rfl) rfl), List.forall_mem_cons.mpr ⟨(h.use (lw_at lw_m7 233 rfl) rfl), List.forall_mem_cons.mpr ⟨(h.use (lw_at lw_m8 36 rfl) rfl), List.forall_mem_cons.mpr ⟨(h.use (lw_at lw_m8 37 rfl) rfl), List.forall_mem_cons.mpr ⟨(h.use (lw_at lw_m8 38 rfl) rfl), List.forall_mem_cons.mpr ⟨(h.use (lw_at lw_m8 39 rfl) rfl), List.forall_mem_cons.mpr ⟨(h.use (lw_at lw_m7 235 rfl) rfl), List.forall_mem_cons.mpr ⟨(h.use (lw_at lw_m8 39 rfl) rfl), List.forall_mem_cons.mpr ⟨(h.use (lw_at lw_m8 40 rfl) rfl), List.forall_mem_cons.mpr ⟨(h.use (lw_at lw_m8 41 rfl) rfl), List.forall_mem_cons.mpr ⟨(h.use (lw_at lw_m8 13 rfl) rfl), List.forall_mem_cons.mpr ⟨(h.use (lw_at lw_m7 237 rfl) rfl), (fun _ hh => by cases hh)⟩⟩⟩⟩⟩⟩⟩⟩⟩⟩⟩⟩⟩⟩⟩
theorem e_T.xl50 {w : eW} {U : State} (h : e_T w U) {A : Array Value} : ∀ c ∈ e_xl (e_xn 50), c.before A U = true := by
  unfold e_xl
  exact List.forall_mem_cons.mpr ⟨(h.use (lw_at lw_m8 69 rfl) rfl), List.forall_mem_cons.mpr ⟨(h.use (lw_at lw_m8 71 rfl) rfl), List.forall_mem_cons.mpr ⟨(h.use (lw_at lw_m8 24 rfl) rfl), List.forall_mem_cons.mpr ⟨(h.use (lw_at lw_m8 72 rfl) rfl), List.forall_mem_cons.mpr ⟨(h.use (lw_at lw_m8 73 rfl) rfl), List.forall_mem_cons.mpr ⟨(h.use (lw_at lw_m8 74 rfl) rfl), List.forall_mem_cons.mpr ⟨(h.use (lw_at lw_m8 76 rfl) rfl), List.forall_mem_cons.mpr ⟨(h.use (lw_at lw_m8 11 rfl) rfl), List.forall_mem_cons.mpr ⟨(h.use (lw_at lw_m8 10 rfl) rfl), (fun _ hh => by cases hh)⟩⟩⟩⟩⟩⟩⟩⟩⟩
theorem e_T.xc51 {w : eW} {U : State} (h : e_T w U) {A : Array Value} : ∀ c ∈ Bundle.chain0Atoms (e_xn 51) e_xu, c.before A U = true := by
  simp only [e_xu, e_xn, Bundle.chain0Atoms, Bundle.passAtoms, List.cons_append, List.nil_append]
  exact List.forall_mem_cons.mpr ⟨(h.use (lw_at lw_m8 33 rfl) rfl), List.forall_mem_cons.mpr ⟨(h.use (lw_at lw_m8 34 rfl) rfl), List.forall_mem_cons.mpr ⟨(h.use (lw_at lw_m8 35 rfl) rfl), List.forall_mem_cons.mpr ⟨(h.use (lw_at lw_m8 36 rfl) rfl), List.forall_mem_cons.mpr ⟨(h.use (lw_at lw_m7 233 rfl) rfl), List.forall_mem_cons.mpr ⟨(h.use (lw_at lw_m8 36 rfl) rfl), List.forall_mem_cons.mpr ⟨(h.use (lw_at lw_m8 37 rfl) rfl), List.forall_mem_cons.mpr ⟨(h.use (lw_at lw_m8 38 rfl) rfl), List.forall_mem_cons.mpr ⟨(h.use (lw_at lw_m8 39 rfl) rfl), List.forall_mem_cons.mpr ⟨(h.use (lw_at lw_m7 235 rfl) rfl), List.forall_mem_cons.mpr ⟨(h.use (lw_at lw_m8 39 rfl) rfl), List.forall_mem_cons.mpr ⟨(h.use (lw_at lw_m8 40 rfl) rfl), List.forall_mem_cons.mpr ⟨(h.use (lw_at lw_m8 41 rfl) rfl), List.forall_mem_cons.mpr ⟨(h.use (lw_at lw_m8 13 rfl) rfl), List.forall_mem_cons.mpr ⟨(h.use (lw_at lw_m7 237 rfl) rfl), (fun _ hh => by cases hh)⟩⟩⟩⟩⟩⟩⟩⟩⟩⟩⟩⟩⟩⟩⟩
theorem e_T.xl51 {w : eW} {U : State} (h : e_T w U) {A : Array Value} : ∀ c ∈ e_xl (e_xn 51), c.before A U = true := by
  unfold e_xl
  exact List.forall_mem_cons.mpr ⟨(h.use (lw_at lw_m7 231 rfl) rfl), List.forall_mem_cons.mpr ⟨(h.use (lw_at lw_m7 239 rfl) rfl), List.forall_mem_cons.mpr ⟨(h.use (lw_at lw_m8 0 rfl) rfl), List.forall_mem_cons.mpr ⟨(h.use (lw_at lw_m8 1 rfl) rfl), List.forall_mem_cons.mpr ⟨(h.use (lw_at lw_m8 3 rfl) rfl), List.forall_mem_cons.mpr ⟨(h.use (lw_at lw_m8 5 rfl) rfl), List.forall_mem_cons.mpr ⟨(h.use (lw_at lw_m8 9 rfl) rfl), List.forall_mem_cons.mpr ⟨(h.use (lw_at lw_m8 11 rfl) rfl), List.forall_mem_cons.mpr ⟨(h.use (lw_at lw_m8 10 rfl) rfl), (fun _ hh => by cases hh)⟩⟩⟩⟩⟩⟩⟩⟩⟩
theorem e_T.xc52 {w : eW} {U : State} (h : e_T w U) {A : Array Value} : ∀ c ∈ Bundle.chain0Atoms (e_xn 52) e_xu, c.before A U = true := by
  simp only [e_xu, e_xn, Bundle.chain0Atoms, Bundle.passAtoms, List.cons_append, List.nil_append]
  exact List.forall_mem_cons.mpr ⟨(h.use (lw_at lw_m16 65 rfl) rfl), List.forall_mem_cons.mpr ⟨(h.use (lw_at lw_m16 66 rfl) rfl), List.forall_mem_cons.mpr ⟨(h.use (lw_at lw_m16 67 rfl) rfl), List.forall_mem_cons.mpr ⟨(h.use (lw_at lw_m8 36 rfl) rfl), List.forall_mem_cons.mpr ⟨(h.use (lw_at lw_m7 233 rfl) rfl), List.forall_mem_cons.mpr ⟨(h.use (lw_at lw_m8 36 rfl) rfl), List.forall_mem_cons.mpr ⟨(h.use (lw_at lw_m8 37 rfl) rfl), List.forall_mem_cons.mpr ⟨(h.use (lw_at lw_m8 38 rfl) rfl), List.forall_mem_cons.mpr ⟨(h.use (lw_at lw_m8 39 rfl) rfl), List.forall_mem_cons.mpr ⟨(h.use (lw_at lw_m7 235 rfl) rfl), List.forall_mem_cons.mpr ⟨(h.use (lw_at lw_m8 39 rfl) rfl), List.forall_mem_cons.mpr ⟨(h.use (lw_at lw_m8 40 rfl) rfl), List.forall_mem_cons.mpr ⟨(h.use (lw_at lw_m8 41 rfl) rfl), List.forall_mem_cons.mpr ⟨(h.use (lw_at lw_m8 13 rfl) rfl), List.forall_mem_cons.mpr ⟨(h.use (lw_at lw_m7 237 rfl) rfl), (fun _ hh => by cases hh)⟩⟩⟩⟩⟩⟩⟩⟩⟩⟩⟩⟩⟩⟩⟩
theorem e_T.xl52 {w : eW} {U : State} (h : e_T w U) {A : Array Value} : ∀ c ∈ e_xl (e_xn 52), c.before A U = true := by
  unfold e_xl
  exact List.forall_mem_cons.mpr ⟨(h.use (lw_at lw_m16 56 rfl) rfl), List.forall_mem_cons.mpr ⟨(h.use (lw_at lw_m16 58 rfl) rfl), List.forall_mem_cons.mpr ⟨(h.use (lw_at lw_m8 25 rfl) rfl), List.forall_mem_cons.mpr ⟨(h.use (lw_at lw_m16 59 rfl) rfl), List.forall_mem_cons.mpr ⟨(h.use (lw_at lw_m16 60 rfl) rfl), List.forall_mem_cons.mpr ⟨(h.use (lw_at lw_m16 61 rfl) rfl), List.forall_mem_cons.mpr ⟨(h.use (lw_at lw_m16 63 rfl) rfl), List.forall_mem_cons.mpr ⟨(h.use (lw_at lw_m8 11 rfl) rfl), List.forall_mem_cons.mpr ⟨(h.use (lw_at lw_m8 10 rfl) rfl), (fun _ hh => by cases hh)⟩⟩⟩⟩⟩⟩⟩⟩⟩
theorem e_T.xc {w : eW} {U : State} (h : e_T w U) {A : Array Value} {ci : Nat} (h1 : 50 ≤ ci) (h2 : ci < 53) : ∀ c ∈ Bundle.chain0Atoms (e_xn ci) e_xu, c.before A U = true := by
  rcases (by omega : ci = 50 ∨ ci = 51 ∨ ci = 52) with e | e | e <;> subst e
  · exact h.xc50
  · exact h.xc51
  · exact h.xc52
theorem e_T.xl {w : eW} {U : State} (h : e_T w U) {A : Array Value} {ci : Nat} (h1 : 50 ≤ ci) (h2 : ci < 53) : ∀ c ∈ e_xl (e_xn ci), c.before A U = true := by
  rcases (by omega : ci = 50 ∨ ci = 51 ∨ ci = 52) with e | e | e <;> subst e
  · exact h.xl50
  · exact h.xl51
  · exact h.xl52
theorem e_xfit {ci : Nat} (h1 : 50 ≤ ci) (h2 : ci < 53) : Bundle.fit (e_xn ci) = true := by
  rcases (by omega : ci = 50 ∨ ci = 51 ∨ ci = 52) with e | e | e <;> subst e <;> decide +kernel
/-- the constructor and the throw: it ends, the new cell alone has changed -/
theorem e_thr {w : eW} {p : Program} {l : Launch} {e : Env} {R : Room} {s : State} {m : MethodId} {args : Array Value} {below : List Frame} {meth : Method} {c : Code} {T : State} {locs : List Loc} {cells slots : Nat}
    (X : Stand p l e R s m args below meth c T locs cells slots) (hexec : p.tables.exec = Jvm.exec) (htr : e.platform.stackTraces = false) (hT : e_T w s) (hold : ∀ q, q < w_sz w → T.heap[q]? = (w_H0 w)[q]?)
    {own : String} {ci ic : Nat} (h1 : 50 ≤ ci) (h2 : ci < 53) (hown : s.vm.findClass own = some m.cls) (hlink : (Cond.methodLink own ic (Bundle.init0 (e_xn ci))).before args s = true)
    {a : Addr} {kX : Class} (hkX : s.vm.classes[w_dC w ci]? = some kX) (hcell : T.heap[a]? = some (freshCell (w_dC w ci) kX)) (hnew : w_sz w ≤ a)
    {g : JFrame} (hg : g.method = m) (hsize : g.locals.size = c.maxLocals) (hlocked : g.locked = none) (hentered : g.entered = []) {rest : List Value} (hstack : g.stack = .ref a :: .ref a :: rest)
    (hd6 : decode c.code g.pc = .ok (.invokespecial ic, 3)) (hd9 : decode c.code (g.pc + 3) = .ok (.athrow, 1)) (hout : ∀ x ∈ c.exceptionTable.toList, covers x (g.pc + 3) = false)
    (hRframes : 5 < R.frames) (hRlocals : 2 * g.monitorRoom + ((Value.ref a :: rest).map fun v => v.category).sum + 80 ≤ R.locals) (hlocks : meth.locks = false) :
    ∃ (U : State) (ce : Cell) (Lc : List Loc), Steps p.tables e below (T.setTop g) U ∧ U.status = .running ∧ Ended U below (.threw a) ∧ s.WarmedH U.vm ∧ s.sameButNew ({ U with vm := s.vm } : State) (locs ++ Lc) cells slots ∧ (∀ q ∈ Lc, q.base = a) ∧
      U.heap = T.heap.setIfInBounds a ce ∧ ce.cls = w_dC w ci ∧ ce.vm = .none := by
  have howns : e.platform.frameOwnsMonitors = true := by rw [X.admits.platform]
  have hfin : e.platform.finalization = false := by rw [X.admits.platform]
  have hpl : e.platform.magicAccessors = ({} : Platform).magicAccessors := by rw [X.admits.platform]
  obtain ⟨TT, Z, L, LZ, Y⟩ := ThrowableC.of_atoms (args := args) howns hfin hpl (hT.thr)
  obtain ⟨P1, Ps, hlen, L1, hL, hP1m, hlink1, hlink'⟩ := Bundle.chain0 (args := args) hpl Y.init0 e_xu (e_xn ci) (e_xfit h1 h2) (by decide +kernel) (hT.xc h1 h2)
  have hfound : s.vm.findClass (e_xn ci) = some P1.m.cls := findClass_of_methodNamed hP1m
  have hcls : w_dC w ci = P1.m.cls := Option.some.inj ((hT.2.2.2.2.2.2.2.2.2.2 ci h1 h2).symm.trans hfound)
  rw [hcls] at hkX hcell ⊢
  have hl := hT.xl (A := args) h1 h2
  have ha : ∀ x ∈ e_xl (e_xn ci), x.holds args s none s [] = true := fun x hx => hl x hx
  obtain ⟨c1, kX', hc1, hk, hord, -, -, hn6⟩ := Cond.instantiable_spec (ha (.instantiable (e_xn ci) 6) (by simp [e_xl]))
  cases Option.some.inj (hc1.symm.trans hfound)
  cases Option.some.inj (hkX.symm.trans hk)
  have hsel : ∀ (y : MethodName) (my : MethodId), Cond.selects (e_xn ci) y y ∈ e_xl (e_xn ci) → s.methodNamed? y = some my → (y.cls ≠ "java/lang/invoke/MethodHandle" ∧ y.cls ≠ "java/lang/invoke/VarHandle") → selectMethod e.platform s.vm P1.m.cls my = .method my := by
    intro y my hy hmy hne
    obtain ⟨c2, r2, m2, q1, q2, q3, q4, -⟩ := Cond.selects_spec (ha _ hy)
    cases Option.some.inj (q1.symm.trans hfound)
    cases Option.some.inj (q2.symm.trans (State.methodFound?_of_named hmy hne))
    cases Option.some.inj (q3.symm.trans hmy)
    rw [Launch.admits_selectMethod X.admits]; exact q4
  have hsel0 := hsel Bundle.tFill0 TT.fill0 (by simp [e_xl]) Y.fill0 (by decide)
  have hselF := hsel Bundle.tFill TT.fill (by simp [e_xl]) Y.fill (by decide)
  -- the statics' cell
  obtain ⟨cfU, kfU, fiU, fU, aU, ceU, u1, u2, u3, u4, u5, u6, u7, u8⟩ := hT.2.2.2.2.2.2.1 _ (List.mem_of_getElem? (i := 5) rfl)
  obtain ⟨cfS, kfS, fiS, fS, aS, ceS, s1, s2, s3, s4, s5, s6, s7, s8⟩ := hT.2.2.2.2.2.2.1 _ (List.mem_of_getElem? (i := 4) rfl)
  cases u1.symm.trans Y.unassigned
  cases s1.symm.trans Y.sentinel
  have eU : TT.aS = aU := Option.some.inj (L.statics.symm.trans u4)
  have eS : aU = aS := Option.some.inj (u4.symm.trans s4)
  subst eS
  cases u5.symm.trans s5
  have hltS : aU < w_sz w := by unfold w_A at u8; omega
  have hcellS : T.heap[TT.aS]? = some ceU := by rw [eU, hold aU hltS]; exact u5
  have hneS : TT.aS ≠ a := by rw [eU]; exact Nat.ne_of_lt (Nat.lt_of_lt_of_le hltS hnew)
  have hknownS : ceU.vm ≠ .unknown := by intro hu; rw [hu] at u6; cases u6
  have hrefv : ∀ k, (e_c w (w_pv w k)).isRef = true := by
    intro k
    rcases hT.2.2.2.2.2.2.2.1.1 k with hz | ⟨b, hz⟩ <;> rw [hz] <;> rfl
  let u0 : RefV := ⟨e_c w (w_pv w 2), hrefv 2⟩
  let sen : RefV := ⟨e_c w (w_pv w 1), hrefv 1⟩
  obtain ⟨ci198, i198, fB, hk198, hg198, ha198, hsB, -, hnB, htB, hffB⟩ := Cond.ownField (t := .object "java/lang/Object") Y.found L.cls (by decide +kernel) (ha (.fieldLink Bundle.tN 198 Bundle.tN "backtrace" "Ljava/lang/Object;") (by simp [e_xl])) (ha (.lays Bundle.tN Bundle.tN "backtrace" "Ljava/lang/Object;") (by simp [e_xl])) e.platform hpl
  obtain ⟨tyC, dC, hdC, hdnC⟩ := Cond.laysAt hfound hk Y.cause (ha (.lays (e_xn ci) Bundle.tN "cause" "Ljava/lang/Throwable;") (by simp [e_xl]))
  obtain ⟨tyS, dS, hdS, hdnS⟩ := Cond.laysAt hfound hk Y.stack (ha (.lays (e_xn ci) Bundle.tN "stackTrace" Bundle.steD) (by simp [e_xl]))
  obtain ⟨tyP, dP, hdP, hdnP⟩ := Cond.laysAt hfound hk Y.supp (ha (.lays (e_xn ci) Bundle.tN "suppressedExceptions" Bundle.listD) (by simp [e_xl]))
  obtain ⟨tyB, dB, hdB, hdnB⟩ := Cond.laysAt hfound hk hffB (ha (.lays (e_xn ci) Bundle.tN "backtrace" "Ljava/lang/Object;") (by simp [e_xl]))
  have bC := Cond.laysApart hdB hdC hdnB hdnC (by rw [hnB, Y.causeName]; decide)
  have bS := Cond.laysApart hdB hdS hdnB hdnS (by rw [hnB, Y.stackName]; decide)
  have bP := Cond.laysApart hdB hdP hdnB hdnP (by rw [hnB, Y.suppName]; decide)
  have hskip : SkipFacts TT e.platform s (fun u => u) u0 ((preparedCellV TT.toThrowableT (freshCell P1.m.cls kX) a u0 sen).withEntry T.cur) :=
    ⟨{ ci198 := ci198, i198 := i198, fBack := fB }, ⟨hk198, hg198, ha198, hsB⟩, by
      have := fresh_default (c := P1.m.cls) tyB
      rw [htB] at this
      simpa [preparedCellV, Cell.setSlot, Cell.withEntry, Array.getElem?_setIfInBounds, bC, bS, bP, bC.symm, bS.symm, bP.symm, defaultValue] using this, fun _ _ => rfl⟩
  obtain ⟨tm, methC, cdC, kC, vm₁, hnC, -, -, -, -, -, -, -, hW₁, st1⟩ := Steps.initCold (tb := p.tables) (e := e) (below := below) (s := s) (U := T) X.here hexec X.warmed hpl hown (t := Bundle.init0 (e_xn ci)) rfl rfl (Bundle.fit_spec (e_xfit h1 h2)).2
    hlink (hT.xc (A := args) h1 h2 (.instanceMethod (Bundle.init0 (e_xn ci))) (by simp [e_xu, Bundle.chain0Atoms, Bundle.passAtoms])) (bytes := Bundle.five) (maxL := 1) (hT.xc (A := args) h1 h2 (.code (Bundle.init0 (e_xn ci)) Bundle.five 1 none) (by simp [e_xu, Bundle.chain0Atoms, Bundle.passAtoms]))
    (f := g) hg (a := a) (rest := .ref a :: rest) hstack hd6
  cases Option.some.inj (hnC.symm.trans hP1m)
  have X₁ := X.noted hW₁
  have hPs : Ps.length = 2 := hlen
  obtain ⟨vm₂, X₂, st2⟩ := X₁.ctorPlainOffV hexec (g := { g with stack := .ref a :: rest }) hg hsize TT L Z LZ (P1 :: Ps)
    (fun P hP => by rcases List.mem_cons.mp hP with rfl | hP; exact L1; exact hL P hP) ⟨hlink1, hlink'⟩ (u0 := u0) (sen := sen) (self := a) (cell := freshCell P1.m.cls kX) (cellS := ceU)
    hcell (fun _ => by simp) (by simp) rfl rfl hsel0 hselF hcellS hneS hknownS u7 s7
    (Takes.of_laid hk hord tyC (by rw [Y.causeType]; rfl)) (Takes.of_laid hk hord tyS (by rw [Y.stackType]; exact fits_refV_array _ u0)) (Takes.of_laid hk hord tyP (by rw [Y.suppType]; exact fits_refV_object _ sen)) Y.objLocals hskip htr [] hd6
    (by simp only [List.length_cons, hPs]; omega) (by simp only [List.length_cons, hPs]; exact hRlocals)
  obtain ⟨hwalk, hrun, hended, hWU, hsame⟩ := X₂.athrowLeaves hexec (g := { g with stack := .ref a :: rest, pc := g.pc + 3 }) hg hlocked hentered hout (a := a) (rest := rest) rfl hd9 hlocks
  refine ⟨_, _, _, st1 _ (fun acts => ?_), hrun, hended, hWU, hsame, ?_, rfl, rfl, rfl⟩
  · rw [doInvoke_state]
    exact st2 _ hwalk
  · intro q hq
    simp only [List.mem_cons, List.not_mem_nil, or_false] at hq
    rcases hq with rfl | rfl | rfl | rfl <;> rfl
section
variable {w : eW} {d : Nat} {Y : eY} {pc : Nat} {ls : eL} {st : List Value} {h : eH} {Q : eO → eH → Prop}
/-- an exception made and thrown -/
def n_exc (ci : Nat) (h : eH) : Option (Nat × eH) := if h.1 + 1 ≤ 170145 ∧ h.2.1 + 6 ≤ 8591047 then some (h.1, e_new h ci 6 (fun _ => .null)) else none
theorem x_thr {idx ic ci : Nat} {q : Nat × eH} (hf : n_exc ci h = some q) (h1 : 50 ≤ ci) (h2 : ci < 53) (hd0 : decode Y.2.1 pc = .ok (.new idx, 3)) (hd1 : decode Y.2.1 (pc + 3) = .ok (.dup, 1)) (hd2 : decode Y.2.1 (pc + 4) = .ok (.invokespecial ic, 3)) (hd3 : decode Y.2.1 (pc + 7) = .ok (.athrow, 1)) (hn : e_nh Y (pc + 7) = true)
    (w1 : Cond.classLink Y.1.cls idx (e_xn ci) ∈ lw_all) (w2 : Cond.instantiable (e_xn ci) 6 ∈ lw_all) (w3 : Cond.initialized (e_xn ci) ∈ lw_all) (w4 : Cond.methodLink Y.1.cls ic (Bundle.init0 (e_xn ci)) ∈ lw_all) (hst : st.length ≤ 15)
    (hq : Q (.inr q.1) q.2) (hdd : 6 ≤ d) : wp w d Y pc ls st h Q := by
  unfold n_exc at hf
  split at hf
  case isFalse => cases hf
  rename_i hc
  cases hf
  obtain ⟨hcl, hs⟩ := hc
  intro p l e R s m args below meth c H locs cells slots L a1 a2 a3 a4 a5 a6 a7 a8 a9 a10 a11
  have hlt : h.1 < 1000000000 := by omega
  refine W.newcK a1 a3.2.2.1 a3.1 (a4.all _ w1) (a4.all _ w2) (a4.all _ w3) rfl hd0 (by omega) (by omega) (a4.2.2.2.2.2.2.2.2.2.2 ci h1 h2) a5.1 fun H' kC g1 g2 g3 g4 => ?_
  refine lv_dup a1 a3.2.2.1 hd1 rfl ?_
  intro T hT X
  have hold : ∀ q, q < w_sz w → T.heap[q]? = (w_H0 w)[q]? := fun q hq => by rw [hT, g4 q (by omega)]; exact a5.2.2.1 q hq
  have hsum := e_sum w st
  obtain ⟨U, ce, Lc, b1, b2, b3, b4, b5, b6, b7, b8, b9⟩ := e_thr X a1 a2 a4 hold h1 h2 a3.1 (a4.all _ w4) g1 (a := w_sz w + h.1) (by rw [hT]; exact g2) (by omega) (g := F0 m (pc + 4) L (.ref (w_sz w + h.1) :: .ref (w_sz w + h.1) :: st.map (e_c w))) rfl (by rw [a3.2.2.2.1]; exact a6.2.1) rfl rfl (rest := st.map (e_c w)) rfl (by rw [a3.2.2.1]; exact hd2) (by rw [a3.2.2.1]; exact hd3) (e_nh_out a3 hn) (by omega)
    (by show 2 * 0 + ((Value.ref (w_sz w + h.1) :: st.map (e_c w)).map fun v => v.category).sum + 80 ≤ _
        simp only [List.map_cons, List.sum_cons]
        have : (Value.ref (w_sz w + h.1)).category = 1 := rfl
        omega) a3.2.2.2.2.2.1
  have hr : e_r w h.1 = w_sz w + h.1 := e_r_lt hlt
  refine ⟨U, b1, .inr h.1, e_new h ci 6 (fun _ => .null), locs ++ Lc, cells + 1, slots + 6, b2, by rw [show e_o w (.inr h.1) = .threw (w_sz w + h.1) by show Outcome.threw (e_r w h.1) = _; rw [hr]]; exact b3, b4, b5, ?_, ?_, ?_, ?_, e_x.new h _ _ _, hq⟩
  · intro q hq
    rcases List.mem_append.mp hq with hq | hq
    · exact a7 q hq
    · rw [b6 q hq]; omega
  · show cells + 1 + (170145 - (h.1 + 1)) ≤ _; omega
  · show slots + 6 + (8591047 - (h.2.1 + 6)) ≤ _; omega
  · rw [b7, hT]
    have hsz : w_sz w + h.1 < H'.size := by rw [g3]; omega
    refine a5.new hcl hs (Or.inr (Or.inr ?_)) (by rw [Array.size_setIfInBounds, g3]) (fun q hq => ?_)
    · have ht : e_t (e_new h ci 6 (fun _ => .null)) h.1 = ci := by unfold e_t; rw [e_new_k]; omega
      rw [ht, hr]
      exact ⟨h1, h2, ce, by simp [Array.getElem?_setIfInBounds, hsz], b8, by rw [b9]; rfl, by rw [b9]; intro hz; cases hz⟩
    · have hne : ¬ (w_sz w + h.1 = q) := by omega
      rw [Array.getElem?_setIfInBounds, if_neg hne]
      exact g4 q hq
end
