/-! exceptions caught: the catch type may yet be unresolved -/
theorem e_fh {e : Env} {s : State} {f : JFrame} {a : Addr} {d : Bool} {acts : List Action} {Q : Handler → Pre} {E : CtlPost} {x : ExceptionTableEntry} {t : List ExceptionTableEntry} {c : ClassId} {vm' : Vm} {cell : Cell} (hx : covers x f.pc = true) (h0 : x.catchType ≠ 0)
    (hg : (Jvm.resolveClass f.method.cls x.catchType).Gives e.toSetting s.vm (.ok c) vm') (hsz : vm'.classes.size ≤ s.vm.classes.size) (hcell : s.heap[a]? = some cell) (hobj : ∀ k, cell.vm ≠ .statics k)
    (hk : ∃ k, vm'.classes[cell.cls]? = some k) (hc : ∃ k, vm'.classes[c]? = some k) (hfit : vm'.assignable cell.cls c = true) :
    Sem.wp (findHandler.go f a (x :: t)) Q E e d acts s ↔ Q (.found x.handlerPc) d acts (s.setVm vm') := by
  simp only [covers] at hx
  obtain ⟨ha, ht⟩ := hg.op (op := VmOp.resolveClass f.method.cls x.catchType) rfl
  simp [findHandler.go, hx, h0, ha, ht, hsz, hcell, hobj, hk, hc, hfit, VmOp.dirties, VmOp.acts]
theorem e_caught {tb : Tables} {e : Env} {s target : State} {g : JFrame} {c : Code} {below : List Frame} {a : Addr} (h : At s g.method c below) {meth : Method} (hm : s.vm.method? g.method = some meth) (hmc : meth.code = some c) {x : ExceptionTableEntry} {vm' : Vm} {cC : ClassId} {cell : Cell}
    (htab : c.exceptionTable.toList = [x]) (hx : covers x g.pc = true) (h0 : x.catchType ≠ 0) (hg : (Jvm.resolveClass g.method.cls x.catchType).Gives e.toSetting s.vm (.ok cC) vm') (hsz : vm'.classes.size ≤ s.vm.classes.size) (hcell : s.heap[a]? = some cell) (hobj : ∀ k, cell.vm ≠ .statics k)
    (hk : ∃ k, vm'.classes[cell.cls]? = some k) (hc : ∃ k, vm'.classes[cC]? = some k) (hfit : vm'.assignable cell.cls cC = true)
    (hrest : Steps tb e below ((s.setVm vm').setTop { g with pc := x.handlerPc, stack := [.ref a] }) target) : Steps tb e below ((s.setTop g).pushFrame (.throwing a)) target := by
  obtain ⟨hgo, hw⟩ := h.throwing a
  have hvm : ((s.setTop g).pushFrame (.throwing a)).vm = s.vm := Stand.throwing_vm s g a
  have hhp : ((s.setTop g).pushFrame (.throwing a)).heap = s.heap := Stand.throwing_heap s g a
  have hfind : ∀ (Q : Handler → Pre) (E : CtlPost) (d : Bool) (acts : List Action), Sem.wp (findHandler g a) Q E e d acts ((s.setTop g).pushFrame (.throwing a)) ↔ Q (.found x.handlerPc) d acts (((s.setTop g).pushFrame (.throwing a)).setVm vm') := by
    intro Q E d acts
    rw [W.findHandler_eq (s := (s.setTop g).pushFrame (.throwing a)) (by rw [hvm]; exact hm) hmc, htab]
    exact e_fh hx h0 (by rw [hvm]; exact hg) (by rw [hvm]; exact hsz) (by rw [hhp]; exact hcell) hobj hk hc hfit
  refine Steps.head hgo hw ?_
  rw [stepThread_throwing (frames_entered h.top _)]
  have hstep : ∀ r : List Frame, (stepThrowing e ((s.setTop g).pushFrame (.throwing a)) a (.java g :: r)).1 = (((s.setTop g).pushFrame (.throwing a)).setVm vm').setFrames (.java { g with pc := x.handlerPc, stack := [.ref a] } :: r) := by
    intro r
    simp only [stepThrowing, searchFrame, vmDo]
    generalize hr : Sem.go _ e false [] ((s.setTop g).pushFrame (.throwing a)) = res
    obtain ⟨as, rfl, ha⟩ := Sem.eq_ok_of hr (a := Handler.found x.handlerPc) (s' := ((s.setTop g).pushFrame (.throwing a)).setVm vm') (acts' := []) (by simp [hfind _ _ _ _])
    rfl
  rw [hstep]
  obtain ⟨g₀, hg₀⟩ := Option.isSome_iff_exists.mp h.top
  obtain ⟨r, hr⟩ := State.topJava?_eq_some.mp hg₀
  have eA : (s.setVm vm').setTop { g with pc := x.handlerPc, stack := [.ref a] } = (s.setVm vm').setFrames (.java { g with pc := x.handlerPc, stack := [.ref a] } :: r) := State.setTop_of_frames _ (show (s.setVm vm').frames = _ from hr)
  have eB : s.setTop g = s.setFrames (.java g :: r) := State.setTop_of_frames _ hr
  have eC : s.frames.tail = r := by rw [hr]; rfl
  have eD : ∀ (fs : List Frame), (((s.setTop g).pushFrame (.throwing a)).setVm vm').setFrames fs = (s.setVm vm').setFrames fs := by
    intro fs
    have : ((s.setTop g).pushFrame (.throwing a)) = s.setFrames (.throwing a :: (s.setTop g).frames) := by
      unfold State.pushFrame
      rw [eB, State.setFrames_setFrames]
    rw [this]
    show ((s.setVm vm').setFrames _).setFrames fs = _
    rw [State.setFrames_setFrames]
  rw [eD]
  rw [eA] at hrest
  first
    | (rw [eC]; exact hrest)
    | exact hrest
section
variable {w : eW} {d : Nat} {Y : eY} {pc : Nat} {ls : eL} {st : List Value} {h : eH} {Q : eO → eH → Prop}
/-- a call whose exception is caught here -/
theorem w_callC {Yc : eY} {stk av : List Value} {Qc : eO → eH → Prop} {sp ep hp ct ci : Nat} (hS : e_St w Y pc ls stk st h Yc av) (hcd : e_cd Yc ∈ lw_all) (hpl : plainName Yc.1.cls = true) (hav : (e_fl av).length ≤ Yc.2.2.1) (hw : 2 * st.length + Yc.2.2.1 ≤ 29) (hm : wm w d Yc av h Qc)
    (hh : Y.2.2.2.2 = [(sp, ep, hp, ct)]) (hin : sp ≤ pc ∧ pc < ep) (h0 : ct ≠ 0) (h1 : 50 ≤ ci) (h2 : ci < 53) (hlk : Cond.classLink Y.1.cls ct (e_xn ci) ∈ lw_all)
    (kk : ∀ v h', e_x h h' → Qc (.inl v) h' → wp w (d + 1) Y (pc + 3) ls (v.toList ++ st) h' Q) (kt : ∀ x h', e_x h h' → Qc (.inr x) h' → (x < h'.1 ∧ e_t h' x = ci) ∧ wp w (d + 1) Y hp ls [.ref x] h' Q) : wp w (d + 1) Y pc ls stk h Q := by
  intro p l e R s m args below meth c H locs cells slots L a1 a2 a3 a4 a5 a6 a7 a8 a9 a10 a11 T hT X
  subst hT
  obtain ⟨mk, vm₁, ig, hnamed, hdg, X₁, hstep⟩ := hS p l e R s m args below meth c T locs cells slots L X a1 a3 a4 a5 a6
  obtain ⟨o, h', T', Lc, k, n, X', b1, b2, b3, b4, b5, b6, b7⟩ := e_go (h := h) X₁ a1 a2 a4 (show e_R w h (T.setVm vm₁).heap from a5) a8 a9 a10 a11 (rest := st) pc (L := L) (by rw [a3.2.2.2.1]; exact a6.2.1) (by rw [a3.2.2.1]; exact hdg) hw hnamed (a4.all _ hcd) hpl hav hm
  have hlo : ∀ q ∈ locs ++ Lc, w_sz w ≤ q.base := fun q hq => (List.mem_append.mp hq).elim (a7 q) (b1 q)
  have hst := hstep _ b7
  cases o with
  | inl v =>
    have hgo := kk v h' b5 b6 p l e R s m args below meth c T'.heap (locs ++ Lc) (cells + k) (slots + n) L a1 a2 a3 a4 b4 a6 hlo a8 a9 b2 b3 T' rfl X'
    obtain ⟨t, c1, c2⟩ := hgo
    refine ⟨t, hst.trans ?_, c2.mono b5 (fun _ _ _ x => x)⟩
    have e1 : (v.toList ++ st).map (e_c w) = (v.map (e_c w)).toList ++ st.map (e_c w) := by cases v <;> simp
    rw [e1] at c1
    exact c1
  | inr x =>
    obtain ⟨⟨hx1, hx2⟩, hgo⟩ := kt x h' b5 b6
    have htab : ∃ y : ExceptionTableEntry, c.exceptionTable.toList = [y] ∧ y.startPc = sp ∧ y.endPc = ep ∧ y.handlerPc = hp ∧ y.catchType = ct := by
      have ht := a3.2.2.2.2.2.2
      rw [hh] at ht
      obtain ⟨y, l2, e1, e2, e3⟩ := List.map_eq_cons_iff.mp ht
      have e4 : l2 = [] := List.map_eq_nil_iff.mp e3
      subst e4
      refine ⟨y, e1, ?_⟩
      simp only [Prod.mk.injEq] at e2
      exact e2
    obtain ⟨y, ht, y1, y2, y3, y4⟩ := htab
    obtain ⟨cell, z1, z2, z3, z4⟩ : ∃ cell : Cell, T'.heap[e_r w x]? = some cell ∧ cell.cls = w_dC w ci ∧ cell.vm.isStatics = false ∧ cell.vm ≠ .unknown := by
      rcases b4.2.1 x hx1 with ⟨-, q', hq, -⟩ | ⟨hq, -⟩ | ⟨-, -, hq⟩
      · have := (List.getElem?_eq_some_iff.mp hq).1
        have h6 : e_cl.length = 43 := rfl
        omega
      · omega
      · rw [hx2] at hq; exact hq
    have hpl' : e.platform.magicAccessors = ({} : Platform).magicAccessors := by rw [X'.admits.platform]
    obtain ⟨cc, hfcc, hcl⟩ := Cond.classLink_spec a3.1 (a4.all (A := args) _ hlk) e.platform hpl'
    have hcc : w_dC w ci = cc := Option.some.inj ((a4.2.2.2.2.2.2.2.2.2.2 ci h1 h2).symm.trans hfcc)
    obtain ⟨hg₁, hwarm₁, hready₁⟩ := State.classEntry (e := e) X'.warmed hcl
    generalize T'.vm.noted m.cls ct (.cls cc) = vm₂ at hg₁ hwarm₁ hready₁
    have X₂ := X'.noted hwarm₁
    have hcls : ∃ kz, vm₂.classes[cc]? = some kz := by
      obtain ⟨kz, hz⟩ := Vm.classAt_of_findClass hfcc
      obtain ⟨kz', hz', -⟩ := hwarm₁.alike.2.2 _ _ hz
      exact ⟨kz', hz'⟩
    obtain ⟨t, c1, c2⟩ := hgo p l e R s m args below meth c (T'.setVm vm₂).heap (locs ++ Lc) (cells + k) (slots + n) L a1 a2 a3 a4 b4 a6 hlo a8 a9 b2 b3 (T'.setVm vm₂) rfl X₂
    refine ⟨t, hst.trans ?_, c2.mono b5 (fun _ _ _ x => x)⟩
    refine e_caught (s := T') (g := F0 m pc L (st.map (e_c w))) X'.here (x := y) (vm' := vm₂) (cC := cc) (cell := cell) X'.method' X'.code ht (by simp only [covers]; rw [y1, y2]; simp; exact hin) (by rw [y4]; exact h0) (by rw [y4]; exact hg₁) ?_ z1 (fun kk' hz => by rw [hz] at z3; cases z3) ?_ hcls ?_ (by rw [y3]; exact c1)
    · rw [hwarm₁.2.1, X'.warmed.2.1]; exact Nat.le_refl _
    · rw [z2, hcc]; exact hcls
    · rw [z2, hcc]; exact va_asg _ _
end
