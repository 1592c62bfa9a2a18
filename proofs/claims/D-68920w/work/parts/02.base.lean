/-! A pure heap in relative addresses, and a judgement 'wp' over it: the machine's own W for every context that holds the pure picture. -/
/-- (cells made, slots used, each cell: kind, length, contents) -/
abbrev eH : Type := Nat × Nat × (Nat → Nat × Nat × (Nat → Value))
def e_k (h : eH) (a : Nat) : Nat := (h.2.2 a).1
def e_n (h : eH) (a : Nat) : Nat := (h.2.2 a).2.1
def e_v (h : eH) (a i : Nat) : Value := (h.2.2 a).2.2 i
def e_set (h : eH) (a i : Nat) (v : Value) : eH := (h.1, h.2.1, fun b => if b = a then (e_k h a, e_n h a, fun j => if j = i then v else e_v h a j) else h.2.2 b)
def e_new (h : eH) (k n : Nat) (f : Nat → Value) : eH := (h.1 + 1, h.2.1 + n, fun b => if b = h.1 then (k, n, f) else h.2.2 b)
/-- the type of a cell: its kind's low part; the rest of the kind is a tag, a ghost -/
def e_t (h : eH) (a : Nat) : Nat := e_k h a % 128
def e_fin (c k : Nat) : Bool := match e_cl[c]? with
  | some q => decide (k < q.2.2) && (q.2.1 k).2.2.2
  | none => false
theorem e_fin_big {c k : Nat} (hc : 100 ≤ c) : e_fin c k = false := by
  unfold e_fin
  have : e_cl[c]? = none := List.getElem?_eq_none (by have : e_cl.length = 43 := rfl; omega)
  rw [this]
/-- what never changes: kinds, lengths, final references -/
def e_x (h h' : eH) : Prop := h.1 ≤ h'.1 ∧ (∀ a, a < h.1 → e_k h' a = e_k h a ∧ e_n h' a = e_n h a) ∧ ∀ a, a < h.1 → ∀ k b, e_fin (e_t h a) k = true → e_v h a k = .ref b → e_v h' a k = .ref b
theorem e_x.rf (h : eH) : e_x h h := ⟨Nat.le_refl _, fun _ _ => ⟨rfl, rfl⟩, fun _ _ _ _ _ x => x⟩
theorem e_x.tr {h h1 h2 : eH} (a : e_x h h1) (b : e_x h1 h2) : e_x h h2 :=
  ⟨Nat.le_trans a.1 b.1, fun q hq => ⟨(b.2.1 q (Nat.lt_of_lt_of_le hq a.1)).1.trans (a.2.1 q hq).1, (b.2.1 q (Nat.lt_of_lt_of_le hq a.1)).2.trans (a.2.1 q hq).2⟩,
   fun q hq k c hf hv => b.2.2 q (Nat.lt_of_lt_of_le hq a.1) k c (by unfold e_t; rw [(a.2.1 q hq).1]; exact hf) (a.2.2 q hq k c hf hv)⟩
theorem e_x.set (h : eH) (a i : Nat) (v : Value) (hf : e_fin (e_t h a) i = true → ∀ b, e_v h a i ≠ .ref b) : e_x h (e_set h a i v) := by
  refine ⟨Nat.le_refl _, fun q hq => ?_, fun q hq k c hk hv => ?_⟩
  · by_cases e : q = a
    · subst e; simp [e_k, e_n, e_set]
    · simp [e_k, e_n, e_set, e]
  · by_cases e : q = a
    · subst e
      by_cases e2 : k = i
      · subst e2; exact absurd hv (hf hk c)
      · have : e_v (e_set h q i v) q k = e_v h q k := by simp [e_v, e_set, e2]
        rw [this]; exact hv
    · have : e_v (e_set h a i v) q k = e_v h q k := by simp [e_v, e_set, e]
      rw [this]; exact hv
theorem e_x.new (h : eH) (k n : Nat) (f : Nat → Value) : e_x h (e_new h k n f) := by
  refine ⟨Nat.le_succ _, fun q hq => ?_, fun q hq k' c hk hv => ?_⟩
  · have : ¬ q = h.1 := by omega
    simp [e_k, e_n, e_new, this]
  · have : ¬ q = h.1 := by omega
    have : e_v (e_new h k n f) q k' = e_v h q k' := by simp [e_v, e_new, this]
    rw [this]; exact hv
/-- the world: classes (their ids and slots), array classes, where the run's own cells begin, old addresses, the old heap -/
abbrev eW : Type := (Nat → ClassId) × (Nat → Nat → Nat) × (Nat → ClassId) × Nat × (Nat → Nat) × Heap × (Nat → FieldType × Nat × (Nat → Value)) × (Nat → Value)
def w_dC (w : eW) : Nat → ClassId := w.1
def w_dI (w : eW) : Nat → Nat → Nat := w.2.1
def w_dA (w : eW) : Nat → ClassId := w.2.2.1
def w_sz (w : eW) : Nat := w.2.2.2.1
def w_old (w : eW) : Nat → Nat := w.2.2.2.2.1
def w_H0 (w : eW) : Heap := w.2.2.2.2.2.1
/-- old arrays that are read: type, length, contents -/
def w_oc (w : eW) : Nat → FieldType × Nat × (Nat → Value) := w.2.2.2.2.2.2.1
/-- what some statics of the JDK's hold -/
def w_pv (w : eW) : Nat → Value := w.2.2.2.2.2.2.2
def e_r (w : eW) (a : Nat) : Nat := if a < 1000000000 then w_sz w + a else w_old w (a - 1000000000)
def e_c (w : eW) (v : Value) : Value := match v with
  | .ref a => .ref (e_r w a)
  | .int x => .int x
  | .long x => .long x
  | .float x => .float x
  | .double x => .double x
  | .null => .null
  | .retAddr x => .retAddr x
theorem e_c_cat (w : eW) (v : Value) : (e_c w v).category = v.category := by cases v <;> rfl
def e_ty (k : Nat) : FieldType := match k with
  | 100 => .int
  | 101 => .long
  | 102 => .byte
  | 103 => .boolean
  | 104 => .object "TypeHouse$Box"
  | 105 => .object "TypeHouse$Font"
  | 106 => .object "TypeHouse$FontFile"
  | _ => .object "TypeHouseModel$Metrics"
/-- exceptions: their contents are not told -/
def e_xn (c : Nat) : String := match c with
  | 50 => "java/lang/IllegalArgumentException"
  | 51 => "java/lang/UnsupportedOperationException"
  | _ => "java/lang/IndexOutOfBoundsException"
def e_cell (w : eW) (h : eH) (H : Heap) (a : Nat) : Prop :=
  (e_t h a < 100 ∧ ∃ q : vw_C, e_cl[e_t h a]? = some q ∧ e_n h a = q.2.2 ∧ t_OB (e_r w a) (w_dC w (e_t h a)) q.2.2 (w_dI w (e_t h a)) H (fun j => e_c w (e_v h a j))) ∨
  (100 ≤ e_t h a ∧ e_t h a < 108 ∧ e_n h a < 2147483648 ∧ H[e_r w a]? = some (arrV (w_dA w (e_t h a)) (e_n h a) (fun j => e_c w (e_v h a j))) ∧ ∀ j, j < e_n h a → fits (e_ty (e_t h a)) (e_v h a j) = true) ∨
  (50 ≤ e_t h a ∧ e_t h a < 53 ∧ ∃ cell : Cell, H[e_r w a]? = some cell ∧ cell.cls = w_dC w (e_t h a) ∧ cell.vm.isStatics = false ∧ cell.vm ≠ .unknown)
/-- the machine's heap holds the pure one -/
def e_R (w : eW) (h : eH) (H : Heap) : Prop :=
  H.size = w_sz w + h.1 ∧ (∀ a, a < h.1 → e_cell w h H a) ∧ (∀ q, q < w_sz w → H[q]? = (w_H0 w)[q]?) ∧ h.1 ≤ 170145 ∧ h.2.1 ≤ 8591047
/-- words that ride along -/
def e_rd (x : Cond) : Bool := goodWord x || (match x with
  | .fieldLinkNest _ _ _ _ _ _ => true
  | .methodLinkNest _ _ _ _ => true
  | .castable _ _ => true
  | .declares _ => true
  | .arrayOver (.object _) => true
  | _ => false)
theorem e_rd_warm {x : Cond} (hx : e_rd x = true) {s U : State} (hW : s.WarmedH U.vm) {A : Array Value} (h : x.before #[] s = true) : x.before A U = true := by
  unfold e_rd at hx
  rw [Bool.or_eq_true] at hx
  rcases hx with hx | hx
  · exact word_at hW (good_of_word hx) h
  · cases x with
    | fieldLinkNest a i b n d k => exact va_Nw.use rfl (va_Nw.warmF hW h)
    | methodLinkNest a i b k => exact va_Nw.use rfl (va_Nw.warmM hW h)
    | castable a b => exact va_Nw.use rfl (va_Nw.warmC hW h)
    | declares y => exact va_Nw.use rfl (va_Nw.warmD hW h)
    | arrayOver ty =>
      cases ty with
      | object C => exact va_AO.use (va_AO.moved hW.alike (va_AO.of h))
      | _ => cases hx
    | _ => cases hx
/-- what the run itself makes -/
def w_A (w : eW) : Nat → Prop := fun a => w_sz w ≤ a
/-- static fields that are read, and what they hold -/
def e_sts (w : eW) : List (String × String × String × Value) := [("java/lang/String", "COMPACT_STRINGS", "Z", .int 1), ("TypeHouse$Breaker", "LEAST", "[I", .ref 1000000001), ("TypeHouse$Breaker", "MOST", "[I", .ref 1000000002), ("jdk/internal/util/Preconditions", "SIOOBE_FORMATTER", "Ljava/util/function/BiFunction;", w_pv w 0), ("java/lang/Throwable", "SUPPRESSED_SENTINEL", "Ljava/util/List;", w_pv w 1), ("java/lang/Throwable", "UNASSIGNED_STACK", "[Ljava/lang/StackTraceElement;", w_pv w 2)]
/-- a static field lies there (of the old heap) -/
def e_LS (w : eW) (C n d : String) (U : State) : Prop := ∃ (c : ClassId) (k : Class) (i : Nat) (f : Field) (a : Nat) (cell : Cell), U.vm.findClass C = some c ∧ U.fieldFound? C n d = some (c, k, i, f) ∧ f.isStatic = true ∧ k.statics = some a ∧ (w_H0 w)[a]? = some cell ∧ cell.vm.isStatics = true ∧ cell.cls = c ∧ f.slot < cell.slots.size ∧ k.staticTypes[f.slot]? = some f.type ∧ a < w_sz w
theorem e_LS.moved {w : eW} {C n d : String} {u U : State} (hvm : u.vm.Alike U.vm) (h : e_LS w C n d u) : e_LS w C n d U := by
  obtain ⟨c, k, i, f, a, cell, h1, h2, h3, h4, h5, h6, h7, h8, h9, h10⟩ := h
  obtain ⟨k', hi', he⟩ := State.fieldFound?_setVm hvm h2
  exact ⟨c, k', i, f, a, cell, by rw [hvm.findClass]; exact h1, hi', h3, by rw [he]; exact h4, h5, h6, h7, h8, by rw [he]; exact h9, h10⟩
theorem e_LS.word {w : eW} {C n d : String} {U : State} (hH : ∀ q, q < w_sz w → U.heap[q]? = (w_H0 w)[q]?) (h : e_LS w C n d U) {A : Array Value} : (Cond.laysStatic C n d).before A U = true := by
  obtain ⟨c, k, i, f, a, cell, h1, h2, h3, h4, h5, h6, h7, h8, h9, h10⟩ := h
  have h5' : U.heap[a]? = some cell := (hH a h10).trans h5
  simp [Cond.before, Cond.holds, Cond.value, h1, h2, h3, h4, h5', h6, h7, h8, h9]
def e_lst : List (String × String × String) := [("java/lang/Throwable", "UNASSIGNED_STACK", "[Ljava/lang/StackTraceElement;"), ("java/lang/Throwable", "SUPPRESSED_SENTINEL", "Ljava/util/List;")]
def e_LEAST : List Int32 := [-1, 0, -10000, -10000, -10000, -1000000, -1000000, -1000000, 0, -100]
def e_MOST : List Int32 := [10000, 10000, 10000, 10000, 10000, 1000000, 1000000, 1000000, 1073741823, 100]
/-- what the tables say, at a state -/
def e_T (w : eW) (U : State) : Prop :=
  (∀ x ∈ lw_tbl, e_rd x = true → x.before #[] U = true) ∧
  (∀ (c : Nat) (q : vw_C), e_cl[c]? = some q → u_Kn U q.1 q.2.1 q.2.2 (w_dC w c) (w_dI w c)) ∧
  (∀ k, 100 ≤ k → k < 108 → ArrOfT U (w_dA w k) (e_ty k) ∧ va_RA U (w_dA w k) (e_ty k)) ∧
  (∀ k, k < 3 → w_old w k < w_sz w ∧ (w_oc w k).2.1 < 2147483648 ∧ ∃ cell : Cell, (w_H0 w)[w_old w k]? = some cell ∧ U.isArrayOf cell .int ∧ cell.vm ≠ .unknown ∧ cell.slots.size.toInt32 = nI (w_oc w k).2.1 ∧ (w_oc w k).2.1 ≤ cell.slots.size ∧ ∀ j, j < (w_oc w k).2.1 → cell.slots[j]? = some (e_c w ((w_oc w k).2.2 j))) ∧
  (∀ k, k < 44 → va_O "java/lang/String" (w_old w (100 + k)) (w_A w) U (w_H0 w) ∧ va_OF "java/lang/String" "coder" "B" (.int 0) (w_old w (100 + k)) (w_A w) U (w_H0 w) ∧ va_OF "java/lang/String" "value" "[B" (.ref (w_old w (200 + k))) (w_old w (100 + k)) (w_A w) U (w_H0 w) ∧ va_T .byte (w_old w (200 + k)) (e_sL.getD k 0) (fun j => .int ((e_sT.getD k []).getD j 0)) (w_A w) U (w_H0 w)) ∧
  (∀ k, k < 44 → ∀ q, e_sO[k]? = some q → vk_R q.1 q.2.1 q.2.2 (w_old w (100 + k)) U) ∧
  (∀ q ∈ e_sts w, va_Z q.1 q.2.1 q.2.2.1 (e_c w q.2.2.2) (w_A w) U (w_H0 w)) ∧
  ((∀ k, w_pv w k = .null ∨ ∃ b, w_pv w k = .ref b) ∧ w_oc w 1 = (.int, 10, fun j => .int (e_LEAST.getD j 0)) ∧ w_oc w 2 = (.int, 10, fun j => .int (e_MOST.getD j 0))) ∧
  (∀ q, q < w_sz w → U.heap[q]? = (w_H0 w)[q]?) ∧ (∀ q ∈ e_lst, e_LS w q.1 q.2.1 q.2.2 U) ∧
  (∀ c, 50 ≤ c → c < 53 → U.vm.findClass (e_xn c) = some (w_dC w c))
theorem e_T.moved {w : eW} {s U : State} (h : e_T w s) (hW : s.WarmedH U.vm) (hH : ∀ q, q < w_sz w → U.heap[q]? = (w_H0 w)[q]?) : e_T w U :=
  ⟨fun x hx hr => e_rd_warm hr hW (h.1 x hx hr), fun c q hq => u_Kn_moved hW.alike (h.2.1 c q hq), fun k h1 h2 => ⟨arrOfT_moved hW.alike (h.2.2.1 k h1 h2).1, (h.2.2.1 k h1 h2).2.moved hW.alike⟩,
   fun k hk => by
     obtain ⟨g1, g2, cell, g3, g4, g5⟩ := h.2.2.2.1 k hk
     exact ⟨g1, g2, cell, g3, State.isArrayOf_alike hW.alike g4, g5⟩,
   fun k hk => by
     obtain ⟨g1, g2, g3, g4⟩ := h.2.2.2.2.1 k hk
     exact ⟨g1.moved hW.alike, g2.moved hW.alike, g3.moved hW.alike, g4.moved hW.alike⟩,
   fun k hk q hq => (h.2.2.2.2.2.1 k hk q hq).warm hW, fun q hq => (h.2.2.2.2.2.2.1 q hq).moved hW.alike, h.2.2.2.2.2.2.2.1, hH, fun q hq => (h.2.2.2.2.2.2.2.2.2.1 q hq).moved hW.alike, fun c h1 h2 => by rw [hW.alike.findClass]; exact h.2.2.2.2.2.2.2.2.2.2 c h1 h2⟩
theorem e_T.use {w : eW} {s : State} (h : e_T w s) {A : Array Value} {x : Cond} (hx : x ∈ lw_tbl) (hr : e_rd x = true) : x.before A s = true := e_rd_warm hr (State.WarmedH.refl s) (h.1 x hx hr)
theorem e_T.all {w : eW} {s : State} (h : e_T w s) {A : Array Value} : ∀ x ∈ lw_all, x.before A s = true := fun x hx => by
  obtain ⟨h1, h2⟩ := List.mem_filter.mp hx
  exact h.use h1 (by unfold e_rd; rw [h2]; rfl)
/-- a method: its name, code, locals, what it returns, its handlers -/
abbrev eY : Type := MethodName × ByteArray × Nat × Option FieldType × List (Nat × Nat × Nat × Nat)
def e_F (Y : eY) (s : State) (m : MethodId) (meth : Method) (c : Code) : Prop :=
  s.vm.findClass Y.1.cls = some m.cls ∧ meth.name = Y.1.name ∧ c.code = Y.2.1 ∧ c.maxLocals = Y.2.2.1 ∧ meth.sig.returnType = Y.2.2.2.1 ∧ meth.locks = false ∧
  c.exceptionTable.toList.map (fun x => (x.startPc, x.endPc, x.handlerPc, x.catchType)) = Y.2.2.2.2
/-- locals, place by place -/
abbrev eL : Type := List (Option Value)
def e_al (w : eW) : Nat → eL → List (Nat × Value)
  | _, [] => []
  | i, none :: t => e_al w (i + 1) t
  | i, some v :: t => (i, e_c w v) :: e_al w (i + 1) t
theorem e_al_mem {w : eW} {q : Nat × Value} : ∀ {ls : eL} {i : Nat}, q ∈ e_al w i ls ↔ ∃ (j : Nat) (v : Value), ls[j]? = some (some v) ∧ q = (i + j, e_c w v)
  | [], i => by simp [e_al]
  | none :: t, i => by
    unfold e_al
    rw [e_al_mem (ls := t)]
    constructor
    · rintro ⟨j, v, h1, h2⟩; exact ⟨j + 1, v, by simpa using h1, by rw [h2]; congr 1; omega⟩
    · rintro ⟨j, v, h1, h2⟩
      cases j with
      | zero => simp at h1
      | succ j => exact ⟨j, v, by simpa using h1, by rw [h2]; congr 1; omega⟩
  | some u :: t, i => by
    unfold e_al
    rw [List.mem_cons, e_al_mem (ls := t)]
    constructor
    · rintro (h | ⟨j, v, h1, h2⟩)
      · exact ⟨0, u, rfl, by rw [h]; rfl⟩
      · exact ⟨j + 1, v, by simpa using h1, by rw [h2]; congr 1; omega⟩
    · rintro ⟨j, v, h1, h2⟩
      cases j with
      | zero => left; simp at h1; rw [h2, h1]; rfl
      | succ j => right; exact ⟨j, v, by simpa using h1, by rw [h2]; congr 1; omega⟩
def e_L (w : eW) (n : Nat) (L : Array Slot) (ls : eL) : Prop := ls.length = n ∧ lv_has L n (e_al w 0 ls)
theorem e_L.at {w : eW} {n : Nat} {L : Array Slot} {ls : eL} (h : e_L w n L ls) {i : Nat} {v : Value} (hi : ls[i]? = some (some v)) : L[i]? = some (.val (e_c w v)) :=
  h.2.2.2 (i, e_c w v) (e_al_mem.mpr ⟨i, v, hi, by simp⟩)
def e_cut (ls : eL) (i : Nat) : eL := match i with
  | 0 => ls
  | j + 1 => match ls[j]? with
    | some (some u) => if u.category = 2 then ls.set j none else ls
    | _ => ls
def e_st1 (ls : eL) (i : Nat) (v : Value) : eL := (e_cut ls i).set i (some v)
def e_st2 (ls : eL) (i : Nat) (v : Value) : eL := ((e_cut ls i).set (i + 1) none).set i (some v)
theorem e_cut_len (ls : eL) (i : Nat) : (e_cut ls i).length = ls.length := by
  unfold e_cut; split
  · rfl
  · split
    · split <;> simp
    · rfl
theorem e_cut_at {ls : eL} {i j : Nat} {v : Value} (h : (e_cut ls i)[j]? = some (some v)) : ls[j]? = some (some v) ∧ ¬ (j + 1 = i ∧ v.category = 2) := by
  cases i with
  | zero => exact ⟨h, by omega⟩
  | succ i =>
    simp only [e_cut] at h
    cases hu : ls[i]? with
    | none => rw [hu] at h; exact ⟨h, fun hh => by have : j = i := by omega
                                                   rw [this, hu] at h; cases h⟩
    | some o =>
      rw [hu] at h
      cases o with
      | none => exact ⟨h, fun hh => by have : j = i := by omega
                                       rw [this, hu] at h; cases h⟩
      | some u =>
        simp only at h
        by_cases hc : u.category = 2
        · rw [if_pos hc] at h
          rw [List.getElem?_set] at h
          by_cases e : i = j
          · rw [if_pos e] at h; split at h <;> cases h
          · rw [if_neg e] at h; exact ⟨h, fun hh => e (by omega)⟩
        · rw [if_neg hc] at h
          refine ⟨h, fun hh => ?_⟩
          have : j = i := by omega
          rw [this, hu] at h
          cases h
          exact hc hh.2
theorem e_L.st1 {w : eW} {n : Nat} {L : Array Slot} {ls : eL} (h : ls.length = n) {i : Nat} {v : Value} (hi : i < n) (hL : lv_has L n ((i, e_c w v) :: (e_al w 0 ls).filter (fun q => !(q.1 == i) && !(q.1 + 1 == i && q.2.category == 2)))) : e_L w n L (e_st1 ls i v) := by
  refine ⟨by unfold e_st1; rw [List.length_set, e_cut_len, h], hL.1, hL.2.1, fun q hq => hL.2.2 q ?_⟩
  obtain ⟨j, u, h1, rfl⟩ := e_al_mem.mp hq
  unfold e_st1 at h1
  rw [List.getElem?_set] at h1
  by_cases e : i = j
  · subst e
    rw [if_pos rfl] at h1
    split at h1
    · cases h1; simp
    · cases h1
  · rw [if_neg e] at h1
    obtain ⟨h2, h3⟩ := e_cut_at h1
    refine List.mem_cons_of_mem _ (List.mem_filter.mpr ⟨e_al_mem.mpr ⟨j, u, h2, rfl⟩, ?_⟩)
    simp only [Nat.zero_add, e_c_cat]
    have e' : ¬ j = i := fun h => e h.symm
    simp [e']
    exact Classical.not_and_iff_not_or_not.mp h3
theorem e_L.st2 {w : eW} {n : Nat} {L : Array Slot} {ls : eL} (h : ls.length = n) {i : Nat} {v : Value} (hi : i + 1 < n) (hL : lv_has L n ((i, e_c w v) :: (e_al w 0 ls).filter (fun q => !(q.1 == i) && (!(q.1 == i + 1) && !(q.1 + 1 == i && q.2.category == 2))))) : e_L w n L (e_st2 ls i v) := by
  refine ⟨by unfold e_st2; rw [List.length_set, List.length_set, e_cut_len, h], hL.1, hL.2.1, fun q hq => hL.2.2 q ?_⟩
  obtain ⟨j, u, h1, rfl⟩ := e_al_mem.mp hq
  unfold e_st2 at h1
  rw [List.getElem?_set] at h1
  by_cases e : i = j
  · subst e
    rw [if_pos rfl] at h1
    split at h1
    · cases h1; simp
    · cases h1
  · rw [if_neg e, List.getElem?_set] at h1
    by_cases e2 : i + 1 = j
    · rw [if_pos e2] at h1; split at h1 <;> cases h1
    · rw [if_neg e2] at h1
      obtain ⟨h2, h3⟩ := e_cut_at h1
      refine List.mem_cons_of_mem _ (List.mem_filter.mpr ⟨e_al_mem.mpr ⟨j, u, h2, rfl⟩, ?_⟩)
      simp only [Nat.zero_add, e_c_cat]
      have e' : ¬ j = i := fun h => e h.symm
      have e2' : ¬ j = i + 1 := fun h => e2 h.symm
      simp [e', e2']
      exact Classical.not_and_iff_not_or_not.mp h3
/-- fewer locals -/
theorem e_L.sub {w : eW} {n : Nat} {L : Array Slot} {ls ls' : eL} (h : e_L w n L ls) (hn : ls'.length = ls.length) (hs : ∀ (i : Nat) (v : Value), ls'[i]? = some (some v) → ls[i]? = some (some v)) : e_L w n L ls' :=
  ⟨hn.trans h.1, h.2.1, h.2.2.1, fun q hq => by
    obtain ⟨j, u, h1, rfl⟩ := e_al_mem.mp hq
    exact h.2.2.2 _ (e_al_mem.mpr ⟨j, u, hs j u h1, rfl⟩)⟩
/-- how a method ends: it returned (a value), or threw -/
abbrev eO : Type := Option Value ⊕ Nat
def e_o (w : eW) (o : eO) : Outcome := match o with
  | .inl v => .returned (v.map (e_c w))
  | .inr a => .threw (e_r w a)
def e_Q (w : eW) (h : eH) (Q : eO → eH → Prop) (below : List Frame) (s : State) (R : Room) : State → Prop := fun t =>
  ∃ (o : eO) (h' : eH) (Lc : List Loc) (k n : Nat), t.status = .running ∧ Ended t below (e_o w o) ∧ s.WarmedH t.vm ∧ s.sameButNew ({ t with vm := s.vm } : State) Lc k n ∧ (∀ q ∈ Lc, w_sz w ≤ q.base) ∧
    k + (170145 - h'.1) ≤ R.cells ∧ n + (8591047 - h'.2.1) ≤ R.slots ∧ e_R w h' t.heap ∧ e_x h h' ∧ Q o h'
/-- THE JUDGEMENT: from this frame of the method, over this heap, with room for d frames, it ends, and Q -/
def wp (w : eW) (d : Nat) (Y : eY) (pc : Nat) (ls : eL) (st : List Value) (h : eH) (Q : eO → eH → Prop) : Prop :=
  ∀ (p : Program) (l : Launch) (e : Env) (R : Room) (s : State) (m : MethodId) (args : Array Value) (below : List Frame) (meth : Method) (c : Code) (H : Heap) (locs : List Loc) (cells slots : Nat) (L : Array Slot),
    p.tables.exec = Jvm.exec → e.platform.stackTraces = false → e_F Y s m meth c → e_T w s → e_R w h H → e_L w Y.2.2.1 L ls → (∀ q ∈ locs, w_sz w ≤ q.base) →
    d ≤ R.frames → 40 * d + 60 ≤ R.locals → cells + (170145 - h.1) ≤ R.cells → slots + (8591047 - h.2.1) ≤ R.slots →
    W p l e R s m args below meth c H locs cells slots (e_Q w h Q below s R) (F0 m pc L (st.map (e_c w)))
theorem W_mono {p : Program} {l : Launch} {e : Env} {R : Room} {s : State} {m : MethodId} {args : Array Value} {below : List Frame} {meth : Method} {c : Code} {H : Heap} {locs : List Loc} {cells slots : Nat} {Q Q' : State → Prop} {g : JFrame} (hq : ∀ t, Q t → Q' t) (k : W p l e R s m args below meth c H locs cells slots Q g) : W p l e R s m args below meth c H locs cells slots Q' g := fun T hT X => by
  obtain ⟨t, a, b⟩ := k T hT X
  exact ⟨t, a, hq t b⟩
theorem e_Q.mono {w : eW} {h h1 : eH} {Q Q' : eO → eH → Prop} {below : List Frame} {s : State} {R : Room} (hx : e_x h h1) (hq : ∀ o h', e_x h1 h' → Q o h' → Q' o h') {t : State} (ht : e_Q w h1 Q below s R t) : e_Q w h Q' below s R t := by
  obtain ⟨o, h', Lc, k, n, a1, a2, a3, a4, a5, a6, a7, a8, a9, a10⟩ := ht
  exact ⟨o, h', Lc, k, n, a1, a2, a3, a4, a5, a6, a7, a8, hx.tr a9, hq o h' a9 a10⟩
/-- a weaker end -/
theorem wp.mono {w : eW} {d : Nat} {Y : eY} {pc : Nat} {ls : eL} {st : List Value} {h : eH} {Q Q' : eO → eH → Prop} (k : wp w d Y pc ls st h Q) (hq : ∀ o h', e_x h h' → Q o h' → Q' o h') : wp w d Y pc ls st h Q' := by
  intro p l e R s m args below meth c H locs cells slots L a1 a2 a3 a4 a5 a6 a7 a8 a9 a10 a11
  exact W_mono (fun t ht => ht.mono (e_x.rf h) hq) (k p l e R s m args below meth c H locs cells slots L a1 a2 a3 a4 a5 a6 a7 a8 a9 a10 a11)
/-- fewer locals, and more room -/
theorem wp.sub {w : eW} {d d' : Nat} {Y : eY} {pc : Nat} {ls ls' : eL} {st : List Value} {h : eH} {Q : eO → eH → Prop} (k : wp w d Y pc ls' st h Q) (hd : d ≤ d') (hn : ls'.length = ls.length) (hs : ∀ (i : Nat) (v : Value), ls'[i]? = some (some v) → ls[i]? = some (some v)) : wp w d' Y pc ls st h Q := by
  intro p l e R s m args below meth c H locs cells slots L a1 a2 a3 a4 a5 a6 a7 a8 a9 a10 a11
  exact k p l e R s m args below meth c H locs cells slots L a1 a2 a3 a4 a5 (a6.sub hn hs) a7 (by omega) (by omega) a10 a11
