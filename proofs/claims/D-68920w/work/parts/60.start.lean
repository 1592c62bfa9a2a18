/-! the start: the world -/
set_option maxRecDepth 100000
set_option maxHeartbeats 4000000
def e_sub : List Cond → List Cond → Bool
  | [], _ => true
  | _ :: _, [] => false
  | x :: xs, y :: ys => if x = y then e_sub xs ys else e_sub (x :: xs) ys
theorem e_sub_mem : ∀ (ys xs : List Cond), e_sub xs ys = true → ∀ c ∈ xs, c ∈ ys
  | [], [], _, c, hc => by cases hc
  | [], x :: xs, h, c, hc => by cases h
  | y :: ys, [], _, c, hc => by cases hc
  | y :: ys, x :: xs, h, c, hc => by
    unfold e_sub at h
    split at h
    · rename_i e
      rcases List.mem_cons.mp hc with hc | hc
      · rw [hc, e]; exact List.mem_cons_self
      · exact List.mem_cons_of_mem _ (e_sub_mem ys xs h c hc)
    · exact List.mem_cons_of_mem _ (e_sub_mem ys (x :: xs) h c hc)
def e_sv (q : String × Nat × String) : Term := .field (.string q.1 q.2.1) "java/lang/String" "value" "[B"
def e_els (t : Term) : Nat → List Int32 → List Cond
  | _, [] => []
  | j, b :: bs => .eq (.elem t (.int (Int32.ofNat j))) (.int b) :: e_els t (j + 1) bs
theorem e_els_mem (t : Term) : ∀ (bs : List Int32) (i j : Nat), j < bs.length → Cond.eq (.elem t (.int (Int32.ofNat (i + j)))) (.int (bs.getD j 0)) ∈ e_els t i bs
  | [], i, j, h => by cases h
  | b :: bs, i, 0, h => by simp [e_els]
  | b :: bs, i, j + 1, h => by
    have := e_els_mem t bs (i + 1) j (by simpa using h)
    rw [show i + 1 + j = i + (j + 1) by omega] at this
    simp only [List.getD_cons_succ]
    exact List.mem_cons_of_mem _ this
def e_blk (q : String × Nat × String) (n : Nat) (bs : List Int32) : List Cond := .exactly (.string q.1 q.2.1) "java/lang/String" :: .eq (.field (.string q.1 q.2.1) "java/lang/String" "coder" "B") (.int 0) :: .arrayOf (e_sv q) .byte :: .eq (.length (e_sv q)) (.int (Int32.ofNat n)) :: e_els (e_sv q) 0 bs
def e_bk (k : Nat) : List Cond := match e_sO[k]? with
  | some q => e_blk q (e_sL.getD k 0) (e_sT.getD k [])
  | none => []
def e_need : List Cond := [.eq (.static "java/lang/String" "COMPACT_STRINGS" "Z") (.int 1), .isRef (.static "jdk/internal/util/Preconditions" "SIOOBE_FORMATTER" "Ljava/util/function/BiFunction;"), .isRef (.static "java/lang/Throwable" "UNASSIGNED_STACK" "[Ljava/lang/StackTraceElement;"), .isRef (.static "java/lang/Throwable" "SUPPRESSED_SENTINEL" "Ljava/util/List;"), .arrayOf (.static "TypeHouse$Breaker" "LEAST" "[I") .int, .eq (.length (.static "TypeHouse$Breaker" "LEAST" "[I")) (.int (Int32.ofNat 10))] ++ e_els (.static "TypeHouse$Breaker" "LEAST" "[I") 0 e_LEAST ++ [.arrayOf (.static "TypeHouse$Breaker" "MOST" "[I") .int, .eq (.length (.static "TypeHouse$Breaker" "MOST" "[I")) (.int (Int32.ofNat 10))] ++ e_els (.static "TypeHouse$Breaker" "MOST" "[I") 0 e_MOST
def e_ord : List Nat := [0, 1, 2, 3, 4, 5, 6, 7, 8, 9, 10, 11, 12, 13, 14, 15, 16, 17, 18, 19, 20, 21, 22, 23, 24, 25, 26, 27, 28, 29, 30, 31, 32, 33, 34, 35, 36, 37, 38, 39, 40, 41, 42, 43]
theorem e_need_ok : e_sub (e_need ++ e_ord.flatMap e_bk) (flatC (Jvm.Cond.and given_1 narrow_1)) = true := by decide +kernel
theorem e_ord_ok : ∀ k, k < 44 → k ∈ e_ord := by decide
theorem e_cli : ∀ (c : Nat) (q : vw_C), e_cl[c]? = some q → Cond.instantiable q.1 q.2.2 ∈ lw_tbl
  | 0, q, h => by cases h; exact (lw_at lw_m1 60 rfl)
  | 1, q, h => by cases h; exact (lw_at lw_m1 69 rfl)
  | 2, q, h => by cases h; exact (lw_at lw_m1 84 rfl)
  | 3, q, h => by cases h; exact (lw_at lw_m1 90 rfl)
  | 4, q, h => by cases h; exact (lw_at lw_m1 102 rfl)
  | 5, q, h => by cases h; exact (lw_at lw_m1 111 rfl)
  | 6, q, h => by cases h; exact (lw_at lw_m1 190 rfl)
  | 7, q, h => by cases h; exact (lw_at lw_m1 214 rfl)
  | 8, q, h => by cases h; exact (lw_at lw_m1 220 rfl)
  | 9, q, h => by cases h; exact (lw_at lw_m2 30 rfl)
  | 10, q, h => by cases h; exact (lw_at lw_m2 66 rfl)
  | 11, q, h => by cases h; exact (lw_at lw_m2 107 rfl)
  | 12, q, h => by cases h; exact (lw_at lw_m2 147 rfl)
  | 13, q, h => by cases h; exact (lw_at lw_m3 26 rfl)
  | 14, q, h => by cases h; exact (lw_at lw_m3 32 rfl)
  | 15, q, h => by cases h; exact (lw_at lw_m3 131 rfl)
  | 16, q, h => by cases h; exact (lw_at lw_m3 178 rfl)
  | 17, q, h => by cases h; exact (lw_at lw_m3 227 rfl)
  | 18, q, h => by cases h; exact (lw_at lw_m4 13 rfl)
  | 19, q, h => by cases h; exact (lw_at lw_m4 50 rfl)
  | 20, q, h => by cases h; exact (lw_at lw_m4 87 rfl)
  | 21, q, h => by cases h; exact (lw_at lw_m4 93 rfl)
  | 22, q, h => by cases h; exact (lw_at lw_m4 133 rfl)
  | 23, q, h => by cases h; exact (lw_at lw_m4 185 rfl)
  | 24, q, h => by cases h; exact (lw_at lw_m4 191 rfl)
  | 25, q, h => by cases h; exact (lw_at lw_m4 233 rfl)
  | 26, q, h => by cases h; exact (lw_at lw_m5 101 rfl)
  | 27, q, h => by cases h; exact (lw_at lw_m5 143 rfl)
  | 28, q, h => by cases h; exact (lw_at lw_m5 149 rfl)
  | 29, q, h => by cases h; exact (lw_at lw_m5 173 rfl)
  | 30, q, h => by cases h; exact (lw_at lw_m6 34 rfl)
  | 31, q, h => by cases h; exact (lw_at lw_m6 40 rfl)
  | 32, q, h => by cases h; exact (lw_at lw_m6 56 rfl)
  | 33, q, h => by cases h; exact (lw_at lw_m6 149 rfl)
  | 34, q, h => by cases h; exact (lw_at lw_m16 89 rfl)
  | 35, q, h => by cases h; exact (lw_at lw_m16 99 rfl)
  | 36, q, h => by cases h; exact (lw_at lw_m16 196 rfl)
  | 37, q, h => by cases h; exact (lw_at lw_m17 118 rfl)
  | 38, q, h => by cases h; exact (lw_at lw_m7 231 rfl)
  | 39, q, h => by cases h; exact (lw_at lw_m8 69 rfl)
  | 40, q, h => by cases h; exact (lw_at lw_m16 56 rfl)
  | 41, q, h => by cases h; exact (lw_at lw_m10 55 rfl)
  | 42, q, h => by cases h; exact (lw_at lw_m19 226 rfl)
  | c + 43, q, h => by simp [e_cl] at h
theorem e_xli : ∀ c, 50 ≤ c → c < 53 → Cond.instantiable (e_xn c) 6 ∈ lw_tbl := by
  intro c h1 h2
  rcases (by omega : c = 50 ∨ c = 51 ∨ c = 52) with e | e | e <;> subst e
  · exact (lw_at lw_m8 69 rfl)
  · exact (lw_at lw_m7 231 rfl)
  · exact (lw_at lw_m16 56 rfl)
theorem e_arr0 {s : State} {args : Array Value} (hts : ∀ w ∈ lw_tbl, w.before args s = true) : ∀ k, 100 ≤ k → k < 108 → ∃ cA : ClassId, ArrOfT s cA (e_ty k) ∧ va_RA s cA (e_ty k) := by
  intro k h1 h2
  rcases (by omega : k = 100 ∨ k = 101 ∨ k = 102 ∨ k = 103 ∨ k = 104 ∨ k = 105 ∨ k = 106 ∨ k = 107) with e | e | e | e | e | e | e | e <;> subst e
  · obtain ⟨c, kA, comp, q1, q2, q3⟩ := Cond.arrayClass_spec (args := args) (first := s) (o := none) (idx := []) (hts (.arrayClass .int) (lw_at lw_m1 157 rfl))
    exact ⟨c, fun n z => ⟨(fun _ h => by cases h), kA, q2, comp, q3⟩, q1⟩
  · obtain ⟨c, kA, comp, q1, q2, q3⟩ := Cond.arrayClass_spec (args := args) (first := s) (o := none) (idx := []) (hts (.arrayClass .long) (lw_at lw_m3 176 rfl))
    exact ⟨c, fun n z => ⟨(fun _ h => by cases h), kA, q2, comp, q3⟩, q1⟩
  · obtain ⟨c, kA, comp, q1, q2, q3⟩ := Cond.arrayClass_spec (args := args) (first := s) (o := none) (idx := []) (hts (.arrayClass .byte) (lw_at lw_m1 82 rfl))
    exact ⟨c, fun n z => ⟨(fun _ h => by cases h), kA, q2, comp, q3⟩, q1⟩
  · obtain ⟨c, kA, comp, q1, q2, q3⟩ := Cond.arrayClass_spec (args := args) (first := s) (o := none) (idx := []) (hts (.arrayClass .boolean) (lw_at lw_m1 158 rfl))
    exact ⟨c, fun n z => ⟨(fun _ h => by cases h), kA, q2, comp, q3⟩, q1⟩
  · obtain ⟨comp, c, kA, q1, -, q2, q3, q4⟩ := Cond.arrayOver_spec (args := args) (first := s) (o := none) (idx := []) (hts (.arrayOver (.object "TypeHouse$Box")) (lw_at lw_m1 212 rfl))
    exact ⟨c, fun n z => ⟨(fun _ h => by cases h), kA, q2, comp, q3⟩, kA, comp, q2, q3, q1, q4⟩
  · obtain ⟨comp, c, kA, q1, -, q2, q3, q4⟩ := Cond.arrayOver_spec (args := args) (first := s) (o := none) (idx := []) (hts (.arrayOver (.object "TypeHouse$Font")) (lw_at lw_m1 110 rfl))
    exact ⟨c, fun n z => ⟨(fun _ h => by cases h), kA, q2, comp, q3⟩, kA, comp, q2, q3, q1, q4⟩
  · obtain ⟨comp, c, kA, q1, -, q2, q3, q4⟩ := Cond.arrayOver_spec (args := args) (first := s) (o := none) (idx := []) (hts (.arrayOver (.object "TypeHouse$FontFile")) (lw_at lw_m1 108 rfl))
    exact ⟨c, fun n z => ⟨(fun _ h => by cases h), kA, q2, comp, q3⟩, kA, comp, q2, q3, q1, q4⟩
  · obtain ⟨comp, c, kA, q1, -, q2, q3, q4⟩ := Cond.arrayOver_spec (args := args) (first := s) (o := none) (idx := []) (hts (.arrayOver (.object "TypeHouseModel$Metrics")) (lw_at lw_m16 97 rfl))
    exact ⟨c, fun n z => ⟨(fun _ h => by cases h), kA, q2, comp, q3⟩, kA, comp, q2, q3, q1, q4⟩
theorem e_rd_any {x : Cond} (hx : e_rd x = true) {s : State} {B : Array Value} (h : x.before B s = true) : x.before #[] s = true := by
  unfold e_rd at hx
  rw [Bool.or_eq_true] at hx
  rcases hx with hx | hx
  · exact word_at (State.WarmedH.refl s) (good_of_word hx) h
  · cases x with
    | fieldLinkNest a i b n d k => exact va_Nw.of rfl h
    | methodLinkNest a i b k => exact va_Nw.of rfl h
    | castable a b => exact va_Nw.of rfl h
    | declares y => exact va_Nw.of rfl h
    | arrayOver ty =>
      cases ty with
      | object C => exact va_AO.use (va_AO.of h)
      | _ => cases hx
    | _ => cases hx
/-- a string constant at the start -/
theorem e_str0 {s : State} {args : Array Value} (hs : ∀ c ∈ flatC (Jvm.Cond.and given_1 narrow_1), c.before args s = true) {A : Nat → Prop} (hA : ∀ a : Nat, a < s.heap.size → ¬ A a) {k : Nat} (hk : k < 44) :
    ∃ x : Nat × Nat, ∀ q, e_sO[k]? = some q → (Term.string q.1 q.2.1).eval args s none [] s = some (.ref x.1) ∧ va_O "java/lang/String" x.1 A s s.heap ∧ va_OF "java/lang/String" "coder" "B" (.int 0) x.1 A s s.heap ∧ va_OF "java/lang/String" "value" "[B" (.ref x.2) x.1 A s s.heap ∧ va_T .byte x.2 (e_sL.getD k 0) (fun j => .int ((e_sT.getD k []).getD j 0)) A s s.heap := by
  cases hq : e_sO[k]? with
  | none => exact ⟨(0, 0), fun q h => by cases h⟩
  | some q =>
    have hall : ∀ c ∈ e_blk q (e_sL.getD k 0) (e_sT.getD k []), c.before args s = true := fun c hc => hs c (e_sub_mem _ _ e_need_ok c (List.mem_append_right _ (List.mem_flatMap.mpr ⟨k, e_ord_ok k hk, by unfold e_bk; rw [hq]; exact hc⟩)))
    have hlen : (e_sT.getD k []).length = e_sL.getD k 0 := by
      have h1 := e_s_len.2.2
      rw [← h1]
      simp only [List.getD_eq_getElem?_getD, List.getElem?_map]
      cases e_sT[k]? <;> rfl
    obtain ⟨adK, adV, hS, hev⟩ := vk_Sof (args := args) (s := s) (N := 1) (tm := fun _ => .string q.1 q.2.1) (len := [e_sL.getD k 0]) (byt := [e_sT.getD k []]) (A := A)
      (fun i hi => by rw [show i = 0 by omega]; exact e_s_small k hk)
      (fun i hi => hall _ (by simp [e_blk]))
      (fun i hi => hall _ (by simp [e_blk]))
      (fun i hi => hall _ (by simp [e_blk, e_sv]))
      (fun i hi => by rw [show i = 0 by omega]; exact hall _ (by simp [e_blk, e_sv]))
      (fun i hi j hj => by
        rw [show i = 0 by omega] at hj ⊢
        have hm := e_els_mem (e_sv q) (e_sT.getD k []) 0 j (by rw [hlen]; exact hj)
        rw [Nat.zero_add] at hm
        exact hall _ (by unfold e_blk; exact List.mem_cons_of_mem _ (List.mem_cons_of_mem _ (List.mem_cons_of_mem _ (List.mem_cons_of_mem _ hm)))))
      (fun i j hi hj hne => absurd (by omega : i = j) hne) hA
    refine ⟨(adK 0, adV 0), fun q' hq' => ?_⟩
    cases hq'
    exact ⟨hev 0 (by omega), hS.1 0 (by omega)⟩
theorem e_sw : ∀ (k : Nat) (q : String × Nat × String), e_sO[k]? = some q → Cond.stringRef q.1 q.2.1 q.2.2 ∈ lw_tbl
  | 0, q, h => by cases h; exact (lw_at lw_m7 75 rfl)
  | 1, q, h => by cases h; exact (lw_at lw_m10 73 rfl)
  | 2, q, h => by cases h; exact (lw_at lw_m10 157 rfl)
  | 3, q, h => by cases h; exact (lw_at lw_m10 166 rfl)
  | 4, q, h => by cases h; exact (lw_at lw_m10 168 rfl)
  | 5, q, h => by cases h; exact (lw_at lw_m10 170 rfl)
  | 6, q, h => by cases h; exact (lw_at lw_m10 172 rfl)
  | 7, q, h => by cases h; exact (lw_at lw_m10 174 rfl)
  | 8, q, h => by cases h; exact (lw_at lw_m10 176 rfl)
  | 9, q, h => by cases h; exact (lw_at lw_m10 177 rfl)
  | 10, q, h => by cases h; exact (lw_at lw_m10 186 rfl)
  | 11, q, h => by cases h; exact (lw_at lw_m15 141 rfl)
  | 12, q, h => by cases h; exact (lw_at lw_m15 167 rfl)
  | 13, q, h => by cases h; exact (lw_at lw_m15 182 rfl)
  | 14, q, h => by cases h; exact (lw_at lw_m15 191 rfl)
  | 15, q, h => by cases h; exact (lw_at lw_m15 192 rfl)
  | 16, q, h => by cases h; exact (lw_at lw_m15 194 rfl)
  | 17, q, h => by cases h; exact (lw_at lw_m15 211 rfl)
  | 18, q, h => by cases h; exact (lw_at lw_m15 212 rfl)
  | 19, q, h => by cases h; exact (lw_at lw_m16 27 rfl)
  | 20, q, h => by cases h; exact (lw_at lw_m16 28 rfl)
  | 21, q, h => by cases h; exact (lw_at lw_m16 29 rfl)
  | 22, q, h => by cases h; exact (lw_at lw_m17 225 rfl)
  | 23, q, h => by cases h; exact (lw_at lw_m17 236 rfl)
  | 24, q, h => by cases h; exact (lw_at lw_m21 121 rfl)
  | 25, q, h => by cases h; exact (lw_at lw_m21 130 rfl)
  | 26, q, h => by cases h; exact (lw_at lw_m21 151 rfl)
  | 27, q, h => by cases h; exact (lw_at lw_m21 152 rfl)
  | 28, q, h => by cases h; exact (lw_at lw_m21 153 rfl)
  | 29, q, h => by cases h; exact (lw_at lw_m21 154 rfl)
  | 30, q, h => by cases h; exact (lw_at lw_m21 155 rfl)
  | 31, q, h => by cases h; exact (lw_at lw_m21 156 rfl)
  | 32, q, h => by cases h; exact (lw_at lw_m21 157 rfl)
  | 33, q, h => by cases h; exact (lw_at lw_m21 158 rfl)
  | 34, q, h => by cases h; exact (lw_at lw_m21 159 rfl)
  | 35, q, h => by cases h; exact (lw_at lw_m24 1 rfl)
  | 36, q, h => by cases h; exact (lw_at lw_m24 19 rfl)
  | 37, q, h => by cases h; exact (lw_at lw_m24 28 rfl)
  | 38, q, h => by cases h; exact (lw_at lw_m24 29 rfl)
  | 39, q, h => by cases h; exact (lw_at lw_m24 50 rfl)
  | 40, q, h => by cases h; exact (lw_at lw_m24 51 rfl)
  | 41, q, h => by cases h; exact (lw_at lw_m24 80 rfl)
  | 42, q, h => by cases h; exact (lw_at lw_m24 81 rfl)
  | 43, q, h => by cases h; exact (lw_at lw_m24 82 rfl)
  | k + 44, q, h => by have := (List.getElem?_eq_some_iff.mp h).1; rw [e_s_len.1] at this; omega
theorem e_start {p : Program} {s : State} {m : MethodId} {meth : Method} {c : Code} {b L : Nat} {xs : Nat → Int32} (hts : ∀ w ∈ lw_tbl, w.before #[Value.ref b] s = true) (hX : va_X b L xs s s.heap) (hb : b < s.heap.size) (hL : L ≤ 384) (hgv : (Jvm.Cond.and given_1 narrow_1).before #[Value.ref b] s = true) :
    ∃ w : eW, e_T w s ∧ w_sz w = s.heap.size ∧ w_H0 w = s.heap ∧ w_old w 0 = b ∧ w_oc w 0 = (.int, L, fun j => .int (xs j)) := by
  have hs := flat_of_before _ hgv
  have hn : ∀ c ∈ e_need, c.before #[Value.ref b] s = true := fun c hc => hs c (e_sub_mem _ _ e_need_ok c (List.mem_append_left _ hc))
  have hA : ∀ a : Nat, a < s.heap.size → ¬ (s.heap.size ≤ a) := fun a h1 h2 => by omega
  -- classes
  have hcl : ∀ c : Nat, ∃ x : ClassId × (Nat → Nat), (∀ q, e_cl[c]? = some q → u_Kn s q.1 q.2.1 q.2.2 x.1 x.2) ∧ (50 ≤ c → c < 53 → s.vm.findClass (e_xn c) = some x.1) := by
    intro c
    by_cases h5 : 50 ≤ c ∧ c < 53
    · obtain ⟨c1, kX, hc1, -⟩ := Cond.instantiable_spec (hts _ (e_xli c h5.1 h5.2))
      refine ⟨(c1, fun _ => 0), fun q hq => ?_, fun _ _ => hc1⟩
      have := (List.getElem?_eq_some_iff.mp hq).1
      have h6 : e_cl.length = 43 := rfl
      omega
    · cases hq : e_cl[c]? with
      | none => exact ⟨(0, fun _ => 0), fun q h => (by cases h), fun h1 h2 => absurd ⟨h1, h2⟩ h5⟩
      | some q =>
        obtain ⟨cC, iS, hK⟩ := u_known (C := q.1) (T := q.2.1) (N := q.2.2) (n := q.2.2) hts (fun x hx => lw_all_tbl ((e_clf c q hq).1 x hx)) (hts _ (e_cli c q hq))
        exact ⟨(cC, iS), fun q' h => by cases h; exact hK, fun h1 h2 => absurd ⟨h1, h2⟩ h5⟩
  obtain ⟨dK, hdK⟩ := Classical.axiomOfChoice hcl
  have har : ∀ k : Nat, ∃ cA : ClassId, 100 ≤ k → k < 108 → ArrOfT s cA (e_ty k) ∧ va_RA s cA (e_ty k) := by
    intro k
    by_cases h5 : 100 ≤ k ∧ k < 108
    · obtain ⟨cA, h⟩ := e_arr0 hts k h5.1 h5.2
      exact ⟨cA, fun _ _ => h⟩
    · exact ⟨0, fun h1 h2 => absurd ⟨h1, h2⟩ h5⟩
  obtain ⟨dA, hdA⟩ := Classical.axiomOfChoice har
  have hst : ∀ k : Nat, ∃ x : Nat × Nat, k < 44 → ∀ q, e_sO[k]? = some q → (Term.string q.1 q.2.1).eval #[Value.ref b] s none [] s = some (.ref x.1) ∧ va_O "java/lang/String" x.1 (fun a => s.heap.size ≤ a) s s.heap ∧ va_OF "java/lang/String" "coder" "B" (.int 0) x.1 (fun a => s.heap.size ≤ a) s s.heap ∧ va_OF "java/lang/String" "value" "[B" (.ref x.2) x.1 (fun a => s.heap.size ≤ a) s s.heap ∧ va_T .byte x.2 (e_sL.getD k 0) (fun j => .int ((e_sT.getD k []).getD j 0)) (fun a => s.heap.size ≤ a) s s.heap := by
    intro k
    by_cases h5 : k < 44
    · obtain ⟨x, h⟩ := e_str0 hs hA h5
      exact ⟨x, fun _ => h⟩
    · exact ⟨(0, 0), fun h => absurd h h5⟩
  obtain ⟨ad, had⟩ := Classical.axiomOfChoice hst
  obtain ⟨tL, evL, hTL⟩ := va_Tof (args := #[Value.ref b]) (s := s) (tm := (.static "TypeHouse$Breaker" "LEAST" "[I")) (ty := .int) (N := 10) (f := fun j => .int (e_LEAST.getD j 0)) (A := fun a => s.heap.size ≤ a) (by omega) (hn _ (by simp [e_need])) (va_eqt (hn _ (by simp [e_need]))) (fun j hj => va_eqt (hn _ (by
    have hm := e_els_mem (.static "TypeHouse$Breaker" "LEAST" "[I") e_LEAST 0 j hj
    rw [Nat.zero_add] at hm
    unfold e_need; simp only [List.mem_append]; exact Or.inl (Or.inl (Or.inr hm))))) hA
  obtain ⟨tM, evM, hTM⟩ := va_Tof (args := #[Value.ref b]) (s := s) (tm := (.static "TypeHouse$Breaker" "MOST" "[I")) (ty := .int) (N := 10) (f := fun j => .int (e_MOST.getD j 0)) (A := fun a => s.heap.size ≤ a) (by omega) (hn _ (by simp [e_need])) (va_eqt (hn _ (by simp [e_need]))) (fun j hj => va_eqt (hn _ (by
    have hm := e_els_mem (.static "TypeHouse$Breaker" "MOST" "[I") e_MOST 0 j hj
    rw [Nat.zero_add] at hm
    unfold e_need; simp only [List.mem_append]; exact Or.inr hm))) hA
  have zC := va_Zof (A := fun a => s.heap.size ≤ a) (hts _ (lw_at lw_m7 93 rfl)) (hts _ (lw_at lw_m1 37 rfl)) (va_eqt (hn (.eq (.static "java/lang/String" "COMPACT_STRINGS" "Z") (.int 1)) (by simp [e_need]))) hA
  have zL := va_Zof (A := fun a => s.heap.size ≤ a) (hts _ (lw_at lw_m14 138 rfl)) (hts _ (lw_at lw_m1 22 rfl)) evL hA
  have zM := va_Zof (A := fun a => s.heap.size ≤ a) (hts _ (lw_at lw_m14 140 rfl)) (hts _ (lw_at lw_m1 22 rfl)) evM hA
  have zS := va_Zqof (A := fun a => s.heap.size ≤ a) (hts (.laysStatic "jdk/internal/util/Preconditions" "SIOOBE_FORMATTER" "Ljava/util/function/BiFunction;") (lw_at lw_m7 109 rfl)) (hts _ (lw_at lw_m1 39 rfl)) (hn _ (by simp [e_need])) hA
  have zU := va_Zqof (A := fun a => s.heap.size ≤ a) (hts (.laysStatic "java/lang/Throwable" "UNASSIGNED_STACK" "[Ljava/lang/StackTraceElement;") (lw_at lw_m8 17 rfl)) (hts _ (lw_at lw_m1 45 rfl)) (hn _ (by simp [e_need])) hA
  have zP := va_Zqof (A := fun a => s.heap.size ≤ a) (hts (.laysStatic "java/lang/Throwable" "SUPPRESSED_SENTINEL" "Ljava/util/List;") (lw_at lw_m8 19 rfl)) (hts _ (lw_at lw_m1 45 rfl)) (hn _ (by simp [e_need])) hA
  have hpv : ∀ (C n d : String) (j : Nat), va_Zq C n d (fun a => s.heap.size ≤ a) s s.heap → ∃ x : Value × Nat, (x.1 = .null ∨ x.1 = .ref (1000000090 + j)) ∧ va_Z C n d (match x.1 with | .ref _ => .ref x.2 | v => v) (fun a => s.heap.size ≤ a) s s.heap := by
    intro C n d j h
    rcases h with h | ⟨t, h⟩
    · exact ⟨(.null, 0), Or.inl rfl, h⟩
    · exact ⟨(.ref (1000000090 + j), t), Or.inr rfl, h⟩
  obtain ⟨⟨v0, t0⟩, hv0, hz0⟩ := hpv _ _ _ 0 zS
  obtain ⟨⟨v1, t1⟩, hv1, hz1⟩ := hpv _ _ _ 1 zP
  obtain ⟨⟨v2, t2⟩, hv2, hz2⟩ := hpv _ _ _ 2 zU
  let old : Nat → Nat := fun k => if k = 0 then b else if k = 1 then tL else if k = 2 then tM else if k = 90 then t0 else if k = 91 then t1 else if k = 92 then t2 else if k < 200 then (ad (k - 100)).1 else (ad (k - 200)).2
  let pv : Nat → Value := fun k => if k = 0 then v0 else if k = 1 then v1 else if k = 2 then v2 else .null
  let oc : Nat → FieldType × Nat × (Nat → Value) := fun k => if k = 0 then (.int, L, fun j => .int (xs j)) else if k = 1 then (.int, 10, fun j => .int (e_LEAST.getD j 0)) else (.int, 10, fun j => .int (e_MOST.getD j 0))
  let w : eW := (fun c => (dK c).1, fun c => (dK c).2, dA, s.heap.size, old, s.heap, oc, pv)
  have ho : ∀ k, w_old w k = old k := fun _ => rfl
  have hold1 : ∀ k, k < 44 → old (100 + k) = (ad k).1 := fun k hk => by
    show (if 100 + k = 0 then b else if 100 + k = 1 then tL else if 100 + k = 2 then tM else if 100 + k = 90 then t0 else if 100 + k = 91 then t1 else if 100 + k = 92 then t2 else if 100 + k < 200 then (ad (100 + k - 100)).1 else (ad (100 + k - 200)).2) = _
    rw [if_neg (by omega), if_neg (by omega), if_neg (by omega), if_neg (by omega), if_neg (by omega), if_neg (by omega), if_pos (by omega), Nat.add_sub_cancel_left]
  have hold2 : ∀ k, k < 44 → old (200 + k) = (ad k).2 := fun k hk => by
    show (if 200 + k = 0 then b else if 200 + k = 1 then tL else if 200 + k = 2 then tM else if 200 + k = 90 then t0 else if 200 + k = 91 then t1 else if 200 + k = 92 then t2 else if 200 + k < 200 then (ad (200 + k - 100)).1 else (ad (200 + k - 200)).2) = _
    rw [if_neg (by omega), if_neg (by omega), if_neg (by omega), if_neg (by omega), if_neg (by omega), if_neg (by omega), if_neg (by omega), Nat.add_sub_cancel_left]
  have hkq : ∀ k, k < 44 → ∃ q, e_sO[k]? = some q := fun k hk => ⟨_, List.getElem?_eq_getElem (by rw [e_s_len.1]; exact hk)⟩
  have hrv : ∀ (v : Value) (j t : Nat), (v = .null ∨ v = .ref (1000000090 + j)) → w_old w (90 + j) = t → e_c w v = (match v with | .ref _ => .ref t | v => v) := by
    intro v j t hv ht
    rcases hv with e | e <;> subst e
    · rfl
    · show Value.ref (e_r w (1000000090 + j)) = .ref t
      rw [e_r_old (k := 90 + j) (by omega) (by omega), ht]
  refine ⟨w, ⟨fun x hx hr => e_rd_any hr (hts x hx), fun c q hq => (hdK c).1 q hq, fun k h1 h2 => hdA k h1 h2, ?_, ?_, ?_, ?_, ⟨?_, rfl, rfl⟩, fun q _ => rfl, ?_, fun c h1 h2 => (hdK c).2 h1 h2⟩, rfl, rfl, rfl, rfl⟩
  · intro k hk
    rcases (by omega : k = 0 ∨ k = 1 ∨ k = 2) with e | e | e <;> subst e
    · obtain ⟨scr, x1, x2, x3, x4, x5⟩ := hX
      refine ⟨hb, ?_, scr, x1, x2, x3, ?_, ?_, fun j hj => x5 j hj⟩
      · show L < _; omega
      · rw [x4]; rfl
      · show L ≤ _; omega
    · obtain ⟨cell, x1, x2, x3, x4, x5, x6, x7⟩ := hTL
      refine ⟨Nat.not_le.mp x7, by show 10 < 2147483648; omega, cell, x1, x2, x3, x5, x4, fun j hj => x6 j hj⟩
    · obtain ⟨cell, x1, x2, x3, x4, x5, x6, x7⟩ := hTM
      refine ⟨Nat.not_le.mp x7, by show 10 < 2147483648; omega, cell, x1, x2, x3, x5, x4, fun j hj => x6 j hj⟩
  · intro k hk
    obtain ⟨q, hq⟩ := hkq k hk
    rw [ho, ho, hold1 k hk, hold2 k hk]
    exact (had k hk q hq).2
  · intro k hk q hq
    rw [ho, hold1 k hk]
    have hw : Cond.stringRef q.1 q.2.1 q.2.2 ∈ lw_tbl := e_sw k q hq
    have h1 := hts _ hw
    exact ⟨h1, (had k hk q hq).1⟩
  · intro q hq
    unfold e_sts at hq
    simp only [List.mem_cons, List.not_mem_nil, or_false] at hq
    rcases hq with e | e | e | e | e | e <;> subst e
    · exact zC
    · show va_Z _ _ _ (e_c w (.ref 1000000001)) _ _ _
      rw [show e_c w (.ref 1000000001) = .ref tL from by show Value.ref (e_r w 1000000001) = _; rw [e_r_old (k := 1) (by omega) (by omega)]; rfl]
      exact zL
    · show va_Z _ _ _ (e_c w (.ref 1000000002)) _ _ _
      rw [show e_c w (.ref 1000000002) = .ref tM from by show Value.ref (e_r w 1000000002) = _; rw [e_r_old (k := 2) (by omega) (by omega)]; rfl]
      exact zM
    · show va_Z _ _ _ (e_c w v0) _ _ _
      rw [hrv v0 0 t0 hv0 rfl]; exact hz0
    · show va_Z _ _ _ (e_c w v1) _ _ _
      rw [hrv v1 1 t1 hv1 rfl]; exact hz1
    · show va_Z _ _ _ (e_c w v2) _ _ _
      rw [hrv v2 2 t2 hv2 rfl]; exact hz2
  · intro k
    have hv : ∀ (v : Value) (j : Nat), (v = .null ∨ v = .ref (1000000090 + j)) → (v = .null ∨ ∃ b, v = .ref b) := fun v j h => h.elim Or.inl (fun e => Or.inr ⟨_, e⟩)
    show pv k = .null ∨ ∃ b, pv k = .ref b
    by_cases e0 : k = 0
    · have : pv k = v0 := if_pos e0
      rw [this]; exact hv v0 0 hv0
    · by_cases e1 : k = 1
      · have : pv k = v1 := by show (if k = 0 then v0 else if k = 1 then v1 else if k = 2 then v2 else .null) = _; rw [if_neg e0, if_pos e1]
        rw [this]; exact hv v1 1 hv1
      · by_cases e2 : k = 2
        · have : pv k = v2 := by show (if k = 0 then v0 else if k = 1 then v1 else if k = 2 then v2 else .null) = _; rw [if_neg e0, if_neg e1, if_pos e2]
          rw [this]; exact hv v2 2 hv2
        · left; show (if k = 0 then v0 else if k = 1 then v1 else if k = 2 then v2 else .null) = _; rw [if_neg e0, if_neg e1, if_neg e2]
  · intro q hq
    unfold e_lst at hq
    simp only [List.mem_cons, List.not_mem_nil, or_false] at hq
    rcases hq with e | e <;> subst e
    · obtain ⟨c', k, i, f, a, cell, y1, y2, y3, y4, y5, y6, y7, y8, y9⟩ := Cond.laysStatic_spec (args := #[Value.ref b]) (first := s) (o := none) (idx := []) (hts (.laysStatic "java/lang/Throwable" "UNASSIGNED_STACK" "[Ljava/lang/StackTraceElement;") (lw_at lw_m8 17 rfl))
      exact ⟨c', k, i, f, a, cell, y1, y2, y3, y4, y5, y6, y7, y8, y9, (Array.getElem?_eq_some_iff.mp y5).1⟩
    · obtain ⟨c', k, i, f, a, cell, y1, y2, y3, y4, y5, y6, y7, y8, y9⟩ := Cond.laysStatic_spec (args := #[Value.ref b]) (first := s) (o := none) (idx := []) (hts (.laysStatic "java/lang/Throwable" "SUPPRESSED_SENTINEL" "Ljava/util/List;") (lw_at lw_m8 19 rfl))
      exact ⟨c', k, i, f, a, cell, y1, y2, y3, y4, y5, y6, y7, y8, y9, (Array.getElem?_eq_some_iff.mp y5).1⟩
