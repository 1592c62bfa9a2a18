/-! Math, System.arraycopy -/
def m_maxI (x y : Int32) : Int32 := if x < y then y else x
def m_minI (x y : Int32) : Int32 := if y < x then y else x
def m_absI (x : Int32) : Int32 := if 0 ≤ x then x else 0 - x
def m_maxJ (x y : Int64) : Int64 := if y < x then x else y
def m_minJ (x y : Int64) : Int64 := if y < x then y else x
section
variable {w : eW} {d : Nat} {Y : eY} {pc : Nat} {ls : eL} {st : List Value} {h : eH} {Q : eO → eH → Prop}
theorem x_maxI {x y : Int32} {idx : Nat} (hd : decode Y.2.1 pc = .ok (.invokestatic idx, 3)) (h1 : Cond.methodLink Y.1.cls idx Lib.Math.max.name ∈ lw_all) (h2 : Cond.static Lib.Math.max.name ∈ lw_all) (h3 : Cond.initialized "java/lang/Math" ∈ lw_all) (h4 : Cond.code Lib.Math.max.name Lib.Math.max.code 2 (some .int) ∈ lw_all) (hw : st.length ≤ 20) (kk : wp w (d + 1) Y (pc + 3) ls (.int (m_maxI x y) :: st) h Q) : wp w (d + 1) Y pc ls (.int y :: .int x :: st) h Q := by
  intro p l e R s m args below meth c H locs cells slots L a1 a2 a3 a4 a5 a6 a7 a8 a9 a10 a11
  have hsum := e_sum w st
  exact va_mmax a1 a3.2.2.1 (by rw [a3.2.2.2.1]; exact a6.2.1.symm) a3.1 (a4.all _ h1) (a4.all _ h2) (a4.all _ h3) (a4.all _ h4) (by omega) (by omega) (by omega) (by omega) hd (kk p l e R s m args below meth c H locs cells slots L a1 a2 a3 a4 a5 a6 a7 a8 a9 a10 a11)
theorem x_minI {x y : Int32} {idx : Nat} (hd : decode Y.2.1 pc = .ok (.invokestatic idx, 3)) (h1 : Cond.methodLink Y.1.cls idx Lib.Math.min.name ∈ lw_all) (h2 : Cond.static Lib.Math.min.name ∈ lw_all) (h3 : Cond.initialized "java/lang/Math" ∈ lw_all) (h4 : Cond.code Lib.Math.min.name Lib.Math.min.code 2 (some .int) ∈ lw_all) (hw : st.length ≤ 20) (kk : wp w (d + 1) Y (pc + 3) ls (.int (m_minI x y) :: st) h Q) : wp w (d + 1) Y pc ls (.int y :: .int x :: st) h Q := by
  intro p l e R s m args below meth c H locs cells slots L a1 a2 a3 a4 a5 a6 a7 a8 a9 a10 a11
  have hsum := e_sum w st
  exact va_mmin a1 a3.2.2.1 (by rw [a3.2.2.2.1]; exact a6.2.1.symm) a3.1 (a4.all _ h1) (a4.all _ h2) (a4.all _ h3) (a4.all _ h4) (by omega) (by omega) (by omega) (by omega) hd (kk p l e R s m args below meth c H locs cells slots L a1 a2 a3 a4 a5 a6 a7 a8 a9 a10 a11)
theorem x_absI {x : Int32} {idx : Nat} (hd : decode Y.2.1 pc = .ok (.invokestatic idx, 3)) (h1 : Cond.methodLink Y.1.cls idx Lib.Math.abs.name ∈ lw_all) (h2 : Cond.static Lib.Math.abs.name ∈ lw_all) (h3 : Cond.initialized "java/lang/Math" ∈ lw_all) (h4 : Cond.code Lib.Math.abs.name Lib.Math.abs.code 1 (some .int) ∈ lw_all) (hw : st.length ≤ 20) (kk : wp w (d + 1) Y (pc + 3) ls (.int (m_absI x) :: st) h Q) : wp w (d + 1) Y pc ls (.int x :: st) h Q := by
  intro p l e R s m args below meth c H locs cells slots L a1 a2 a3 a4 a5 a6 a7 a8 a9 a10 a11
  have hsum := e_sum w st
  exact va_mabs a1 a3.2.2.1 (by rw [a3.2.2.2.1]; exact a6.2.1.symm) a3.1 (a4.all _ h1) (a4.all _ h2) (a4.all _ h3) (a4.all _ h4) (by omega) (by omega) (by omega) (by omega) hd (kk p l e R s m args below meth c H locs cells slots L a1 a2 a3 a4 a5 a6 a7 a8 a9 a10 a11)
theorem x_maxJ {x y : Int64} {idx : Nat} (hd : decode Y.2.1 pc = .ok (.invokestatic idx, 3)) (h1 : Cond.methodLink Y.1.cls idx Lib.MathLoose.max_long.x ∈ lw_all) (h2 : Cond.static Lib.MathLoose.max_long.x ∈ lw_all) (h3 : Cond.initialized "java/lang/Math" ∈ lw_all) (h4 : Cond.code Lib.MathLoose.max_long.x Lib.MathLoose.max_long.code 4 (some .long) ∈ lw_all) (hw : st.length ≤ 20) (kk : wp w (d + 1) Y (pc + 3) ls (.long (m_maxJ x y) :: st) h Q) : wp w (d + 1) Y pc ls (.long y :: .long x :: st) h Q := by
  intro p l e R s m args below meth c H locs cells slots L a1 a2 a3 a4 a5 a6 a7 a8 a9 a10 a11
  have hsum := e_sum w st
  exact va_mmax_long a1 a3.2.2.1 (by rw [a3.2.2.2.1]; exact a6.2.1.symm) a3.1 (a4.all _ h1) (a4.all _ h2) (a4.all _ h3) (a4.all _ h4) (by omega) (by omega) (by omega) (by omega) hd (kk p l e R s m args below meth c H locs cells slots L a1 a2 a3 a4 a5 a6 a7 a8 a9 a10 a11)
theorem x_minJ {x y : Int64} {idx : Nat} (hd : decode Y.2.1 pc = .ok (.invokestatic idx, 3)) (h1 : Cond.methodLink Y.1.cls idx Lib.MathLoose.min_long.x ∈ lw_all) (h2 : Cond.static Lib.MathLoose.min_long.x ∈ lw_all) (h3 : Cond.initialized "java/lang/Math" ∈ lw_all) (h4 : Cond.code Lib.MathLoose.min_long.x Lib.MathLoose.min_long.code 4 (some .long) ∈ lw_all) (hw : st.length ≤ 20) (kk : wp w (d + 1) Y (pc + 3) ls (.long (m_minJ x y) :: st) h Q) : wp w (d + 1) Y pc ls (.long y :: .long x :: st) h Q := by
  intro p l e R s m args below meth c H locs cells slots L a1 a2 a3 a4 a5 a6 a7 a8 a9 a10 a11
  have hsum := e_sum w st
  exact va_mmin_long a1 a3.2.2.1 (by rw [a3.2.2.2.1]; exact a6.2.1.symm) a3.1 (a4.all _ h1) (a4.all _ h2) (a4.all _ h3) (a4.all _ h4) (by omega) (by omega) (by omega) (by omega) hd (kk p l e R s m args below meth c H locs cells slots L a1 a2 a3 a4 a5 a6 a7 a8 a9 a10 a11)
/-- one array's stretch into another of its type -/
def e_cpy (h : eH) (s : Nat) (sp : Nat) (t : Nat) (dp n : Nat) : eH := (h.1, h.2.1, fun b => if b = t then (e_k h t, e_n h t, fun j => if dp ≤ j ∧ j < dp + n then e_v h s (sp + (j - dp)) else e_v h t j) else h.2.2 b)
def a_cpy (h : eH) (s : Nat) (sp : Int32) (t : Nat) (dp n : Int32) : Option eH :=
  if (s < h.1 ∧ t < h.1) ∧ (e_t h s = e_t h t ∧ 100 ≤ e_t h t ∧ e_t h t < 104) ∧ (¬ sp < 0 ∧ ¬ dp < 0 ∧ ¬ n < 0) ∧ sp.toNatClampNeg + n.toNatClampNeg ≤ e_n h s ∧ dp.toNatClampNeg + n.toNatClampNeg ≤ e_n h t
  then some (e_cpy h s sp.toNatClampNeg t dp.toNatClampNeg n.toNatClampNeg) else none
theorem e_x.cpy (h : eH) (s sp t dp n : Nat) (ht : 100 ≤ e_t h t) : e_x h (e_cpy h s sp t dp n) := by
  refine ⟨Nat.le_refl _, fun q hq => ?_, fun q hq k c hk hv => ?_⟩
  · by_cases e : q = t
    · subst e; simp [e_k, e_n, e_cpy]
    · simp [e_k, e_n, e_cpy, e]
  · by_cases e : q = t
    · subst e; rw [e_fin_big ht] at hk; cases hk
    · have : e_v (e_cpy h s sp t dp n) q k = e_v h q k := by simp [e_v, e_cpy, e]
      rw [this]; exact hv
theorem e_toInt {x : Int32} (h : ¬ x < 0) : x.toInt = (x.toNatClampNeg : Int) := by
  obtain ⟨j, hj, e⟩ := nI_of h
  rw [e, nI_clamp hj, nI_toInt hj]
theorem x_cpy {s t idx : Nat} {sp dp n : Int32} {h' : eH} (hf : a_cpy h s sp t dp n = some h') (hd : decode Y.2.1 pc = .ok (.invokestatic idx, 3)) (h1 : Cond.methodLink Y.1.cls idx arraycopyName ∈ lw_all) (h2 : Cond.native arraycopyName ∈ lw_all) (h3 : Cond.static arraycopyName ∈ lw_all) (h4 : Cond.initialized "java/lang/System" ∈ lw_all) (hw : st.length ≤ 15) (kk : wp w (d + 1) Y (pc + 3) ls st h' Q) : wp w (d + 1) Y pc ls (.int n :: .int dp :: .ref t :: .int sp :: .ref s :: st) h Q := by
  intro p l e R s₀ m args below meth c H locs cells slots L a1 a2 a3 a4 a5 a6 a7 a8 a9 a10 a11 T hT X
  subst hT
  unfold a_cpy at hf
  split at hf
  case isFalse => cases hf
  rename_i hc
  cases hf
  obtain ⟨⟨c1, c2⟩, ⟨c3, c4, c5⟩, ⟨c6, c7, c8⟩, c9, c10⟩ := hc
  obtain ⟨g1, g2, g3, g4⟩ := a5.arr (k := e_t h t) c2 rfl c4
  obtain ⟨f1, f2, f3, f4⟩ := a5.arr (k := e_t h t) c1 c3 c4
  have hlt := a5.lt c2
  have hsum := e_sum w st
  obtain ⟨-, kA, hkA, comp, hkind⟩ := a4.arr (k := e_t h t) c4 (by omega) (e_n h t) (fun j => e_c w (e_v h t j))
  have i6 := e_toInt c6
  have i7 := e_toInt c7
  have i8 := e_toInt c8
  have hprim : refKind (e_ty (e_t h t)) = false := by
    rcases (by omega : e_t h t = 100 ∨ e_t h t = 101 ∨ e_t h t = 102 ∨ e_t h t = 103) with r | r | r | r <;> rw [r] <;> rfl
  obtain ⟨vm', X', hstep⟩ := X.arraycopy a1 a3.1 (a4.all _ h1) (a4.all _ h2) (a4.all _ h3) (a4.all _ h4) (src := e_r w s) (dst := e_r w t) (srcPos := sp) (destPos := dp) (n := n) f3 g3 (fun k h => by cases h) (fun k h => by cases h) (fun h => by cases h) (fun h => by cases h) hkA hkA hkind hkind (by rw [hprim]; simp) c6 c7 c8
    (by rw [arrV_size, i6, i8]; omega) (by rw [arrV_size, i7, i8]; omega)
    (fun vm' _ i hi => by
      have hg : (arrV (w_dA w (e_t h t)) (e_n h s) (fun j => e_c w (e_v h s j))).slots.getD (sp.toNatClampNeg + i) .null = e_c w (e_v h s (sp.toNatClampNeg + i)) := by
        rw [Array.getD_eq_getD_getElem?, arrV_read _ _ (by omega)]; rfl
      rw [hg]
      have hfit := f4 (sp.toNatClampNeg + i) (by omega)
      refine ⟨(fits_c w _ _).trans hfit, ?_⟩
      have hnr : ∀ b, e_v h s (sp.toNatClampNeg + i) ≠ .ref b := fun b hb => by
        rw [hb] at hfit
        rcases (by omega : e_t h t = 100 ∨ e_t h t = 101 ∨ e_t h t = 102 ∨ e_t h t = 103) with r | r | r | r <;> rw [r] at hfit <;> cases hfit
      cases hvv : e_v h s (sp.toNatClampNeg + i) with
      | ref b => exact absurd hvv (hnr b)
      | _ => exact trivial)
    (g := F0 m pc L ((.int n :: .int dp :: .ref t :: .int sp :: .ref s :: st).map (e_c w))) rfl (by rw [a3.2.2.2.1]; exact a6.2.1) (rest := st.map (e_c w)) rfl (by rw [a3.2.2.1]; exact hd) (by omega) (by
      have h7 : nativeFrameWords "java/lang/System" "arraycopy" 5 = 7 := by decide
      rw [h7]
      show 2 * 0 + ((st.map (e_c w)).map fun v => v.category).sum + _ ≤ _
      omega)
  have e1 : copied (arrV (w_dA w (e_t h t)) (e_n h s) (fun j => e_c w (e_v h s j))) (arrV (w_dA w (e_t h t)) (e_n h t) (fun j => e_c w (e_v h t j))) sp dp n = arrV (w_dA w (e_t h t)) (e_n h t) (fun j => e_c w (va_cpy (e_v h s) (e_v h t) sp.toNatClampNeg dp.toNatClampNeg n.toNatClampNeg j)) := va_copied (fun z => e_c w z) _ _ (e_v h s) (e_v h t) c9
  rw [e1] at X' hstep
  have hl : e_r w t < T.heap.size := (Array.getElem?_eq_some_iff.mp g3).1
  have oq : ∀ (q : Nat) (x : Cell), q ≠ e_r w t → (T.heap.setIfInBounds (e_r w t) x)[q]? = T.heap[q]? := fun q x hq => by simp [Array.getElem?_setIfInBounds, Ne.symm hq]
  have hx := e_x.cpy h s sp.toNatClampNeg t dp.toNatClampNeg n.toNatClampNeg c4
  have hR' : e_R w (e_cpy h s sp.toNatClampNeg t dp.toNatClampNeg n.toNatClampNeg) (T.heap.setIfInBounds (e_r w t) (arrV (w_dA w (e_t h t)) (e_n h t) (fun j => e_c w (va_cpy (e_v h s) (e_v h t) sp.toNatClampNeg dp.toNatClampNeg n.toNatClampNeg j)))) := by
    refine ⟨by rw [Array.size_setIfInBounds]; exact a5.1, fun b hb => ?_, fun q hq => ?_, a5.2.2.2⟩
    · have hb' : b < h.1 := hb
      by_cases eb : b = t
      · subst eb
        right; left
        have k1 : e_t (e_cpy h s sp.toNatClampNeg b dp.toNatClampNeg n.toNatClampNeg) b = e_t h b := by simp [e_t, e_k, e_cpy]
        have k2 : e_n (e_cpy h s sp.toNatClampNeg b dp.toNatClampNeg n.toNatClampNeg) b = e_n h b := by simp [e_n, e_cpy]
        have k3 : e_v (e_cpy h s sp.toNatClampNeg b dp.toNatClampNeg n.toNatClampNeg) b = va_cpy (e_v h s) (e_v h b) sp.toNatClampNeg dp.toNatClampNeg n.toNatClampNeg := by funext j; simp [e_v, e_cpy, va_cpy]
        rw [k1, k2, k3]
        refine ⟨c4, g1, g2, by simp [Array.getElem?_setIfInBounds, hl], fun j hj => ?_⟩
        unfold va_cpy
        split
        · exact f4 _ (by omega)
        · exact g4 j hj
      · have e1 : e_t (e_cpy h s sp.toNatClampNeg t dp.toNatClampNeg n.toNatClampNeg) b = e_t h b := by simp [e_t, e_k, e_cpy, eb]
        have e2 : e_n (e_cpy h s sp.toNatClampNeg t dp.toNatClampNeg n.toNatClampNeg) b = e_n h b := by simp [e_n, e_cpy, eb]
        have e3 : e_v (e_cpy h s sp.toNatClampNeg t dp.toNatClampNeg n.toNatClampNeg) b = e_v h b := by funext j; simp [e_v, e_cpy, eb]
        have e4 := oq (e_r w b) (arrV (w_dA w (e_t h t)) (e_n h t) (fun j => e_c w (va_cpy (e_v h s) (e_v h t) sp.toNatClampNeg dp.toNatClampNeg n.toNatClampNeg j))) (by rw [e_r_lt (a5.lt hb'), e_r_lt hlt]; omega)
        exact (a5.2.1 b hb').keep e1 e2 e3 e4
    · rw [oq q _ (by rw [e_r_lt hlt]; omega)]; exact a5.2.2.1 q hq
  obtain ⟨t', b1, b2⟩ := kk p l e R s₀ m args below meth c _ _ cells slots L a1 a2 a3 a4 hR' a6 (fun q hq => by
    rcases List.mem_append.mp hq with hq | hq
    · exact a7 q hq
    · obtain ⟨z, -, hz⟩ := List.mem_map.mp hq
      rw [← hz]
      show w_sz w ≤ e_r w t
      rw [e_r_lt hlt]; omega) a8 a9 a10 a11 _ rfl X'
  exact ⟨t', hstep t' b1, b2.mono hx (fun _ _ _ x => x)⟩
end
