/-! how pure functions speak of methods: results, calls, throwing -/
def k_ok (c : Nat) (h : eH) (b : Nat) : Option Unit := if b < h.1 ∧ e_t h b = c then some () else none
theorem k_ok_some {c : Nat} {h : eH} {b : Nat} {u : Unit} (hv : k_ok c h b = some u) : b < h.1 ∧ e_t h b = c := by
  unfold k_ok at hv
  split at hv
  · assumption
  · cases hv
def c_I (x : Int32) : Option Value := some (.int x)
def c_J (x : Int64) : Option Value := some (.long x)
def c_A (x : Nat) : Option Value := some (.ref x)
def c_V (_ : Unit) : Option Value := none
/-- a boolean that is returned -/
def z_r {α : Type} (x : Int32) (r : α) : Option α := if x = 0 ∨ x = 1 then some r else none
theorem z_r_some {α : Type} {x : Int32} {r q : α} (h : z_r x r = some q) : narrow .boolean (.int x) = .int x ∧ q = r := by
  unfold z_r at h
  split at h
  · rename_i hc; refine ⟨?_, (Option.some.inj h).symm⟩
    rcases hc with e | e <;> subst e <;> rfl
  · cases h
/-- results as the machine has them -/
def e_rn {α : Type} (cv : α → Option Value) (q : α × eH) : eO × eH := (.inl (cv q.1), q.2)
def e_rt {α : Type} (cv : α → Option Value) (q : (α ⊕ Nat) × eH) : eO × eH := match q.1 with
  | .inl a => (.inl (cv a), q.2)
  | .inr x => (.inr x, q.2)
def t_B {α β : Type} (o : Option ((α ⊕ Nat) × eH)) (k : α → eH → Option ((β ⊕ Nat) × eH)) : Option ((β ⊕ Nat) × eH) := o.bind fun q => match q.1 with
  | .inl a => k a q.2
  | .inr x => some (.inr x, q.2)
theorem t_B_some {α β : Type} {o : Option ((α ⊕ Nat) × eH)} {k : α → eH → Option ((β ⊕ Nat) × eH)} {r : (β ⊕ Nat) × eH} (h : t_B o k = some r) :
    (∃ a h', o = some (.inl a, h') ∧ k a h' = some r) ∨ ∃ x h', o = some (.inr x, h') ∧ r = (.inr x, h') := by
  obtain ⟨⟨s, h'⟩, h1, h2⟩ := Option.bind_eq_some_iff.mp h
  cases s with
  | inl a => exact Or.inl ⟨a, h', h1, h2⟩
  | inr x => exact Or.inr ⟨x, h', h1, (Option.some.inj h2).symm⟩
def e_subl : eL → eL → Prop
  | [], [] => True
  | none :: t', _ :: t => e_subl t' t
  | some v :: t', o :: t => o = some v ∧ e_subl t' t
  | _, _ => False
theorem e_subl_spec : ∀ {ls' ls : eL}, e_subl ls' ls → ls'.length = ls.length ∧ ∀ (i : Nat) (v : Value), ls'[i]? = some (some v) → ls[i]? = some (some v)
  | [], [], _ => ⟨rfl, fun i v h => h⟩
  | none :: t', o :: t, h => by
    obtain ⟨h1, h2⟩ := e_subl_spec (ls' := t') (ls := t) h
    refine ⟨by simp [h1], fun i v hv => ?_⟩
    cases i with
    | zero => simp at hv
    | succ i => simpa using h2 i v (by simpa using hv)
  | some u :: t', o :: t, h => by
    obtain ⟨h1, h2⟩ := e_subl_spec (ls' := t') (ls := t) h.2
    refine ⟨by simp [h1], fun i v hv => ?_⟩
    cases i with
    | zero => rw [h.1]; exact hv
    | succ i => simpa using h2 i v (by simpa using hv)
  | [], _ :: _, h => h.elim
  | none :: _, [], h => h.elim
  | some _ :: _, [], h => h.elim
theorem e_sig {ds : String} {n : Nat} (h : (parseMethodDescriptor ds).all (fun s => s.parameters.length == n) = true) : ∀ sig, parseMethodDescriptor ds = some sig → n = sig.parameters.length := by
  intro sig hs
  rw [hs] at h
  simpa using (by simpa using h : sig.parameters.length = n).symm
theorem sw_ne {x k : Int32} {n : Int} (h : ¬ x = k) (hk : k.toInt = n) : x.toInt ≠ n := fun e => h (Int32.toInt_inj.mp (e.trans hk.symm))
section
variable {w : eW} {d : Nat} {Y : eY} {pc : Nat} {ls ls' : eL} {st : List Value} {h : eH} {Q : eO → eH → Prop}
theorem wp.to (k : wp w d Y pc ls' st h Q) (hs : e_subl ls' ls) : wp w d Y pc ls st h Q := k.sub (Nat.le_refl _) (e_subl_spec hs).1 (e_subl_spec hs).2
theorem wm.up {d d' : Nat} {Y : eY} {av : List Value} {h : eH} {Q : eO → eH → Prop} (k : wm w d Y av h Q) (hd : d ≤ d') : wm w d' Y av h Q := wp.sub k hd rfl (fun _ _ x => x)
/-- a call of a method that doesn't throw -/
theorem x_cn {α β : Type} {Yc : eY} {stk av : List Value} {cv : α → Option Value} {o : Option (α × eH)} {k : α × eH → Option β} {r : β} (hf : o.bind k = some r) (hS : e_St w Y pc ls stk st h Yc av) (hcd : e_cd Yc ∈ lw_all) (hpl : plainName Yc.1.cls = true) (hav : (e_fl av).length ≤ Yc.2.2.1) (hw : 2 * st.length + Yc.2.2.1 ≤ 29)
    (hm : ∀ q, o = some q → wm w d Yc av h (e_is (e_rn cv q))) (kk : ∀ q, e_x h q.2 → k q = some r → wp w (d + 1) Y (pc + 3) ls ((cv q.1).toList ++ st) q.2 Q) : wp w (d + 1) Y pc ls stk h Q := by
  obtain ⟨q, h1, h2⟩ := Option.bind_eq_some_iff.mp hf
  refine w_callG hS hcd hpl hav hw (hm q h1) (Or.inr (fun x h' hq => by cases hq)) (fun v h' hx hq => ?_) (fun x h' hx hq => by cases hq)
  cases hq
  exact kk q hx h2
/-- a call of a method that may throw -/
theorem x_ct {α β : Type} {Yc : eY} {stk av : List Value} {cv : α → Option Value} {cv' : β → Option Value} {o : Option ((α ⊕ Nat) × eH)} {k : α → eH → Option ((β ⊕ Nat) × eH)} {r : (β ⊕ Nat) × eH} (hf : t_B o k = some r) (hS : e_St w Y pc ls stk st h Yc av) (hcd : e_cd Yc ∈ lw_all) (hpl : plainName Yc.1.cls = true) (hav : (e_fl av).length ≤ Yc.2.2.1) (hw : 2 * st.length + Yc.2.2.1 ≤ 29) (hn : e_nh Y pc = true)
    (hm : ∀ q, o = some q → wm w d Yc av h (e_is (e_rt cv q))) (kk : ∀ a h', e_x h h' → k a h' = some r → wp w (d + 1) Y (pc + 3) ls ((cv a).toList ++ st) h' (e_is (e_rt cv' r))) : wp w (d + 1) Y pc ls stk h (e_is (e_rt cv' r)) := by
  rcases t_B_some hf with ⟨a, h1, b1, b2⟩ | ⟨x, h1, b1, rfl⟩
  · refine w_callG hS hcd hpl hav hw (hm _ b1) (Or.inl hn) (fun v h' hx hq => ?_) (fun x h' hx hq => by cases hq)
    cases hq
    exact kk a h1 hx b2
  · exact w_callG hS hcd hpl hav hw (hm _ b1) (Or.inl hn) (fun v h' hx hq => by cases hq) (fun x' h' hx hq => by cases hq; rfl)
end
section
variable {w : eW} {d : Nat} {Y : eY} {pc : Nat} {ls ls' : eL} {st : List Value} {h : eH} {Q : eO → eH → Prop}
variable {β : Type} {Yc : eY} {stk av : List Value} {k' : Nat}
theorem x_cnI {o : Option (Int32 × eH)} {k : Int32 × eH → Option β} {r : β} (hf : o.bind k = some r) (hS : e_St w Y pc ls stk st h Yc av) (hcd : e_cd Yc ∈ lw_all) (hpl : plainName Yc.1.cls = true) (hav : (e_fl av).length ≤ Yc.2.2.1) (hw : 2 * st.length + Yc.2.2.1 ≤ 29)
    (hm : ∀ q, o = some q → wm w d Yc av h (e_is (e_rn c_I q))) (kk : ∀ q, k q = some r → wp w (d + 1) Y (pc + 3) ls (.int q.1 :: st) q.2 Q) : wp w (d + 1) Y pc ls stk h Q := x_cn (cv := c_I) hf hS hcd hpl hav hw hm (fun q _ hk => kk q hk)
theorem x_ctI {γ : Type} {cv' : γ → Option Value} {o : Option ((Int32 ⊕ Nat) × eH)} {k : Int32 → eH → Option ((γ ⊕ Nat) × eH)} {r : (γ ⊕ Nat) × eH} (hf : t_B o k = some r) (hS : e_St w Y pc ls stk st h Yc av) (hcd : e_cd Yc ∈ lw_all) (hpl : plainName Yc.1.cls = true) (hav : (e_fl av).length ≤ Yc.2.2.1) (hw : 2 * st.length + Yc.2.2.1 ≤ 29) (hn : e_nh Y pc = true)
    (hm : ∀ q, o = some q → wm w d Yc av h (e_is (e_rt c_I q))) (kk : ∀ a h', k a h' = some r → wp w (d + 1) Y (pc + 3) ls (.int a :: st) h' (e_is (e_rt cv' r))) : wp w (d + 1) Y pc ls stk h (e_is (e_rt cv' r)) := x_ct (cv := c_I) hf hS hcd hpl hav hw hn hm (fun a h' _ hk => kk a h' hk)
theorem x_cnJ {o : Option (Int64 × eH)} {k : Int64 × eH → Option β} {r : β} (hf : o.bind k = some r) (hS : e_St w Y pc ls stk st h Yc av) (hcd : e_cd Yc ∈ lw_all) (hpl : plainName Yc.1.cls = true) (hav : (e_fl av).length ≤ Yc.2.2.1) (hw : 2 * st.length + Yc.2.2.1 ≤ 29)
    (hm : ∀ q, o = some q → wm w d Yc av h (e_is (e_rn c_J q))) (kk : ∀ q, k q = some r → wp w (d + 1) Y (pc + 3) ls (.long q.1 :: st) q.2 Q) : wp w (d + 1) Y pc ls stk h Q := x_cn (cv := c_J) hf hS hcd hpl hav hw hm (fun q _ hk => kk q hk)
theorem x_ctJ {γ : Type} {cv' : γ → Option Value} {o : Option ((Int64 ⊕ Nat) × eH)} {k : Int64 → eH → Option ((γ ⊕ Nat) × eH)} {r : (γ ⊕ Nat) × eH} (hf : t_B o k = some r) (hS : e_St w Y pc ls stk st h Yc av) (hcd : e_cd Yc ∈ lw_all) (hpl : plainName Yc.1.cls = true) (hav : (e_fl av).length ≤ Yc.2.2.1) (hw : 2 * st.length + Yc.2.2.1 ≤ 29) (hn : e_nh Y pc = true)
    (hm : ∀ q, o = some q → wm w d Yc av h (e_is (e_rt c_J q))) (kk : ∀ a h', k a h' = some r → wp w (d + 1) Y (pc + 3) ls (.long a :: st) h' (e_is (e_rt cv' r))) : wp w (d + 1) Y pc ls stk h (e_is (e_rt cv' r)) := x_ct (cv := c_J) hf hS hcd hpl hav hw hn hm (fun a h' _ hk => kk a h' hk)
theorem x_cnA {o : Option (Nat × eH)} {k : Nat × eH → Option β} {r : β} (hf : o.bind k = some r) (hS : e_St w Y pc ls stk st h Yc av) (hcd : e_cd Yc ∈ lw_all) (hpl : plainName Yc.1.cls = true) (hav : (e_fl av).length ≤ Yc.2.2.1) (hw : 2 * st.length + Yc.2.2.1 ≤ 29)
    (hm : ∀ q, o = some q → wm w d Yc av h (e_is (e_rn c_A q))) (kk : ∀ q, k q = some r → wp w (d + 1) Y (pc + 3) ls (.ref q.1 :: st) q.2 Q) : wp w (d + 1) Y pc ls stk h Q := x_cn (cv := c_A) hf hS hcd hpl hav hw hm (fun q _ hk => kk q hk)
theorem x_ctA {γ : Type} {cv' : γ → Option Value} {o : Option ((Nat ⊕ Nat) × eH)} {k : Nat → eH → Option ((γ ⊕ Nat) × eH)} {r : (γ ⊕ Nat) × eH} (hf : t_B o k = some r) (hS : e_St w Y pc ls stk st h Yc av) (hcd : e_cd Yc ∈ lw_all) (hpl : plainName Yc.1.cls = true) (hav : (e_fl av).length ≤ Yc.2.2.1) (hw : 2 * st.length + Yc.2.2.1 ≤ 29) (hn : e_nh Y pc = true)
    (hm : ∀ q, o = some q → wm w d Yc av h (e_is (e_rt c_A q))) (kk : ∀ a h', k a h' = some r → wp w (d + 1) Y (pc + 3) ls (.ref a :: st) h' (e_is (e_rt cv' r))) : wp w (d + 1) Y pc ls stk h (e_is (e_rt cv' r)) := x_ct (cv := c_A) hf hS hcd hpl hav hw hn hm (fun a h' _ hk => kk a h' hk)
theorem x_cnV {o : Option (Unit × eH)} {k : Unit × eH → Option β} {r : β} (hf : o.bind k = some r) (hS : e_St w Y pc ls stk st h Yc av) (hcd : e_cd Yc ∈ lw_all) (hpl : plainName Yc.1.cls = true) (hav : (e_fl av).length ≤ Yc.2.2.1) (hw : 2 * st.length + Yc.2.2.1 ≤ 29)
    (hm : ∀ q, o = some q → wm w d Yc av h (e_is (e_rn c_V q))) (kk : ∀ q, k q = some r → wp w (d + 1) Y (pc + 3) ls (st) q.2 Q) : wp w (d + 1) Y pc ls stk h Q := x_cn (cv := c_V) hf hS hcd hpl hav hw hm (fun q _ hk => kk q hk)
theorem x_ctV {γ : Type} {cv' : γ → Option Value} {o : Option ((Unit ⊕ Nat) × eH)} {k : Unit → eH → Option ((γ ⊕ Nat) × eH)} {r : (γ ⊕ Nat) × eH} (hf : t_B o k = some r) (hS : e_St w Y pc ls stk st h Yc av) (hcd : e_cd Yc ∈ lw_all) (hpl : plainName Yc.1.cls = true) (hav : (e_fl av).length ≤ Yc.2.2.1) (hw : 2 * st.length + Yc.2.2.1 ≤ 29) (hn : e_nh Y pc = true)
    (hm : ∀ q, o = some q → wm w d Yc av h (e_is (e_rt c_V q))) (kk : ∀ a h', k a h' = some r → wp w (d + 1) Y (pc + 3) ls (st) h' (e_is (e_rt cv' r))) : wp w (d + 1) Y pc ls stk h (e_is (e_rt cv' r)) := x_ct (cv := c_V) hf hS hcd hpl hav hw hn hm (fun a h' _ hk => kk a h' hk)
end
