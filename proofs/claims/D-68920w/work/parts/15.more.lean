/-! calls that catch, old int arrays, the script -/
def t_C {α β : Type} (ci : Nat) (o : Option ((α ⊕ Nat) × eH)) (k : α → eH → Option β) (kt : Nat → eH → Option β) : Option β := o.bind fun q => match q.1 with
  | .inl a => k a q.2
  | .inr x => if x < q.2.1 ∧ e_t q.2 x = ci then kt x q.2 else none
theorem t_C_some {α β : Type} {ci : Nat} {o : Option ((α ⊕ Nat) × eH)} {k : α → eH → Option β} {kt : Nat → eH → Option β} {r : β} (h : t_C ci o k kt = some r) :
    (∃ a h', o = some (.inl a, h') ∧ k a h' = some r) ∨ ∃ x h', o = some (.inr x, h') ∧ (x < h'.1 ∧ e_t h' x = ci) ∧ kt x h' = some r := by
  obtain ⟨⟨s, h'⟩, h1, h2⟩ := Option.bind_eq_some_iff.mp h
  cases s with
  | inl a => exact Or.inl ⟨a, h', h1, h2⟩
  | inr x =>
    right
    have h3 : (if x < h'.1 ∧ e_t h' x = ci then kt x h' else none) = some r := h2
    split at h3
    · rename_i hc; exact ⟨x, h', h1, hc, h3⟩
    · cases h3
section
variable {w : eW} {d : Nat} {Y : eY} {pc : Nat} {ls : eL} {st : List Value} {h : eH} {Q : eO → eH → Prop}
variable {Yc : eY} {stk av : List Value}
theorem x_ccI {β : Type} {o : Option ((Int32 ⊕ Nat) × eH)} {k : Int32 → eH → Option β} {kt : Nat → eH → Option β} {r : β} {sp ep hp ct ci : Nat} (hf : t_C ci o k kt = some r) (hS : e_St w Y pc ls stk st h Yc av) (hcd : e_cd Yc ∈ lw_all) (hpl : plainName Yc.1.cls = true) (hav : (e_fl av).length ≤ Yc.2.2.1) (hw : 2 * st.length + Yc.2.2.1 ≤ 29)
    (hh : Y.2.2.2.2 = [(sp, ep, hp, ct)]) (hin : sp ≤ pc ∧ pc < ep) (h0 : ct ≠ 0) (h1 : 50 ≤ ci) (h2 : ci < 53) (hlk : Cond.classLink Y.1.cls ct (e_xn ci) ∈ lw_all)
    (hm : ∀ q, o = some q → wm w d Yc av h (e_is (e_rt c_I q))) (kx : ∀ x h', kt x h' = some r → wp w (d + 1) Y hp ls [.ref x] h' Q) (kk : ∀ a h', k a h' = some r → wp w (d + 1) Y (pc + 3) ls (.int a :: st) h' Q) : wp w (d + 1) Y pc ls stk h Q := by
  rcases t_C_some hf with ⟨a, h', b1, b2⟩ | ⟨x, h', b1, b2, b3⟩
  · refine w_callC hS hcd hpl hav hw (hm _ b1) hh hin h0 h1 h2 hlk (fun v h2 hx hq => ?_) (fun x h2 hx hq => by cases hq)
    cases hq
    exact kk a h' b2
  · refine w_callC hS hcd hpl hav hw (hm _ b1) hh hin h0 h1 h2 hlk (fun v h2 hx hq => by cases hq) (fun x' h2 hx hq => ?_)
    cases hq
    exact ⟨b2, kx x h' b3⟩
theorem x_ccJ {β : Type} {o : Option ((Int64 ⊕ Nat) × eH)} {k : Int64 → eH → Option β} {kt : Nat → eH → Option β} {r : β} {sp ep hp ct ci : Nat} (hf : t_C ci o k kt = some r) (hS : e_St w Y pc ls stk st h Yc av) (hcd : e_cd Yc ∈ lw_all) (hpl : plainName Yc.1.cls = true) (hav : (e_fl av).length ≤ Yc.2.2.1) (hw : 2 * st.length + Yc.2.2.1 ≤ 29)
    (hh : Y.2.2.2.2 = [(sp, ep, hp, ct)]) (hin : sp ≤ pc ∧ pc < ep) (h0 : ct ≠ 0) (h1 : 50 ≤ ci) (h2 : ci < 53) (hlk : Cond.classLink Y.1.cls ct (e_xn ci) ∈ lw_all)
    (hm : ∀ q, o = some q → wm w d Yc av h (e_is (e_rt c_J q))) (kx : ∀ x h', kt x h' = some r → wp w (d + 1) Y hp ls [.ref x] h' Q) (kk : ∀ a h', k a h' = some r → wp w (d + 1) Y (pc + 3) ls (.long a :: st) h' Q) : wp w (d + 1) Y pc ls stk h Q := by
  rcases t_C_some hf with ⟨a, h', b1, b2⟩ | ⟨x, h', b1, b2, b3⟩
  · refine w_callC hS hcd hpl hav hw (hm _ b1) hh hin h0 h1 h2 hlk (fun v h2 hx hq => ?_) (fun x h2 hx hq => by cases hq)
    cases hq
    exact kk a h' b2
  · refine w_callC hS hcd hpl hav hw (hm _ b1) hh hin h0 h1 h2 hlk (fun v h2 hx hq => by cases hq) (fun x' h2 hx hq => ?_)
    cases hq
    exact ⟨b2, kx x h' b3⟩
theorem x_ccA {β : Type} {o : Option ((Nat ⊕ Nat) × eH)} {k : Nat → eH → Option β} {kt : Nat → eH → Option β} {r : β} {sp ep hp ct ci : Nat} (hf : t_C ci o k kt = some r) (hS : e_St w Y pc ls stk st h Yc av) (hcd : e_cd Yc ∈ lw_all) (hpl : plainName Yc.1.cls = true) (hav : (e_fl av).length ≤ Yc.2.2.1) (hw : 2 * st.length + Yc.2.2.1 ≤ 29)
    (hh : Y.2.2.2.2 = [(sp, ep, hp, ct)]) (hin : sp ≤ pc ∧ pc < ep) (h0 : ct ≠ 0) (h1 : 50 ≤ ci) (h2 : ci < 53) (hlk : Cond.classLink Y.1.cls ct (e_xn ci) ∈ lw_all)
    (hm : ∀ q, o = some q → wm w d Yc av h (e_is (e_rt c_A q))) (kx : ∀ x h', kt x h' = some r → wp w (d + 1) Y hp ls [.ref x] h' Q) (kk : ∀ a h', k a h' = some r → wp w (d + 1) Y (pc + 3) ls (.ref a :: st) h' Q) : wp w (d + 1) Y pc ls stk h Q := by
  rcases t_C_some hf with ⟨a, h', b1, b2⟩ | ⟨x, h', b1, b2, b3⟩
  · refine w_callC hS hcd hpl hav hw (hm _ b1) hh hin h0 h1 h2 hlk (fun v h2 hx hq => ?_) (fun x h2 hx hq => by cases hq)
    cases hq
    exact kk a h' b2
  · refine w_callC hS hcd hpl hav hw (hm _ b1) hh hin h0 h1 h2 hlk (fun v h2 hx hq => by cases hq) (fun x' h2 hx hq => ?_)
    cases hq
    exact ⟨b2, kx x h' b3⟩
theorem x_ccV {β : Type} {o : Option ((Unit ⊕ Nat) × eH)} {k : Unit → eH → Option β} {kt : Nat → eH → Option β} {r : β} {sp ep hp ct ci : Nat} (hf : t_C ci o k kt = some r) (hS : e_St w Y pc ls stk st h Yc av) (hcd : e_cd Yc ∈ lw_all) (hpl : plainName Yc.1.cls = true) (hav : (e_fl av).length ≤ Yc.2.2.1) (hw : 2 * st.length + Yc.2.2.1 ≤ 29)
    (hh : Y.2.2.2.2 = [(sp, ep, hp, ct)]) (hin : sp ≤ pc ∧ pc < ep) (h0 : ct ≠ 0) (h1 : 50 ≤ ci) (h2 : ci < 53) (hlk : Cond.classLink Y.1.cls ct (e_xn ci) ∈ lw_all)
    (hm : ∀ q, o = some q → wm w d Yc av h (e_is (e_rt c_V q))) (kx : ∀ x h', kt x h' = some r → wp w (d + 1) Y hp ls [.ref x] h' Q) (kk : ∀ a h', k a h' = some r → wp w (d + 1) Y (pc + 3) ls ( st) h' Q) : wp w (d + 1) Y pc ls stk h Q := by
  rcases t_C_some hf with ⟨a, h', b1, b2⟩ | ⟨x, h', b1, b2, b3⟩
  · refine w_callC hS hcd hpl hav hw (hm _ b1) hh hin h0 h1 h2 hlk (fun v h2 hx hq => ?_) (fun x h2 hx hq => by cases hq)
    cases hq
    exact kk a h' b2
  · refine w_callC hS hcd hpl hav hw (hm _ b1) hh hin h0 h1 h2 hlk (fun v h2 hx hq => by cases hq) (fun x' h2 hx hq => ?_)
    cases hq
    exact ⟨b2, kx x h' b3⟩
def o_int (a : Nat) (i : Int32) : Option Int32 := if ¬ i < 0 ∧ i.toNatClampNeg < 10 then (if a = 1000000001 then some (e_LEAST.getD i.toNatClampNeg 0) else if a = 1000000002 then some (e_MOST.getD i.toNatClampNeg 0) else none) else none
theorem e_ix_of {i : Int32} {n : Nat} (h1 : ¬ i < 0) (h2 : i.toNatClampNeg < n) : e_ix i n i.toNatClampNeg := by
  refine ⟨?_, h2⟩
  obtain ⟨j, hj, e⟩ := nI_of h1
  rw [e, nI_clamp hj]
theorem x_oI {a : Nat} {i x : Int32} (hf : o_int a i = some x) (hd : decode Y.2.1 pc = .ok (.iaload, 1)) (kk : wp w d Y (pc + 1) ls (.int x :: st) h Q) : wp w d Y pc ls (.int i :: .ref a :: st) h Q := by
  unfold o_int at hf
  split at hf
  case isFalse => cases hf
  rename_i hc
  intro p l e R s m args below meth c H locs cells slots L a1 a2 a3 a4
  split at hf
  · rename_i ha
    subst ha
    have hx := Option.some.inj hf
    have ho := a4.2.2.2.2.2.2.2.1.2.1
    exact w_oald (k := 1) (i := i) hd (by omega) (by rw [ho]; exact e_ix_of hc.1 hc.2) (by rw [ho]; show Value.int _ = _; rw [hx]) kk p l e R s m args below meth c H locs cells slots L a1 a2 a3 a4
  · split at hf
    · rename_i ha
      subst ha
      have hx := Option.some.inj hf
      have ho := a4.2.2.2.2.2.2.2.1.2.2
      exact w_oald (k := 2) (i := i) hd (by omega) (by rw [ho]; exact e_ix_of hc.1 hc.2) (by rw [ho]; show Value.int _ = _; rw [hx]) kk p l e R s m args below meth c H locs cells slots L a1 a2 a3 a4
    · cases hf
/-- the script -/
def s_get (L : Nat) (xs : Nat → Int32) (i : Int32) : Option Int32 := if ¬ i < 0 ∧ i.toNatClampNeg < L then some (xs i.toNatClampNeg) else none
theorem x_sI {N : Nat} {xs : Nat → Int32} (ho : w_oc w 0 = (.int, N, fun j => .int (xs j))) {i x : Int32} (hf : s_get N xs i = some x) (hd : decode Y.2.1 pc = .ok (.iaload, 1)) (kk : wp w d Y (pc + 1) ls (.int x :: st) h Q) : wp w d Y pc ls (.int i :: .ref 1000000000 :: st) h Q := by
  unfold s_get at hf
  split at hf
  case isFalse => cases hf
  rename_i hc
  have hx := Option.some.inj hf
  exact w_oald (k := 0) (i := i) hd (by omega) (by rw [ho]; exact e_ix_of hc.1 hc.2) (by rw [ho]; show Value.int _ = _; rw [hx]) kk
theorem x_sL {N : Nat} {xs : Nat → Int32} (ho : w_oc w 0 = (.int, N, fun j => .int (xs j))) (hd : decode Y.2.1 pc = .ok (.arraylength, 1)) (kk : wp w d Y (pc + 1) ls (.int (nI N) :: st) h Q) : wp w d Y pc ls (.ref 1000000000 :: st) h Q := by
  refine w_oalen (k := 0) hd (by omega) ?_
  rw [ho]; exact kk
/-- a string constant as receiver -/
def s_ok (b : Nat) : Option Nat := o_str b
end
