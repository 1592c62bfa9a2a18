set_option maxRecDepth 100000
set_option maxHeartbeats 4000000
/-! FRAMES. What one system's functions do leaves the other one's things as they were. -/
def bA (s : fS) (a : Nat) : Prop := a < s.c ∨ a = 1000288
/-- things of side d refer to things of side d; names that are fixed have their sides -/
abbrev bS (d : Nat) (s : fS) : Prop :=
  (∀ a k x, bA s a → s.g a = d → s.o a k = some x → s.g x = d ∧ bA s x) ∧
  (∀ a, a < 192 → s.g a = 0) ∧
  (∀ a, 192 ≤ a → a < 325 → s.g a = 1) ∧
  (s.g 1000288 = 1) ∧
  (326 ≤ s.c ∧ s.c ≤ 170145)
theorem bS.o {d : Nat} {s : fS} (R_ : bS d s) : ∀ a k x, bA s a → s.g a = d → s.o a k = some x → s.g x = d ∧ bA s x := R_.1
theorem bS.c {d : Nat} {s : fS} (R_ : bS d s) : ∀ a, a < 192 → s.g a = 0 := R_.2.1
theorem bS.m {d : Nat} {s : fS} (R_ : bS d s) : ∀ a, 192 ≤ a → a < 325 → s.g a = 1 := R_.2.2.1
theorem bS.p {d : Nat} {s : fS} (R_ : bS d s) : s.g 1000288 = 1 := R_.2.2.2.1
theorem bS.l {d : Nat} {s : fS} (R_ : bS d s) : 326 ≤ s.c ∧ s.c ≤ 170145 := R_.2.2.2.2
abbrev bE (d : Nat) (s s' : fS) : Prop :=
  (s.c ≤ s'.c) ∧
  (∀ a, bA s a → s'.g a = s.g a) ∧
  (∀ a, bA s a → s.g a ≠ d → s'.i a = s.i a ∧ s'.j a = s.j a ∧ s'.n a = s.n a ∧ s'.o a = s.o a ∧ s'.t a = s.t a) ∧
  (bS d s')
theorem bE.c {d : Nat} {s s' : fS} (R_ : bE d s s') : s.c ≤ s'.c := R_.1
theorem bE.g {d : Nat} {s s' : fS} (R_ : bE d s s') : ∀ a, bA s a → s'.g a = s.g a := R_.2.1
theorem bE.r {d : Nat} {s s' : fS} (R_ : bE d s s') : ∀ a, bA s a → s.g a ≠ d → s'.i a = s.i a ∧ s'.j a = s.j a ∧ s'.n a = s.n a ∧ s'.o a = s.o a ∧ s'.t a = s.t a := R_.2.2.1
theorem bE.S {d : Nat} {s s' : fS} (R_ : bE d s s') : bS d s' := R_.2.2.2
/-- own: a thing that is there, of side d -/
def bO (d : Nat) (s : fS) (a : Nat) : Prop := s.g a = d ∧ bA s a
theorem bE.rf {d : Nat} {s : fS} (S : bS d s) : bE d s s := ⟨Nat.le_refl _, fun _ _ => rfl, fun _ _ _ => ⟨rfl, rfl, rfl, rfl, rfl⟩, S⟩
theorem bA.up {s s' : fS} {a : Nat} (h : bA s a) (hc : s.c ≤ s'.c) : bA s' a := by unfold bA at *; omega
theorem bE.tr {d : Nat} {s s1 s2 : fS} (E : bE d s s1) (F : bE d s1 s2) : bE d s s2 := by
  refine ⟨?_, ?_, ?_, ?_⟩
  · exact Nat.le_trans E.c F.c
  · exact fun a ha => (F.g a (ha.up E.c)).trans (E.g a ha)
  · intro a ha hd
    have h1 := E.r a ha hd
    have h2 := F.r a (ha.up E.c) (by rw [E.g a ha]; exact hd)
    exact ⟨h2.1.trans h1.1, h2.2.1.trans h1.2.1, h2.2.2.1.trans h1.2.2.1, h2.2.2.2.1.trans h1.2.2.2.1, h2.2.2.2.2.trans h1.2.2.2.2⟩
  · exact F.S
theorem bO.up {d : Nat} {s s' : fS} {a : Nat} (h : bO d s a) (E : bE d s s') : bO d s' a := ⟨(E.g a h.2).trans h.1, h.2.up E.c⟩
theorem bS.c0 {s : fS} (S : bS 0 s) {a : Nat} (h : a < 192) : bO 0 s a := ⟨S.c a h, Or.inl (by have := S.l; omega)⟩
theorem bS.m1 {s : fS} (S : bS 1 s) {a : Nat} (h : 192 ≤ a) (h2 : a < 325) : bO 1 s a := ⟨S.m a h h2, Or.inl (by have := S.l; omega)⟩
theorem bS.p1 {s : fS} (S : bS 1 s) : bO 1 s 1000288 := ⟨S.p, Or.inr rfl⟩
section
variable {γ : Type} {d : Nat} {s0 s : fS} {r : γ} {P : Prop}
theorem b_o {a k : Nat} {K : Nat → Option γ} (E : bE d s0 s) (ha : bO d s a) (hF : (s.o a k).bind K = some r) (kk : ∀ x, bO d s x → K x = some r → P) : P := by
  obtain ⟨x, h1, h2⟩ := Option.bind_eq_some_iff.mp hF
  exact kk x (E.S.o a k x ha.2 ha.1 h1) h2
theorem b_K {c a : Nat} {K : Unit → Option γ} (hF : (uK c s a).bind K = some r) (kk : K () = some r → P) : P := s_K hF (fun _ h => kk h)
theorem b_KA {c a : Nat} {K : Unit → Option γ} (hF : (uKA c s a).bind K = some r) (kk : K () = some r → P) : P := s_KA hF (fun _ _ h => kk h)
theorem b_KL {a : Nat} {K : Unit → Option γ} (hF : (uKL s a).bind K = some r) (kk : K () = some r → P) : P := s_KL hF (fun _ _ h => kk h)
theorem bE.pI {a k : Nat} {v : Int} (S : bS d s) (ha : bO d s a) : bE d s (s.pI a k v) := by
  refine ⟨?_, ?_, ?_, ?_⟩
  · exact Nat.le_refl _
  · exact fun _ _ => rfl
  · exact fun x hx hd => ⟨if_neg (fun e : x = a => hd (e ▸ ha.1)), rfl, rfl, rfl, rfl⟩
  · exact ⟨S.o, S.c, S.m, S.p, S.l⟩
theorem bE.pJ {a k : Nat} {v : Int} (S : bS d s) (ha : bO d s a) : bE d s (s.pJ a k v) := by
  refine ⟨?_, ?_, ?_, ?_⟩
  · exact Nat.le_refl _
  · exact fun _ _ => rfl
  · exact fun x hx hd => ⟨rfl, if_neg (fun e : x = a => hd (e ▸ ha.1)), rfl, rfl, rfl⟩
  · exact ⟨S.o, S.c, S.m, S.p, S.l⟩
theorem bE.pO {a k x : Nat} (S : bS d s) (ha : bO d s a) (hx : bO d s x) : bE d s (s.pO a k (some x)) := by
  refine ⟨?_, ?_, ?_, ?_⟩
  · exact Nat.le_refl _
  · exact fun _ _ => rfl
  · exact fun y hy hd => ⟨rfl, rfl, rfl, if_neg (fun e : y = a => hd (e ▸ ha.1)), rfl⟩
  · exact ⟨fun a' k' x' h1 h2 h3 => by
      rw [fS.pO_o] at h3
      by_cases e : a' = a ∧ k' = k
      · rw [if_pos e] at h3; cases h3; exact hx
      · rw [if_neg e] at h3; exact S.o a' k' x' h1 h2 h3, S.c, S.m, S.p, S.l⟩
theorem bE.cp {a x b y n : Nat} (S : bS d s) (hb : bO d s b) : bE d s (s.cp a x b y n) := by
  refine ⟨?_, ?_, ?_, ?_⟩
  · exact Nat.le_refl _
  · exact fun _ _ => rfl
  · exact fun z hz hd => ⟨if_neg (fun e : z = b => hd (e ▸ hb.1)), rfl, rfl, rfl, rfl⟩
  · exact ⟨S.o, S.c, S.m, S.p, S.l⟩
theorem bE.mv {g m : Nat} (S : bS d s) (hg : bO d s g) (hm : bO d s m) : bE d s (s.mv g m) := by
  unfold fS.mv
  by_cases e : m = g
  · rw [if_pos e]; exact bE.rf S
  · rw [if_neg e]
    refine ⟨Nat.le_refl _, fun _ _ => rfl, fun z hz hd => ⟨if_neg (fun e : z = g => hd (e ▸ hg.1)), rfl, ?_, rfl, if_neg (fun e : z = m => hd (e ▸ hm.1))⟩, ⟨S.o, S.c, S.m, S.p, S.l⟩⟩
    show (if z = g then _ else if z = m then _ else _) = _
    rw [if_neg (fun e : z = g => hd (e ▸ hg.1)), if_neg (fun e : z = m => hd (e ▸ hm.1))]
theorem bE.nw {t l z : Nat} (S : bS d s) (h : s.c + 1 ≤ 170145) : bE d s (s.nw t l z d) ∧ bO d (s.nw t l z d) s.c := by
  have hne : ∀ a, bA s a → a ≠ s.c := fun a ha e => by unfold bA at ha; omega
  refine ⟨⟨Nat.le_succ _, fun a ha => if_neg (hne a ha), fun a ha _ => ⟨if_neg (hne a ha), if_neg (hne a ha), if_neg (hne a ha), if_neg (hne a ha), if_neg (hne a ha)⟩, ?_⟩, if_pos rfl, Or.inl (Nat.lt_succ_self _)⟩
  have hl := S.l
  refine ⟨fun a k x ha hg ho => ?_, fun a ha => (if_neg (by omega)).trans (S.c a ha), fun a h1 h2 => (if_neg (by omega)).trans (S.m a h1 h2), (if_neg (by omega)).trans S.p, by show 326 ≤ s.c + 1 ∧ s.c + 1 ≤ 170145; omega⟩
  rw [nw_o] at ho
  by_cases e : a = s.c
  · rw [if_pos e] at ho; cases ho
  · rw [if_neg e] at ho
    have ha' : bA s a := by unfold bA at ha ⊢; have : a < s.c + 1 ∨ a = 1000288 := ha; omega
    have hg' : s.g a = d := (if_neg e).symm.trans hg
    have h1 := S.o a k x ha' hg' ho
    exact ⟨(if_neg (hne x h1.2)).trans h1.1, h1.2.up (Nat.le_succ _)⟩
theorem b_pI {a k : Nat} {v : Int} {K : fS → Option γ} (E : bE d s0 s) (ha : bO d s a) (hF : (uPI s a k v).bind K = some r) (kk : ∀ s', bE d s s' → bE d s0 s' → K s' = some r → P) : P := kk _ (bE.pI E.S ha) (E.tr (bE.pI E.S ha)) hF
theorem b_pJ {a k : Nat} {v : Int} {K : fS → Option γ} (E : bE d s0 s) (ha : bO d s a) (hF : (uPJ s a k v).bind K = some r) (kk : ∀ s', bE d s s' → bE d s0 s' → K s' = some r → P) : P := kk _ (bE.pJ E.S ha) (E.tr (bE.pJ E.S ha)) hF
theorem b_pZ {a k : Nat} {v : Int} {K : fS → Option γ} (E : bE d s0 s) (ha : bO d s a) (hF : (uPZ s a k v).bind K = some r) (kk : ∀ s', bE d s s' → bE d s0 s' → K s' = some r → P) : P := by
  unfold uPZ at hF; split at hF
  · exact kk _ (bE.pI E.S ha) (E.tr (bE.pI E.S ha)) hF
  · cases hF
theorem b_pO {a k x : Nat} {K : fS → Option γ} (E : bE d s0 s) (ha : bO d s a) (hx : bO d s x) (hF : (uPO s a k x).bind K = some r) (kk : ∀ s', bE d s s' → bE d s0 s' → K s' = some r → P) : P := kk _ (bE.pO E.S ha hx) (E.tr (bE.pO E.S ha hx)) hF
theorem b_pF {a k x : Nat} {K : fS → Option γ} (E : bE d s0 s) (ha : bO d s a) (hx : bO d s x) (hF : (uPF s a k x).bind K = some r) (kk : ∀ s', bE d s s' → bE d s0 s' → K s' = some r → P) : P := by
  unfold uPF at hF; split at hF
  · exact kk _ (bE.pO E.S ha hx) (E.tr (bE.pO E.S ha hx)) hF
  · cases hF
theorem b_mv {g m : Nat} {K : fS → Option γ} (E : bE d s0 s) (hg : bO d s g) (hm : bO d s m) (hF : (uMV s g m).bind K = some r) (kk : ∀ s', bE d s s' → bE d s0 s' → K s' = some r → P) : P := by
  unfold uMV at hF; split at hF
  · exact kk _ (bE.mv E.S hg hm) (E.tr (bE.mv E.S hg hm)) hF
  · cases hF
theorem b_qI {a : Nat} {x v : Int} {K : fS → Option γ} (E : bE d s0 s) (ha : bO d s a) (hF : (uQI s a x v).bind K = some r) (kk : ∀ s', bE d s s' → bE d s0 s' → K s' = some r → P) : P := by
  unfold uQI at hF; split at hF
  · exact kk _ (bE.pI E.S ha) (E.tr (bE.pI E.S ha)) hF
  · cases hF
theorem b_qJ {a : Nat} {x v : Int} {K : fS → Option γ} (E : bE d s0 s) (ha : bO d s a) (hF : (uQJ s a x v).bind K = some r) (kk : ∀ s', bE d s s' → bE d s0 s' → K s' = some r → P) : P := by
  unfold uQJ at hF; split at hF
  · exact kk _ (bE.pJ E.S ha) (E.tr (bE.pJ E.S ha)) hF
  · cases hF
theorem b_qO {a x0 : Nat} {x : Int} {K : fS → Option γ} (E : bE d s0 s) (ha : bO d s a) (hx : bO d s x0) (hF : (uQO s a x x0).bind K = some r) (kk : ∀ s', bE d s s' → bE d s0 s' → K s' = some r → P) : P := by
  unfold uQO at hF; split at hF
  · exact kk _ (bE.pO E.S ha hx) (E.tr (bE.pO E.S ha hx)) hF
  · cases hF
theorem b_cp {a b : Nat} {x y n : Int} {K : fS → Option γ} (E : bE d s0 s) (hb : bO d s b) (hF : (uCP s a x b y n).bind K = some r) (kk : ∀ s', bE d s s' → bE d s0 s' → K s' = some r → P) : P := by
  unfold uCP at hF; split at hF
  · exact kk _ (bE.cp E.S hb) (E.tr (bE.cp E.S hb)) hF
  · cases hF
theorem b_nA {c : Nat} {x : Int} {K : Nat × fS → Option γ} (E : bE d s0 s) (hF : (uNA c d s x).bind K = some r) (kk : ∀ q1 : Nat × fS, bE d s q1.2 → bE d s0 q1.2 → bO d q1.2 q1.1 → K q1 = some r → P) : P := by
  unfold uNA at hF; split at hF
  · rename_i u; have h := bE.nw (t := c) (l := x.toNat) (z := x.toNat) E.S u.2.2.1
    exact kk _ h.1 (E.tr h.1) h.2 hF
  · cases hF
theorem b_nO {c N : Nat} {K : Nat × fS → Option γ} (E : bE d s0 s) (hF : (uNO c d N s).bind K = some r) (kk : ∀ q1 : Nat × fS, bE d s q1.2 → bE d s0 q1.2 → bO d q1.2 q1.1 → K q1 = some r → P) : P := by
  unfold uNO at hF; split at hF
  · rename_i u; have h := bE.nw (t := c) (l := 0) (z := N) E.S u.1
    exact kk _ h.1 (E.tr h.1) h.2 hF
  · cases hF
theorem b_rv {x : Option γ} {δ : Type} {r : δ} {K : γ → Option δ} (hF : x.bind K = some r) (kk : ∀ y, K y = some r → P) : P := by
  obtain ⟨y, _, h2⟩ := Option.bind_eq_some_iff.mp hF; exact kk y h2
theorem b_rO {a : Nat} {x : Int} {K : Nat → Option γ} (E : bE d s0 s) (ha : bO d s a) (hF : (uRO s a x).bind K = some r) (kk : ∀ y, bO d s y → K y = some r → P) : P := by
  unfold uRO at hF; split at hF
  · exact b_o E ha hF kk
  · cases hF
theorem b_rQ {a : Nat} {x : Int} {K : Option Nat → Option γ} (E : bE d s0 s) (ha : bO d s a) (hF : (uRQ s a x).bind K = some r) (kk : ∀ y, (∀ z, y = some z → bO d s z) → K y = some r → P) : P := by
  unfold uRQ at hF; split at hF
  · exact kk _ (fun z hz => E.S.o a _ z ha.2 ha.1 hz) hF
  · cases hF
theorem b_if {Q : Prop} [Decidable Q] {A B : Option γ} (hF : (if Q then A else B) = some r) (k1 : A = some r → P) (k2 : B = some r → P) : P := by
  split at hF
  · exact k1 hF
  · exact k2 hF
theorem b_dv {Q : Prop} [Decidable Q] {B : Option γ} (hF : (if Q then none else B) = some r) (k2 : B = some r → P) : P := b_if hF (fun h => by cases h) k2
theorem b_call {δ : Type} {Oc : Option (δ × fS)} {K : δ × fS → Option γ} (E : bE d s0 s) (hS : ∀ q1, Oc = some q1 → bE d s q1.2) (hF : Oc.bind K = some r) (kk : ∀ q1 : δ × fS, Oc = some q1 → bE d s q1.2 → bE d s0 q1.2 → K q1 = some r → P) : P := by
  obtain ⟨q1, h1, h2⟩ := Option.bind_eq_some_iff.mp hF
  exact kk q1 h1 (hS q1 h1) (E.tr (hS q1 h1)) h2
theorem b_tB {δ ε : Type} {q : (ε ⊕ Nat) × fS} {Oc : Option ((δ ⊕ Nat) × fS)} {K : δ → fS → Option ((ε ⊕ Nat) × fS)} (E : bE d s0 s) (hS : ∀ q1, Oc = some q1 → bE d s q1.2) (hF : tB Oc K = some q) (kk : ∀ x s', bE d s s' → bE d s0 s' → K x s' = some q → bE d s0 q.2) : bE d s0 q.2 := by
  obtain ⟨⟨q1, s1⟩, h1, h2⟩ := Option.bind_eq_some_iff.mp hF
  cases q1 with
  | inl x => exact kk x s1 (hS _ h1) (E.tr (hS _ h1)) h2
  | inr x => cases h2; exact E.tr (hS _ h1)
theorem b_tC {δ ε : Type} {ci : Nat} {q : ε × fS} {Oc : Option ((δ ⊕ Nat) × fS)} {K : δ → fS → Option (ε × fS)} {KT : Nat → fS → Option (ε × fS)} (E : bE d s0 s) (hS : ∀ q1, Oc = some q1 → bE d s q1.2) (hF : tC ci Oc K KT = some q) (kt : ∀ x s', bE d s s' → bE d s0 s' → KT x s' = some q → bE d s0 q.2) (kk : ∀ x s', bE d s s' → bE d s0 s' → K x s' = some q → bE d s0 q.2) : bE d s0 q.2 := by
  obtain ⟨⟨q1, s1⟩, h1, h2⟩ := Option.bind_eq_some_iff.mp hF
  cases q1 with
  | inl x => exact kk x s1 (hS _ h1) (E.tr (hS _ h1)) h2
  | inr x =>
    have h2' : (if s1.t x = ci then KT x s1 else none) = some q := h2
    split at h2'
    · exact kt x s1 (hS _ h1) (E.tr (hS _ h1)) h2'
    · cases h2'
theorem b_exc {δ : Type} {c : Nat} {q : (δ ⊕ Nat) × fS} (E : bE 0 s0 s) (hF : ((uNX c s).bind fun q1 => some (.inr q1.1, q1.2)) = some q) : bE 0 s0 q.2 := by
  unfold uNX at hF; split at hF
  · rename_i u; cases hF; exact E.tr (bE.nw (t := c) (l := 0) (z := 6) E.S u.1).1
  · cases hF
theorem b_ret {δ : Type} {x : δ} {q : δ × fS} (E : bE d s0 s) (hF : some (x, s) = some q) : bE d s0 q.2 := by cases hF; exact E
theorem b_z {δ : Type} {y : Int} {x : δ} {q : δ × fS} (E : bE d s0 s) (hF : uZ y (x, s) = some q) : bE d s0 q.2 := by
  unfold uZ at hF; split at hF
  · exact b_ret E hF
  · cases hF
theorem b_b {δ : Type} {y : Int} {x : δ} {q : δ × fS} (E : bE d s0 s) (hF : uBr y (x, s) = some q) : bE d s0 q.2 := by
  unfold uBr at hF; split at hF
  · exact b_ret E hF
  · cases hF
theorem b_c {δ : Type} {y : Int} {x : δ} {q : δ × fS} (E : bE d s0 s) (hF : uCr y (x, s) = some q) : bE d s0 q.2 := by
  unfold uCr at hF; split at hF
  · exact b_ret E hF
  · cases hF
end
theorem BJ3_checkIndex {d : Nat} {σo s : fS} {q : Int × fS} {p0 p1 : Int} (E : bE d σo s) (hF : FJ3_checkIndex p0 p1 s = some q) : bE d σo q.2 := by
  unfold FJ3_checkIndex at hF
  refine b_dv hF (fun hF => ?_)
  refine b_if hF (fun hF => ?_) (fun hF => ?_)
  · exact b_ret E hF
  · cases hF
theorem BJ1_checkIndex {d : Nat} {σo s : fS} {q : Unit × fS} {p0 p1 : Int} (E : bE d σo s) (hF : FJ1_checkIndex p0 p1 s = some q) : bE d σo q.2 := by
  unfold FJ1_checkIndex at hF
  refine b_call E (fun _ hq => BJ3_checkIndex (bE.rf E.S) hq) hF (fun _ _ D1 E1 hF => ?_)
  exact b_ret E1 hF
