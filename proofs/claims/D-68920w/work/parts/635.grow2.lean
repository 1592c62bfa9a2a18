set_option maxRecDepth 100000
set_option maxHeartbeats 4000000
/-- the same, of which the first n are kept -/
def fS.grn (s : fS) (g l n : Nat) : fS := (s.c + 1, s.z + l, (fun b => if b = s.c then 200 else s.t b), (fun b => if b = g then l else if b = s.c then 0 else s.n b), (fun b => if b = g then (fun k => if k < n then s.i g k else 0) else if b = s.c then (fun k => if k < n then s.i g k else 0) else s.i b), (fun b => if b = s.c then (fun _ => 0) else s.j b), (fun b => if b = s.c then (fun _ => none) else s.o b), (fun b => if b = s.c then 0 else s.g b))
theorem sS.grn {m : Nat} {s : fS} (S : sS m s) {g l n : Nat} (hg : g ∈ f_G) (h : s.c < 1000288) : sS m (s.grn g l n) := by
  have := S.gr (l := l) hg h
  exact ⟨this.t, this.p, this.n, this.o, this.w, this.l, this.c⟩
theorem Ex.grn {s : fS} {g l n : Nat} (h : s.c < 1000288) : Ex [g] s (s.grn g l n) := ⟨Nat.le_succ _, fun x hx hn => by
  have hne : x ≠ s.c := by unfold bA at hx; omega
  have hg : x ≠ g := fun e => hn (by simp [e])
  refine ⟨?_, if_neg hne, ?_, if_neg hne, if_neg hne, if_neg hne⟩
  · show (if x = g then _ else if x = s.c then _ else s.i x) = _; rw [if_neg hg, if_neg hne]
  · show (if x = g then _ else if x = s.c then _ else s.n x) = _; rw [if_neg hg, if_neg hne]⟩
theorem grn_i (s : fS) (g l n k : Nat) : (s.grn g l n).i g k = if k < n then s.i g k else 0 := by show (if g = g then _ else _ : Nat → Int) k = _; rw [if_pos rfl]
theorem grn_n (s : fS) (g l n : Nat) : (s.grn g l n).n g = l := by show (if g = g then _ else _) = _; rw [if_pos rfl]
theorem gr_i (s : fS) (g l k : Nat) : (s.gr g l).i g k = if k < s.n g then s.i g k else 0 := by show (if g = g then _ else _ : Nat → Int) k = _; rw [if_pos rfl]
theorem gr_n (s : fS) (g l : Nat) : (s.gr g l).n g = l := by show (if g = g then _ else _) = _; rw [if_pos rfl]
theorem uNA_ok {c d : Nat} {s : fS} {x : Int} (h0 : 0 ≤ x) (h1 : x ≤ 20000000) (hr : s.c + 1 ≤ 170145) (hz : s.z + x.toNat ≤ 8591047) : uNA c d s x = some (s.c, s.nw c x.toNat x.toNat d) := by
  unfold uNA; rw [if_pos ⟨h0, by omega, hr, hz⟩]
/-- copying into a new array, which is taken over -/
theorem cpmv {s : fS} {g t : Nat} (ht : s.t g = t) (ht2 : t = 100 ∨ t = 102 ∨ t = 103) (hgc : bA s g) {l : Nat} {n : Int} (hn : 0 ≤ n) (hn1 : n ≤ s.n g) (hn2 : n ≤ l) (hr : s.c + 1 ≤ 170145) {γ : Type} (K : fS → Option γ) :
    ((uKA t (s.nw (t + 10) l l 0) s.c).bind fun _ => (uCP (s.nw (t + 10) l l 0) g 0 s.c 0 n).bind fun σ => (uMV σ g s.c).bind K) = K (s.grn g l n.toNat) := by
  have hne : g ≠ s.c := by unfold bA at hgc; omega
  have t1 : (s.nw (t + 10) l l 0).t g = t := by rw [nw_t, if_neg hne]; exact ht
  have t2 : (s.nw (t + 10) l l 0).t s.c = t + 10 := by rw [nw_t, if_pos rfl]
  have n1 : (s.nw (t + 10) l l 0).n g = s.n g := by rw [nw_n, if_neg hne]
  have n2 : (s.nw (t + 10) l l 0).n s.c = l := by rw [nw_n, if_pos rfl]
  have u1 : ut t = t := ut_lo (by omega)
  have u2 : ut (t + 10) = t := by unfold ut; rw [if_pos (by omega)]; omega
  have k4 : uKA t (s.nw (t + 10) l l 0) s.c = some () := by unfold uKA; rw [t2, if_pos ⟨by omega, u2⟩]
  have hCP : uCP (s.nw (t + 10) l l 0) g 0 s.c 0 n = some ((s.nw (t + 10) l l 0).cp g 0 s.c 0 n.toNat) := by
    unfold uCP; rw [if_pos]; rfl
    rw [t1, t2, n1, n2]
    refine ⟨⟨by omega, by omega, by omega⟩, by rw [u1, u2], ?_, ?_⟩
    · show 0 + n.toNat ≤ s.n g; omega
    · show 0 + n.toNat ≤ l; omega
  rw [k4]
  show (uCP (s.nw (t + 10) l l 0) g 0 s.c 0 n).bind _ = _
  rw [hCP]
  show (uMV ((s.nw (t + 10) l l 0).cp g 0 s.c 0 n.toNat) g s.c).bind K = _
  have hMV : uMV ((s.nw (t + 10) l l 0).cp g 0 s.c 0 n.toNat) g s.c = some (s.grn g l n.toNat) := by
    unfold uMV
    rw [if_pos (Or.inr (by show (s.nw (t + 10) l l 0).t s.c = (s.nw (t + 10) l l 0).t g + 10; rw [t1, t2]))]
    refine congrArg some ?_
    unfold fS.mv; rw [if_neg (fun w => hne w.symm)]
    refine fS.ext' rfl rfl ?_ ?_ ?_ rfl rfl rfl
    · funext b; show (if b = s.c then 200 else (if b = s.c then t + 10 else s.t b)) = (if b = s.c then 200 else s.t b); split <;> rfl
    · funext b
      show (if b = g then (if s.c = s.c then l else s.n s.c) else if b = s.c then 0 else (if b = s.c then l else s.n b)) = (if b = g then l else if b = s.c then 0 else s.n b)
      rw [if_pos rfl]; split
      · rfl
      · split <;> rfl
    · funext b
      have hcp : ∀ k, ((s.nw (t + 10) l l 0).cp g 0 s.c 0 n.toNat).i s.c k = if k < n.toNat then s.i g k else 0 := fun k => by
        rw [cp_i, if_pos rfl, nw_i, nw_i, if_neg hne, if_pos rfl]
        by_cases w : k < n.toNat
        · rw [if_pos w, if_pos ⟨Nat.zero_le _, by omega⟩]; congr 1; omega
        · rw [if_neg w, if_neg (fun v => w (by omega))]
      show (if b = g then ((s.nw (t + 10) l l 0).cp g 0 s.c 0 n.toNat).i s.c else ((s.nw (t + 10) l l 0).cp g 0 s.c 0 n.toNat).i b) = (if b = g then (fun k => if k < n.toNat then s.i g k else 0) else if b = s.c then (fun k => if k < n.toNat then s.i g k else 0) else s.i b)
      by_cases w : b = g
      · rw [if_pos w, if_pos w]; funext k; exact hcp k
      · rw [if_neg w, if_neg w]
        by_cases v : b = s.c
        · rw [if_pos v, v]; funext k; exact hcp k
        · rw [if_neg v]; funext k; rw [cp_i, if_neg v, nw_i, if_neg v]
  rw [hMV]; rfl
/-- one more hole than pigeons -/
theorem pigeon : ∀ (n : Nat) (f : Nat → Nat) (k : Nat), (∀ p, p < n → f p < k) → (∀ p q, p < n → q < n → f p = f q → p = q) → n ≤ k
  | 0, _, _, _, _ => Nat.zero_le _
  | n + 1, f, k, hf, hi => by
    -- the last one's hole is taken away
    have hk : 0 < k := Nat.lt_of_le_of_lt (Nat.zero_le _) (hf 0 (Nat.succ_pos n))
    have := pigeon n (fun p => if f p < f n then f p else f p - 1) (k - 1) (fun p hp => by
        have h1 := hf p (by omega); have h2 := hf n (by omega)
        have h3 : f p ≠ f n := fun e => by have := hi p n (by omega) (by omega) e; omega
        show (if f p < f n then f p else f p - 1) < k - 1
        split <;> omega) (fun p q hp hq e => by
        have h3 : f p ≠ f n := fun e => by have := hi p n (by omega) (by omega) e; omega
        have h4 : f q ≠ f n := fun e => by have := hi q n (by omega) (by omega) e; omega
        have e' : (if f p < f n then f p else f p - 1) = (if f q < f n then f q else f q - 1) := e
        refine hi p q (by omega) (by omega) ?_
        split at e' <;> split at e' <;> omega)
    omega
