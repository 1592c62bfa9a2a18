set_option maxRecDepth 100000
set_option maxHeartbeats 4000000
/-! rows that stay; growing -/
def rwE (s s' : fS) (a : Nat) : Prop := s'.i a = s.i a ∧ s'.j a = s.j a ∧ s'.n a = s.n a ∧ s'.o a = s.o a ∧ s'.t a = s.t a ∧ s'.g a = s.g a
/-- all but the listed ids are as they were -/
def Ex (l : List Nat) (s s' : fS) : Prop := s.c ≤ s'.c ∧ ∀ a, bA s a → a ∉ l → rwE s s' a
theorem rwE.rf (s : fS) (a : Nat) : rwE s s a := ⟨rfl, rfl, rfl, rfl, rfl, rfl⟩
theorem rwE.tr {s s1 s2 : fS} {a : Nat} (h : rwE s s1 a) (k : rwE s1 s2 a) : rwE s s2 a :=
  ⟨k.1.trans h.1, k.2.1.trans h.2.1, k.2.2.1.trans h.2.2.1, k.2.2.2.1.trans h.2.2.2.1, k.2.2.2.2.1.trans h.2.2.2.2.1, k.2.2.2.2.2.trans h.2.2.2.2.2⟩
theorem Ex.rf (l : List Nat) (s : fS) : Ex l s s := ⟨Nat.le_refl _, fun a _ _ => rwE.rf s a⟩
theorem Ex.mono {l l' : List Nat} {s s' : fS} (h : Ex l s s') (hl : ∀ a ∈ l, a ∈ l') : Ex l' s s' := ⟨h.1, fun a ha hn => h.2 a ha (fun w => hn (hl a w))⟩
theorem Ex.tr {l : List Nat} {s s1 s2 : fS} (h : Ex l s s1) (k : Ex l s1 s2) : Ex l s s2 := ⟨Nat.le_trans h.1 k.1, fun a ha hn => (h.2 a ha hn).tr (k.2 a (ha.up h.1) hn)⟩
theorem Ex.pI (s : fS) (a k : Nat) (v : Int) : Ex [a] s (s.pI a k v) := ⟨Nat.le_refl _, fun x _ hn => ⟨if_neg (fun e : x = a => hn (by simp [e])), rfl, rfl, rfl, rfl, rfl⟩⟩
theorem Ex.pJ (s : fS) (a k : Nat) (v : Int) : Ex [a] s (s.pJ a k v) := ⟨Nat.le_refl _, fun x _ hn => ⟨rfl, if_neg (fun e : x = a => hn (by simp [e])), rfl, rfl, rfl, rfl⟩⟩
theorem Ex.pO (s : fS) (a k : Nat) (v : Option Nat) : Ex [a] s (s.pO a k v) := ⟨Nat.le_refl _, fun x _ hn => ⟨rfl, rfl, rfl, if_neg (fun e : x = a => hn (by simp [e])), rfl, rfl⟩⟩
theorem Ex.cp (s : fS) (a x b y n : Nat) : Ex [b] s (s.cp a x b y n) := ⟨Nat.le_refl _, fun z _ hn => ⟨if_neg (fun e : z = b => hn (by simp [e])), rfl, rfl, rfl, rfl, rfl⟩⟩
theorem Ex.nw (s : fS) (t l z d : Nat) (h : s.c < 1000288) : Ex [] s (s.nw t l z d) := ⟨Nat.le_succ _, fun x hx _ => by
  have hne : x ≠ s.c := by unfold bA at hx; omega
  exact ⟨if_neg hne, if_neg hne, if_neg hne, if_neg hne, if_neg hne, if_neg hne⟩⟩
theorem sS.cp {m : Nat} {s : fS} (S : sS m s) (a x b y n : Nat) : sS m (s.cp a x b y n) := ⟨S.t, S.p, S.n, S.o, S.w, S.l, S.c⟩
theorem sS.nw {m : Nat} {s : fS} (S : sS m s) {t l z d : Nat} (h : s.c < 1000288) (h33 : t ≠ 33) : sS m (s.nw t l z d) := by
  have hl := S.c
  have hlim := f_lim_le m
  refine ⟨fun x hx => ?_, ?_, fun x hx h1 h2 => ?_, fun x k y hx hy => ?_, fun g hg x k e => ?_, fun x e => ?_, ?_⟩
  · rw [nw_t, if_neg (by omega)]; exact S.t x hx
  · rw [nw_t, if_neg (by omega)]; exact S.p
  · rw [nw_n, if_neg (by omega)]; exact S.n x hx h1 h2
  · rw [nw_o, if_neg (by omega)]; exact S.o x k y hx hy
  · rw [nw_o] at e; split at e
    · cases e
    · exact S.w g hg x k e
  · rw [nw_t] at e; split at e
    · exact absurd e h33
    · exact S.l x e
  · show f_lim m ≤ s.c + 1; omega
/-- the store after an array g took over a new one of length l that holds what it held -/
def fS.gr (s : fS) (g l : Nat) : fS := (s.c + 1, s.z + l, (fun b => if b = s.c then 200 else s.t b), (fun b => if b = g then l else if b = s.c then 0 else s.n b), (fun b => if b = g then (fun k => if k < s.n g then s.i g k else 0) else if b = s.c then (fun k => if k < s.n g then s.i g k else 0) else s.i b), (fun b => if b = s.c then (fun _ => 0) else s.j b), (fun b => if b = s.c then (fun _ => none) else s.o b), (fun b => if b = s.c then 0 else s.g b))
theorem sS.gr {m : Nat} {s : fS} (S : sS m s) {g l : Nat} (hg : g ∈ f_G) (h : s.c < 1000288) : sS m (s.gr g l) := by
  have hl := S.c
  have hlim := f_lim_le m
  refine ⟨fun x hx => ?_, ?_, fun x hx h1 h2 => ?_, fun x k y hx hy => ?_, fun g' hg' x k e => ?_, fun x e => ?_, ?_⟩
  · show (if x = s.c then 200 else s.t x) = _; rw [if_neg (by omega)]; exact S.t x hx
  · show (if 1000288 = s.c then 200 else s.t 1000288) = _ ∨ _ ∧ 128 ≤ (if 1000288 = s.c then 200 else s.t 1000288); rw [if_neg (by omega)]; exact S.p
  · show (if x = g then l else if x = s.c then 0 else s.n x) = _; rw [if_neg (fun e : x = g => h2 (e ▸ hg)), if_neg (by omega)]; exact S.n x hx h1 h2
  · show (if x = s.c then (fun _ => none) else s.o x : Nat → Option Nat) k = _; rw [if_neg (by omega)]; exact S.o x k y hx hy
  · have e' : (if x = s.c then (fun _ => none) else s.o x : Nat → Option Nat) k = some g' := e
    split at e'
    · cases e'
    · exact S.w g' hg' x k e'
  · have e' : (if x = s.c then 200 else s.t x) = 33 := e
    split at e'
    · omega
    · exact S.l x e'
  · show f_lim m ≤ s.c + 1; omega
theorem Ex.gr {s : fS} {g l : Nat} (h : s.c < 1000288) : Ex [g] s (s.gr g l) := ⟨Nat.le_succ _, fun x hx hn => by
  have hne : x ≠ s.c := by unfold bA at hx; omega
  have hg : x ≠ g := fun e => hn (by simp [e])
  refine ⟨?_, if_neg hne, ?_, if_neg hne, if_neg hne, if_neg hne⟩
  · show (if x = g then _ else if x = s.c then _ else s.i x) = _; rw [if_neg hg, if_neg hne]
  · show (if x = g then _ else if x = s.c then _ else s.n x) = _; rw [if_neg hg, if_neg hne]⟩
/-- the growing of an array of ints -/
theorem grow {m : Nat} {s : fS} (S : sS m s) {g : Nat} (hg : g ∈ f_G) (ht : s.t g = 100) (hgc : bA s g) {e : Int} (he : 0 ≤ e) (he2 : e ≤ 10000000) (hr : s.c + 1 ≤ 170145) (hz : s.z + (2 * e).toNat ≤ 8591047) :
    ∃ σ, (∀ {γ : Type} (K : fS → Option γ), ((FX1_grown g e s).bind fun q => (uMV q.2 g q.1).bind K) = K σ) ∧ ((e ≤ s.n g ∧ σ = s) ∨ ((s.n g : Int) < e ∧ σ = s.gr g (2 * e).toNat)) := by
  have hne : g ≠ s.c := by unfold bA at hgc; omega
  by_cases c : (s.n g : Int) < e
  · refine ⟨s.gr g (2 * e).toNat, fun K => ?_, Or.inr ⟨c, rfl⟩⟩
    have him : imul 2 e = 2 * e := imul_eq ⟨by omega, by omega⟩
    have hK1 : uKL s g = some () := by unfold uKL; rw [if_pos (by omega)]
    have hNA : uNA 110 0 s (imul 2 e) = some (s.c, s.nw 110 (2 * e).toNat (2 * e).toNat 0) := by
      unfold uNA; rw [him, if_pos ⟨by omega, by omega, hr, hz⟩]
    have t1 : (s.nw 110 (2 * e).toNat (2 * e).toNat 0).t g = 100 := by rw [nw_t, if_neg hne]; exact ht
    have t2 : (s.nw 110 (2 * e).toNat (2 * e).toNat 0).t s.c = 110 := by rw [nw_t, if_pos rfl]
    have n1 : (s.nw 110 (2 * e).toNat (2 * e).toNat 0).n g = s.n g := by rw [nw_n, if_neg hne]
    have n2 : (s.nw 110 (2 * e).toNat (2 * e).toNat 0).n s.c = (2 * e).toNat := by rw [nw_n, if_pos rfl]
    have hCP : uCP (s.nw 110 (2 * e).toNat (2 * e).toNat 0) g 0 s.c 0 ((s.nw 110 (2 * e).toNat (2 * e).toNat 0).n g : Int) = some ((s.nw 110 (2 * e).toNat (2 * e).toNat 0).cp g 0 s.c 0 (s.n g)) := by
      unfold uCP; rw [if_pos, n1]; rfl
      rw [t1, t2, n1, n2]
      refine ⟨⟨by omega, by omega, by omega⟩, by decide, ?_, ?_⟩
      · show 0 + s.n g ≤ s.n g; omega
      · show 0 + s.n g ≤ (2 * e).toNat; omega
    have hF : FX1_grown g e s = some (s.c, (s.nw 110 (2 * e).toNat (2 * e).toNat 0).cp g 0 s.c 0 (s.n g)) := by
      unfold FX1_grown
      rw [hK1]; show (if (s.n g : Int) < e then _ else _) = _
      rw [if_pos c, hNA]
      show (uKL (s.nw 110 (2 * e).toNat (2 * e).toNat 0) g).bind _ = _
      have k2 : uKL (s.nw 110 (2 * e).toNat (2 * e).toNat 0) g = some () := by unfold uKL; rw [t1, if_pos (by omega)]
      have k3 : uKA 100 (s.nw 110 (2 * e).toNat (2 * e).toNat 0) g = some () := by unfold uKA; rw [t1, if_pos (by decide)]
      have k4 : uKA 100 (s.nw 110 (2 * e).toNat (2 * e).toNat 0) s.c = some () := by unfold uKA; rw [t2, if_pos (by decide)]
      rw [k2]
      show (uKA 100 (s.nw 110 (2 * e).toNat (2 * e).toNat 0) g).bind _ = _
      rw [k3]
      show (uKA 100 (s.nw 110 (2 * e).toNat (2 * e).toNat 0) s.c).bind _ = _
      rw [k4]
      show (uCP (s.nw 110 (2 * e).toNat (2 * e).toNat 0) g 0 s.c 0 ((s.nw 110 (2 * e).toNat (2 * e).toNat 0).n g : Int)).bind _ = _
      rw [hCP]; rfl
    rw [hF]
    show (uMV ((s.nw 110 (2 * e).toNat (2 * e).toNat 0).cp g 0 s.c 0 (s.n g)) g s.c).bind K = _
    have hMV : uMV ((s.nw 110 (2 * e).toNat (2 * e).toNat 0).cp g 0 s.c 0 (s.n g)) g s.c = some (s.gr g (2 * e).toNat) := by
      unfold uMV
      rw [if_pos (Or.inr (by show (s.nw 110 (2 * e).toNat (2 * e).toNat 0).t s.c = (s.nw 110 (2 * e).toNat (2 * e).toNat 0).t g + 10; rw [t1, t2]))]
      refine congrArg some ?_
      unfold fS.mv; rw [if_neg (fun w => hne w.symm)]
      refine fS.ext' rfl rfl ?_ ?_ ?_ rfl rfl rfl
      · funext b; show (if b = s.c then 200 else (if b = s.c then 110 else s.t b)) = (if b = s.c then 200 else s.t b); split <;> rfl
      · funext b
        show (if b = g then (if s.c = s.c then (2 * e).toNat else s.n s.c) else if b = s.c then 0 else (if b = s.c then (2 * e).toNat else s.n b)) = (if b = g then (2 * e).toNat else if b = s.c then 0 else s.n b)
        rw [if_pos rfl]; split
        · rfl
        · split <;> rfl
      · funext b
        have hcp : ∀ k, ((s.nw 110 (2 * e).toNat (2 * e).toNat 0).cp g 0 s.c 0 (s.n g)).i s.c k = if k < s.n g then s.i g k else 0 := fun k => by
          rw [cp_i, if_pos rfl, nw_i, nw_i, if_neg hne, if_pos rfl]
          by_cases w : k < s.n g
          · rw [if_pos w, if_pos ⟨Nat.zero_le _, by omega⟩]; congr 1; omega
          · rw [if_neg w, if_neg (fun v => w (by omega))]
        show (if b = g then ((s.nw 110 (2 * e).toNat (2 * e).toNat 0).cp g 0 s.c 0 (s.n g)).i s.c else ((s.nw 110 (2 * e).toNat (2 * e).toNat 0).cp g 0 s.c 0 (s.n g)).i b) = (if b = g then (fun k => if k < s.n g then s.i g k else 0) else if b = s.c then (fun k => if k < s.n g then s.i g k else 0) else s.i b)
        by_cases w : b = g
        · rw [if_pos w, if_pos w]; funext k; exact hcp k
        · rw [if_neg w, if_neg w]
          by_cases v : b = s.c
          · rw [if_pos v, v]; funext k; exact hcp k
          · rw [if_neg v]; funext k; rw [cp_i, if_neg v, nw_i, if_neg v]
    rw [hMV]; rfl
  · refine ⟨s, fun K => ?_, Or.inl ⟨by omega, rfl⟩⟩
    have hF : FX1_grown g e s = some (g, s) := by
      unfold FX1_grown
      have hK1 : uKL s g = some () := by unfold uKL; rw [if_pos (by omega)]
      rw [hK1]; show (if (s.n g : Int) < e then _ else _) = _
      rw [if_neg c]
    rw [hF]
    show (uMV s g g).bind K = _
    have : uMV s g g = some s := by unfold uMV fS.mv; rw [if_pos (Or.inl rfl), if_pos rfl]
    rw [this]; rfl
