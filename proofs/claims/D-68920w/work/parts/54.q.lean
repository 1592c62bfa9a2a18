set_option maxRecDepth 100000
set_option maxHeartbeats 4000000
/-! functions that only read, without the threading of the store -/
theorem p_if {P : Prop} [Decidable P] {α : Type} {A B : Option (α × fS)} {x y : α} {s : fS} (h1 : P → A = some (x, s)) (h2 : ¬ P → B = some (y, s)) : (if P then A else B) = some (if P then x else y, s) := by
  by_cases e : P
  · rw [if_pos e, if_pos e]; exact h1 e
  · rw [if_neg e, if_neg e]; exact h2 e
theorem p_call {α β : Type} {O : Option α} {q : α} {K : α → Option β} {R : Option β} (h : O = some q) (k : K q = R) : O.bind K = R := by rw [h]; exact k
theorem o_if {P : Prop} [Decidable P] {α β : Type} {f : α → β} {A B : Option β} {A' B' : Option α} (h1 : P → A = A'.map f) (h2 : ¬ P → B = B'.map f) : (if P then A else B) = (if P then A' else B').map f := by
  by_cases e : P
  · rw [if_pos e, if_pos e]; exact h1 e
  · rw [if_neg e, if_neg e]; exact h2 e
theorem o_div {P : Prop} [Decidable P] {α β : Type} {f : α → β} {B : Option β} {B' : Option α} (h2 : ¬ P → B = B'.map f) : (if P then none else B) = (if P then none else B').map f := o_if (fun _ => rfl) h2
theorem o_bind {α β γ : Type} {f : α → β} {O : Option γ} {K : γ → Option β} {K' : γ → Option α} (h : ∀ x, K x = (K' x).map f) : O.bind K = (O.bind K').map f := by
  cases O with
  | none => rfl
  | some x => exact h x
theorem o_call {α β γ δ : Type} {f : α → β} {g : γ → δ} {O : Option δ} {G : Option γ} {K : δ → Option β} {K' : γ → Option α} (h : O = G.map g) (k : ∀ x, K (g x) = (K' x).map f) : O.bind K = (G.bind K').map f := by
  rw [h]; cases G with
  | none => rfl
  | some x => exact k x
theorem o_z {α : Type} {x : Int} {y : α} {s : fS} : uZ x (y, s) = (uZ x y).map (fun z => (z, s)) := by unfold uZ; split <;> rfl
def GX9_isOf (p0 : Int) (p1 : Int) (s : fS) : Option Int :=
  (uRI s 29 (imul 2 p0)).bind fun x3 =>
  if ¬ ((isub (ishr x3 10) 2200) = p1) then
    some 0
  else
    some 1
theorem AX9_isOf {p0 : Int} {p1 : Int} {s : fS} : FX9_isOf p0 p1 s = (GX9_isOf p0 p1 s).map (fun x => (x, s)) := (o_bind (fun x3 => (o_if (fun _ => rfl) (fun _ => rfl))))
def GX1_category (p0 : Int) : Int :=
  (ishr p0 8)
theorem AX1_category {p0 : Int} {s : fS} : FX1_category p0 s = some (GX1_category p0, s) := rfl
def GX2_at (this : Nat) (p0 : Int) (p1 : Int) (s : fS) : Option Int :=
  (uK 1 s this).bind fun _ =>
  (s.o this 0).bind fun a1 =>
  (uKA 102 s a1).bind fun _ =>
  (uRI s a1 (iadd (imul 4 p0) p1)).bind fun x3 =>
  some (iand x3 255)
theorem AX2_at {this : Nat} {p0 : Int} {p1 : Int} {s : fS} : FX2_at this p0 p1 s = (GX2_at this p0 p1 s).map (fun x => (x, s)) := (o_bind (fun _ => (o_bind (fun a1 => (o_bind (fun _ => (o_bind (fun x3 => rfl))))))))
def GX2_half (this : Nat) (p0 : Int) (s : fS) : Option Int :=
  (uK 1 s this).bind fun _ =>
  (GX2_at this (idiv p0 2) (imul 2 (iand p0 1)) s).bind fun q2_ =>
  (uK 1 s this).bind fun _ =>
  (GX2_at this (idiv p0 2) (iadd (imul 2 (iand p0 1)) 1) s).bind fun q4_ =>
  some (ior (ishl q2_ 8) q4_)
theorem AX2_half {this : Nat} {p0 : Int} {s : fS} : FX2_half this p0 s = (GX2_half this p0 s).map (fun x => (x, s)) := (o_bind (fun _ => (o_call AX2_at (fun q2_ => (o_bind (fun _ => (o_call AX2_at (fun q4_ => rfl))))))))
def GX2_whole (this : Nat) (p0 : Int) (s : fS) : Option Int :=
  (uK 1 s this).bind fun _ =>
  (GX2_at this p0 0 s).bind fun q2_ =>
  (uK 1 s this).bind fun _ =>
  (GX2_at this p0 1 s).bind fun q4_ =>
  (uK 1 s this).bind fun _ =>
  (GX2_at this p0 2 s).bind fun q6_ =>
  (uK 1 s this).bind fun _ =>
  (GX2_at this p0 3 s).bind fun q8_ =>
  some (ior (ior (ior (ishl q2_ 24) (ishl q4_ 16)) (ishl q6_ 8)) q8_)
theorem AX2_whole {this : Nat} {p0 : Int} {s : fS} : FX2_whole this p0 s = (GX2_whole this p0 s).map (fun x => (x, s)) := (o_bind (fun _ => (o_call AX2_at (fun q2_ => (o_bind (fun _ => (o_call AX2_at (fun q4_ => (o_bind (fun _ => (o_call AX2_at (fun q6_ => (o_bind (fun _ => (o_call AX2_at (fun q8_ => rfl))))))))))))))))
def GX6_word (this : Nat) (p0 : Int) (p1 : Int) (s : fS) : Option Int :=
  (uK 5 s this).bind fun _ =>
  (s.o this 0).bind fun a1 =>
  (uK 5 s this).bind fun _ =>
  (s.o this 2).bind fun a3 =>
  (uKA 100 s a3).bind fun _ =>
  (uRI s a3 p0).bind fun x5 =>
  (uKA 100 s a1).bind fun _ =>
  (uRI s a1 (iadd x5 p1)).bind fun x7 =>
  some x7
theorem AX6_word {this : Nat} {p0 : Int} {p1 : Int} {s : fS} : FX6_word this p0 p1 s = (GX6_word this p0 p1 s).map (fun x => (x, s)) := (o_bind (fun _ => (o_bind (fun a1 => (o_bind (fun _ => (o_bind (fun a3 => (o_bind (fun _ => (o_bind (fun x5 => (o_bind (fun _ => (o_bind (fun x7 => rfl))))))))))))))))
def GX6_a (p0 : Int) : Int :=
  (iush p0 24)
theorem AX6_a {p0 : Int} {s : fS} : FX6_a p0 s = some (GX6_a p0, s) := rfl
def GX6_b (p0 : Int) : Int :=
  (iand (ishr p0 16) 255)
theorem AX6_b {p0 : Int} {s : fS} : FX6_b p0 s = some (GX6_b p0, s) := rfl
def GX6_c (p0 : Int) : Int :=
  (iand (ishr p0 8) 255)
theorem AX6_c {p0 : Int} {s : fS} : FX6_c p0 s = some (GX6_c p0, s) := rfl
def GX6_has (this : Nat) (p0 : Int) (s : fS) : Option Int :=
  (uK 5 s this).bind fun _ =>
  if p0 < (s.i this 4) then
    some 0
  else
    (uK 5 s this).bind fun _ =>
    if (s.i this 5) < p0 then
      some 0
    else
      (uK 5 s this).bind fun _ =>
      (uK 5 s this).bind fun _ =>
      (GX6_word this 1 (isub p0 (s.i this 4)) s).bind fun q10_ =>
      if (GX6_a q10_) ≤ 0 then
        some 0
      else
        some 1
theorem AX6_has {this : Nat} {p0 : Int} {s : fS} : FX6_has this p0 s = (GX6_has this p0 s).map (fun x => (x, s)) := (o_bind (fun _ => (o_if (fun _ => rfl) (fun _ => (o_bind (fun _ => (o_if (fun _ => rfl) (fun _ => (o_bind (fun _ => (o_bind (fun _ => (o_call AX6_word (fun q10_ => (p_call AX6_a (o_if (fun _ => rfl) (fun _ => rfl)))))))))))))))))
def GX6_tag (this : Nat) (p0 : Int) (s : fS) : Option Int :=
  (uK 5 s this).bind fun _ =>
  (uK 5 s this).bind fun _ =>
  (GX6_word this 1 (isub p0 (s.i this 4)) s).bind fun q4_ =>
  some (iand (GX6_c q4_) 3)
theorem AX6_tag {this : Nat} {p0 : Int} {s : fS} : FX6_tag this p0 s = (GX6_tag this p0 s).map (fun x => (x, s)) := (o_bind (fun _ => (o_bind (fun _ => (o_call AX6_word (fun q4_ => (p_call AX6_c rfl)))))))
def GX6_d (p0 : Int) : Int :=
  (iand p0 255)
theorem AX6_d {p0 : Int} {s : fS} : FX6_d p0 s = some (GX6_d p0, s) := rfl
def GX6_rest (this : Nat) (p0 : Int) (s : fS) : Option Int :=
  (uK 5 s this).bind fun _ =>
  (uK 5 s this).bind fun _ =>
  (GX6_word this 1 (isub p0 (s.i this 4)) s).bind fun q4_ =>
  some (GX6_d q4_)
theorem AX6_rest {this : Nat} {p0 : Int} {s : fS} : FX6_rest this p0 s = (GX6_rest this p0 s).map (fun x => (x, s)) := (o_bind (fun _ => (o_bind (fun _ => (o_call AX6_word (fun q4_ => (p_call AX6_d rfl)))))))
def GX6_isFraction (this : Nat) (p0 : Int) : Int :=
  if (GX6_a p0) = 0 then
    1
  else
    if ¬ ((GX6_a p0) = 255) then
      0
    else
      1
theorem AX6_isFraction {this : Nat} {p0 : Int} {s : fS} : FX6_isFraction this p0 s = some (GX6_isFraction this p0, s) := (p_call AX6_a (p_if (fun _ => rfl) (fun _ => (p_call AX6_a (p_if (fun _ => rfl) (fun _ => rfl))))))
def GX6_far (p0 : Int) : Int :=
  (iand p0 65535)
theorem AX6_far {p0 : Int} {s : fS} : FX6_far p0 s = some (GX6_far p0, s) := rfl
def GX14_next (s : fS) : Option Int :=
  if (s.i 60 6) < (s.i 60 5) then
    (s.o 60 4).bind fun a6 =>
    (uKA 102 s a6).bind fun _ =>
    (uRI s a6 (s.i 60 6)).bind fun x10 =>
    if ¬ (x10 = 0) then
      (s.o 60 4).bind fun a13 =>
      (uKA 102 s a13).bind fun _ =>
      (uRI s a13 (s.i 60 6)).bind fun x17 =>
      some (iand x17 255)
    else
      some 256
  else
    some 0
theorem AX14_next {s : fS} : FX14_next s = (GX14_next s).map (fun x => (x, s)) := (o_if (fun _ => (o_bind (fun a6 => (o_bind (fun _ => (o_bind (fun x10 => (o_if (fun _ => (o_bind (fun a13 => (o_bind (fun _ => (o_bind (fun x17 => rfl))))))) (fun _ => rfl))))))))) (fun _ => rfl))
def GX14_letter (p0 : Int) : Int :=
  if p0 < 97 then
    if p0 < 65 then
      0
    else
      if 90 < p0 then
        0
      else
        (isub p0 64)
  else
    if 122 < p0 then
      if p0 < 65 then
        0
      else
        if 90 < p0 then
          0
        else
          (isub p0 64)
    else
      (isub p0 96)
theorem AX14_letter {p0 : Int} {s : fS} : FX14_letter p0 s = some (GX14_letter p0, s) := (p_if (fun _ => (p_if (fun _ => rfl) (fun _ => (p_if (fun _ => rfl) (fun _ => rfl))))) (fun _ => (p_if (fun _ => (p_if (fun _ => rfl) (fun _ => (p_if (fun _ => rfl) (fun _ => rfl))))) (fun _ => rfl))))
def GX14_isOver (s : fS) : Option Int :=
  (GX14_next s).bind fun q2_ =>
  if q2_ = 0 then
    some 1
  else
    (GX14_next s).bind fun q5_ =>
    if ¬ (q5_ = 32) then
      some 0
    else
      some 1
theorem AX14_isOver {s : fS} : FX14_isOver s = (GX14_isOver s).map (fun x => (x, s)) := (o_call AX14_next (fun q2_ => (o_if (fun _ => rfl) (fun _ => (o_call AX14_next (fun q5_ => (o_if (fun _ => rfl) (fun _ => rfl))))))))
def GX14_isDigit (p0 : Int) : Int :=
  if p0 < 48 then
    0
  else
    if 57 < p0 then
      0
    else
      1
theorem AX14_isDigit {p0 : Int} {s : fS} : FX14_isDigit p0 s = some (GX14_isDigit p0, s) := (p_if (fun _ => rfl) (fun _ => (p_if (fun _ => rfl) (fun _ => rfl))))
def GX11_character (p0 : Int) (s : fS) : Option Int :=
  if ¬ (p0 = (s.i 50 7)) then
    (uRI s 51 p0).bind fun x6 =>
    some (iand x6 255)
  else
    some 13
theorem AX11_character {p0 : Int} {s : fS} : FX11_character p0 s = (GX11_character p0 s).map (fun x => (x, s)) := (o_if (fun _ => (o_bind (fun x6 => rfl))) (fun _ => rfl))
def GX9_category (p0 : Int) (s : fS) : Option Int :=
  (uRI s 27 (iadd 1839 p0)).bind fun x3 =>
  some x3
theorem AX9_category {p0 : Int} {s : fS} : FX9_category p0 s = (GX9_category p0 s).map (fun x => (x, s)) := (o_bind (fun x3 => rfl))
def GX11_isLetter (s : fS) : Option Int :=
  if (s.i 50 7) < (s.i 50 6) then
    some 0
  else
    (GX11_character (s.i 50 6) s).bind fun q11_ =>
    (GX9_category q11_ s).bind fun q13_ =>
    if ¬ (q13_ = 11) then
      some 0
    else
      some 1
theorem AX11_isLetter {s : fS} : FX11_isLetter s = (GX11_isLetter s).map (fun x => (x, s)) := (o_if (fun _ => rfl) (fun _ => (o_call AX11_character (fun q11_ => (o_call AX9_category (fun q13_ => (o_if (fun _ => rfl) (fun _ => rfl))))))))
def GX8_isMarked (p0 : Int) : Int :=
  if p0 < 1048576 then
    0
  else
    1
theorem AX8_isMarked {p0 : Int} {s : fS} : FX8_isMarked p0 s = some (GX8_isMarked p0, s) := (p_if (fun _ => rfl) (fun _ => rfl))
def GX1_isCharacter (p0 : Int) : Int :=
  if p0 < 0 then
    0
  else
    if 4096 ≤ p0 then
      0
    else
      1
theorem AX1_isCharacter {p0 : Int} {s : fS} : FX1_isCharacter p0 s = some (GX1_isCharacter p0, s) := (p_if (fun _ => rfl) (fun _ => (p_if (fun _ => rfl) (fun _ => rfl))))
def GX8_kind (p0 : Int) (s : fS) : Option Int :=
  if (GX8_isMarked p0) = 0 then
    if (GX1_isCharacter p0) = 0 then
      (uRI s 24 (isub p0 4096)).bind fun x9 =>
      some x9
    else
      some 3
  else
    some 1
theorem AX8_kind {p0 : Int} {s : fS} : FX8_kind p0 s = (GX8_kind p0 s).map (fun x => (x, s)) := (p_call AX8_isMarked (o_if (fun _ => (p_call AX1_isCharacter (o_if (fun _ => (o_bind (fun x9 => rfl))) (fun _ => rfl)))) (fun _ => rfl)))
def GX8_value (p0 : Int) (s : fS) : Option Int :=
  if (GX8_isMarked p0) = 0 then
    if (GX1_isCharacter p0) = 0 then
      (uRI s 25 (isub p0 4096)).bind fun x9 =>
      some x9
    else
      some p0
  else
    some 22
theorem AX8_value {p0 : Int} {s : fS} : FX8_value p0 s = (GX8_value p0 s).map (fun x => (x, s)) := (p_call AX8_isMarked (o_if (fun _ => (p_call AX1_isCharacter (o_if (fun _ => (o_bind (fun x9 => rfl))) (fun _ => rfl)))) (fun _ => rfl)))
def GX8_isExpandable (p0 : Int) (s : fS) : Option Int :=
  if ¬ (p0 = (-1)) then
    (GX8_kind p0 s).bind fun q3_ =>
    if q3_ = 2 then
      some 1
    else
      if ¬ (q3_ = 1) then
        some 0
      else
        (GX8_value p0 s).bind fun q7_ =>
        if 22 ≤ q7_ then
          some 0
        else
          some 1
  else
    some 0
theorem AX8_isExpandable {p0 : Int} {s : fS} : FX8_isExpandable p0 s = (GX8_isExpandable p0 s).map (fun x => (x, s)) := (o_if (fun _ => (o_call AX8_kind (fun q3_ => (o_if (fun _ => rfl) (fun _ => (o_if (fun _ => rfl) (fun _ => (o_call AX8_value (fun q7_ => (o_if (fun _ => rfl) (fun _ => rfl))))))))))) (fun _ => rfl))
def GX6_begin (this : Nat) (p0 : Int) (s : fS) : Option Int :=
  (uK 5 s this).bind fun _ =>
  (GX6_word this 6 p0 s).bind fun q2_ =>
  if (GX6_a q2_) ≤ 128 then
    some p0
  else
    (uK 5 s this).bind fun _ =>
    (GX6_word this 6 p0 s).bind fun q6_ =>
    some (GX6_far q6_)
theorem AX6_begin {this : Nat} {p0 : Int} {s : fS} : FX6_begin this p0 s = (GX6_begin this p0 s).map (fun x => (x, s)) := (o_bind (fun _ => (o_call AX6_word (fun q2_ => (p_call AX6_a (o_if (fun _ => rfl) (fun _ => (o_bind (fun _ => (o_call AX6_word (fun q6_ => (p_call AX6_far rfl))))))))))))
def GX6_kern (this : Nat) (p0 : Int) (s : fS) : Option Int :=
  (uK 5 s this).bind fun _ =>
  (s.o this 1).bind fun a1 =>
  (uK 5 s this).bind fun _ =>
  (s.o this 2).bind fun a3 =>
  (uKA 100 s a3).bind fun _ =>
  (uRI s a3 7).bind fun x5 =>
  (uKA 100 s a1).bind fun _ =>
  (uRI s a1 (isub (iadd x5 p0) 32768)).bind fun x7 =>
  some x7
theorem AX6_kern {this : Nat} {p0 : Int} {s : fS} : FX6_kern this p0 s = (GX6_kern this p0 s).map (fun x => (x, s)) := (o_bind (fun _ => (o_bind (fun a1 => (o_bind (fun _ => (o_bind (fun a3 => (o_bind (fun _ => (o_bind (fun x5 => (o_bind (fun _ => (o_bind (fun x7 => rfl))))))))))))))))
def GX18_item (p0 : Int) (s : fS) : Option Int :=
  (uRI s 93 p0).bind fun x3 =>
  (uRI s 90 x3).bind fun x7 =>
  if ¬ (x7 = 257) then
    (uRI s 90 x3).bind fun x12 =>
    some x12
  else
    (uRI s 91 x3).bind fun x16 =>
    some x16
theorem AX18_item {p0 : Int} {s : fS} : FX18_item p0 s = (GX18_item p0 s).map (fun x => (x, s)) := (o_bind (fun x3 => (o_bind (fun x7 => (o_if (fun _ => (o_bind (fun x12 => rfl))) (fun _ => (o_bind (fun x16 => rfl))))))))
def GX18_isKern (p0 : Int) (s : fS) : Option Int :=
  (uRI s 93 p0).bind fun x5 =>
  (uRI s 90 x5).bind fun x7 =>
  if ¬ (x7 = 257) then
    some 0
  else
    some 1
theorem AX18_isKern {p0 : Int} {s : fS} : FX18_isKern p0 s = (GX18_isKern p0 s).map (fun x => (x, s)) := (o_bind (fun x5 => (o_bind (fun x7 => (o_if (fun _ => rfl) (fun _ => rfl))))))
def GX6_of (this : Nat) (p0 : Int) (p1 : Int) (s : fS) : Option Int :=
  (uK 5 s this).bind fun _ =>
  (uK 5 s this).bind fun _ =>
  (GX6_word this 1 (isub p0 (s.i this 4)) s).bind fun q4_ =>
  if p1 = 0 then
    (uK 5 s this).bind fun _ =>
    (s.o this 1).bind fun a6 =>
    (uK 5 s this).bind fun _ =>
    (s.o this 2).bind fun a8 =>
    (uKA 100 s a8).bind fun _ =>
    (uRI s a8 2).bind fun x10 =>
    (uKA 100 s a6).bind fun _ =>
    (uRI s a6 (iadd x10 (GX6_a q4_))).bind fun x13 =>
    some x13
  else
    if p1 = 1 then
      (uK 5 s this).bind fun _ =>
      (s.o this 1).bind fun a16 =>
      (uK 5 s this).bind fun _ =>
      (s.o this 2).bind fun a18 =>
      (uKA 100 s a18).bind fun _ =>
      (uRI s a18 3).bind fun x20 =>
      (uKA 100 s a16).bind fun _ =>
      (uRI s a16 (iadd x20 (idiv (GX6_b q4_) 16))).bind fun x23 =>
      some x23
    else
      if p1 = 2 then
        (uK 5 s this).bind fun _ =>
        (s.o this 1).bind fun a26 =>
        (uK 5 s this).bind fun _ =>
        (s.o this 2).bind fun a28 =>
        (uKA 100 s a28).bind fun _ =>
        (uRI s a28 4).bind fun x30 =>
        (uKA 100 s a26).bind fun _ =>
        (uRI s a26 (iadd x30 (irem (GX6_b q4_) 16))).bind fun x33 =>
        some x33
      else
        if p1 = 3 then
          (uK 5 s this).bind fun _ =>
          (s.o this 1).bind fun a36 =>
          (uK 5 s this).bind fun _ =>
          (s.o this 2).bind fun a38 =>
          (uKA 100 s a38).bind fun _ =>
          (uRI s a38 5).bind fun x40 =>
          (uKA 100 s a36).bind fun _ =>
          (uRI s a36 (iadd x40 (idiv (GX6_c q4_) 4))).bind fun x43 =>
          some x43
        else
          if p1 = 4 then
            (uK 5 s this).bind fun _ =>
            (GX6_tag this p0 s).bind fun q47_ =>
            some q47_
          else
            (uK 5 s this).bind fun _ =>
            (GX6_rest this p0 s).bind fun q49_ =>
            some q49_
theorem AX6_of {this : Nat} {p0 : Int} {p1 : Int} {s : fS} : FX6_of this p0 p1 s = (GX6_of this p0 p1 s).map (fun x => (x, s)) := (o_bind (fun _ => (o_bind (fun _ => (o_call AX6_word (fun q4_ => (o_if (fun _ => (o_bind (fun _ => (o_bind (fun a6 => (o_bind (fun _ => (o_bind (fun a8 => (o_bind (fun _ => (o_bind (fun x10 => (p_call AX6_a (o_bind (fun _ => (o_bind (fun x13 => rfl)))))))))))))))))) (fun _ => (o_if (fun _ => (o_bind (fun _ => (o_bind (fun a16 => (o_bind (fun _ => (o_bind (fun a18 => (o_bind (fun _ => (o_bind (fun x20 => (p_call AX6_b (o_bind (fun _ => (o_bind (fun x23 => rfl)))))))))))))))))) (fun _ => (o_if (fun _ => (o_bind (fun _ => (o_bind (fun a26 => (o_bind (fun _ => (o_bind (fun a28 => (o_bind (fun _ => (o_bind (fun x30 => (p_call AX6_b (o_bind (fun _ => (o_bind (fun x33 => rfl)))))))))))))))))) (fun _ => (o_if (fun _ => (o_bind (fun _ => (o_bind (fun a36 => (o_bind (fun _ => (o_bind (fun a38 => (o_bind (fun _ => (o_bind (fun x40 => (p_call AX6_c (o_bind (fun _ => (o_bind (fun x43 => rfl)))))))))))))))))) (fun _ => (o_if (fun _ => (o_bind (fun _ => (o_call AX6_tag (fun q47_ => rfl))))) (fun _ => (o_bind (fun _ => (o_call AX6_rest (fun q49_ => rfl))))))))))))))))))))
def GX16_hasHyphen (p0 : Int) (p1 : Int) (s : fS) : Option Int :=
  (uRJ s 79 p0).bind fun x3 =>
  if ¬ ((land (lshr x3 p1) 1) = 1) then
    some 0
  else
    some 1
theorem AX16_hasHyphen {p0 : Int} {p1 : Int} {s : fS} : FX16_hasHyphen p0 p1 s = (GX16_hasHyphen p0 p1 s).map (fun x => (x, s)) := (o_bind (fun x3 => (o_if (fun _ => rfl) (fun _ => rfl))))
def GX14_isBroken (p0 : Int) (s : fS) : Option Int :=
  (uRI s 88 (iadd p0 1)).bind fun x5 =>
  if ¬ ((irem x5 2) = 1) then
    some 0
  else
    if p0 < 2 then
      some 0
    else
      if (isub (s.i 83 2) p0) < 3 then
        some 0
      else
        some 1
theorem AX14_isBroken {p0 : Int} {s : fS} : FX14_isBroken p0 s = (GX14_isBroken p0 s).map (fun x => (x, s)) := (o_bind (fun x5 => (o_if (fun _ => rfl) (fun _ => (o_if (fun _ => rfl) (fun _ => (o_if (fun _ => rfl) (fun _ => rfl))))))))
def GX34_kind (this : Nat) (p0 : Int) (s : fS) : Option Int :=
  (uK 33 s this).bind fun _ =>
  (s.o this 0).bind fun a1 =>
  (uKA 100 s a1).bind fun _ =>
  (uRI s a1 (imul 6 p0)).bind fun x3 =>
  some x3
theorem AX34_kind {this : Nat} {p0 : Int} {s : fS} : FX34_kind this p0 s = (GX34_kind this p0 s).map (fun x => (x, s)) := (o_bind (fun _ => (o_bind (fun a1 => (o_bind (fun _ => (o_bind (fun x3 => rfl))))))))
def GX34_of (this : Nat) (p0 : Int) (p1 : Int) (s : fS) : Option Int :=
  (uK 33 s this).bind fun _ =>
  (s.o this 0).bind fun a1 =>
  (uKA 100 s a1).bind fun _ =>
  (uRI s a1 (iadd (iadd (imul 6 p0) 1) p1)).bind fun x3 =>
  some x3
theorem AX34_of {this : Nat} {p0 : Int} {p1 : Int} {s : fS} : FX34_of this p0 p1 s = (GX34_of this p0 p1 s).map (fun x => (x, s)) := (o_bind (fun _ => (o_bind (fun a1 => (o_bind (fun _ => (o_bind (fun x3 => rfl))))))))
def GX3_areSame (p1 : Int) (p3 : Int) (s : fS) : Option Int :=
  (GX34_kind 186 p1 s).bind fun q2_ =>
  (GX34_kind 188 p3 s).bind fun q4_ =>
  if ¬ (q2_ = q4_) then
    some 0
  else
    (GX34_of 186 p1 0 s).bind fun q7_ =>
    (GX34_of 188 p3 0 s).bind fun q9_ =>
    if ¬ (q7_ = q9_) then
      some 0
    else
      some 1
theorem AX3_areSame {p1 : Int} {p3 : Int} {s : fS} : FX3_areSame p1 p3 s = (GX3_areSame p1 p3 s).map (fun x => (x, s)) := (o_call AX34_kind (fun q2_ => (o_call AX34_kind (fun q4_ => (o_if (fun _ => rfl) (fun _ => (o_call AX34_of (fun q7_ => (o_call AX34_of (fun q9_ => (o_if (fun _ => rfl) (fun _ => rfl))))))))))))
def GX5_width (p0 : Int) (p1 : Int) (s : fS) : Option Int :=
  (uRO s 8 p0).bind fun a3 =>
  (uK 5 s a3).bind fun _ =>
  (GX6_of a3 p1 0 s).bind fun q6_ =>
  some q6_
theorem AX5_width {p0 : Int} {p1 : Int} {s : fS} : FX5_width p0 p1 s = (GX5_width p0 p1 s).map (fun x => (x, s)) := (o_bind (fun a3 => (o_bind (fun _ => (o_call AX6_of (fun q6_ => rfl))))))
def GX3_isVertical (s : fS) : Option Int :=
  (uRI s 176 (s.i 4 27)).bind fun x5 =>
  if 2 ≤ x5 then
    some 0
  else
    some 1
theorem AX3_isVertical {s : fS} : FX3_isVertical s = (GX3_isVertical s).map (fun x => (x, s)) := (o_bind (fun x5 => (o_if (fun _ => rfl) (fun _ => rfl))))
def GX27_kind (p0 : Int) (s : fS) : Option Int :=
  if p0 < 0 then
    some (-1)
  else
    if (s.i 133 6) ≤ p0 then
      some (-1)
    else
      (uRI s 134 p0).bind fun x7 =>
      some x7
theorem AX27_kind {p0 : Int} {s : fS} : FX27_kind p0 s = (GX27_kind p0 s).map (fun x => (x, s)) := (o_if (fun _ => rfl) (fun _ => (o_if (fun _ => rfl) (fun _ => (o_bind (fun x7 => rfl))))))
def GX28_canStep (s : fS) : Option Int :=
  if (s.i 133 6) ≤ (s.i 140 10) then
    some 0
  else
    (GX27_kind (s.i 140 10) s).bind fun q13_ =>
    if ¬ (q13_ = 2) then
      some 1
    else
      if (iadd (s.i 140 10) 1) < (s.i 133 6) then
        some 1
      else
        (s.o 140 6).bind fun a22 =>
        (uK 29 s a22).bind fun _ =>
        if ¬ ((s.i a22 4) = (-1)) then
          some 0
        else
          some 1
theorem AX28_canStep {s : fS} : FX28_canStep s = (GX28_canStep s).map (fun x => (x, s)) := (o_if (fun _ => rfl) (fun _ => (o_call AX27_kind (fun q13_ => (o_if (fun _ => rfl) (fun _ => (o_if (fun _ => rfl) (fun _ => (o_bind (fun a22 => (o_bind (fun _ => (o_if (fun _ => rfl) (fun _ => rfl))))))))))))))
def GX28_penalty (p0 : Int) (s : fS) : Option Int :=
  (GX27_kind p0 s).bind fun q4_ =>
  if ¬ (q4_ = 1) then
    if ¬ (q4_ = 2) then
      if ¬ (q4_ = 3) then
        some 10000
      else
        (uRI s 135 p0).bind fun x12 =>
        some x12
    else
      (GX27_kind (iadd p0 1) s).bind fun q17_ =>
      if ¬ (q17_ = 1) then
        some 10000
      else
        some 0
  else
    (GX27_kind (isub p0 1) s).bind fun q22_ =>
    if ¬ (q22_ = 0) then
      some 10000
    else
      some 0
theorem AX28_penalty {p0 : Int} {s : fS} : FX28_penalty p0 s = (GX28_penalty p0 s).map (fun x => (x, s)) := (o_call AX27_kind (fun q4_ => (o_if (fun _ => (o_if (fun _ => (o_if (fun _ => rfl) (fun _ => (o_bind (fun x12 => rfl))))) (fun _ => (o_call AX27_kind (fun q17_ => (o_if (fun _ => rfl) (fun _ => rfl))))))) (fun _ => (o_call AX27_kind (fun q22_ => (o_if (fun _ => rfl) (fun _ => rfl))))))))
def GX29_badnessOf (p0 : Int) (p1 : Int) : Option Int :=
  if ¬ (p1 = 0) then
    if 7230584 < p0 then
      if p1 < 1663497 then
        if p0 ≤ 1290 then
          some (l2i (ldiv (ladd (lmul (lmul p0 p0) p0) 131072) 262144))
        else
          some 10000
      else
        if (ldiv p1 297) = 0 then none else
        if (ldiv p0 (ldiv p1 297)) ≤ 1290 then
          some (l2i (ldiv (ladd (lmul (lmul (ldiv p0 (ldiv p1 297)) (ldiv p0 (ldiv p1 297))) (ldiv p0 (ldiv p1 297))) 131072) 262144))
        else
          some 10000
    else
      if p1 = 0 then none else
      if (ldiv (lmul 297 p0) p1) ≤ 1290 then
        some (l2i (ldiv (ladd (lmul (lmul (ldiv (lmul 297 p0) p1) (ldiv (lmul 297 p0) p1)) (ldiv (lmul 297 p0) p1)) 131072) 262144))
      else
        some 10000
  else
    some 10000
theorem AX29_badnessOf {p0 : Int} {p1 : Int} {s : fS} : FX29_badnessOf p0 p1 s = (GX29_badnessOf p0 p1).map (fun x => (x, s)) := (o_if (fun _ => (o_if (fun _ => (o_if (fun _ => (o_if (fun _ => rfl) (fun _ => rfl))) (fun _ => (o_div (fun _ => (o_if (fun _ => rfl) (fun _ => rfl))))))) (fun _ => (o_div (fun _ => (o_if (fun _ => rfl) (fun _ => rfl))))))) (fun _ => rfl))
def GX7_kind (p0 : Int) (s : fS) : Option Int :=
  (uRI s 18 p0).bind fun x3 =>
  some x3
theorem AX7_kind {p0 : Int} {s : fS} : FX7_kind p0 s = (GX7_kind p0 s).map (fun x => (x, s)) := (o_bind (fun x3 => rfl))
def GX7_of (p0 : Int) (p1 : Int) (s : fS) : Option Int :=
  (uRI s 19 (iadd (imul 5 p0) p1)).bind fun x3 =>
  some x3
theorem AX7_of {p0 : Int} {p1 : Int} {s : fS} : FX7_of p0 p1 s = (GX7_of p0 p1 s).map (fun x => (x, s)) := (o_bind (fun x3 => rfl))
def GX7_isRunning (p0 : Int) (p1 : Int) (s : fS) : Option Int :=
  (GX7_of p0 p1 s).bind fun q2_ =>
  if ¬ (q2_ = (-1073741824)) then
    some 0
  else
    some 1
theorem AX7_isRunning {p0 : Int} {p1 : Int} {s : fS} : FX7_isRunning p0 p1 s = (GX7_isRunning p0 p1 s).map (fun x => (x, s)) := (o_call AX7_of (fun q2_ => (o_if (fun _ => rfl) (fun _ => rfl))))
def GX7_solid (p0 : Int) (p1 : Int) (s : fS) : Option Int :=
  (GX7_of p0 p1 s).bind fun q2_ =>
  if ¬ (q2_ = (-1073741824)) then
    some q2_
  else
    some 0
theorem AX7_solid {p0 : Int} {p1 : Int} {s : fS} : FX7_solid p0 p1 s = (GX7_solid p0 p1 s).map (fun x => (x, s)) := (o_call AX7_of (fun q2_ => (o_if (fun _ => rfl) (fun _ => rfl))))
def GX3_isNear (p0 : Int) : Int :=
  if p0 < (-1000000000) then
    0
  else
    if 1000000000 < p0 then
      0
    else
      1
theorem AX3_isNear {p0 : Int} {s : fS} : FX3_isNear p0 s = some (GX3_isNear p0, s) := (p_if (fun _ => rfl) (fun _ => (p_if (fun _ => rfl) (fun _ => rfl))))
def GX31_behind (p0 : Int) (s : fS) : Option Int :=
  (uRI s 157 p0).bind fun x3 =>
  if ¬ (x3 = (-1)) then
    (uRI s 159 p0).bind fun x8 =>
    (uRI s 157 p0).bind fun x14 =>
    (uRI s 158 p0).bind fun x18 =>
    (GX5_width x14 x18 s).bind fun q21_ =>
    some (iadd x8 q21_)
  else
    (uRI s 159 p0).bind fun x24 =>
    some x24
theorem AX31_behind {p0 : Int} {s : fS} : FX31_behind p0 s = (GX31_behind p0 s).map (fun x => (x, s)) := (o_bind (fun x3 => (o_if (fun _ => (o_bind (fun x8 => (o_bind (fun x14 => (o_bind (fun x18 => (o_call AX5_width (fun q21_ => rfl))))))))) (fun _ => (o_bind (fun x24 => rfl))))))
def GX33_is (this : Nat) (p0 : Int) (p1 : Int) (s : fS) : Option Int :=
  if p0 = (-1) then
    some 0
  else
    (uK 32 s this).bind fun _ =>
    (s.o this 2).bind fun a2 =>
    (uKA 100 s a2).bind fun _ =>
    (uRI s a2 p0).bind fun x4 =>
    if ¬ (x4 = p1) then
      some 0
    else
      some 1
theorem AX33_is {this : Nat} {p0 : Int} {p1 : Int} {s : fS} : FX33_is this p0 p1 s = (GX33_is this p0 p1 s).map (fun x => (x, s)) := (o_if (fun _ => rfl) (fun _ => (o_bind (fun _ => (o_bind (fun a2 => (o_bind (fun _ => (o_bind (fun x4 => (o_if (fun _ => rfl) (fun _ => rfl))))))))))))
def GX33_isAwaited (this : Nat) (p0 : Int) (s : fS) : Option Int :=
  if p0 = (-1) then
    some 0
  else
    (uK 32 s this).bind fun _ =>
    (s.o this 3).bind fun a2 =>
    (uKA 100 s a2).bind fun _ =>
    (uRI s a2 p0).bind fun x4 =>
    (uK 32 s this).bind fun _ =>
    if x4 ≤ (s.i this 5) then
      some 0
    else
      some 1
theorem AX33_isAwaited {this : Nat} {p0 : Int} {s : fS} : FX33_isAwaited this p0 s = (GX33_isAwaited this p0 s).map (fun x => (x, s)) := (o_if (fun _ => rfl) (fun _ => (o_bind (fun _ => (o_bind (fun a2 => (o_bind (fun _ => (o_bind (fun x4 => (o_bind (fun _ => (o_if (fun _ => rfl) (fun _ => rfl))))))))))))))
def GX1_isSize (p0 : Int) : Int :=
  if p0 < (-1073741823) then
    0
  else
    if 1073741823 < p0 then
      0
    else
      1
theorem AX1_isSize {p0 : Int} {s : fS} : FX1_isSize p0 s = some (GX1_isSize p0, s) := (p_if (fun _ => rfl) (fun _ => (p_if (fun _ => rfl) (fun _ => rfl))))
def GX19_badness (p0 : Int) (p1 : Int) : Option Int :=
  if ¬ (p0 = 0) then
    if ¬ (p1 = 0) then
      if 7230584 < p0 then
        if p1 < 1663497 then
          if p0 ≤ 1290 then
            some (l2i (ldiv (ladd (lmul (lmul p0 p0) p0) 131072) 262144))
          else
            some 10000
        else
          if (ldiv p1 297) = 0 then none else
          if (ldiv p0 (ldiv p1 297)) ≤ 1290 then
            some (l2i (ldiv (ladd (lmul (lmul (ldiv p0 (ldiv p1 297)) (ldiv p0 (ldiv p1 297))) (ldiv p0 (ldiv p1 297))) 131072) 262144))
          else
            some 10000
      else
        if p1 = 0 then none else
        if (ldiv (lmul 297 p0) p1) ≤ 1290 then
          some (l2i (ldiv (ladd (lmul (lmul (ldiv (lmul 297 p0) p1) (ldiv (lmul 297 p0) p1)) (ldiv (lmul 297 p0) p1)) 131072) 262144))
        else
          some 10000
    else
      some 10000
  else
    some 0
theorem AX19_badness {p0 : Int} {p1 : Int} {s : fS} : FX19_badness p0 p1 s = (GX19_badness p0 p1).map (fun x => (x, s)) := (o_if (fun _ => (o_if (fun _ => (o_if (fun _ => (o_if (fun _ => (o_if (fun _ => rfl) (fun _ => rfl))) (fun _ => (o_div (fun _ => (o_if (fun _ => rfl) (fun _ => rfl))))))) (fun _ => (o_div (fun _ => (o_if (fun _ => rfl) (fun _ => rfl))))))) (fun _ => rfl))) (fun _ => rfl))
def GX19_nearest (p0 : Int) (p1 : Int) : Option Int :=
  if 0 ≤ p0 then
    if p1 = 0 then none else
    some (ldiv (ladd p0 (ldiv p1 2)) p1)
  else
    if p1 = 0 then none else
    some (ldiv (ladd p0 (lneg (ldiv p1 2))) p1)
theorem AX19_nearest {p0 : Int} {p1 : Int} {s : fS} : FX19_nearest p0 p1 s = (GX19_nearest p0 p1).map (fun x => (x, s)) := (o_if (fun _ => (o_div (fun _ => rfl))) (fun _ => (o_div (fun _ => rfl))))
def GX19_shareOf (p0 : Int) (p1 : Int) (p2 : Int) (s : fS) : Option Int :=
  if p1 = 0 then
    (GX7_of p0 (iadd 1 1) s).bind fun q4_ =>
    if ¬ (q4_ = p2) then
      some 0
    else
      (GX7_of p0 1 s).bind fun q9_ =>
      some q9_
  else
    (GX7_of p0 (iadd 3 1) s).bind fun q4_ =>
    if ¬ (q4_ = p2) then
      some 0
    else
      (GX7_of p0 3 s).bind fun q9_ =>
      some q9_
theorem AX19_shareOf {p0 : Int} {p1 : Int} {p2 : Int} {s : fS} : FX19_shareOf p0 p1 p2 s = (GX19_shareOf p0 p1 p2 s).map (fun x => (x, s)) := (o_if (fun _ => (o_call AX7_of (fun q4_ => (o_if (fun _ => rfl) (fun _ => (o_call AX7_of (fun q9_ => rfl))))))) (fun _ => (o_call AX7_of (fun q4_ => (o_if (fun _ => rfl) (fun _ => (o_call AX7_of (fun q9_ => rfl))))))))
def GX21_plain (p0 : Int) : Int :=
  if 0 ≤ p0 then
    p0
  else
    (lneg p0)
theorem AX21_plain {p0 : Int} {s : fS} : FX21_plain p0 s = some (GX21_plain p0, s) := (p_if (fun _ => rfl) (fun _ => rfl))
def GX1_solid (p0 : Int) : Int :=
  if ¬ (p0 = (-2147483648)) then
    p0
  else
    0
theorem AX1_solid {p0 : Int} {s : fS} : FX1_solid p0 s = some (GX1_solid p0, s) := (p_if (fun _ => rfl) (fun _ => rfl))
def GX22_isDropped (p0 : Int) (s : fS) : Option Int :=
  (uRI s 105 p0).bind fun x3 =>
  if x3 = 1 then
    some 1
  else
    (uRI s 105 p0).bind fun x8 =>
    if x8 = 3 then
      some 1
    else
      (uRI s 105 p0).bind fun x13 =>
      if ¬ (x13 = 4) then
        some 0
      else
        some 1
theorem AX22_isDropped {p0 : Int} {s : fS} : FX22_isDropped p0 s = (GX22_isDropped p0 s).map (fun x => (x, s)) := (o_bind (fun x3 => (o_if (fun _ => rfl) (fun _ => (o_bind (fun x8 => (o_if (fun _ => rfl) (fun _ => (o_bind (fun x13 => (o_if (fun _ => rfl) (fun _ => rfl))))))))))))
def GX24_penaltyOf (p0 : Int) (s : fS) : Option Int :=
  (uRI s 105 p0).bind fun x5 =>
  if ¬ (x5 = 4) then
    if ¬ (x5 = 5) then
      some 0
    else
      (uRI s 106 p0).bind fun x15 =>
      if ¬ (x15 = (-2147483648)) then
        (uRI s 117 3).bind fun x1 =>
        some x1
      else
        (uRI s 117 4).bind fun x1 =>
        some x1
  else
    (uRI s 106 p0).bind fun x22 =>
    some x22
theorem AX24_penaltyOf {p0 : Int} {s : fS} : FX24_penaltyOf p0 s = (GX24_penaltyOf p0 s).map (fun x => (x, s)) := (o_bind (fun x5 => (o_if (fun _ => (o_if (fun _ => rfl) (fun _ => (o_bind (fun x15 => (o_if (fun _ => (o_bind (fun x1 => rfl))) (fun _ => (o_bind (fun x1 => rfl))))))))) (fun _ => (o_bind (fun x22 => rfl))))))
def GX23_stretched (p0 : Int) (p1 : Int) (p2 : Int) (s : fS) : Option Int :=
  (uRJ s 116 p0).bind fun x3 =>
  (uRJ s 113 (iadd (imul 4 p2) p0)).bind fun x7 =>
  (uRJ s 113 (iadd (imul 4 p1) p0)).bind fun x11 =>
  some (lsub (ladd x3 x7) x11)
theorem AX23_stretched {p0 : Int} {p1 : Int} {p2 : Int} {s : fS} : FX23_stretched p0 p1 p2 s = (GX23_stretched p0 p1 p2 s).map (fun x => (x, s)) := (o_bind (fun x3 => (o_bind (fun x7 => (o_bind (fun x11 => rfl))))))
def GX26_bad (p0 : Int) (p1 : Int) : Option Int :=
  if ¬ (p0 = 0) then
    if ¬ (p1 = 0) then
      if 7230584 < p0 then
        if p1 < 1663497 then
          if p0 ≤ 1290 then
            some (l2i (ldiv (ladd (lmul (lmul p0 p0) p0) 131072) 262144))
          else
            some 10000
        else
          if (ldiv p1 297) = 0 then none else
          if (ldiv p0 (ldiv p1 297)) ≤ 1290 then
            some (l2i (ldiv (ladd (lmul (lmul (ldiv p0 (ldiv p1 297)) (ldiv p0 (ldiv p1 297))) (ldiv p0 (ldiv p1 297))) 131072) 262144))
          else
            some 10000
      else
        if p1 = 0 then none else
        if (ldiv (lmul 297 p0) p1) ≤ 1290 then
          some (l2i (ldiv (ladd (lmul (lmul (ldiv (lmul 297 p0) p1) (ldiv (lmul 297 p0) p1)) (ldiv (lmul 297 p0) p1)) 131072) 262144))
        else
          some 10000
    else
      some 10000
  else
    some 0
theorem AX26_bad {p0 : Int} {p1 : Int} {s : fS} : FX26_bad p0 p1 s = (GX26_bad p0 p1).map (fun x => (x, s)) := (o_if (fun _ => (o_if (fun _ => (o_if (fun _ => (o_if (fun _ => (o_if (fun _ => rfl) (fun _ => rfl))) (fun _ => (o_div (fun _ => (o_if (fun _ => rfl) (fun _ => rfl))))))) (fun _ => (o_div (fun _ => (o_if (fun _ => rfl) (fun _ => rfl))))))) (fun _ => rfl))) (fun _ => rfl))
def GX24_demerits (p0 : Int) (p1 : Int) (s : fS) : Option Int :=
  (uRI s 117 2).bind fun x3 =>
  if (iabs (iadd x3 (s.i 128 0))) < 10000 then
    (GX24_penaltyOf p1 s).bind fun q2_ =>
    if q2_ ≤ 0 then
      if q2_ ≤ (-10000) then
        (uRI s 122 p0).bind fun x5 =>
        if x5 = (-1) then
          (uRI s 124 p0).bind fun x5 =>
          if (iabs (isub x5 (s.i 128 1))) ≤ 1 then
            some (lmul (iadd x3 (s.i 128 0)) (iadd x3 (s.i 128 0)))
          else
            (uRI s 117 7).bind fun x14 =>
            some (ladd (lmul (iadd x3 (s.i 128 0)) (iadd x3 (s.i 128 0))) x14)
        else
          (uRI s 105 x5).bind fun x12 =>
          if ¬ (x12 = 5) then
            (uRI s 124 p0).bind fun x5 =>
            if (iabs (isub x5 (s.i 128 1))) ≤ 1 then
              some (lmul (iadd x3 (s.i 128 0)) (iadd x3 (s.i 128 0)))
            else
              (uRI s 117 7).bind fun x14 =>
              some (ladd (lmul (iadd x3 (s.i 128 0)) (iadd x3 (s.i 128 0))) x14)
          else
            (uRI s 105 p1).bind fun x19 =>
            if ¬ (x19 = 5) then
              if ¬ (p1 = (isub (s.i 104 5) 1)) then
                (uRI s 124 p0).bind fun x5 =>
                if (iabs (isub x5 (s.i 128 1))) ≤ 1 then
                  some (ladd (lmul (iadd x3 (s.i 128 0)) (iadd x3 (s.i 128 0))) 0)
                else
                  (uRI s 117 7).bind fun x14 =>
                  some (ladd (ladd (lmul (iadd x3 (s.i 128 0)) (iadd x3 (s.i 128 0))) 0) x14)
              else
                (uRI s 117 6).bind fun x29 =>
                (uRI s 124 p0).bind fun x5 =>
                if (iabs (isub x5 (s.i 128 1))) ≤ 1 then
                  some (ladd (lmul (iadd x3 (s.i 128 0)) (iadd x3 (s.i 128 0))) x29)
                else
                  (uRI s 117 7).bind fun x14 =>
                  some (ladd (ladd (lmul (iadd x3 (s.i 128 0)) (iadd x3 (s.i 128 0))) x29) x14)
            else
              (uRI s 117 5).bind fun x33 =>
              (uRI s 124 p0).bind fun x5 =>
              if (iabs (isub x5 (s.i 128 1))) ≤ 1 then
                some (ladd (lmul (iadd x3 (s.i 128 0)) (iadd x3 (s.i 128 0))) x33)
              else
                (uRI s 117 7).bind fun x14 =>
                some (ladd (ladd (lmul (iadd x3 (s.i 128 0)) (iadd x3 (s.i 128 0))) x33) x14)
      else
        (uRI s 122 p0).bind fun x5 =>
        if x5 = (-1) then
          (uRI s 124 p0).bind fun x5 =>
          if (iabs (isub x5 (s.i 128 1))) ≤ 1 then
            some (lsub (lmul (iadd x3 (s.i 128 0)) (iadd x3 (s.i 128 0))) (lmul q2_ q2_))
          else
            (uRI s 117 7).bind fun x14 =>
            some (ladd (lsub (lmul (iadd x3 (s.i 128 0)) (iadd x3 (s.i 128 0))) (lmul q2_ q2_)) x14)
        else
          (uRI s 105 x5).bind fun x12 =>
          if ¬ (x12 = 5) then
            (uRI s 124 p0).bind fun x5 =>
            if (iabs (isub x5 (s.i 128 1))) ≤ 1 then
              some (lsub (lmul (iadd x3 (s.i 128 0)) (iadd x3 (s.i 128 0))) (lmul q2_ q2_))
            else
              (uRI s 117 7).bind fun x14 =>
              some (ladd (lsub (lmul (iadd x3 (s.i 128 0)) (iadd x3 (s.i 128 0))) (lmul q2_ q2_)) x14)
          else
            (uRI s 105 p1).bind fun x19 =>
            if ¬ (x19 = 5) then
              if ¬ (p1 = (isub (s.i 104 5) 1)) then
                (uRI s 124 p0).bind fun x5 =>
                if (iabs (isub x5 (s.i 128 1))) ≤ 1 then
                  some (ladd (lsub (lmul (iadd x3 (s.i 128 0)) (iadd x3 (s.i 128 0))) (lmul q2_ q2_)) 0)
                else
                  (uRI s 117 7).bind fun x14 =>
                  some (ladd (ladd (lsub (lmul (iadd x3 (s.i 128 0)) (iadd x3 (s.i 128 0))) (lmul q2_ q2_)) 0) x14)
              else
                (uRI s 117 6).bind fun x29 =>
                (uRI s 124 p0).bind fun x5 =>
                if (iabs (isub x5 (s.i 128 1))) ≤ 1 then
                  some (ladd (lsub (lmul (iadd x3 (s.i 128 0)) (iadd x3 (s.i 128 0))) (lmul q2_ q2_)) x29)
                else
                  (uRI s 117 7).bind fun x14 =>
                  some (ladd (ladd (lsub (lmul (iadd x3 (s.i 128 0)) (iadd x3 (s.i 128 0))) (lmul q2_ q2_)) x29) x14)
            else
              (uRI s 117 5).bind fun x33 =>
              (uRI s 124 p0).bind fun x5 =>
              if (iabs (isub x5 (s.i 128 1))) ≤ 1 then
                some (ladd (lsub (lmul (iadd x3 (s.i 128 0)) (iadd x3 (s.i 128 0))) (lmul q2_ q2_)) x33)
              else
                (uRI s 117 7).bind fun x14 =>
                some (ladd (ladd (lsub (lmul (iadd x3 (s.i 128 0)) (iadd x3 (s.i 128 0))) (lmul q2_ q2_)) x33) x14)
    else
      (uRI s 122 p0).bind fun x5 =>
      if x5 = (-1) then
        (uRI s 124 p0).bind fun x5 =>
        if (iabs (isub x5 (s.i 128 1))) ≤ 1 then
          some (ladd (lmul (iadd x3 (s.i 128 0)) (iadd x3 (s.i 128 0))) (lmul q2_ q2_))
        else
          (uRI s 117 7).bind fun x14 =>
          some (ladd (ladd (lmul (iadd x3 (s.i 128 0)) (iadd x3 (s.i 128 0))) (lmul q2_ q2_)) x14)
      else
        (uRI s 105 x5).bind fun x12 =>
        if ¬ (x12 = 5) then
          (uRI s 124 p0).bind fun x5 =>
          if (iabs (isub x5 (s.i 128 1))) ≤ 1 then
            some (ladd (lmul (iadd x3 (s.i 128 0)) (iadd x3 (s.i 128 0))) (lmul q2_ q2_))
          else
            (uRI s 117 7).bind fun x14 =>
            some (ladd (ladd (lmul (iadd x3 (s.i 128 0)) (iadd x3 (s.i 128 0))) (lmul q2_ q2_)) x14)
        else
          (uRI s 105 p1).bind fun x19 =>
          if ¬ (x19 = 5) then
            if ¬ (p1 = (isub (s.i 104 5) 1)) then
              (uRI s 124 p0).bind fun x5 =>
              if (iabs (isub x5 (s.i 128 1))) ≤ 1 then
                some (ladd (ladd (lmul (iadd x3 (s.i 128 0)) (iadd x3 (s.i 128 0))) (lmul q2_ q2_)) 0)
              else
                (uRI s 117 7).bind fun x14 =>
                some (ladd (ladd (ladd (lmul (iadd x3 (s.i 128 0)) (iadd x3 (s.i 128 0))) (lmul q2_ q2_)) 0) x14)
            else
              (uRI s 117 6).bind fun x29 =>
              (uRI s 124 p0).bind fun x5 =>
              if (iabs (isub x5 (s.i 128 1))) ≤ 1 then
                some (ladd (ladd (lmul (iadd x3 (s.i 128 0)) (iadd x3 (s.i 128 0))) (lmul q2_ q2_)) x29)
              else
                (uRI s 117 7).bind fun x14 =>
                some (ladd (ladd (ladd (lmul (iadd x3 (s.i 128 0)) (iadd x3 (s.i 128 0))) (lmul q2_ q2_)) x29) x14)
          else
            (uRI s 117 5).bind fun x33 =>
            (uRI s 124 p0).bind fun x5 =>
            if (iabs (isub x5 (s.i 128 1))) ≤ 1 then
              some (ladd (ladd (lmul (iadd x3 (s.i 128 0)) (iadd x3 (s.i 128 0))) (lmul q2_ q2_)) x33)
            else
              (uRI s 117 7).bind fun x14 =>
              some (ladd (ladd (ladd (lmul (iadd x3 (s.i 128 0)) (iadd x3 (s.i 128 0))) (lmul q2_ q2_)) x33) x14)
  else
    (GX24_penaltyOf p1 s).bind fun q2_ =>
    if q2_ ≤ 0 then
      if q2_ ≤ (-10000) then
        (uRI s 122 p0).bind fun x5 =>
        if x5 = (-1) then
          (uRI s 124 p0).bind fun x5 =>
          if (iabs (isub x5 (s.i 128 1))) ≤ 1 then
            some 100000000
          else
            (uRI s 117 7).bind fun x14 =>
            some (ladd 100000000 x14)
        else
          (uRI s 105 x5).bind fun x12 =>
          if ¬ (x12 = 5) then
            (uRI s 124 p0).bind fun x5 =>
            if (iabs (isub x5 (s.i 128 1))) ≤ 1 then
              some 100000000
            else
              (uRI s 117 7).bind fun x14 =>
              some (ladd 100000000 x14)
          else
            (uRI s 105 p1).bind fun x19 =>
            if ¬ (x19 = 5) then
              if ¬ (p1 = (isub (s.i 104 5) 1)) then
                (uRI s 124 p0).bind fun x5 =>
                if (iabs (isub x5 (s.i 128 1))) ≤ 1 then
                  some (ladd 100000000 0)
                else
                  (uRI s 117 7).bind fun x14 =>
                  some (ladd (ladd 100000000 0) x14)
              else
                (uRI s 117 6).bind fun x29 =>
                (uRI s 124 p0).bind fun x5 =>
                if (iabs (isub x5 (s.i 128 1))) ≤ 1 then
                  some (ladd 100000000 x29)
                else
                  (uRI s 117 7).bind fun x14 =>
                  some (ladd (ladd 100000000 x29) x14)
            else
              (uRI s 117 5).bind fun x33 =>
              (uRI s 124 p0).bind fun x5 =>
              if (iabs (isub x5 (s.i 128 1))) ≤ 1 then
                some (ladd 100000000 x33)
              else
                (uRI s 117 7).bind fun x14 =>
                some (ladd (ladd 100000000 x33) x14)
      else
        (uRI s 122 p0).bind fun x5 =>
        if x5 = (-1) then
          (uRI s 124 p0).bind fun x5 =>
          if (iabs (isub x5 (s.i 128 1))) ≤ 1 then
            some (lsub 100000000 (lmul q2_ q2_))
          else
            (uRI s 117 7).bind fun x14 =>
            some (ladd (lsub 100000000 (lmul q2_ q2_)) x14)
        else
          (uRI s 105 x5).bind fun x12 =>
          if ¬ (x12 = 5) then
            (uRI s 124 p0).bind fun x5 =>
            if (iabs (isub x5 (s.i 128 1))) ≤ 1 then
              some (lsub 100000000 (lmul q2_ q2_))
            else
              (uRI s 117 7).bind fun x14 =>
              some (ladd (lsub 100000000 (lmul q2_ q2_)) x14)
          else
            (uRI s 105 p1).bind fun x19 =>
            if ¬ (x19 = 5) then
              if ¬ (p1 = (isub (s.i 104 5) 1)) then
                (uRI s 124 p0).bind fun x5 =>
                if (iabs (isub x5 (s.i 128 1))) ≤ 1 then
                  some (ladd (lsub 100000000 (lmul q2_ q2_)) 0)
                else
                  (uRI s 117 7).bind fun x14 =>
                  some (ladd (ladd (lsub 100000000 (lmul q2_ q2_)) 0) x14)
              else
                (uRI s 117 6).bind fun x29 =>
                (uRI s 124 p0).bind fun x5 =>
                if (iabs (isub x5 (s.i 128 1))) ≤ 1 then
                  some (ladd (lsub 100000000 (lmul q2_ q2_)) x29)
                else
                  (uRI s 117 7).bind fun x14 =>
                  some (ladd (ladd (lsub 100000000 (lmul q2_ q2_)) x29) x14)
            else
              (uRI s 117 5).bind fun x33 =>
              (uRI s 124 p0).bind fun x5 =>
              if (iabs (isub x5 (s.i 128 1))) ≤ 1 then
                some (ladd (lsub 100000000 (lmul q2_ q2_)) x33)
              else
                (uRI s 117 7).bind fun x14 =>
                some (ladd (ladd (lsub 100000000 (lmul q2_ q2_)) x33) x14)
    else
      (uRI s 122 p0).bind fun x5 =>
      if x5 = (-1) then
        (uRI s 124 p0).bind fun x5 =>
        if (iabs (isub x5 (s.i 128 1))) ≤ 1 then
          some (ladd 100000000 (lmul q2_ q2_))
        else
          (uRI s 117 7).bind fun x14 =>
          some (ladd (ladd 100000000 (lmul q2_ q2_)) x14)
      else
        (uRI s 105 x5).bind fun x12 =>
        if ¬ (x12 = 5) then
          (uRI s 124 p0).bind fun x5 =>
          if (iabs (isub x5 (s.i 128 1))) ≤ 1 then
            some (ladd 100000000 (lmul q2_ q2_))
          else
            (uRI s 117 7).bind fun x14 =>
            some (ladd (ladd 100000000 (lmul q2_ q2_)) x14)
        else
          (uRI s 105 p1).bind fun x19 =>
          if ¬ (x19 = 5) then
            if ¬ (p1 = (isub (s.i 104 5) 1)) then
              (uRI s 124 p0).bind fun x5 =>
              if (iabs (isub x5 (s.i 128 1))) ≤ 1 then
                some (ladd (ladd 100000000 (lmul q2_ q2_)) 0)
              else
                (uRI s 117 7).bind fun x14 =>
                some (ladd (ladd (ladd 100000000 (lmul q2_ q2_)) 0) x14)
            else
              (uRI s 117 6).bind fun x29 =>
              (uRI s 124 p0).bind fun x5 =>
              if (iabs (isub x5 (s.i 128 1))) ≤ 1 then
                some (ladd (ladd 100000000 (lmul q2_ q2_)) x29)
              else
                (uRI s 117 7).bind fun x14 =>
                some (ladd (ladd (ladd 100000000 (lmul q2_ q2_)) x29) x14)
          else
            (uRI s 117 5).bind fun x33 =>
            (uRI s 124 p0).bind fun x5 =>
            if (iabs (isub x5 (s.i 128 1))) ≤ 1 then
              some (ladd (ladd 100000000 (lmul q2_ q2_)) x33)
            else
              (uRI s 117 7).bind fun x14 =>
              some (ladd (ladd (ladd 100000000 (lmul q2_ q2_)) x33) x14)
theorem AX24_demerits {p0 : Int} {p1 : Int} {s : fS} : FX24_demerits p0 p1 s = (GX24_demerits p0 p1 s).map (fun x => (x, s)) := (o_bind (fun x3 => (o_if (fun _ => (o_call AX24_penaltyOf (fun q2_ => (o_if (fun _ => (o_if (fun _ => (o_bind (fun x5 => (o_if (fun _ => (o_bind (fun x5 => (o_if (fun _ => rfl) (fun _ => (o_bind (fun x14 => rfl))))))) (fun _ => (o_bind (fun x12 => (o_if (fun _ => (o_bind (fun x5 => (o_if (fun _ => rfl) (fun _ => (o_bind (fun x14 => rfl))))))) (fun _ => (o_bind (fun x19 => (o_if (fun _ => (o_if (fun _ => (o_bind (fun x5 => (o_if (fun _ => rfl) (fun _ => (o_bind (fun x14 => rfl))))))) (fun _ => (o_bind (fun x29 => (o_bind (fun x5 => (o_if (fun _ => rfl) (fun _ => (o_bind (fun x14 => rfl))))))))))) (fun _ => (o_bind (fun x33 => (o_bind (fun x5 => (o_if (fun _ => rfl) (fun _ => (o_bind (fun x14 => rfl))))))))))))))))))))) (fun _ => (o_bind (fun x5 => (o_if (fun _ => (o_bind (fun x5 => (o_if (fun _ => rfl) (fun _ => (o_bind (fun x14 => rfl))))))) (fun _ => (o_bind (fun x12 => (o_if (fun _ => (o_bind (fun x5 => (o_if (fun _ => rfl) (fun _ => (o_bind (fun x14 => rfl))))))) (fun _ => (o_bind (fun x19 => (o_if (fun _ => (o_if (fun _ => (o_bind (fun x5 => (o_if (fun _ => rfl) (fun _ => (o_bind (fun x14 => rfl))))))) (fun _ => (o_bind (fun x29 => (o_bind (fun x5 => (o_if (fun _ => rfl) (fun _ => (o_bind (fun x14 => rfl))))))))))) (fun _ => (o_bind (fun x33 => (o_bind (fun x5 => (o_if (fun _ => rfl) (fun _ => (o_bind (fun x14 => rfl))))))))))))))))))))))) (fun _ => (o_bind (fun x5 => (o_if (fun _ => (o_bind (fun x5 => (o_if (fun _ => rfl) (fun _ => (o_bind (fun x14 => rfl))))))) (fun _ => (o_bind (fun x12 => (o_if (fun _ => (o_bind (fun x5 => (o_if (fun _ => rfl) (fun _ => (o_bind (fun x14 => rfl))))))) (fun _ => (o_bind (fun x19 => (o_if (fun _ => (o_if (fun _ => (o_bind (fun x5 => (o_if (fun _ => rfl) (fun _ => (o_bind (fun x14 => rfl))))))) (fun _ => (o_bind (fun x29 => (o_bind (fun x5 => (o_if (fun _ => rfl) (fun _ => (o_bind (fun x14 => rfl))))))))))) (fun _ => (o_bind (fun x33 => (o_bind (fun x5 => (o_if (fun _ => rfl) (fun _ => (o_bind (fun x14 => rfl))))))))))))))))))))))))) (fun _ => (o_call AX24_penaltyOf (fun q2_ => (o_if (fun _ => (o_if (fun _ => (o_bind (fun x5 => (o_if (fun _ => (o_bind (fun x5 => (o_if (fun _ => rfl) (fun _ => (o_bind (fun x14 => rfl))))))) (fun _ => (o_bind (fun x12 => (o_if (fun _ => (o_bind (fun x5 => (o_if (fun _ => rfl) (fun _ => (o_bind (fun x14 => rfl))))))) (fun _ => (o_bind (fun x19 => (o_if (fun _ => (o_if (fun _ => (o_bind (fun x5 => (o_if (fun _ => rfl) (fun _ => (o_bind (fun x14 => rfl))))))) (fun _ => (o_bind (fun x29 => (o_bind (fun x5 => (o_if (fun _ => rfl) (fun _ => (o_bind (fun x14 => rfl))))))))))) (fun _ => (o_bind (fun x33 => (o_bind (fun x5 => (o_if (fun _ => rfl) (fun _ => (o_bind (fun x14 => rfl))))))))))))))))))))) (fun _ => (o_bind (fun x5 => (o_if (fun _ => (o_bind (fun x5 => (o_if (fun _ => rfl) (fun _ => (o_bind (fun x14 => rfl))))))) (fun _ => (o_bind (fun x12 => (o_if (fun _ => (o_bind (fun x5 => (o_if (fun _ => rfl) (fun _ => (o_bind (fun x14 => rfl))))))) (fun _ => (o_bind (fun x19 => (o_if (fun _ => (o_if (fun _ => (o_bind (fun x5 => (o_if (fun _ => rfl) (fun _ => (o_bind (fun x14 => rfl))))))) (fun _ => (o_bind (fun x29 => (o_bind (fun x5 => (o_if (fun _ => rfl) (fun _ => (o_bind (fun x14 => rfl))))))))))) (fun _ => (o_bind (fun x33 => (o_bind (fun x5 => (o_if (fun _ => rfl) (fun _ => (o_bind (fun x14 => rfl))))))))))))))))))))))) (fun _ => (o_bind (fun x5 => (o_if (fun _ => (o_bind (fun x5 => (o_if (fun _ => rfl) (fun _ => (o_bind (fun x14 => rfl))))))) (fun _ => (o_bind (fun x12 => (o_if (fun _ => (o_bind (fun x5 => (o_if (fun _ => rfl) (fun _ => (o_bind (fun x14 => rfl))))))) (fun _ => (o_bind (fun x19 => (o_if (fun _ => (o_if (fun _ => (o_bind (fun x5 => (o_if (fun _ => rfl) (fun _ => (o_bind (fun x14 => rfl))))))) (fun _ => (o_bind (fun x29 => (o_bind (fun x5 => (o_if (fun _ => rfl) (fun _ => (o_bind (fun x14 => rfl))))))))))) (fun _ => (o_bind (fun x33 => (o_bind (fun x5 => (o_if (fun _ => rfl) (fun _ => (o_bind (fun x14 => rfl))))))))))))))))))))))))))))
def GX25_isBetter (p0 : Int) (p1 : Int) (s : fS) : Option Int :=
  (uRI s 122 p0).bind fun x3 =>
  (uRI s 122 p1).bind fun x7 =>
  if x3 = x7 then
    (uRI s 124 p0).bind fun x12 =>
    (uRI s 124 p1).bind fun x16 =>
    if x12 ≤ x16 then
      some 0
    else
      some 1
  else
    (uRI s 122 p0).bind fun x21 =>
    (uRI s 122 p1).bind fun x25 =>
    if x25 ≤ x21 then
      some 0
    else
      some 1
theorem AX25_isBetter {p0 : Int} {p1 : Int} {s : fS} : FX25_isBetter p0 p1 s = (GX25_isBetter p0 p1 s).map (fun x => (x, s)) := (o_bind (fun x3 => (o_bind (fun x7 => (o_if (fun _ => (o_bind (fun x12 => (o_bind (fun x16 => (o_if (fun _ => rfl) (fun _ => rfl))))))) (fun _ => (o_bind (fun x21 => (o_bind (fun x25 => (o_if (fun _ => rfl) (fun _ => rfl))))))))))))
def GX24_isLater (p0 : Int) (p1 : Int) (s : fS) : Option Int :=
  (uRI s 123 p0).bind fun x5 =>
  (uRI s 123 p1).bind fun x11 =>
  if x5 = x11 then
    (GX25_isBetter p0 p1 s).bind fun q17_ =>
    uZ q17_ q17_
  else
    (uRI s 123 p0).bind fun x22 =>
    (uRI s 123 p1).bind fun x28 =>
    if x22 ≤ x28 then
      some 0
    else
      some 1
theorem AX24_isLater {p0 : Int} {p1 : Int} {s : fS} : FX24_isLater p0 p1 s = (GX24_isLater p0 p1 s).map (fun x => (x, s)) := (o_bind (fun x5 => (o_bind (fun x11 => (o_if (fun _ => (o_call AX25_isBetter (fun q17_ => o_z))) (fun _ => (o_bind (fun x22 => (o_bind (fun x28 => (o_if (fun _ => rfl) (fun _ => rfl))))))))))))
def GX24_isAtEnd (p0 : Int) (s : fS) : Option Int :=
  (uRI s 122 p0).bind fun x5 =>
  if ¬ (x5 = (isub (s.i 104 5) 1)) then
    some 0
  else
    some 1
theorem AX24_isAtEnd {p0 : Int} {s : fS} : FX24_isAtEnd p0 s = (GX24_isAtEnd p0 s).map (fun x => (x, s)) := (o_bind (fun x5 => (o_if (fun _ => rfl) (fun _ => rfl))))
def GX21_isHyphen (p0 : Int) (s : fS) : Option Int :=
  (uRI s 131 p0).bind fun x7 =>
  (uRI s 105 x7).bind fun x9 =>
  if ¬ (x9 = 5) then
    some 0
  else
    some 1
theorem AX21_isHyphen {p0 : Int} {s : fS} : FX21_isHyphen p0 s = (GX21_isHyphen p0 s).map (fun x => (x, s)) := (o_bind (fun x7 => (o_bind (fun x9 => (o_if (fun _ => rfl) (fun _ => rfl))))))
def GX3_clipped (p0 : Int) : Int :=
  (l2i (lmax (-10000) (lmin 10000 p0)))
theorem AX3_clipped {p0 : Int} {s : fS} : FX3_clipped p0 s = some (GX3_clipped p0, s) := rfl
def GX5_parameter (p0 : Int) (p1 : Int) (s : fS) : Option Int :=
  (uRO s 8 p0).bind fun a3 =>
  (uK 5 s a3).bind fun _ =>
  (s.o a3 3).bind fun a5 =>
  (uKA 100 s a5).bind fun _ =>
  (uRI s a5 9).bind fun x7 =>
  if p1 ≤ x7 then
    (uK 5 s a3).bind fun _ =>
    (s.o a3 1).bind fun a10 =>
    (uK 5 s a3).bind fun _ =>
    (s.o a3 2).bind fun a12 =>
    (uKA 100 s a12).bind fun _ =>
    (uRI s a12 9).bind fun x14 =>
    (uKA 100 s a10).bind fun _ =>
    (uRI s a10 (isub (iadd x14 p1) 1)).bind fun x16 =>
    some x16
  else
    some 0
theorem AX5_parameter {p0 : Int} {p1 : Int} {s : fS} : FX5_parameter p0 p1 s = (GX5_parameter p0 p1 s).map (fun x => (x, s)) := (o_bind (fun a3 => (o_bind (fun _ => (o_bind (fun a5 => (o_bind (fun _ => (o_bind (fun x7 => (o_if (fun _ => (o_bind (fun _ => (o_bind (fun a10 => (o_bind (fun _ => (o_bind (fun a12 => (o_bind (fun _ => (o_bind (fun x14 => (o_bind (fun _ => (o_bind (fun x16 => rfl))))))))))))))))) (fun _ => rfl))))))))))))
def GX1_is (p0 : Int) (p1 : Int) : Int :=
  if (GX1_isCharacter p0) = 0 then
    0
  else
    if ¬ ((GX1_category p0) = p1) then
      0
    else
      1
theorem AX1_is {p0 : Int} {p1 : Int} {s : fS} : FX1_is p0 p1 s = some (GX1_is p0 p1, s) := (p_call AX1_isCharacter (p_if (fun _ => rfl) (fun _ => (p_call AX1_category (p_if (fun _ => rfl) (fun _ => rfl))))))
def GX8_primitive (p0 : Int) (s : fS) : Option Int :=
  if p0 = (-1) then
    some (-1)
  else
    (GX8_kind p0 s).bind fun q3_ =>
    if ¬ (q3_ = 1) then
      some (-1)
    else
      (GX8_value p0 s).bind fun q6_ =>
      some q6_
theorem AX8_primitive {p0 : Int} {s : fS} : FX8_primitive p0 s = (GX8_primitive p0 s).map (fun x => (x, s)) := (o_if (fun _ => rfl) (fun _ => (o_call AX8_kind (fun q3_ => (o_if (fun _ => rfl) (fun _ => (o_call AX8_value (fun q6_ => rfl))))))))
def GX8_bare (p0 : Int) : Int :=
  if ¬ (p0 = (-1)) then
    (iand p0 1048575)
  else
    p0
theorem AX8_bare {p0 : Int} {s : fS} : FX8_bare p0 s = some (GX8_bare p0, s) := (p_if (fun _ => rfl) (fun _ => rfl))
def GX1_other (p0 : Int) : Int :=
  if ¬ (p0 = 32) then
    (ior (ishl 12 8) p0)
  else
    (ior (ishl 10 8) p0)
theorem AX1_other {p0 : Int} {s : fS} : FX1_other p0 s = some (GX1_other p0, s) := (p_if (fun _ => rfl) (fun _ => rfl))
def GX8_isLetter (p0 : Int) (p1 : Int) : Int :=
  if (GX1_isCharacter p0) = 0 then
    0
  else
    if (iand p0 255) = p1 then
      1
    else
      if ¬ ((iand p0 255) = (isub p1 32)) then
        0
      else
        1
theorem AX8_isLetter {p0 : Int} {p1 : Int} {s : fS} : FX8_isLetter p0 p1 s = some (GX8_isLetter p0 p1, s) := (p_call AX1_isCharacter (p_if (fun _ => rfl) (fun _ => (p_if (fun _ => rfl) (fun _ => (p_if (fun _ => rfl) (fun _ => rfl)))))))
def GX8_isLength (p0 : Int) : Int :=
  if p0 = 68 then
    1
  else
    if p0 < 83 then
      if p0 < 51 then
        0
      else
        if 53 < p0 then
          0
        else
          1
    else
      if p0 < 89 then
        1
      else
        if p0 < 51 then
          0
        else
          if 53 < p0 then
            0
          else
            1
theorem AX8_isLength {p0 : Int} {s : fS} : FX8_isLength p0 s = some (GX8_isLength p0, s) := (p_if (fun _ => rfl) (fun _ => (p_if (fun _ => (p_if (fun _ => rfl) (fun _ => (p_if (fun _ => rfl) (fun _ => rfl))))) (fun _ => (p_if (fun _ => rfl) (fun _ => (p_if (fun _ => rfl) (fun _ => (p_if (fun _ => rfl) (fun _ => rfl))))))))))
def GX8_isGlue (p0 : Int) : Int :=
  if p0 = 69 then
    1
  else
    if p0 < 89 then
      0
    else
      1
theorem AX8_isGlue {p0 : Int} {s : fS} : FX8_isGlue p0 s = some (GX8_isGlue p0, s) := (p_if (fun _ => rfl) (fun _ => (p_if (fun _ => rfl) (fun _ => rfl))))
def GX8_isSized (p0 : Int) (s : fS) : Option Int :=
  (GX8_primitive p0 s).bind fun q2_ =>
  if ¬ ((GX8_isLength q2_) = 0) then
    some 1
  else
    if (GX8_isGlue q2_) = 0 then
      some 0
    else
      some 1
theorem AX8_isSized {p0 : Int} {s : fS} : FX8_isSized p0 s = (GX8_isSized p0 s).map (fun x => (x, s)) := (o_call AX8_primitive (fun q2_ => (p_call AX8_isLength (o_if (fun _ => rfl) (fun _ => (p_call AX8_isGlue (o_if (fun _ => rfl) (fun _ => rfl))))))))
def GX39_of (this : Nat) (p0 : Int) (s : fS) : Option Int :=
  if p0 = 0 then
    (uK 41 s this).bind fun _ =>
    some (s.i this 3)
  else
    if p0 = 1 then
      (uK 41 s this).bind fun _ =>
      some (s.i this 4)
    else
      if p0 = 2 then
        (uK 41 s this).bind fun _ =>
        some (s.i this 5)
      else
        if p0 = 3 then
          (uK 41 s this).bind fun _ =>
          some (s.i this 6)
        else
          if p0 = 4 then
            (uK 41 s this).bind fun _ =>
            some (s.i this 7)
          else
            if p0 = 5 then
              (uK 41 s this).bind fun _ =>
              some (s.i this 8)
            else
              if p0 = 6 then
                (uK 41 s this).bind fun _ =>
                some (s.i this 9)
              else
                if p0 = 7 then
                  (uK 41 s this).bind fun _ =>
                  some (s.i this 10)
                else
                  if p0 = 8 then
                    (uK 41 s this).bind fun _ =>
                    some (s.i this 11)
                  else
                    if p0 = 9 then
                      (uK 41 s this).bind fun _ =>
                      (uK 41 s this).bind fun _ =>
                      some (isub (s.i this 1) (s.i this 0))
                    else
                      (uK 41 s this).bind fun _ =>
                      some (s.i this 12)
theorem AX39_of {this : Nat} {p0 : Int} {s : fS} : FX39_of this p0 s = (GX39_of this p0 s).map (fun x => (x, s)) := (o_if (fun _ => (o_bind (fun _ => rfl))) (fun _ => (o_if (fun _ => (o_bind (fun _ => rfl))) (fun _ => (o_if (fun _ => (o_bind (fun _ => rfl))) (fun _ => (o_if (fun _ => (o_bind (fun _ => rfl))) (fun _ => (o_if (fun _ => (o_bind (fun _ => rfl))) (fun _ => (o_if (fun _ => (o_bind (fun _ => rfl))) (fun _ => (o_if (fun _ => (o_bind (fun _ => rfl))) (fun _ => (o_if (fun _ => (o_bind (fun _ => rfl))) (fun _ => (o_if (fun _ => (o_bind (fun _ => rfl))) (fun _ => (o_if (fun _ => (o_bind (fun _ => (o_bind (fun _ => rfl))))) (fun _ => (o_bind (fun _ => rfl))))))))))))))))))))))
def GX1_isDigit (p0 : Int) : Int :=
  if p0 < 3120 then
    0
  else
    if 3129 < p0 then
      0
    else
      1
theorem AX1_isDigit {p0 : Int} {s : fS} : FX1_isDigit p0 s = some (GX1_isDigit p0, s) := (p_if (fun _ => rfl) (fun _ => (p_if (fun _ => rfl) (fun _ => rfl))))
def GX8_isPoint (p0 : Int) : Int :=
  if p0 = (GX1_other 46) then
    1
  else
    if ¬ (p0 = (GX1_other 44)) then
      0
    else
      1
theorem AX8_isPoint {p0 : Int} {s : fS} : FX8_isPoint p0 s = some (GX8_isPoint p0, s) := (p_call AX1_other (p_if (fun _ => rfl) (fun _ => (p_call AX1_other (p_if (fun _ => rfl) (fun _ => rfl))))))
def GX10_letter (p0 : Int) (p1 : Int) (s : fS) : Option Int :=
  (uRI s 46 p0).bind fun x5 =>
  (uRI s 48 (iadd x5 p1)).bind fun x7 =>
  some (iand x7 255)
theorem AX10_letter {p0 : Int} {p1 : Int} {s : fS} : FX10_letter p0 p1 s = (GX10_letter p0 p1 s).map (fun x => (x, s)) := (o_bind (fun x5 => (o_bind (fun x7 => rfl))))
def GX8_isCounter (p0 : Int) : Int :=
  if p0 = 67 then
    1
  else
    if p0 < 70 then
      0
    else
      if 83 ≤ p0 then
        0
      else
        1
theorem AX8_isCounter {p0 : Int} {s : fS} : FX8_isCounter p0 s = some (GX8_isCounter p0, s) := (p_if (fun _ => rfl) (fun _ => (p_if (fun _ => rfl) (fun _ => (p_if (fun _ => rfl) (fun _ => rfl))))))
def GX8_nearest (p0 : Int) (p1 : Int) (p2 : Int) : Option Int :=
  if 0 ≤ (lmul p0 p1) then
    if p2 = 0 then none else
    if p2 = 0 then none else
    if p2 = 0 then none else
    if (lrem (lmul p0 p1) p2) < (lsub p2 (lrem (lmul p0 p1) p2)) then
      if 0 ≤ (lmul p0 p1) then
        some (ladd (ldiv (lmul p0 p1) p2) 0)
      else
        some (lneg (ladd (ldiv (lmul p0 p1) p2) 0))
    else
      if 0 ≤ (lmul p0 p1) then
        some (ladd (ldiv (lmul p0 p1) p2) 1)
      else
        some (lneg (ladd (ldiv (lmul p0 p1) p2) 1))
  else
    if p2 = 0 then none else
    if p2 = 0 then none else
    if p2 = 0 then none else
    if (lrem (lneg (lmul p0 p1)) p2) < (lsub p2 (lrem (lneg (lmul p0 p1)) p2)) then
      if 0 ≤ (lmul p0 p1) then
        some (ladd (ldiv (lneg (lmul p0 p1)) p2) 0)
      else
        some (lneg (ladd (ldiv (lneg (lmul p0 p1)) p2) 0))
    else
      if 0 ≤ (lmul p0 p1) then
        some (ladd (ldiv (lneg (lmul p0 p1)) p2) 1)
      else
        some (lneg (ladd (ldiv (lneg (lmul p0 p1)) p2) 1))
theorem AX8_nearest {p0 : Int} {p1 : Int} {p2 : Int} {s : fS} : FX8_nearest p0 p1 p2 s = (GX8_nearest p0 p1 p2).map (fun x => (x, s)) := (o_if (fun _ => (o_div (fun _ => (o_div (fun _ => (o_div (fun _ => (o_if (fun _ => (o_if (fun _ => rfl) (fun _ => rfl))) (fun _ => (o_if (fun _ => rfl) (fun _ => rfl))))))))))) (fun _ => (o_div (fun _ => (o_div (fun _ => (o_div (fun _ => (o_if (fun _ => (o_if (fun _ => rfl) (fun _ => rfl))) (fun _ => (o_if (fun _ => rfl) (fun _ => rfl))))))))))))
def GX8_parameter (p0 : Int) (s : fS) : Option Int :=
  (uRI s 27 2095).bind fun x5 =>
  if ¬ (x5 = (-1)) then
    (GX5_parameter x5 p0 s).bind fun q11_ =>
    some q11_
  else
    some 0
theorem AX8_parameter {p0 : Int} {s : fS} : FX8_parameter p0 s = (GX8_parameter p0 s).map (fun x => (x, s)) := (o_bind (fun x5 => (o_if (fun _ => (o_call AX5_parameter (fun q11_ => rfl))) (fun _ => rfl))))
def GX6_scale (p0 : Int) (p1 : Int) (p2 : Int) : Option Int :=
  if p2 = 0 then none else
  if (idiv 256 p2) = 0 then none else
  if ¬ ((GX6_a p0) = 0) then
    some (isub (idiv (iadd (ishr (iadd (ishr (imul (GX6_d p0) p1) 8) (imul (GX6_c p0) p1)) 8) (imul (GX6_b p0) p1)) (idiv 256 p2)) (imul p2 p1))
  else
    some (idiv (iadd (ishr (iadd (ishr (imul (GX6_d p0) p1) 8) (imul (GX6_c p0) p1)) 8) (imul (GX6_b p0) p1)) (idiv 256 p2))
theorem AX6_scale {p0 : Int} {p1 : Int} {p2 : Int} {s : fS} : FX6_scale p0 p1 p2 s = (GX6_scale p0 p1 p2).map (fun x => (x, s)) := (p_call AX6_d (p_call AX6_c (p_call AX6_b (o_div (fun _ => (o_div (fun _ => (p_call AX6_a (o_if (fun _ => rfl) (fun _ => rfl))))))))))
def GX32_at (p0 : Int) (s : fS) : Option Int :=
  (uRI s 155 p0).bind fun x3 =>
  some (iand x3 255)
theorem AX32_at {p0 : Int} {s : fS} : FX32_at p0 s = (GX32_at p0 s).map (fun x => (x, s)) := (o_bind (fun x3 => rfl))
def GX1_size (s : fS) : Int :=
  (s.i 154 1)
theorem AX1_size {s : fS} : FX1_size s = some (GX1_size s, s) := rfl
def GX8_categoryOf (p0 : Int) (s : fS) : Option Int :=
  (GX8_kind p0 s).bind fun q2_ =>
  if ¬ (q2_ = 3) then
    some 16
  else
    (GX8_value p0 s).bind fun q5_ =>
    some (GX1_category q5_)
theorem AX8_categoryOf {p0 : Int} {s : fS} : FX8_categoryOf p0 s = (GX8_categoryOf p0 s).map (fun x => (x, s)) := (o_call AX8_kind (fun q2_ => (o_if (fun _ => rfl) (fun _ => (o_call AX8_value (fun q5_ => (p_call AX1_category rfl)))))))
def GX8_codeOf (p0 : Int) (s : fS) : Option Int :=
  (GX8_kind p0 s).bind fun q2_ =>
  if ¬ (q2_ = 3) then
    some 256
  else
    (GX8_value p0 s).bind fun q5_ =>
    some (iand q5_ 255)
theorem AX8_codeOf {p0 : Int} {s : fS} : FX8_codeOf p0 s = (GX8_codeOf p0 s).map (fun x => (x, s)) := (o_call AX8_kind (fun q2_ => (o_if (fun _ => rfl) (fun _ => (o_call AX8_value (fun q5_ => rfl))))))
def GX35_isSolid (p0 : Int) : Int :=
  if p0 = 0 then
    1
  else
    if p0 = 1 then
      1
    else
      if ¬ (p0 = 5) then
        0
      else
        1
theorem AX35_isSolid {p0 : Int} {s : fS} : FX35_isSolid p0 s = some (GX35_isSolid p0, s) := (p_if (fun _ => rfl) (fun _ => (p_if (fun _ => rfl) (fun _ => (p_if (fun _ => rfl) (fun _ => rfl))))))
def GX35_isSize (p0 : Int) : Int :=
  if p0 < (-1073741823) then
    0
  else
    if 1073741823 < p0 then
      0
    else
      1
theorem AX35_isSize {p0 : Int} {s : fS} : FX35_isSize p0 s = some (GX35_isSize p0, s) := (p_if (fun _ => rfl) (fun _ => (p_if (fun _ => rfl) (fun _ => rfl))))
def GX35_sizeOf (p0 : Nat) (p1 : Int) (p2 : Int) (s : fS) : Option Int :=
  (uKA 100 s p0).bind fun _ =>
  (uRI s p0 p1).bind fun x1 =>
  if ¬ (x1 = 0) then
    (uKA 100 s p0).bind fun _ =>
    (uRI s p0 p1).bind fun x4 =>
    if ¬ (x4 = 1) then
      (uKA 100 s p0).bind fun _ =>
      (uRI s p0 (iadd p1 1)).bind fun x7 =>
      if ¬ (p2 = 0) then
        if ¬ (p2 = 1) then
          (uRI s 297 x7).bind fun x13 =>
          some x13
        else
          (uRI s 296 x7).bind fun x17 =>
          some x17
      else
        (uRI s 295 x7).bind fun x21 =>
        some x21
    else
      (uKA 100 s p0).bind fun _ =>
      (uRI s p0 (iadd (iadd p1 1) p2)).bind fun x23 =>
      if ¬ (x23 = (-1073741824)) then
        (uKA 100 s p0).bind fun _ =>
        (uRI s p0 (iadd (iadd p1 1) p2)).bind fun x26 =>
        some x26
      else
        some 0
  else
    (uKA 100 s p0).bind fun _ =>
    (uRI s p0 (iadd (iadd p1 3) p2)).bind fun x28 =>
    some x28
theorem AX35_sizeOf {p0 : Nat} {p1 : Int} {p2 : Int} {s : fS} : FX35_sizeOf p0 p1 p2 s = (GX35_sizeOf p0 p1 p2 s).map (fun x => (x, s)) := (o_bind (fun _ => (o_bind (fun x1 => (o_if (fun _ => (o_bind (fun _ => (o_bind (fun x4 => (o_if (fun _ => (o_bind (fun _ => (o_bind (fun x7 => (o_if (fun _ => (o_if (fun _ => (o_bind (fun x13 => rfl))) (fun _ => (o_bind (fun x17 => rfl))))) (fun _ => (o_bind (fun x21 => rfl))))))))) (fun _ => (o_bind (fun _ => (o_bind (fun x23 => (o_if (fun _ => (o_bind (fun _ => (o_bind (fun x26 => rfl))))) (fun _ => rfl))))))))))))) (fun _ => (o_bind (fun _ => (o_bind (fun x28 => rfl))))))))))
def GX35_isRunning (p0 : Nat) (p1 : Int) (p2 : Int) (s : fS) : Option Int :=
  (uKA 100 s p0).bind fun _ =>
  (uRI s p0 p1).bind fun x1 =>
  if ¬ (x1 = 1) then
    some 0
  else
    (uKA 100 s p0).bind fun _ =>
    (uRI s p0 (iadd (iadd p1 1) p2)).bind fun x4 =>
    if ¬ (x4 = (-1073741824)) then
      some 0
    else
      some 1
theorem AX35_isRunning {p0 : Nat} {p1 : Int} {p2 : Int} {s : fS} : FX35_isRunning p0 p1 p2 s = (GX35_isRunning p0 p1 p2 s).map (fun x => (x, s)) := (o_bind (fun _ => (o_bind (fun x1 => (o_if (fun _ => rfl) (fun _ => (o_bind (fun _ => (o_bind (fun x4 => (o_if (fun _ => rfl) (fun _ => rfl))))))))))))
def GX35_isNear (p0 : Int) : Int :=
  if p0 < (-1000000000) then
    0
  else
    if 1000000000 < p0 then
      0
    else
      1
theorem AX35_isNear {p0 : Int} {s : fS} : FX35_isNear p0 s = some (GX35_isNear p0, s) := (p_if (fun _ => rfl) (fun _ => (p_if (fun _ => rfl) (fun _ => rfl))))
def GX35_now (p0 : Int) (s : fS) : Option Int :=
  (uRI s 265 (iadd (imul 3812 (s.i 192 21)) p0)).bind fun x5 =>
  some x5
theorem AX35_now {p0 : Int} {s : fS} : FX35_now p0 s = (GX35_now p0 s).map (fun x => (x, s)) := (o_bind (fun x5 => rfl))
def GX35_bad (p0 : Int) (p1 : Int) : Option Int :=
  if ¬ (p1 = 0) then
    if 7230584 < p0 then
      if p1 < 1663497 then
        if p0 ≤ 1290 then
          some (l2i (ldiv (ladd (lmul (lmul p0 p0) p0) 131072) 262144))
        else
          some 10000
      else
        if (ldiv p1 297) = 0 then none else
        if (ldiv p0 (ldiv p1 297)) ≤ 1290 then
          some (l2i (ldiv (ladd (lmul (lmul (ldiv p0 (ldiv p1 297)) (ldiv p0 (ldiv p1 297))) (ldiv p0 (ldiv p1 297))) 131072) 262144))
        else
          some 10000
    else
      if p1 = 0 then none else
      if (ldiv (lmul 297 p0) p1) ≤ 1290 then
        some (l2i (ldiv (ladd (lmul (lmul (ldiv (lmul 297 p0) p1) (ldiv (lmul 297 p0) p1)) (ldiv (lmul 297 p0) p1)) 131072) 262144))
      else
        some 10000
  else
    some 10000
theorem AX35_bad {p0 : Int} {p1 : Int} {s : fS} : FX35_bad p0 p1 s = (GX35_bad p0 p1).map (fun x => (x, s)) := (o_if (fun _ => (o_if (fun _ => (o_if (fun _ => (o_if (fun _ => rfl) (fun _ => rfl))) (fun _ => (o_div (fun _ => (o_if (fun _ => rfl) (fun _ => rfl))))))) (fun _ => (o_div (fun _ => (o_if (fun _ => rfl) (fun _ => rfl))))))) (fun _ => rfl))
def GX35_badness (s : fS) : Option Int :=
  if ¬ ((lsub (s.i 192 98) (s.j 192 79)) = 0) then
    if (lsub (s.i 192 98) (s.j 192 79)) ≤ 0 then
      if (lneg (lsub (s.i 192 98) (s.j 192 79))) ≤ (s.j 192 85) then
        (GX35_bad (lneg (lsub (s.i 192 98) (s.j 192 79))) (s.j 192 85)).bind fun q12_ =>
        some q12_
      else
        some 1073741823
    else
      (uRJ s 305 1).bind fun x15 =>
      (uRJ s 305 2).bind fun x19 =>
      (uRJ s 305 3).bind fun x23 =>
      if (ladd (ladd x15 x19) x23) ≤ 0 then
        (uRJ s 305 0).bind fun x28 =>
        (GX35_bad (lsub (s.i 192 98) (s.j 192 79)) x28).bind fun q30_ =>
        some q30_
      else
        some 0
  else
    some 0
theorem AX35_badness {s : fS} : FX35_badness s = (GX35_badness s).map (fun x => (x, s)) := (o_if (fun _ => (o_if (fun _ => (o_if (fun _ => (o_call AX35_bad (fun q12_ => rfl))) (fun _ => rfl))) (fun _ => (o_bind (fun x15 => (o_bind (fun x19 => (o_bind (fun x23 => (o_if (fun _ => (o_bind (fun x28 => (o_call AX35_bad (fun q30_ => rfl))))) (fun _ => rfl))))))))))) (fun _ => rfl))
def GX35_bare (p0 : Int) : Int :=
  if p0 < 524288 then
    p0
  else
    (isub p0 524288)
theorem AX35_bare {p0 : Int} {s : fS} : FX35_bare p0 s = some (GX35_bare p0, s) := (p_if (fun _ => rfl) (fun _ => rfl))
def GX35_isCharacter (p0 : Int) : Int :=
  if p0 < 0 then
    0
  else
    if 65536 ≤ p0 then
      0
    else
      1
theorem AX35_isCharacter {p0 : Int} {s : fS} : FX35_isCharacter p0 s = some (GX35_isCharacter p0, s) := (p_if (fun _ => rfl) (fun _ => (p_if (fun _ => rfl) (fun _ => rfl))))
def GX35_isOf (p0 : Int) (p1 : Int) : Int :=
  if (GX35_isCharacter p0) = 0 then
    0
  else
    if ¬ ((idiv p0 256) = p1) then
      0
    else
      1
theorem AX35_isOf {p0 : Int} {p1 : Int} {s : fS} : FX35_isOf p0 p1 s = some (GX35_isOf p0 p1, s) := (p_call AX35_isCharacter (p_if (fun _ => rfl) (fun _ => (p_if (fun _ => rfl) (fun _ => rfl)))))
def GX35_mode (s : fS) : Option Int :=
  (uRI s 285 (isub (s.i 192 51) 1)).bind fun x5 =>
  some x5
theorem AX35_mode {s : fS} : FX35_mode s = (GX35_mode s).map (fun x => (x, s)) := (o_bind (fun x5 => rfl))
def GX35_penaltyAt (p0 : Int) (s : fS) : Option Int :=
  (uRI s 307 p0).bind fun x3 =>
  if ¬ (x3 = 2) then
    (uRI s 307 p0).bind fun x8 =>
    if ¬ (x8 = 3) then
      (uRI s 307 p0).bind fun x13 =>
      if ¬ (x13 = 4) then
        some 10000
      else
        (uRI s 308 p0).bind fun x18 =>
        some x18
    else
      if (s.i 192 86) ≤ (iadd p0 1) then
        some 10000
      else
        (uRI s 307 (iadd p0 1)).bind fun x25 =>
        if ¬ (x25 = 2) then
          some 10000
        else
          some 0
  else
    (uRI s 307 (isub p0 1)).bind fun x30 =>
    if ¬ (x30 = 5) then
      some 10000
    else
      some 0
theorem AX35_penaltyAt {p0 : Int} {s : fS} : FX35_penaltyAt p0 s = (GX35_penaltyAt p0 s).map (fun x => (x, s)) := (o_bind (fun x3 => (o_if (fun _ => (o_bind (fun x8 => (o_if (fun _ => (o_bind (fun x13 => (o_if (fun _ => rfl) (fun _ => (o_bind (fun x18 => rfl))))))) (fun _ => (o_if (fun _ => rfl) (fun _ => (o_bind (fun x25 => (o_if (fun _ => rfl) (fun _ => rfl))))))))))) (fun _ => (o_bind (fun x30 => (o_if (fun _ => rfl) (fun _ => rfl))))))))
def GX35_cost (p0 : Int) (s : fS) : Option Int :=
  (GX35_badness s).bind fun q2_ =>
  if ¬ (q2_ = 1073741823) then
    if (-10000) < p0 then
      if 10000 ≤ q2_ then
        some 100000
      else
        some (iadd q2_ p0)
    else
      some p0
  else
    some 1073741823
theorem AX35_cost {p0 : Int} {s : fS} : FX35_cost p0 s = (GX35_cost p0 s).map (fun x => (x, s)) := (o_call AX35_badness (fun q2_ => (o_if (fun _ => (o_if (fun _ => (o_if (fun _ => rfl) (fun _ => rfl))) (fun _ => rfl))) (fun _ => rfl))))
def GX35_counter (p0 : Int) (s : fS) : Option Int :=
  (GX35_now (iadd 1716 p0) s).bind fun q2_ =>
  some q2_
theorem AX35_counter {p0 : Int} {s : fS} : FX35_counter p0 s = (GX35_counter p0 s).map (fun x => (x, s)) := (o_call AX35_now (fun q2_ => rfl))
def GX38_bytesOf (p0 : Int) : Int :=
  if p0 < (-128) then
    if p0 < (-32768) then
      if p0 < (-8388608) then
        4
      else
        if 8388608 ≤ p0 then
          4
        else
          3
    else
      if 32768 ≤ p0 then
        if p0 < (-8388608) then
          4
        else
          if 8388608 ≤ p0 then
            4
          else
            3
      else
        2
  else
    if 128 ≤ p0 then
      if p0 < (-32768) then
        if p0 < (-8388608) then
          4
        else
          if 8388608 ≤ p0 then
            4
          else
            3
      else
        if 32768 ≤ p0 then
          if p0 < (-8388608) then
            4
          else
            if 8388608 ≤ p0 then
              4
            else
              3
        else
          2
    else
      1
theorem AX38_bytesOf {p0 : Int} {s : fS} : FX38_bytesOf p0 s = some (GX38_bytesOf p0, s) := (p_if (fun _ => (p_if (fun _ => (p_if (fun _ => rfl) (fun _ => (p_if (fun _ => rfl) (fun _ => rfl))))) (fun _ => (p_if (fun _ => (p_if (fun _ => rfl) (fun _ => (p_if (fun _ => rfl) (fun _ => rfl))))) (fun _ => rfl))))) (fun _ => (p_if (fun _ => (p_if (fun _ => (p_if (fun _ => rfl) (fun _ => (p_if (fun _ => rfl) (fun _ => rfl))))) (fun _ => (p_if (fun _ => (p_if (fun _ => rfl) (fun _ => (p_if (fun _ => rfl) (fun _ => rfl))))) (fun _ => rfl))))) (fun _ => rfl))))
def GX35_isVertical (s : fS) : Option Int :=
  (GX35_mode s).bind fun q2_ =>
  if 2 ≤ q2_ then
    some 0
  else
    some 1
theorem AX35_isVertical {s : fS} : FX35_isVertical s = (GX35_isVertical s).map (fun x => (x, s)) := (o_call AX35_mode (fun q2_ => (o_if (fun _ => rfl) (fun _ => rfl))))
def GX35_category (p0 : Int) (s : fS) : Option Int :=
  (GX35_now (iadd 1460 p0) s).bind fun q2_ =>
  some q2_
theorem AX35_category {p0 : Int} {s : fS} : FX35_category p0 s = (GX35_category p0 s).map (fun x => (x, s)) := (o_call AX35_now (fun q2_ => rfl))
def GX35_isMarked (p0 : Int) : Int :=
  if p0 < 524288 then
    0
  else
    1
theorem AX35_isMarked {p0 : Int} {s : fS} : FX35_isMarked p0 s = some (GX35_isMarked p0, s) := (p_if (fun _ => rfl) (fun _ => rfl))
def GX35_idOf (p0 : Int) : Int :=
  if (GX35_bare p0) < 131072 then
    (isub (GX35_bare p0) 65536)
  else
    (isub (iadd 1200 (GX35_bare p0)) 131072)
theorem AX35_idOf {p0 : Int} {s : fS} : FX35_idOf p0 s = some (GX35_idOf p0, s) := (p_call AX35_bare (p_if (fun _ => rfl) (fun _ => rfl)))
def GX35_meaning (p0 : Int) (s : fS) : Option Int :=
  if (GX35_isMarked p0) = 0 then
    if (GX35_isCharacter p0) = 0 then
      (GX35_now (GX35_idOf p0) s).bind fun q8_ =>
      some q8_
    else
      some (iadd 2000000 p0)
  else
    some 1022
theorem AX35_meaning {p0 : Int} {s : fS} : FX35_meaning p0 s = (GX35_meaning p0 s).map (fun x => (x, s)) := (p_call AX35_isMarked (o_if (fun _ => (p_call AX35_isCharacter (o_if (fun _ => (p_call AX35_idOf (o_call AX35_now (fun q8_ => rfl)))) (fun _ => rfl)))) (fun _ => rfl)))
def GX35_isCondition (p0 : Int) (s : fS) : Option Int :=
  (GX35_meaning p0 s).bind fun q2_ =>
  if q2_ < 1007 then
    some 0
  else
    if 1018 < q2_ then
      some 0
    else
      some 1
theorem AX35_isCondition {p0 : Int} {s : fS} : FX35_isCondition p0 s = (GX35_isCondition p0 s).map (fun x => (x, s)) := (o_call AX35_meaning (fun q2_ => (o_if (fun _ => rfl) (fun _ => (o_if (fun _ => rfl) (fun _ => rfl))))))
def GX35_means (p0 : Int) (p1 : Int) (s : fS) : Option Int :=
  if p0 = (-1) then
    some 0
  else
    (GX35_meaning p0 s).bind fun q3_ =>
    if ¬ (q3_ = (iadd 1000 p1)) then
      some 0
    else
      some 1
theorem AX35_means {p0 : Int} {p1 : Int} {s : fS} : FX35_means p0 p1 s = (GX35_means p0 p1 s).map (fun x => (x, s)) := (o_if (fun _ => rfl) (fun _ => (o_call AX35_meaning (fun q3_ => (o_if (fun _ => rfl) (fun _ => rfl))))))
def GX35_isSame (p0 : Int) (p1 : Int) : Int :=
  if ¬ ((GX35_bare p0) = (GX35_bare p1)) then
    0
  else
    1
theorem AX35_isSame {p0 : Int} {p1 : Int} {s : fS} : FX35_isSame p0 p1 s = some (GX35_isSame p0 p1, s) := (p_call AX35_bare (p_call AX35_bare (p_if (fun _ => rfl) (fun _ => rfl))))
def GX35_metrics (p0 : Int) (s : fS) : Option Nat :=
  (uRI s 283 p0).bind fun x5 =>
  (uRO s 194 x5).bind fun a7 =>
  some a7
theorem AX35_metrics {p0 : Int} {s : fS} : FX35_metrics p0 s = (GX35_metrics p0 s).map (fun x => (x, s)) := (o_bind (fun x5 => (o_bind (fun a7 => rfl))))
def GX40_half (p0 : Nat) (p1 : Int) (s : fS) : Option Int :=
  (uKA 102 s p0).bind fun _ =>
  (uRI s p0 (imul 2 p1)).bind fun x1 =>
  (uKA 102 s p0).bind fun _ =>
  (uRI s p0 (iadd (imul 2 p1) 1)).bind fun x3 =>
  some (iadd (imul 256 (iand x1 255)) (iand x3 255))
theorem AX40_half {p0 : Nat} {p1 : Int} {s : fS} : FX40_half p0 p1 s = (GX40_half p0 p1 s).map (fun x => (x, s)) := (o_bind (fun _ => (o_bind (fun x1 => (o_bind (fun _ => (o_bind (fun x3 => rfl))))))))
def GX40_words (p0 : Nat) (p1 : Int) (s : fS) : Option Int :=
  if ¬ (p1 = 0) then
    if ¬ (p1 = 1) then
      (GX40_half p0 (iadd p1 2) s).bind fun q3_ =>
      some q3_
    else
      (GX40_half p0 3 s).bind fun q4_ =>
      (GX40_half p0 2 s).bind fun q5_ =>
      some (iadd (isub q4_ q5_) 1)
  else
    (GX40_half p0 1 s).bind fun q6_ =>
    some q6_
theorem AX40_words {p0 : Nat} {p1 : Int} {s : fS} : FX40_words p0 p1 s = (GX40_words p0 p1 s).map (fun x => (x, s)) := (o_if (fun _ => (o_if (fun _ => (o_call AX40_half (fun q3_ => rfl))) (fun _ => (o_call AX40_half (fun q4_ => (o_call AX40_half (fun q5_ => rfl))))))) (fun _ => (o_call AX40_half (fun q6_ => rfl))))
def GX35_within (p0 : Int) (p1 : Int) (p2 : Int) : Int :=
  if p1 ≤ p0 then
    if p0 ≤ p2 then
      p0
    else
      p2
  else
    p1
theorem AX35_within {p0 : Int} {p1 : Int} {p2 : Int} {s : fS} : FX35_within p0 p1 p2 s = some (GX35_within p0 p1 p2, s) := (p_if (fun _ => (p_if (fun _ => rfl) (fun _ => rfl))) (fun _ => rfl))
def GX37_without (p0 : Int) : Int :=
  if ¬ (p0 = (-2147483648)) then
    if 0 ≤ p0 then
      p0
    else
      (lneg p0)
  else
    0
theorem AX37_without {p0 : Int} {s : fS} : FX37_without p0 s = some (GX37_without p0, s) := (p_if (fun _ => (p_if (fun _ => rfl) (fun _ => rfl))) (fun _ => rfl))
def GX37_isSize (p0 : Int) : Int :=
  if p0 < (-1073741823) then
    0
  else
    if 1073741823 < p0 then
      0
    else
      1
theorem AX37_isSize {p0 : Int} {s : fS} : FX37_isSize p0 s = some (GX37_isSize p0, s) := (p_if (fun _ => rfl) (fun _ => (p_if (fun _ => rfl) (fun _ => rfl))))
def GX37_fine (p0 : Int) (s : fS) : Option Int :=
  (uRI s 214 p0).bind fun x3 =>
  if ¬ (x3 = 4) then
    (uRI s 214 p0).bind fun x8 =>
    if x8 = 5 then
      (uRI s 219 p0).bind fun x15 =>
      if x15 = (-2147483648) then
        (uRI s 222 4).bind fun x1 =>
        some x1
      else
        (uRI s 222 3).bind fun x1 =>
        some x1
    else
      some 0
  else
    (uRI s 215 p0).bind fun x20 =>
    some x20
theorem AX37_fine {p0 : Int} {s : fS} : FX37_fine p0 s = (GX37_fine p0 s).map (fun x => (x, s)) := (o_bind (fun x3 => (o_if (fun _ => (o_bind (fun x8 => (o_if (fun _ => (o_bind (fun x15 => (o_if (fun _ => (o_bind (fun x1 => rfl))) (fun _ => (o_bind (fun x1 => rfl))))))) (fun _ => rfl))))) (fun _ => (o_bind (fun x20 => rfl))))))
def GX37_isHyphen (p0 : Int) (s : fS) : Option Int :=
  if p0 < 0 then
    some 0
  else
    (uRI s 214 p0).bind fun x4 =>
    if ¬ (x4 = 5) then
      some 0
    else
      some 1
theorem AX37_isHyphen {p0 : Int} {s : fS} : FX37_isHyphen p0 s = (GX37_isHyphen p0 s).map (fun x => (x, s)) := (o_if (fun _ => rfl) (fun _ => (o_bind (fun x4 => (o_if (fun _ => rfl) (fun _ => rfl))))))
def GX37_isDropped (p0 : Int) (s : fS) : Option Int :=
  (uRI s 214 p0).bind fun x3 =>
  if x3 = 1 then
    some 1
  else
    (uRI s 214 p0).bind fun x8 =>
    if x8 = 3 then
      some 1
    else
      (uRI s 214 p0).bind fun x13 =>
      if ¬ (x13 = 4) then
        some 0
      else
        some 1
theorem AX37_isDropped {p0 : Int} {s : fS} : FX37_isDropped p0 s = (GX37_isDropped p0 s).map (fun x => (x, s)) := (o_bind (fun x3 => (o_if (fun _ => rfl) (fun _ => (o_bind (fun x8 => (o_if (fun _ => rfl) (fun _ => (o_bind (fun x13 => (o_if (fun _ => rfl) (fun _ => rfl))))))))))))
def GX37_bad (p0 : Int) (p1 : Int) : Option Int :=
  if ¬ (p0 = 0) then
    if ¬ (p1 = 0) then
      if 7230584 < p0 then
        if p1 < 1663497 then
          if p0 ≤ 1290 then
            some (l2i (ldiv (ladd (lmul (lmul p0 p0) p0) 131072) 262144))
          else
            some 10000
        else
          if (ldiv p1 297) = 0 then none else
          if (ldiv p0 (ldiv p1 297)) ≤ 1290 then
            some (l2i (ldiv (ladd (lmul (lmul (ldiv p0 (ldiv p1 297)) (ldiv p0 (ldiv p1 297))) (ldiv p0 (ldiv p1 297))) 131072) 262144))
          else
            some 10000
      else
        if p1 = 0 then none else
        if (ldiv (lmul 297 p0) p1) ≤ 1290 then
          some (l2i (ldiv (ladd (lmul (lmul (ldiv (lmul 297 p0) p1) (ldiv (lmul 297 p0) p1)) (ldiv (lmul 297 p0) p1)) 131072) 262144))
        else
          some 10000
    else
      some 10000
  else
    some 0
theorem AX37_bad {p0 : Int} {p1 : Int} {s : fS} : FX37_bad p0 p1 s = (GX37_bad p0 p1).map (fun x => (x, s)) := (o_if (fun _ => (o_if (fun _ => (o_if (fun _ => (o_if (fun _ => (o_if (fun _ => rfl) (fun _ => rfl))) (fun _ => (o_div (fun _ => (o_if (fun _ => rfl) (fun _ => rfl))))))) (fun _ => (o_div (fun _ => (o_if (fun _ => rfl) (fun _ => rfl))))))) (fun _ => rfl))) (fun _ => rfl))
def GX37_isBefore (p0 : Int) (p1 : Int) (s : fS) : Option Int :=
  (uRI s 227 p0).bind fun x3 =>
  (uRI s 227 p1).bind fun x7 =>
  if x3 < x7 then
    some 1
  else
    (uRI s 227 p0).bind fun x12 =>
    (uRI s 227 p1).bind fun x16 =>
    if ¬ (x12 = x16) then
      some 0
    else
      (uRI s 229 p0).bind fun x21 =>
      (uRI s 229 p1).bind fun x25 =>
      if x21 ≤ x25 then
        some 0
      else
        some 1
theorem AX37_isBefore {p0 : Int} {p1 : Int} {s : fS} : FX37_isBefore p0 p1 s = (GX37_isBefore p0 p1 s).map (fun x => (x, s)) := (o_bind (fun x3 => (o_bind (fun x7 => (o_if (fun _ => rfl) (fun _ => (o_bind (fun x12 => (o_bind (fun x16 => (o_if (fun _ => rfl) (fun _ => (o_bind (fun x21 => (o_bind (fun x25 => (o_if (fun _ => rfl) (fun _ => rfl))))))))))))))))))
def GX37_isLess (p0 : Int) (p1 : Int) (s : fS) : Option Int :=
  (uRJ s 230 p0).bind fun x3 =>
  (uRJ s 230 p1).bind fun x7 =>
  if x3 = x7 then
    (uRI s 228 p0).bind fun x12 =>
    (uRI s 228 p1).bind fun x16 =>
    if x12 < x16 then
      some 1
    else
      (uRI s 228 p0).bind fun x21 =>
      (uRI s 228 p1).bind fun x25 =>
      if ¬ (x21 = x25) then
        some 0
      else
        (uRI s 229 p0).bind fun x30 =>
        (uRI s 229 p1).bind fun x34 =>
        if x34 ≤ x30 then
          some 0
        else
          some 1
  else
    (uRJ s 230 p0).bind fun x39 =>
    (uRJ s 230 p1).bind fun x43 =>
    if x43 ≤ x39 then
      some 0
    else
      some 1
theorem AX37_isLess {p0 : Int} {p1 : Int} {s : fS} : FX37_isLess p0 p1 s = (GX37_isLess p0 p1 s).map (fun x => (x, s)) := (o_bind (fun x3 => (o_bind (fun x7 => (o_if (fun _ => (o_bind (fun x12 => (o_bind (fun x16 => (o_if (fun _ => rfl) (fun _ => (o_bind (fun x21 => (o_bind (fun x25 => (o_if (fun _ => rfl) (fun _ => (o_bind (fun x30 => (o_bind (fun x34 => (o_if (fun _ => rfl) (fun _ => rfl))))))))))))))))))) (fun _ => (o_bind (fun x39 => (o_bind (fun x43 => (o_if (fun _ => rfl) (fun _ => rfl))))))))))))
def GX37_apart (p0 : Int) (p1 : Int) : Int :=
  if p0 ≤ p1 then
    (isub p1 p0)
  else
    (isub p0 p1)
theorem AX37_apart {p0 : Int} {p1 : Int} {s : fS} : FX37_apart p0 p1 s = some (GX37_apart p0 p1, s) := (p_if (fun _ => rfl) (fun _ => rfl))
def GX37_nodes (s : fS) : Int :=
  if (s.i 213 36) ≤ 0 then
    0
  else
    (s.i 213 37)
theorem AX37_nodes {s : fS} : FX37_nodes s = some (GX37_nodes s, s) := (p_if (fun _ => rfl) (fun _ => rfl))
def GX35_kept (p0 : Int) : Int :=
  if p0 ≤ 10000 then
    if (-10000) ≤ p0 then
      (l2i p0)
    else
      (l2i (-10000))
  else
    (l2i 10000)
theorem AX35_kept {p0 : Int} {s : fS} : FX35_kept p0 s = some (GX35_kept p0, s) := (p_if (fun _ => (p_if (fun _ => rfl) (fun _ => rfl))) (fun _ => rfl))
def GX35_isExpandable (p0 : Int) (s : fS) : Option Int :=
  if p0 = (-1) then
    some 0
  else
    if ¬ ((GX35_isMarked p0) = 0) then
      some 0
    else
      if (GX35_isCharacter p0) = 0 then
        (GX35_meaning p0 s).bind fun q7_ =>
        if q7_ < 1000 then
          if q7_ < 100000 then
            some 0
          else
            if 2000000 ≤ q7_ then
              some 0
            else
              some 1
        else
          if q7_ ≤ 1021 then
            some 1
          else
            if q7_ < 100000 then
              some 0
            else
              if 2000000 ≤ q7_ then
                some 0
              else
                some 1
      else
        some 0
theorem AX35_isExpandable {p0 : Int} {s : fS} : FX35_isExpandable p0 s = (GX35_isExpandable p0 s).map (fun x => (x, s)) := (o_if (fun _ => rfl) (fun _ => (p_call AX35_isMarked (o_if (fun _ => rfl) (fun _ => (p_call AX35_isCharacter (o_if (fun _ => (o_call AX35_meaning (fun q7_ => (o_if (fun _ => (o_if (fun _ => rfl) (fun _ => (o_if (fun _ => rfl) (fun _ => rfl))))) (fun _ => (o_if (fun _ => rfl) (fun _ => (o_if (fun _ => rfl) (fun _ => (o_if (fun _ => rfl) (fun _ => rfl))))))))))) (fun _ => rfl))))))))
def GX35_is (p0 : Int) (p1 : Int) (p2 : Int) : Int :=
  if ¬ (p0 = (iadd (imul 256 p1) p2)) then
    0
  else
    1
theorem AX35_is {p0 : Int} {p1 : Int} {p2 : Int} {s : fS} : FX35_is p0 p1 p2 s = some (GX35_is p0 p1 p2, s) := (p_if (fun _ => rfl) (fun _ => rfl))
def GX35_primitiveOf (p0 : Int) (s : fS) : Option Int :=
  if ¬ (p0 = (-1)) then
    (GX35_meaning p0 s).bind fun q3_ =>
    if q3_ < 1000 then
      some (-1)
    else
      if 1096 ≤ q3_ then
        some (-1)
      else
        some (isub q3_ 1000)
  else
    if (0 : Int) < 1000 then
      some (-1)
    else
      if (1096 : Int) ≤ 0 then
        some (-1)
      else
        some (isub 0 1000)
theorem AX35_primitiveOf {p0 : Int} {s : fS} : FX35_primitiveOf p0 s = (GX35_primitiveOf p0 s).map (fun x => (x, s)) := (o_if (fun _ => (o_call AX35_meaning (fun q3_ => (o_if (fun _ => rfl) (fun _ => (o_if (fun _ => rfl) (fun _ => rfl))))))) (fun _ => (o_if (fun _ => rfl) (fun _ => (o_if (fun _ => rfl) (fun _ => rfl))))))
def GX35_isLength (p0 : Int) : Int :=
  if p0 = 42 then
    1
  else
    if p0 < 83 then
      0
    else
      if 89 ≤ p0 then
        0
      else
        1
theorem AX35_isLength {p0 : Int} {s : fS} : FX35_isLength p0 s = some (GX35_isLength p0, s) := (p_if (fun _ => rfl) (fun _ => (p_if (fun _ => rfl) (fun _ => (p_if (fun _ => rfl) (fun _ => rfl))))))
def GX35_isOfBox (p0 : Int) : Int :=
  if p0 = 44 then
    1
  else
    if p0 = 45 then
      1
    else
      if ¬ (p0 = 46) then
        0
      else
        1
theorem AX35_isOfBox {p0 : Int} {s : fS} : FX35_isOfBox p0 s = some (GX35_isOfBox p0, s) := (p_if (fun _ => rfl) (fun _ => (p_if (fun _ => rfl) (fun _ => (p_if (fun _ => rfl) (fun _ => rfl))))))
def GX35_hasLength (p0 : Int) (s : fS) : Option Int :=
  (GX35_primitiveOf p0 s).bind fun q2_ =>
  if ¬ ((GX35_isLength q2_) = 0) then
    some 1
  else
    if (GX35_isOfBox q2_) = 0 then
      some 0
    else
      some 1
theorem AX35_hasLength {p0 : Int} {s : fS} : FX35_hasLength p0 s = (GX35_hasLength p0 s).map (fun x => (x, s)) := (o_call AX35_primitiveOf (fun q2_ => (p_call AX35_isLength (o_if (fun _ => rfl) (fun _ => (p_call AX35_isOfBox (o_if (fun _ => rfl) (fun _ => rfl))))))))
def GX35_isGlue (p0 : Int) : Int :=
  if p0 = 43 then
    1
  else
    if p0 < 89 then
      0
    else
      1
theorem AX35_isGlue {p0 : Int} {s : fS} : FX35_isGlue p0 s = some (GX35_isGlue p0, s) := (p_if (fun _ => rfl) (fun _ => (p_if (fun _ => rfl) (fun _ => rfl))))
def GX35_hasGlue (p0 : Int) (s : fS) : Option Int :=
  (GX35_primitiveOf p0 s).bind fun q2_ =>
  uZ (GX35_isGlue q2_) (GX35_isGlue q2_)
theorem AX35_hasGlue {p0 : Int} {s : fS} : FX35_hasGlue p0 s = (GX35_hasGlue p0 s).map (fun x => (x, s)) := (o_call AX35_primitiveOf (fun q2_ => (p_call AX35_isGlue o_z)))
def GX35_isDigit (p0 : Int) : Int :=
  if p0 < 3120 then
    0
  else
    if 3129 < p0 then
      0
    else
      1
theorem AX35_isDigit {p0 : Int} {s : fS} : FX35_isDigit p0 s = some (GX35_isDigit p0, s) := (p_if (fun _ => rfl) (fun _ => (p_if (fun _ => rfl) (fun _ => rfl))))
def GX35_isCounter (p0 : Int) : Int :=
  if p0 = 41 then
    1
  else
    if p0 < 70 then
      0
    else
      if 83 ≤ p0 then
        0
      else
        1
theorem AX35_isCounter {p0 : Int} {s : fS} : FX35_isCounter p0 s = some (GX35_isCounter p0, s) := (p_if (fun _ => rfl) (fun _ => (p_if (fun _ => rfl) (fun _ => (p_if (fun _ => rfl) (fun _ => rfl))))))
def GX35_isNumber (p0 : Int) (s : fS) : Option Int :=
  if p0 = (-1) then
    some 0
  else
    (GX35_meaning p0 s).bind fun q3_ =>
    if q3_ < 3000000 then
      some 0
    else
      (GX35_meaning p0 s).bind fun q6_ =>
      if 4000000 ≤ q6_ then
        some 0
      else
        some 1
theorem AX35_isNumber {p0 : Int} {s : fS} : FX35_isNumber p0 s = (GX35_isNumber p0 s).map (fun x => (x, s)) := (o_if (fun _ => rfl) (fun _ => (o_call AX35_meaning (fun q3_ => (o_if (fun _ => rfl) (fun _ => (o_call AX35_meaning (fun q6_ => (o_if (fun _ => rfl) (fun _ => rfl))))))))))
def GX35_hasValue (p0 : Int) (s : fS) : Option Int :=
  (GX35_primitiveOf p0 s).bind fun q2_ =>
  if ¬ ((GX35_isCounter q2_) = 0) then
    some 1
  else
    if q2_ = 35 then
      some 1
    else
      (GX35_isNumber p0 s).bind fun q7_ =>
      if q7_ = 0 then
        some 0
      else
        some 1
theorem AX35_hasValue {p0 : Int} {s : fS} : FX35_hasValue p0 s = (GX35_hasValue p0 s).map (fun x => (x, s)) := (o_call AX35_primitiveOf (fun q2_ => (p_call AX35_isCounter (o_if (fun _ => rfl) (fun _ => (o_if (fun _ => rfl) (fun _ => (o_call AX35_isNumber (fun q7_ => (o_if (fun _ => rfl) (fun _ => rfl)))))))))))
def GX35_isLetter (p0 : Int) (p1 : Int) : Int :=
  if (GX35_isCharacter p0) = 0 then
    0
  else
    if (irem p0 256) = p1 then
      1
    else
      if ¬ ((irem p0 256) = (isub p1 32)) then
        0
      else
        1
theorem AX35_isLetter {p0 : Int} {p1 : Int} {s : fS} : FX35_isLetter p0 p1 s = some (GX35_isLetter p0 p1, s) := (p_call AX35_isCharacter (p_if (fun _ => rfl) (fun _ => (p_if (fun _ => rfl) (fun _ => (p_if (fun _ => rfl) (fun _ => rfl)))))))
def GX35_times (p0 : Int) (p1 : Int) (p2 : Int) (p3 : Int) : Option Int :=
  if 0 ≤ (lmul p0 p2) then
    if (lmul p1 p3) = 0 then none else
    if (lmul p1 p3) = 0 then none else
    if (lrem (lmul p0 p2) (lmul p1 p3)) < (lsub (lmul p1 p3) (lrem (lmul p0 p2) (lmul p1 p3))) then
      if 0 ≤ (lmul p0 p2) then
        some (ldiv (lmul p0 p2) (lmul p1 p3))
      else
        some (lneg (ldiv (lmul p0 p2) (lmul p1 p3)))
    else
      if 0 ≤ (lmul p0 p2) then
        some (ladd (ldiv (lmul p0 p2) (lmul p1 p3)) 1)
      else
        some (lneg (ladd (ldiv (lmul p0 p2) (lmul p1 p3)) 1))
  else
    if (lmul p1 p3) = 0 then none else
    if (lmul p1 p3) = 0 then none else
    if (lrem (lneg (lmul p0 p2)) (lmul p1 p3)) < (lsub (lmul p1 p3) (lrem (lneg (lmul p0 p2)) (lmul p1 p3))) then
      if 0 ≤ (lmul p0 p2) then
        some (ldiv (lneg (lmul p0 p2)) (lmul p1 p3))
      else
        some (lneg (ldiv (lneg (lmul p0 p2)) (lmul p1 p3)))
    else
      if 0 ≤ (lmul p0 p2) then
        some (ladd (ldiv (lneg (lmul p0 p2)) (lmul p1 p3)) 1)
      else
        some (lneg (ladd (ldiv (lneg (lmul p0 p2)) (lmul p1 p3)) 1))
theorem AX35_times {p0 : Int} {p1 : Int} {p2 : Int} {p3 : Int} {s : fS} : FX35_times p0 p1 p2 p3 s = (GX35_times p0 p1 p2 p3).map (fun x => (x, s)) := (o_if (fun _ => (o_div (fun _ => (o_div (fun _ => (o_if (fun _ => (o_if (fun _ => rfl) (fun _ => rfl))) (fun _ => (o_if (fun _ => rfl) (fun _ => rfl))))))))) (fun _ => (o_div (fun _ => (o_div (fun _ => (o_if (fun _ => (o_if (fun _ => rfl) (fun _ => rfl))) (fun _ => (o_if (fun _ => rfl) (fun _ => rfl))))))))))
def GX35_unitName (p0 : Int) : Nat :=
  if p0 = 0 then
    1000000126
  else
    if p0 = 1 then
      1000000127
    else
      if p0 = 2 then
        1000000128
      else
        if p0 = 3 then
          1000000129
        else
          if p0 = 4 then
            1000000130
          else
            if p0 = 5 then
              1000000131
            else
              if p0 = 6 then
                1000000132
              else
                if ¬ (p0 = 7) then
                  1000000134
                else
                  1000000133
theorem AX35_unitName {p0 : Int} {s : fS} : FX35_unitName p0 s = some (GX35_unitName p0, s) := (p_if (fun _ => rfl) (fun _ => (p_if (fun _ => rfl) (fun _ => (p_if (fun _ => rfl) (fun _ => (p_if (fun _ => rfl) (fun _ => (p_if (fun _ => rfl) (fun _ => (p_if (fun _ => rfl) (fun _ => (p_if (fun _ => rfl) (fun _ => (p_if (fun _ => rfl) (fun _ => rfl))))))))))))))))
def GX35_shape (p0 : Int) (p1 : Int) (s : fS) : Option Int :=
  (GX35_meaning p0 s).bind fun q2_ =>
  if q2_ < 2000000 then
    if p1 = 0 then
      some 256
    else
      some 16
  else
    if q2_ < 3000000 then
      if p1 = 0 then
        some (irem (isub q2_ 2000000) 256)
      else
        some (idiv (isub q2_ 2000000) 256)
    else
      if p1 = 0 then
        some 256
      else
        some 16
theorem AX35_shape {p0 : Int} {p1 : Int} {s : fS} : FX35_shape p0 p1 s = (GX35_shape p0 p1 s).map (fun x => (x, s)) := (o_call AX35_meaning (fun q2_ => (o_if (fun _ => (o_if (fun _ => rfl) (fun _ => rfl))) (fun _ => (o_if (fun _ => (o_if (fun _ => rfl) (fun _ => rfl))) (fun _ => (o_if (fun _ => rfl) (fun _ => rfl))))))))
def GX35_isSettable (p0 : Int) : Int :=
  if p0 < 28 then
    if p0 = 40 then
      1
    else
      if ¬ ((GX35_isCounter p0) = 0) then
        1
      else
        if ¬ ((GX35_isLength p0) = 0) then
          1
        else
          if (GX35_isGlue p0) = 0 then
            0
          else
            1
  else
    if p0 ≤ 38 then
      1
    else
      if p0 = 40 then
        1
      else
        if ¬ ((GX35_isCounter p0) = 0) then
          1
        else
          if ¬ ((GX35_isLength p0) = 0) then
            1
          else
            if (GX35_isGlue p0) = 0 then
              0
            else
              1
theorem AX35_isSettable {p0 : Int} {s : fS} : FX35_isSettable p0 s = some (GX35_isSettable p0, s) := (p_if (fun _ => (p_if (fun _ => rfl) (fun _ => (p_call AX35_isCounter (p_if (fun _ => rfl) (fun _ => (p_call AX35_isLength (p_if (fun _ => rfl) (fun _ => (p_call AX35_isGlue (p_if (fun _ => rfl) (fun _ => rfl)))))))))))) (fun _ => (p_if (fun _ => rfl) (fun _ => (p_if (fun _ => rfl) (fun _ => (p_call AX35_isCounter (p_if (fun _ => rfl) (fun _ => (p_call AX35_isLength (p_if (fun _ => rfl) (fun _ => (p_call AX35_isGlue (p_if (fun _ => rfl) (fun _ => rfl)))))))))))))))
def GX36_look (s : fS) : Option Int :=
  if (s.i 195 3) ≤ (s.i 195 16) then
    some 0
  else
    (uRI s 197 (s.i 195 16)).bind fun x10 =>
    some x10
theorem AX36_look {s : fS} : FX36_look s = (GX36_look s).map (fun x => (x, s)) := (o_if (fun _ => rfl) (fun _ => (o_bind (fun x10 => rfl))))
def GX36_isDigit (p0 : Int) : Int :=
  if p0 < 48 then
    0
  else
    if 57 < p0 then
      0
    else
      1
theorem AX36_isDigit {p0 : Int} {s : fS} : FX36_isDigit p0 s = some (GX36_isDigit p0, s) := (p_if (fun _ => rfl) (fun _ => (p_if (fun _ => rfl) (fun _ => rfl))))
def GX36_isLetter (s : fS) : Option Int :=
  if (s.i 195 3) ≤ (s.i 195 16) then
    some 0
  else
    (uRI s 197 (s.i 195 16)).bind fun x12 =>
    (uRI s 196 x12).bind fun x14 =>
    if x14 ≤ 0 then
      some 0
    else
      some 1
theorem AX36_isLetter {s : fS} : FX36_isLetter s = (GX36_isLetter s).map (fun x => (x, s)) := (o_if (fun _ => rfl) (fun _ => (o_bind (fun x12 => (o_bind (fun x14 => (o_if (fun _ => rfl) (fun _ => rfl))))))))
def GX36_isOver (s : fS) : Option Int :=
  if (s.i 195 16) = (s.i 195 3) then
    some 1
  else
    (uRI s 197 (s.i 195 16)).bind fun x10 =>
    if ¬ (x10 = 32) then
      some 0
    else
      some 1
theorem AX36_isOver {s : fS} : FX36_isOver s = (GX36_isOver s).map (fun x => (x, s)) := (o_if (fun _ => rfl) (fun _ => (o_bind (fun x10 => (o_if (fun _ => rfl) (fun _ => rfl))))))
def GX36_fault (p0 : Int) (p1 : Int) : Int :=
  (isub (imul (-100000) p0) p1)
theorem AX36_fault {p0 : Int} {p1 : Int} {s : fS} : FX36_fault p0 p1 s = some (GX36_fault p0 p1, s) := rfl
def GX35_nearest (p0 : Int) (p1 : Int) : Option Int :=
  if 0 ≤ p0 then
    if p1 = 0 then none else
    if p1 = 0 then none else
    if p1 = 0 then none else
    if (lrem p0 p1) < (lsub p1 (lrem p0 p1)) then
      if 0 ≤ p0 then
        some (ldiv p0 p1)
      else
        some (lneg (ldiv p0 p1))
    else
      if 0 ≤ p0 then
        some (ladd (ldiv p0 p1) 1)
      else
        some (lneg (ladd (ldiv p0 p1) 1))
  else
    if p1 = 0 then none else
    if p1 = 0 then none else
    if p1 = 0 then none else
    if (lrem (lneg p0) p1) < (lsub p1 (lrem (lneg p0) p1)) then
      if 0 ≤ p0 then
        some (ldiv (lneg p0) p1)
      else
        some (lneg (ldiv (lneg p0) p1))
    else
      if 0 ≤ p0 then
        some (ladd (ldiv (lneg p0) p1) 1)
      else
        some (lneg (ladd (ldiv (lneg p0) p1) 1))
theorem AX35_nearest {p0 : Int} {p1 : Int} {s : fS} : FX35_nearest p0 p1 s = (GX35_nearest p0 p1).map (fun x => (x, s)) := (o_if (fun _ => (o_div (fun _ => (o_div (fun _ => (o_div (fun _ => (o_if (fun _ => (o_if (fun _ => rfl) (fun _ => rfl))) (fun _ => (o_if (fun _ => rfl) (fun _ => rfl))))))))))) (fun _ => (o_div (fun _ => (o_div (fun _ => (o_div (fun _ => (o_if (fun _ => (o_if (fun _ => rfl) (fun _ => rfl))) (fun _ => (o_if (fun _ => rfl) (fun _ => rfl))))))))))))
def GX35_ruled (p0 : Int) (p1 : Int) (p2 : Int) (s : fS) : Option Int :=
  (uRI s 304 (iadd (iadd p1 1) p2)).bind fun x3 =>
  if x3 = (-1073741824) then
    (uRI s 294 p0).bind fun x8 =>
    if x8 = 0 then
      if ¬ (p2 = 1) then
        if ¬ (p2 = 2) then
          some 0
        else
          (uRI s 297 p0).bind fun x15 =>
          some x15
      else
        (uRI s 296 p0).bind fun x19 =>
        some x19
    else
      if ¬ (p2 = 0) then
        some 0
      else
        (uRI s 295 p0).bind fun x24 =>
        some x24
  else
    (uRI s 304 (iadd (iadd p1 1) p2)).bind fun x28 =>
    some x28
theorem AX35_ruled {p0 : Int} {p1 : Int} {p2 : Int} {s : fS} : FX35_ruled p0 p1 p2 s = (GX35_ruled p0 p1 p2 s).map (fun x => (x, s)) := (o_bind (fun x3 => (o_if (fun _ => (o_bind (fun x8 => (o_if (fun _ => (o_if (fun _ => (o_if (fun _ => rfl) (fun _ => (o_bind (fun x15 => rfl))))) (fun _ => (o_bind (fun x19 => rfl))))) (fun _ => (o_if (fun _ => rfl) (fun _ => (o_bind (fun x24 => rfl))))))))) (fun _ => (o_bind (fun x28 => rfl))))))
def GX35_thrown (s : fS) : Int :=
  (s.i 192 0)
theorem AX35_thrown {s : fS} : FX35_thrown s = some (GX35_thrown s, s) := rfl
