/-! THE OPERATIONS on the state, as both sides do them -/
abbrev wN (S : SS) (N : Nat → Nat) : SS := (N, S.2)
abbrev wH (S : SS) (H : Nat → Option Nat) : SS := (S.1, H, S.2.2)
abbrev wT (S : SS) (T : List (Nat × Nat)) : SS := (S.1, S.2.1, T, S.2.2.2)
abbrev wO (S : SS) (O : List OO) : SS := (S.1, S.2.1, S.2.2.1, O, S.2.2.2.2)
abbrev wC (S : SS) (C : List CC) : SS := (S.1, S.2.1, S.2.2.1, S.2.2.2.1, C, S.2.2.2.2.2)
abbrev wA (S : SS) (A : Option (Nat × Nat)) : SS := (S.1, S.2.1, S.2.2.1, S.2.2.2.1, S.2.2.2.2.1, A, S.2.2.2.2.2.2)
abbrev wB (S : SS) (b : Nat → Nat) : SS := (S.1, S.2.1, S.2.2.1, S.2.2.2.1, S.2.2.2.2.1, S.2.2.2.2.2.1, b)
def up {α : Type} (f : Nat → α) (k : Nat) (x : α) : Nat → α := fun j => if j = k then x else f j
theorem up_s {α : Type} {f : Nat → α} {k : Nat} {x : α} : up f k x k = x := if_pos rfl
theorem up_n {α : Type} {f : Nat → α} {k j : Nat} {x : α} (h : j ≠ k) : up f k x j = f j := if_neg h
/-- the int x as a number -/
abbrev cN (x : Int32) : Nat := x.toNatClampNeg
abbrev inR (x : Int32) (a b : Nat) : Prop := nI a ≤ x ∧ x ≤ nI b
theorem inR_of {x : Int32} {a b : Nat} (hb : b < 2 ^ 31) (hab : a ≤ b) (h : inR x a b) : ∃ j, a ≤ j ∧ j ≤ b ∧ x = nI j := by
  have h0 : ¬ x < 0 := by
    have h1 := h.1
    have e := nI_toInt (show a < 2 ^ 31 by omega)
    rw [Int32.le_iff_toInt_le, e] at h1
    rw [Int32.lt_iff_toInt_lt]
    have : (0 : Int32).toInt = 0 := by decide
    omega
  obtain ⟨j, hj, rfl⟩ := nI_of h0
  exact ⟨j, (nI_leI (by omega) hj).mp h.1, (nI_leI hj hb).mp h.2, rfl⟩
theorem inR_nI {j a b : Nat} (hb : b < 2 ^ 31) (h1 : a ≤ j) (h2 : j ≤ b) : inR (nI j) a b := ⟨nI_le h1 (by omega), nI_le h2 hb⟩
/-- a call's answer: the kind of failure (0: none), the value, the state behind it -/
abbrev Rs : Type := Nat × Int32 × SS
abbrev erS (k : Nat) (S : SS) : Rs := (k, -1, S)
def addS (c w : Int32) (S : SS) : Rs :=
  if ¬ (inR c 0 999 ∧ inR w 0 99) then erS 1 S else if (sT S).length = 6 then erS 2 S
  else (0, nI (sT S).length, wN (wT S (sT S ++ [(cN c, cN w)])) (up (up (sN S) 0 (sN S 0 + cN c)) 1 (sN S 1 + cN w)))
/-- cash (f) and windows (g) of the trader t changed -/
abbrev mdT (T : List (Nat × Nat)) (t : Nat) (f g : Nat → Nat) : List (Nat × Nat) := T.modify t fun x => (f x.1, g x.2)
def trS (t : Nat) (b : Bool) (k : Nat) (o : OO) (n : Nat) (S : SS) : SS :=
  let T1 := if b then mdT (mdT (sT S) t (· - n * o.2.2.2.1) (· + n)) o.2.1 (· + n * o.2.2.2.1) id else mdT (mdT (sT S) t (· + n * o.2.2.2.1) (· - n)) o.2.1 id (· + n)
  let O1 := if n = o.2.2.2.2 then (sO S).eraseIdx k else (sO S).set k (o.1, o.2.1, o.2.2.1, o.2.2.2.1, o.2.2.2.2 - n)
  (up (up (up (sN S) 5 o.2.2.2.1) 6 (sN S 6 + n)) 7 (sN S 7 + n * o.2.2.2.1), sH S, T1, O1, S.2.2.2.2)
def mlS (t : Nat) (b : Bool) (p : Nat) : Nat → Nat → SS → Nat × SS
  | 0, l, S => (l, S)
  | f + 1, l, S => if l = 0 then (l, S) else match fm b p (sO S) with
    | none => (l, S)
    | some k => match (sO S)[k]? with
      | none => (l, S)
      | some o => mlS t b p f (l - min l o.2.2.2.2) (trS t b k o (min l o.2.2.2.2) S)
def lkS (t : Nat) (b : Bool) (u p : Nat) (T : List (Nat × Nat)) : Bool := match T[t]? with
  | none => true
  | some c => if b then decide (c.1 < u * p) else decide (c.2 < u)
/-- what is left of a new order becomes an open order -/
def rsS (t : Nat) (b : Bool) (p l : Nat) (S : SS) : SS :=
  if l = 0 then S else wO (wT S (if b then mdT (sT S) t (· - l * p) id else mdT (sT S) t id (· - l))) (sO S ++ [(sN S 2, t, b, p, l)])
def plE (t : Nat) (b : Bool) (p u : Nat) (r : Nat × SS) : Rs := (0, nI (u - r.1), wN (rsS t b p r.1 r.2) (up (sN r.2) 2 (sN r.2 2 + 1)))
def plS (t : Int32) (b : Bool) (u p : Int32) (S : SS) : Rs :=
  if ¬ isT (sT S).length t then erS 1 S else if ¬ isDl u p then erS 2 S
  else if lkS (cN t) b (cN u) (cN p) (sT S) || moU (cN t) b (cN p) (sO S) (sO S).length then erS 3 S
  else if (sO S).length = 16 then erS 4 S
  else plE (cN t) b (cN p) (cN u) (mlS (cN t) b (cN p) (cN u) (cN u) S)
def caS (x : Int32) (S : SS) : Rs := match plU x (sO S) (sO S).length with
  | none => erS 1 S
  | some k => match (sO S)[k]? with
    | none => erS 1 S
    | some o => (0, nI o.2.2.2.2, wO (wT S (if o.2.2.1 then mdT (sT S) o.2.1 (· + o.2.2.2.2 * o.2.2.2.1) id else mdT (sT S) o.2.1 id (· + o.2.2.2.2))) ((sO S).eraseIdx k))
def agS (s y u p d : Int32) (S : SS) : Rs :=
  if ¬ (isT (sT S).length s ∧ isT (sT S).length y) then erS 1 S
  else if ¬ (¬ s = y ∧ isDl u p ∧ inR d 1 99) then erS 2 S
  else if (sC S).length = 8 then erS 3 S
  else (0, nI (sC S).length, wC S (sC S ++ [(cN s, cN y, cN u, cN p, sN S 4 + cN d)]))
/-- what a contract's buyer gains at a price: its size, and whether the seller owes -/
def owS (L : Nat) (c : CC) : Nat := if L = 0 then 0 else if c.2.2.2.1 < L then (L - c.2.2.2.1) * c.2.2.1 else (c.2.2.2.1 - L) * c.2.2.1
def frS (L : Nat) (c : CC) : Nat := if L ≠ 0 ∧ c.2.2.2.1 < L ∧ 0 < c.2.2.1 then c.1 else c.2.1
def toS (L : Nat) (c : CC) : Nat := if L ≠ 0 ∧ c.2.2.2.1 < L ∧ 0 < c.2.2.1 then c.2.1 else c.1
def caT (T : List (Nat × Nat)) (t : Nat) : Nat := match T[t]? with
  | none => 0
  | some c => c.1
def pdS (S : SS) (c : CC) : Nat := min (owS (sN S 5) c) (caT (sT S) (frS (sN S 5) c))
def stS (k : Nat) (c : CC) (S : SS) : SS :=
  let N1 := up (up (sN S) 9 (sN S 9 + if pdS S c < owS (sN S 5) c then 1 else 0)) 8 (sN S 8 + 1)
  (N1, sH S, mdT (mdT (sT S) (frS (sN S 5) c) (· - pdS S c) id) (toS (sN S 5) c) (· + pdS S c) id, sO S, (sC S).eraseIdx k, S.2.2.2.2.2)
/-- the contracts of the day from the place k on, settled -/
def duS : Nat → Nat → SS → SS
  | 0, _, S => S
  | f + 1, k, S => match (sC S)[k]? with
    | none => S
    | some c => if c.2.2.2.2 = sN S 4 then duS f k (stS k c S) else duS f (k + 1) S
def dyS : Nat → SS → SS
  | 0, S => S
  | f + 1, S => dyS f (duS (sC S).length 0 (wN S (up (sN S) 4 (sN S 4 + 1))))
def adS (d : Int32) (S : SS) : Rs :=
  if ¬ inR d 1 99 then erS 1 S else (0, nI (sN (dyS (cN d) S) 8 - sN S 8), dyS (cN d) S)
/-- how many of the first k rooms are free -/
def frU (H : Nat → Option Nat) : Nat → Nat
  | 0 => 0
  | k + 1 => frU H k + if H k = none then 1 else 0
def opS (r v : Int32) (S : SS) : Rs :=
  if ¬ isT 4 r then erS 1 S else if ¬ inR v 0 99 then erS 2 S
  else if ¬ (sA S = none ∧ sH S (cN r) = none) then erS 3 S
  else (0, nI (frU (sH S) 4), wA S (some (cN r, cN v)))
/-- how many of the first k traders have sealed a bid -/
def sbU (b : Nat → Nat) : Nat → Nat
  | 0 => 0
  | k + 1 => sbU b k + if 0 < b k then 1 else 0
def seS (t a : Int32) (S : SS) : Rs :=
  if ¬ isT (sT S).length t then erS 1 S else if ¬ inR a 1 999 then erS 2 S
  else if sA S = none then erS 3 S
  else (0, nI (sbU (up (sB S) (cN t) (cN a)) (sT S).length), wB S (up (sB S) (cN t) (cN a)))
/-- a trader's valid bid at a reserve -/
def vbS (v : Nat) (S : SS) (k : Nat) : Nat := if v ≤ sB S k ∧ sB S k ≤ caT (sT S) k then sB S k else 0
def wiU (v : Nat) (S : SS) : Nat → Option Nat
  | 0 => none
  | k + 1 => if 0 < vbS v S k ∧ (∀ g, wiU v S k = some g → vbS v S g < vbS v S k) then some k else wiU v S k
abbrev wiS (v : Nat) (S : SS) : Option Nat := wiU v S (sT S).length
def wpU (v : Nat) (S : SS) : Nat → Nat
  | 0 => v
  | k + 1 => if wiS v S = some k then wpU v S k else max (wpU v S k) (vbS v S k)
abbrev wpS (v : Nat) (S : SS) : Nat := wpU v S (sT S).length
def clS (S : SS) : Rs := match sA S with
  | none => erS 1 S
  | some (r, v) => match wiS v S with
    | none => (0, 0, wA (wB S fun _ => 0) none)
    | some t => (0, nI (wpS v S), wN (wH (wT (wA (wB S fun _ => 0) none) (mdT (sT S) t (· - wpS v S) id)) (up (sH S) r (some t))) (up (sN S) 10 (sN S 10 + wpS v S)))
