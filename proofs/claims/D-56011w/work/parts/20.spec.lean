/-! THE STATE as both sides hold it, and how the model's array holds it -/
/-- an order: number, trader, whether a bid, price, units -/
abbrev OO : Type := Nat × Nat × Bool × Nat × Nat
/-- a contract: seller, buyer, units, price, day -/
abbrev CC : Type := Nat × Nat × Nat × Nat × Nat
/-- numbers (0, 1: cash and windows given; then as in the model's array), holders, traders (cash, windows), orders, contracts, the auction (room, reserve), sealed bids -/
abbrev SS : Type := (Nat → Nat) × (Nat → Option Nat) × List (Nat × Nat) × List OO × List CC × Option (Nat × Nat) × (Nat → Nat)
abbrev sN (S : SS) : Nat → Nat := S.1
abbrev sH (S : SS) : Nat → Option Nat := S.2.1
abbrev sT (S : SS) : List (Nat × Nat) := S.2.2.1
abbrev sO (S : SS) : List OO := S.2.2.2.1
abbrev sC (S : SS) : List CC := S.2.2.2.2.1
abbrev sA (S : SS) : Option (Nat × Nat) := S.2.2.2.2.2.1
abbrev sB (S : SS) : Nat → Nat := S.2.2.2.2.2.2
def bI (b : Bool) : Int32 := if b then 1 else 0
/-- a number or none, as an int -/
def oI_ (x : Option Nat) : Int32 := match x with
  | none => -1
  | some k => nI k
theorem bI_0 {b : Bool} : bI b = 0 ↔ b = false := by cases b <;> decide
theorem bI_n0 {b : Bool} : ¬ bI b = 0 ↔ b = true := by cases b <;> decide
theorem bI_1 {b : Bool} : bI b = 1 ↔ b = true := by cases b <;> decide
theorem bI_n1 {b : Bool} : ¬ bI b = 1 ↔ b = false := by cases b <;> decide
theorem bI_eq {a b : Bool} : bI a = bI b ↔ a = b := by cases a <;> cases b <;> decide
theorem bI_nz {b : Bool} : narrow .boolean (.int (bI b)) = .int (bI b) := by cases b <;> rfl
theorem bI_fit {b : Bool} : fits .boolean (.int (bI b)) = true := by cases b <;> rfl
theorem oI_none {x : Option Nat} (h : ∀ k, x = some k → k < 2 ^ 31) : oI_ x = -1 ↔ x = none := by
  cases x with
  | none => exact ⟨fun _ => rfl, fun _ => rfl⟩
  | some k =>
    have hk := h k rfl
    refine ⟨fun e => ?_, fun e => nomatch e⟩
    have e2 : nI k = -1 := e
    have h1 : (nI k).toInt = k := nI_toInt hk
    rw [e2] at h1
    have h3 : (-1 : Int32).toInt = -1 := by decide
    omega
/-- numbers that an order may hold -/
def okO (o : OO) : Prop := o.1 < 2 ^ 30 ∧ o.2.1 < 6 ∧ o.2.2.2.1 < 100 ∧ o.2.2.2.2 < 100
def okC (c : CC) : Prop := c.1 < 6 ∧ c.2.1 < 6 ∧ c.2.2.1 < 100 ∧ c.2.2.2.1 < 100 ∧ c.2.2.2.2 < 2 ^ 30
def EnN (M : Nat → Int32) (N : Nat → Nat) : Prop := ∀ i, i = 2 ∨ (4 ≤ i ∧ i < 11) → M i = nI (N i)
def EnH (M : Nat → Int32) (H : Nat → Option Nat) : Prop := ∀ k, k < 4 → M (13 + k) = oI_ (H k) ∧ ∀ t, H k = some t → t < 6
def EnT (M : Nat → Int32) (T : List (Nat × Nat)) : Prop := M 0 = nI T.length ∧ T.length ≤ 6 ∧ ∀ k t, T[k]? = some t → M (17 + 3 * k) = nI t.1 ∧ M (17 + 3 * k + 1) = nI t.2
def EncO (M : Nat → Int32) (a : Nat) (o : OO) : Prop := M a = nI o.1 ∧ M (a + 1) = nI o.2.1 ∧ M (a + 2) = bI o.2.2.1 ∧ M (a + 3) = nI o.2.2.2.1 ∧ M (a + 4) = nI o.2.2.2.2
def EnO (M : Nat → Int32) (O : List OO) : Prop := M 1 = nI O.length ∧ O.length ≤ 16 ∧ ∀ k o, O[k]? = some o → EncO M (35 + 5 * k) o ∧ okO o
def EncC (M : Nat → Int32) (a : Nat) (c : CC) : Prop := M a = nI c.1 ∧ M (a + 1) = nI c.2.1 ∧ M (a + 2) = nI c.2.2.1 ∧ M (a + 3) = nI c.2.2.2.1 ∧ M (a + 4) = nI c.2.2.2.2
def EnC (M : Nat → Int32) (C : List CC) : Prop := M 3 = nI C.length ∧ C.length ≤ 8 ∧ ∀ k c, C[k]? = some c → EncC M (115 + 5 * k) c ∧ okC c
def EnA (M : Nat → Int32) (A : Option (Nat × Nat)) : Prop := M 11 = oI_ (A.map (·.1)) ∧ (∀ r v, A = some (r, v) → M 12 = nI v ∧ r < 4 ∧ v < 100)
def EnB (M : Nat → Int32) (T : Nat → Nat) : Prop := ∀ k, k < 6 → M (17 + 3 * k + 2) = nI (T k) ∧ T k < 1000
/-- THE MODEL's ARRAY M HOLDS THE STATE S -/
def Enc (M : Nat → Int32) (S : SS) : Prop := EnN M (sN S) ∧ EnH M (sH S) ∧ EnT M (sT S) ∧ EnO M (sO S) ∧ EnC M (sC S) ∧ EnA M (sA S) ∧ EnB M (sB S)
/-- what lies elsewhere doesn't matter -/
theorem EnN.cg {M M' : Nat → Int32} {N : Nat → Nat} (h : EnN M N) (e : ∀ i, i = 2 ∨ (4 ≤ i ∧ i < 11) → M' i = M i) : EnN M' N := fun i hi => by rw [e i hi]; exact h i hi
theorem EnH.cg {M M' : Nat → Int32} {N : Nat → Option Nat} (h : EnH M N) (e : ∀ i, 13 ≤ i ∧ i < 17 → M' i = M i) : EnH M' N := fun k hk => by rw [e _ (by omega)]; exact h k hk
theorem EnT.cg {M M' : Nat → Int32} {T : List (Nat × Nat)} (h : EnT M T) (e : ∀ i, i = 0 ∨ (17 ≤ i ∧ i < 35 ∧ i % 3 ≠ 1) → M' i = M i) : EnT M' T := by
  obtain ⟨h1, h2, h3⟩ := h
  refine ⟨by rw [e 0 (by omega)]; exact h1, h2, fun k t hk => ?_⟩
  have hl := (List.getElem?_eq_some_iff.mp hk).1
  rw [e _ (by omega), e _ (by omega)]
  exact h3 k t hk
theorem EncO.cg {M M' : Nat → Int32} {a : Nat} {o : OO} (h : EncO M a o) (e : ∀ i, a ≤ i ∧ i < a + 5 → M' i = M i) : EncO M' a o := by
  obtain ⟨h1, h2, h3, h4, h5⟩ := h
  exact ⟨by rw [e _ (by omega)]; exact h1, by rw [e _ (by omega)]; exact h2, by rw [e _ (by omega)]; exact h3, by rw [e _ (by omega)]; exact h4, by rw [e _ (by omega)]; exact h5⟩
theorem EncC.cg {M M' : Nat → Int32} {a : Nat} {o : CC} (h : EncC M a o) (e : ∀ i, a ≤ i ∧ i < a + 5 → M' i = M i) : EncC M' a o := by
  obtain ⟨h1, h2, h3, h4, h5⟩ := h
  exact ⟨by rw [e _ (by omega)]; exact h1, by rw [e _ (by omega)]; exact h2, by rw [e _ (by omega)]; exact h3, by rw [e _ (by omega)]; exact h4, by rw [e _ (by omega)]; exact h5⟩
theorem EnO.cg {M M' : Nat → Int32} {O : List OO} (h : EnO M O) (e : ∀ i, i = 1 ∨ (35 ≤ i ∧ i < 115) → M' i = M i) : EnO M' O := by
  obtain ⟨h1, h2, h3⟩ := h
  refine ⟨by rw [e 1 (by omega)]; exact h1, h2, fun k t hk => ?_⟩
  have hl := (List.getElem?_eq_some_iff.mp hk).1
  exact ⟨(h3 k t hk).1.cg fun i hi => e i (by omega), (h3 k t hk).2⟩
theorem EnC.cg {M M' : Nat → Int32} {O : List CC} (h : EnC M O) (e : ∀ i, i = 3 ∨ (115 ≤ i ∧ i < 155) → M' i = M i) : EnC M' O := by
  obtain ⟨h1, h2, h3⟩ := h
  refine ⟨by rw [e 3 (by omega)]; exact h1, h2, fun k t hk => ?_⟩
  have hl := (List.getElem?_eq_some_iff.mp hk).1
  exact ⟨(h3 k t hk).1.cg fun i hi => e i (by omega), (h3 k t hk).2⟩
theorem EnA.cg {M M' : Nat → Int32} {A : Option (Nat × Nat)} (h : EnA M A) (e : ∀ i, i = 11 ∨ i = 12 → M' i = M i) : EnA M' A :=
  ⟨by rw [e _ (Or.inl rfl)]; exact h.1, fun r v hA => by rw [e _ (Or.inr rfl)]; exact h.2 r v hA⟩
theorem EnB.cg {M M' : Nat → Int32} {N : Nat → Nat} (h : EnB M N) (e : ∀ i, 17 ≤ i ∧ i < 35 ∧ i % 3 = 1 → M' i = M i) : EnB M' N := fun k hk => by rw [e _ (by omega)]; exact h k hk
/-- two arrays that agree on the first 155 numbers -/
theorem Enc.cg {M M' : Nat → Int32} {S : SS} (h : Enc M S) (e : ∀ i, i < 155 → M' i = M i) : Enc M' S := by
  obtain ⟨h1, h2, h3, h4, h5, h6, h7⟩ := h
  exact ⟨h1.cg fun i hi => e i (by omega), h2.cg fun i hi => e i (by omega), h3.cg fun i hi => e i (by omega), h4.cg fun i hi => e i (by omega), h5.cg fun i hi => e i (by omega), h6.cg fun i hi => e i (by omega), h7.cg fun i hi => e i (by omega)⟩
/-! orders that a new order may be traded with -/
def matB (b : Bool) (p : Nat) (o : OO) : Bool := (o.2.2.1 != b) && (if b then decide (o.2.2.2.1 ≤ p) else decide (p ≤ o.2.2.2.1))
/-- whether one order's price is better for a new order (bid: b) than another's -/
def btr (b : Bool) (p q : Nat) : Bool := if b then decide (p < q) else decide (q < p)
def fmS (b : Bool) (p : Nat) (O : List OO) (f : Option Nat) (k : Nat) : Option Nat := match O[k]? with
  | none => f
  | some o => if matB b p o then (match f with
    | none => some k
    | some g => match O[g]? with
      | none => f
      | some u => if btr b o.2.2.2.1 u.2.2.2.1 then some k else f) else f
def fmU (b : Bool) (p : Nat) (O : List OO) : Nat → Option Nat
  | 0 => none
  | k + 1 => fmS b p O (fmU b p O k) k
/-- the first order that a new one is traded with -/
def fm (b : Bool) (p : Nat) (O : List OO) : Option Nat := fmU b p O O.length
theorem fmU_lt {b : Bool} {p : Nat} {O : List OO} : ∀ (k f : Nat), fmU b p O k = some f → f < k ∧ ∃ o, O[f]? = some o ∧ matB b p o = true
  | 0, f, h => nomatch h
  | k + 1, f, h => by
    have ih := fmU_lt (b := b) (p := p) (O := O) k
    simp only [fmU, fmS] at h
    cases ho : O[k]? with
    | none =>
      simp only [ho] at h
      obtain ⟨h1, h2⟩ := ih f h
      exact ⟨by omega, h2⟩
    | some o =>
      simp only [ho] at h
      by_cases hm : matB b p o = true
      · rw [if_pos hm] at h
        cases hf : fmU b p O k with
        | none =>
          simp only [hf] at h
          cases h
          exact ⟨by omega, o, ho, hm⟩
        | some g =>
          simp only [hf] at h
          obtain ⟨h1, u, h2, h3⟩ := ih g hf
          simp only [h2] at h
          by_cases hb : btr b o.2.2.2.1 u.2.2.2.1 = true
          · rw [if_pos hb] at h
            cases h
            exact ⟨by omega, o, ho, hm⟩
          · rw [if_neg hb] at h
            cases h
            exact ⟨by omega, u, h2, h3⟩
      · rw [if_neg hm] at h
        obtain ⟨h1, h2⟩ := ih f h
        exact ⟨by omega, h2⟩
