/-! SEPARATION: partial heaps of simple objects, lists of assertions over them -/
abbrev Ob : Type := (FieldType × vp_A) ⊕ (Nat × List Value)
abbrev PH : Type := Nat → Option Ob
abbrev An : Type := PH → Prop
/-- h is h1 and h2, apart -/
def spl (h h1 h2 : PH) : Prop := ∀ a, (h1 a = none ∧ h2 a = h a) ∨ (h2 a = none ∧ h1 a = h a)
def Sat : List An → PH → Prop
  | [], _ => True
  | P :: ws, h => ∃ h1 h2, spl h h1 h2 ∧ P h1 ∧ Sat ws h2
def pt (a : Nat) (o : Ob) : An := fun h => h a = some o
def pu (φ : Prop) : An := fun _ => φ
def ex {α : Type} (f : α → List An) : An := fun h => ∃ x, Sat (f x) h
def hno : PH := fun _ => none
theorem spl_l {h h1 h2 : PH} (H : spl h h1 h2) {a : Nat} {o : Ob} (e : h1 a = some o) : h a = some o := by
  have := H a; simp_all
theorem spl_r {h h1 h2 : PH} (H : spl h h1 h2) {a : Nat} {o : Ob} (e : h2 a = some o) : h a = some o := by
  have := H a; simp_all
theorem spl_d {h h1 h2 : PH} (H : spl h h1 h2) {a : Nat} {o : Ob} (e : h1 a = some o) : h2 a = none := by
  have := H a; simp_all
theorem spl_d' {h h1 h2 : PH} (H : spl h h1 h2) {a : Nat} {o : Ob} (e : h2 a = some o) : h1 a = none := by
  have := H a; simp_all
theorem spl_o {h h1 h2 : PH} (H : spl h h1 h2) {a : Nat} {o : Ob} (e : h a = some o) : h1 a = some o ∨ h2 a = some o := by
  have := H a
  rcases this with ⟨-, z⟩ | ⟨-, z⟩
  · exact Or.inr (z.trans e)
  · exact Or.inl (z.trans e)
theorem spl_c {h h1 h2 : PH} (H : spl h h1 h2) : spl h h2 h1 := fun a => (H a).symm
theorem spl_n (h : PH) : spl h hno h := fun _ => Or.inl ⟨rfl, rfl⟩
theorem spl_n' (h : PH) : spl h h hno := fun _ => Or.inr ⟨rfl, rfl⟩
def hun (h1 h2 : PH) : PH := fun a => match h1 a with
  | some o => some o
  | none => h2 a
theorem spl_u {h1 h2 : PH} (H : ∀ a o, h1 a = some o → h2 a = none) : spl (hun h1 h2) h1 h2 := by
  intro a
  cases e : h1 a with
  | none => exact Or.inl ⟨rfl, by simp [hun, e]⟩
  | some o => exact Or.inr ⟨H a o e, by simp [hun, e]⟩
/-- h = (a + (b + c)): then h = (b + (a + c)) -/
theorem spl_s {h a bc b c : PH} (H : spl h a bc) (K : spl bc b c) : ∃ ac, spl h b ac ∧ spl ac a c := by
  refine ⟨hun a c, fun q => ?_, fun q => ?_⟩
  · have h1 := H q
    have h2 := K q
    unfold hun
    cases ea : a q <;> cases eb : b q <;> cases ec : c q <;> simp_all <;> first | exact h1.symm | exact h1
  · have h1 := H q
    have h2 := K q
    unfold hun
    cases ea : a q <;> cases eb : b q <;> cases ec : c q <;> simp_all <;> first | exact h1.symm | exact h1
/-- h = (a + (b + c)): then h = ((a + b) + c) -/
theorem spl_a {h a bc b c : PH} (H : spl h a bc) (K : spl bc b c) : ∃ ab, spl h ab c ∧ spl ab a b := by
  refine ⟨hun a b, fun q => ?_, fun q => ?_⟩
  · have h1 := H q
    have h2 := K q
    unfold hun
    cases ea : a q <;> cases eb : b q <;> cases ec : c q <;> simp_all <;> first | exact h1.symm | exact h1
  · have h1 := H q
    have h2 := K q
    unfold hun
    cases ea : a q <;> cases eb : b q <;> cases ec : c q <;> simp_all <;> first | exact h1.symm | exact h1
/-- h = ((a + b) + c): then h = (a + (b + c)) -/
theorem spl_a' {h ab c a b : PH} (H : spl h ab c) (K : spl ab a b) : ∃ bc, spl h a bc ∧ spl bc b c := by
  refine ⟨hun b c, fun q => ?_, fun q => ?_⟩
  · have h1 := H q
    have h2 := K q
    unfold hun
    cases ea : a q <;> cases eb : b q <;> cases ec : c q <;> simp_all <;> first | exact h1.symm | exact h1
  · have h1 := H q
    have h2 := K q
    unfold hun
    cases ea : a q <;> cases eb : b q <;> cases ec : c q <;> simp_all <;> first | exact h1.symm | exact h1
/-- more heap, the same assertions -/
def hle (h h' : PH) : Prop := ∀ a o, h a = some o → h' a = some o
theorem Sat_le : ∀ {ws : List An} {h h' : PH}, Sat ws h → hle h h' → Sat ws h'
  | [], _, _, _, _ => trivial
  | P :: ws, h, h', ⟨h1, h2, hs, hp, hw⟩, hl => by
    refine ⟨h1, fun a => match h1 a with | some _ => none | none => h' a, fun a => ?_, hp, Sat_le hw fun a o e => ?_⟩
    · cases e : h1 a with
      | none => exact Or.inl ⟨rfl, by simp [e]⟩
      | some o => exact Or.inr ⟨by simp [e], (hl a o (spl_l hs e)).symm⟩
    · have := spl_d' hs e
      simp only [this]
      exact hl a o (spl_r hs e)
theorem Sat_tl {P : An} {ws : List An} {h : PH} (H : Sat (P :: ws) h) : Sat ws h := by
  obtain ⟨h1, h2, hs, -, hw⟩ := H
  exact Sat_le hw fun a o e => spl_r hs e
theorem Sat_sw {P Q : An} {ws : List An} {h : PH} (H : Sat (P :: Q :: ws) h) : Sat (Q :: P :: ws) h := by
  obtain ⟨h1, h2, hs, hp, h3, h4, hs2, hq, hw⟩ := H
  obtain ⟨ac, k1, k2⟩ := spl_s hs hs2
  exact ⟨h3, ac, k1, hq, h1, h4, k2, hp, hw⟩
theorem Sat_app : ∀ {w1 w2 : List An} {h : PH}, Sat (w1 ++ w2) h → ∃ h1 h2, spl h h1 h2 ∧ Sat w1 h1 ∧ Sat w2 h2
  | [], w2, h, H => ⟨hno, h, spl_n h, trivial, H⟩
  | P :: w1, w2, h, ⟨h1, h2, hs, hp, hw⟩ => by
    obtain ⟨h3, h4, k1, k2, k3⟩ := Sat_app (w1 := w1) hw
    obtain ⟨ab, j1, j2⟩ := spl_a hs k1
    exact ⟨ab, h4, j1, ⟨h1, h3, j2, hp, k2⟩, k3⟩
theorem Sat_app' : ∀ {w1 w2 : List An} {h h1 h2 : PH}, spl h h1 h2 → Sat w1 h1 → Sat w2 h2 → Sat (w1 ++ w2) h
  | [], w2, h, h1, h2, hs, _, H => Sat_le H fun a o e => spl_r hs e
  | P :: w1, w2, h, h1, h2, hs, ⟨h3, h4, k1, hp, k2⟩, H => by
    obtain ⟨bc, j1, j2⟩ := spl_a' hs k1
    exact ⟨h3, bc, j1, hp, Sat_app' (w1 := w1) j2 k2 H⟩
/-- what ws holds, ws' holds -/
def Ent (ws ws' : List An) : Prop := ∀ h, Sat ws h → Sat ws' h
theorem Ent.rf {ws : List An} : Ent ws ws := fun _ h => h
theorem Ent.tr {a b c : List An} (h1 : Ent a b) (h2 : Ent b c) : Ent a c := fun h H => h2 h (h1 h H)
theorem Ent.no {ws : List An} : Ent ws [] := fun _ _ => trivial
theorem Ent.cons {P : An} {a b : List An} (h : Ent a b) : Ent (P :: a) (P :: b) := fun _ ⟨h1, h2, hs, hp, hw⟩ => ⟨h1, h2, hs, hp, h _ hw⟩
theorem Ent.app {a b c d : List An} (h1 : Ent a b) (h2 : Ent c d) : Ent (a ++ c) (b ++ d) := fun _ H => by
  obtain ⟨x, y, hs, k1, k2⟩ := Sat_app H
  exact Sat_app' hs (h1 _ k1) (h2 _ k2)
/-- P out of ws, the rest behind -/
def Pk (P : An) (ws rest : List An) : Prop := Ent ws (P :: rest)
theorem Pk.here {P : An} {ws : List An} : Pk P (P :: ws) ws := fun _ h => h
theorem Pk.there {P Q : An} {ws rest : List An} (h : Pk P ws rest) : Pk P (Q :: ws) (Q :: rest) := fun x H => Sat_sw (Ent.cons (P := Q) h x H)
def Pks (pre ws rest : List An) : Prop := Ent ws (pre ++ rest)
theorem Pks.nil {ws : List An} : Pks [] ws ws := fun _ h => h
theorem Pks.cons {P : An} {pre ws r1 rest : List An} (h : Pk P ws r1) (k : Pks pre r1 rest) : Pks (P :: pre) ws rest := fun x H => Ent.cons (P := P) k x (h x H)
theorem Pks.pure {φ : Prop} {pre ws rest : List An} (h : φ) (k : Pks pre ws rest) : Pks (pu φ :: pre) ws rest := fun x H => ⟨hno, x, spl_n x, h, k x H⟩
theorem Pks.all {ws : List An} : Pks ws ws [] := fun x H => by rw [List.append_nil]; exact H
theorem Pks.tail {pre ws rest : List An} (h : Pks pre ws rest) : Ent ws pre := fun x H => by
  obtain ⟨h1, h2, hs, k1, -⟩ := Sat_app (h x H)
  exact Sat_le k1 fun a o e => spl_l hs e
/-- P in ws, in whose place P' may come -/
def Rp (P : An) (ws : List An) (P' : An) (ws' : List An) : Prop := ∀ h, Sat ws h → ∃ h1 h2, spl h h1 h2 ∧ P h1 ∧ ∀ h' h1', spl h' h1' h2 → P' h1' → Sat ws' h'
theorem Rp.here {P P' : An} {ws : List An} : Rp P (P :: ws) P' (P' :: ws) := fun _ ⟨h1, h2, hs, hp, hw⟩ => ⟨h1, h2, hs, hp, fun _ h1' hs' hp' => ⟨h1', h2, hs', hp', hw⟩⟩
theorem Rp.there {P P' Q : An} {ws ws' : List An} (h : Rp P ws P' ws') : Rp P (Q :: ws) P' (Q :: ws') := fun x ⟨h1, h2, hs, hq, hw⟩ => by
  obtain ⟨h3, h4, k1, k2, k3⟩ := h _ hw
  obtain ⟨ac, j1, j2⟩ := spl_s hs k1
  refine ⟨h3, ac, j1, k2, fun h' h1' hs' hp' => ?_⟩
  obtain ⟨bc, i1, i2⟩ := spl_s hs' j2
  exact ⟨h1, bc, i1, hq, k3 _ _ i2 hp'⟩
theorem Rp.pk {P P' : An} {ws ws' : List An} (h : Rp P ws P' ws') {x : PH} (H : Sat ws x) : ∃ h1 h2, spl x h1 h2 ∧ P h1 := by
  obtain ⟨h1, h2, hs, hp, -⟩ := h x H
  exact ⟨h1, h2, hs, hp⟩
theorem ex_in {α : Type} {f : α → List An} (x : α) {ws rest : List An} (h : Pks (f x) ws rest) : Ent ws (ex f :: rest) := fun y H => by
  obtain ⟨h1, h2, hs, k1, k2⟩ := Sat_app (h y H)
  exact ⟨h1, h2, hs, ⟨x, k1⟩, k2⟩
theorem ex_out {α : Type} {f : α → List An} {ws rest : List An} (h : Pk (ex f) ws rest) {y : PH} (H : Sat ws y) : ∃ x, Sat (f x ++ rest) y := by
  obtain ⟨h1, h2, hs, ⟨x, k1⟩, k2⟩ := h y H
  exact ⟨x, Sat_app' hs k1 k2⟩
theorem pu_out {φ : Prop} {ws rest : List An} (h : Pk (pu φ) ws rest) {y : PH} (H : Sat ws y) : φ ∧ Sat rest y := by
  have h9 := h y H
  exact ⟨by obtain ⟨h1, h2, hs, k1, k2⟩ := h9; exact k1, Sat_tl h9⟩
theorem pt_out {a : Nat} {o : Ob} {ws rest : List An} (h : Pk (pt a o) ws rest) {y : PH} (H : Sat ws y) : y a = some o := by
  obtain ⟨h1, h2, hs, k1, k2⟩ := h y H
  exact spl_l hs k1
/-- an object's heap, alone -/
def hone (a : Nat) (o : Ob) : PH := fun q => if q = a then some o else none
/-- h with a's object set -/
def hset (h : PH) (a : Nat) (o : Ob) : PH := fun q => if q = a then some o else h q
theorem hset_s {h : PH} {a : Nat} {o : Ob} : hset h a o a = some o := by simp [hset]
theorem hset_n {h : PH} {a q : Nat} {o : Ob} (e : q ≠ a) : hset h a o q = h q := by simp [hset, e]
theorem spl_set {h h1 h2 : PH} (H : spl h h1 h2) {a : Nat} {o o' : Ob} (e : h1 a = some o) : spl (hset h a o') (hset h1 a o') h2 := by
  intro q
  have hq := H q
  have ha := spl_d H e
  by_cases hqa : q = a
  · subst hqa
    exact Or.inr ⟨ha, by simp [hset]⟩
  · simp only [hset, hqa, if_false]
    exact hq
theorem spl_new {h : PH} {a : Nat} {o : Ob} (e : h a = none) : spl (hset h a o) (hone a o) h := by
  intro q
  by_cases hqa : q = a
  · subst hqa
    exact Or.inr ⟨e, by simp [hset, hone]⟩
  · exact Or.inl ⟨by simp [hone, hqa], by simp [hset, hqa]⟩
/-- a cell's object set anew -/
theorem Rp_set {a : Nat} {o o' : Ob} {ws ws' : List An} (h : Rp (pt a o) ws (pt a o') ws') {x : PH} (H : Sat ws x) : x a = some o ∧ Sat ws' (hset x a o') := by
  obtain ⟨h1, h2, hs, hp, k⟩ := h x H
  exact ⟨spl_l hs hp, k _ _ (spl_set hs hp) (by show hset h1 a o' a = _; simp [hset])⟩
theorem Sat_new {a : Nat} {o : Ob} {ws : List An} {x : PH} (H : Sat ws x) (e : x a = none) : Sat (pt a o :: ws) (hset x a o) :=
  ⟨_, _, spl_new e, by show hone a o a = _; simp [hone], H⟩
/-- two of ws' objects lie apart -/
theorem pt_ne {a b : Nat} {o o' : Ob} {ws r1 r2 : List An} (h : Pk (pt a o) ws r1) (k : Pk (pt b o') r1 r2) {y : PH} (H : Sat ws y) : a ≠ b := by
  intro e
  subst e
  obtain ⟨h1, h2, hs, k1, k2⟩ := h y H
  have h3 := pt_out k k2
  have h4 := spl_d hs k1
  rw [h3] at h4
  cases h4
