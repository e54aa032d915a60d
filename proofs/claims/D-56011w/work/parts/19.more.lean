/-! MORE ROWS: constants; booleans -/
set_option maxRecDepth 100000
section GM
variable {B : Bt} {Γ : Ct} {cc : ByteArray} {own : String} {nL : Nat} {mn : String} {fr lo : Nat} {kc ks pc : Nat} {ws : List An} {ls : List Slot} {st : List Value}
theorem g_ldc2 {ix : Nat} {v : Int64} (X : Cx B Γ cc own nL mn fr lo) (d : decode cc pc = .ok (.ldc2_w ix, 3)) (hq : Cond.constantLong own ix v ∈ lw_all) (k : G B Γ kc ks ws (pc + 3) ls (.long v :: st)) : G B Γ kc ks ws pc ls st := fun h H locs cells slots i1 i2 i3 i4 i5 => lv_ldc2 X.x X.b X.o (X.ts _ hq) d (k h H locs cells slots i1 i2 i3 i4 i5)
theorem g_ldc {ix : Nat} {v : Int32} (X : Cx B Γ cc own nL mn fr lo) (d : decode cc pc = .ok (.ldc ix, 2)) (hq : Cond.constant own ix v ∈ lw_all) (k : G B Γ kc ks ws (pc + 2) ls (.int v :: st)) : G B Γ kc ks ws pc ls st := fun h H locs cells slots i1 i2 i3 i4 i5 => lv_ldc X.x X.b X.o (X.ts _ hq) d (k h H locs cells slots i1 i2 i3 i4 i5)
theorem g_i2d {x : Int32} (X : Cx B Γ cc own nL mn fr lo) (d : decode cc pc = .ok (.i2d, 1)) (k : G B Γ kc ks ws (pc + 1) ls (.double (FP.i2d x) :: st)) : G B Γ kc ks ws pc ls (.int x :: st) := fun h H locs cells slots i1 i2 i3 i4 i5 => lv_i2d X.x X.b d (k h H locs cells slots i1 i2 i3 i4 i5)
theorem g_i2f {x : Int32} (X : Cx B Γ cc own nL mn fr lo) (d : decode cc pc = .ok (.i2f, 1)) (k : G B Γ kc ks ws (pc + 1) ls (.float (FP.i2f x) :: st)) : G B Γ kc ks ws pc ls (.int x :: st) := fun h H locs cells slots i1 i2 i3 i4 i5 => lv_i2f X.x X.b d (k h H locs cells slots i1 i2 i3 i4 i5)
theorem g_ddiv {x y : UInt64} (X : Cx B Γ cc own nL mn fr lo) (d : decode cc pc = .ok (.ddiv, 1)) (hn : vf_n64 (FP.ddiv x y)) (k : G B Γ kc ks ws (pc + 1) ls (.double (FP.ddiv x y) :: st)) : G B Γ kc ks ws pc ls (.double y :: .double x :: st) := fun h H locs cells slots i1 i2 i3 i4 i5 => lv_ddiv X.x X.b d hn (k h H locs cells slots i1 i2 i3 i4 i5)
theorem g_fdiv {x y : UInt32} (X : Cx B Γ cc own nL mn fr lo) (d : decode cc pc = .ok (.fdiv, 1)) (hn : vf_n32 (FP.fdiv x y)) (k : G B Γ kc ks ws (pc + 1) ls (.float (FP.fdiv x y) :: st)) : G B Γ kc ks ws pc ls (.float y :: .float x :: st) := fun h H locs cells slots i1 i2 i3 i4 i5 => lv_fdiv X.x X.b d hn (k h H locs cells slots i1 i2 i3 i4 i5)
end GM
/-- a truth as an int -/
noncomputable def bP (P : Prop) : Int32 := @ite _ P (Classical.propDecidable P) 1 0
theorem bP_t {P : Prop} (h : P) : bP P = 1 := if_pos h
theorem bP_f {P : Prop} (h : ¬ P) : bP P = 0 := if_neg h
theorem bP_0 {P : Prop} : bP P = 0 ↔ ¬ P := by
  by_cases h : P
  · rw [bP_t h]; exact ⟨fun e => absurd e (by decide), fun e => absurd h e⟩
  · rw [bP_f h]; exact ⟨fun _ => h, fun _ => rfl⟩
theorem bP_n0 {P : Prop} : ¬ bP P = 0 ↔ P := by rw [bP_0]; exact Classical.not_not
theorem bP_1 {P : Prop} : bP P = 1 ↔ P := by
  by_cases h : P
  · rw [bP_t h]; exact ⟨fun _ => h, fun _ => rfl⟩
  · rw [bP_f h]; exact ⟨fun e => absurd e (by decide), fun e => absurd e h⟩
theorem bP_nz {P : Prop} : narrow .boolean (.int (bP P)) = .int (bP P) := by
  by_cases h : P
  · rw [bP_t h]; rfl
  · rw [bP_f h]; rfl
theorem bP_fit {P : Prop} : fits .boolean (.int (bP P)) = true := by
  by_cases h : P
  · rw [bP_t h]; rfl
  · rw [bP_f h]; rfl
theorem bP_c {P Q : Prop} (h : P ↔ Q) : bP P = bP Q := by rw [propext h]
theorem bP_eq {P Q : Prop} : bP P = bP Q ↔ (P ↔ Q) := by
  by_cases h : P <;> by_cases h2 : Q <;> simp [bP_t, bP_f, h, h2]
/-- a room by depth, cells, slots -/
abbrev rmd (d c s : Nat) : Room := ⟨d, c, s, 64 * d⟩
/-- longs compared -/
theorem lc_lt {x y : Int64} : lg_cmp x y < 0 ↔ x < y := by
  unfold lg_cmp
  by_cases h1 : x > y
  · rw [if_pos h1]
    simp only [gt_iff_lt, Int64.lt_iff_toInt_lt] at *
    constructor
    · intro h; exact absurd h (by decide)
    · intro h; omega
  · rw [if_neg h1]
    by_cases h2 : x = y
    · rw [if_pos h2]
      constructor
      · intro h; exact absurd h (by decide)
      · intro h; rw [h2] at h; simp only [Int64.lt_iff_toInt_lt] at h; omega
    · rw [if_neg h2]
      constructor
      · intro _
        simp only [gt_iff_lt, Int64.lt_iff_toInt_lt] at *
        have : x.toInt ≠ y.toInt := fun e => h2 (Int64.toInt_inj.mp e)
        omega
      · intro _; decide
theorem lc_gt {x y : Int64} : 0 < lg_cmp x y ↔ y < x := by
  unfold lg_cmp
  by_cases h1 : x > y
  · rw [if_pos h1]
    exact ⟨fun _ => h1, fun _ => by decide⟩
  · rw [if_neg h1]
    by_cases h2 : x = y
    · rw [if_pos h2]
      exact ⟨fun h => absurd h (by decide), fun h => absurd h h1⟩
    · rw [if_neg h2]
      exact ⟨fun h => absurd h (by decide), fun h => absurd h h1⟩
theorem i2l_le {x y : Int32} : x.toInt64 ≤ y.toInt64 ↔ x ≤ y := by
  simp only [Int64.le_iff_toInt_le, Int32.le_iff_toInt_le, Int32.toInt_toInt64]
/-- a slot that no wide value lies in -/
def LZ (z : Slot) : Prop := z = .unset ∨ ∃ v : Value, z = .val v ∧ v.category = 1
theorem st_lz (pre post : List Slot) {z : Slot} {v : Value} (hz : LZ z) (hv : v.category = 1) : storeLocals (pre ++ z :: post).toArray pre.length v = some (pre ++ .val v :: post).toArray := by
  have hset : (pre ++ z :: post).toArray.setIfInBounds pre.length (.val v) = (pre ++ .val v :: post).toArray := by
    apply Array.toList_inj.mp
    simp [Array.toList_setIfInBounds, List.set_append]
  rcases hz with rfl | ⟨w, rfl, hw⟩ <;> simp_all [storeLocals, storeSelf, setAt]
theorem LZ.u : LZ .unset := Or.inl rfl
theorem LZ.i {x : Int32} : LZ (.val (.int x)) := Or.inr ⟨_, rfl, rfl⟩
theorem LZ.r {x : Nat} : LZ (.val (.ref x)) := Or.inr ⟨_, rfl, rfl⟩
theorem LZ.n : LZ (.val .null) := Or.inr ⟨_, rfl, rfl⟩
/-- f, with g's numbers from a up to i -/
def cpu {α : Type} (f g : Nat → α) (a i : Nat) : Nat → α := fun q => if a ≤ q ∧ q < i then g q else f q
theorem cpu_0 {α : Type} {f g : Nat → α} {a : Nat} : cpu f g a a = f := by
  funext q; simp only [cpu]; rw [if_neg (by omega)]
theorem cpu_in {α : Type} {f g : Nat → α} {a i q : Nat} (h1 : a ≤ q) (h2 : q < i) : cpu f g a i q = g q := if_pos ⟨h1, h2⟩
theorem cpu_lo {α : Type} {f g : Nat → α} {a i q : Nat} (h : q < a) : cpu f g a i q = f q := if_neg (by omega)
theorem cpu_hi {α : Type} {f g : Nat → α} {a i q : Nat} (h : i ≤ q) : cpu f g a i q = f q := if_neg (by omega)
theorem cpu_st {f g : Nat → Int32} {a i : Nat} {x : Int32} (h : a ≤ i) (hx : g i = x) : upd (cpu f g a i) i x = cpu f g a (i + 1) := by
  subst hx
  funext q
  simp only [upd, cpu]
  by_cases e : q = i
  · subst e; rw [if_pos rfl, if_pos ⟨h, by omega⟩]
  · rw [if_neg e]
    by_cases e2 : a ≤ q ∧ q < i
    · rw [if_pos e2, if_pos ⟨e2.1, by omega⟩]
    · rw [if_neg e2, if_neg (by omega)]
theorem upd_s {f : Nat → Int32} {k : Nat} {x : Int32} : upd f k x k = x := if_pos rfl
theorem upd_n {f : Nat → Int32} {k j : Nat} {x : Int32} (h : j ≠ k) : upd f k x j = f j := if_neg h
/-- a contract's weaker form -/
theorem Tr.mo {B : Bt} {y : MethodName} {hd : Cond} {rm : Room} {As : List Value} {pre pre' : List An} {post post' : Option Value → List An → Prop} {exc exc' : String → Nat → List An → Prop} (T : Tr B y hd rm As pre post exc)
    (h1 : Ent pre' pre) (h2 : ∀ r w, post r w → ∃ w', post' r w' ∧ Ent w w') (h3 : ∀ E q w, exc E q w → ∃ w', exc' E q w' ∧ Ent w w') : Tr B y hd rm As pre' post' exc' := by
  intro h0 hS p e ha hc hk s m args below hf happ hP hK
  obtain ⟨n, o, a1, a2, a3, a4⟩ := T h0 (h1 h0 hS) p e ha hc hk s m args below hf happ hP hK
  refine ⟨n, o, a1, a2, a3, ?_⟩
  rcases a4 with ⟨⟨r, w, h', e1, e2, e3, e4⟩, e5⟩ | ⟨q, e1, e2⟩
  · obtain ⟨w', e6, e7⟩ := h2 r w e2
    exact Or.inl ⟨⟨r, w', h', e1, e6, e7 _ e3, e4⟩, e5⟩
  · obtain ⟨E, ce, L, ⟨w, h', x2, x3, x4⟩, x5⟩ := e2
    obtain ⟨w', e6, e7⟩ := h3 _ _ w x2
    exact Or.inr ⟨q, e1, E, ce, L, ⟨w', h', e6, e7 _ x3, x4⟩, x5⟩
theorem Tr.po {B : Bt} {y : MethodName} {hd : Cond} {rm : Room} {As : List Value} {pre : List An} {post post' : Option Value → List An → Prop} {exc : String → Nat → List An → Prop} (T : Tr B y hd rm As pre post exc) (h2 : ∀ r w, post r w → post' r w) : Tr B y hd rm As pre post' exc :=
  T.mo Ent.rf (fun r w h => ⟨w, h2 r w h, Ent.rf⟩) fun _ _ w h => ⟨w, h, Ent.rf⟩
