/-! THE JUDGEMENT G: the machine at a frame, over a separated heap of simple objects; its rows out of the kit's -/
/-- the classes of the objects, by number; behind them the exceptions, whose fields nobody reads -/
def clT : List vw_C := [(RX1, TX1, 9), (RX2, TX2, 15), (RX3, TX3, 20), (RX4, TX4, 2), (RX5, TX5, 5), (RX6, TX6, 3), (RX7, TX7, 1), (RX8, TX8, 5), (RX9, TX9, 2), (RX10, TX10, 7), (RX11, TX11, 1), (RJ2, TJ2, 3), (RJ3, TJ3, 3), (RJ5, TJ5, 4), (RJ6, TJ6, 4), (RJ16, TJ16, 4), (RJ19, TJ19, 9), (RJ21, TJ21, 1), (RJ27, TJ27, 4), (RJ33, TJ33, 4), (RJ37, TJ37, 6), (RJ39, TJ39, 1), (RJ11, TJ11, 6), (RJ12, TJ12, 6), (RJ17, TJ17, 6), (RJ28, TJ28, 6), (RJ31, TJ31, 6), (RJ40, TJ40, 6), (RJ8, TJ8, 5), (RJ24, TJ24, 4), (RJ25, TJ25, 6), (RJ29, TJ29, 6), (RJ41, TJ41, 6), (RJ11, TJ11, 0), (RJ12, TJ12, 0), (RJ17, TJ17, 0), (RJ28, TJ28, 0), (RJ31, TJ31, 0), (RJ40, TJ40, 0)]
theorem ce_J11 : clT[33]? = some (RJ11, TJ11, 0) := rfl
theorem ce_J12 : clT[34]? = some (RJ12, TJ12, 0) := rfl
theorem ce_J17 : clT[35]? = some (RJ17, TJ17, 0) := rfl
theorem ce_J28 : clT[36]? = some (RJ28, TJ28, 0) := rfl
theorem ce_J31 : clT[37]? = some (RJ31, TJ31, 0) := rfl
theorem ce_J40 : clT[38]? = some (RJ40, TJ40, 0) := rfl
theorem cl_X1 : clT[0]? = some (RX1, TX1, 9) := rfl
theorem cl_X2 : clT[1]? = some (RX2, TX2, 15) := rfl
theorem cl_X3 : clT[2]? = some (RX3, TX3, 20) := rfl
theorem cl_X4 : clT[3]? = some (RX4, TX4, 2) := rfl
theorem cl_X5 : clT[4]? = some (RX5, TX5, 5) := rfl
theorem cl_X6 : clT[5]? = some (RX6, TX6, 3) := rfl
theorem cl_X7 : clT[6]? = some (RX7, TX7, 1) := rfl
theorem cl_X8 : clT[7]? = some (RX8, TX8, 5) := rfl
theorem cl_X9 : clT[8]? = some (RX9, TX9, 2) := rfl
theorem cl_X10 : clT[9]? = some (RX10, TX10, 7) := rfl
theorem cl_X11 : clT[10]? = some (RX11, TX11, 1) := rfl
theorem cl_J2 : clT[11]? = some (RJ2, TJ2, 3) := rfl
theorem cl_J3 : clT[12]? = some (RJ3, TJ3, 3) := rfl
theorem cl_J5 : clT[13]? = some (RJ5, TJ5, 4) := rfl
theorem cl_J6 : clT[14]? = some (RJ6, TJ6, 4) := rfl
theorem cl_J16 : clT[15]? = some (RJ16, TJ16, 4) := rfl
theorem cl_J19 : clT[16]? = some (RJ19, TJ19, 9) := rfl
theorem cl_J21 : clT[17]? = some (RJ21, TJ21, 1) := rfl
theorem cl_J27 : clT[18]? = some (RJ27, TJ27, 4) := rfl
theorem cl_J33 : clT[19]? = some (RJ33, TJ33, 4) := rfl
theorem cl_J37 : clT[20]? = some (RJ37, TJ37, 6) := rfl
theorem cl_J39 : clT[21]? = some (RJ39, TJ39, 1) := rfl
theorem cl_J11 : clT[22]? = some (RJ11, TJ11, 6) := rfl
theorem cl_J12 : clT[23]? = some (RJ12, TJ12, 6) := rfl
theorem cl_J17 : clT[24]? = some (RJ17, TJ17, 6) := rfl
theorem cl_J28 : clT[25]? = some (RJ28, TJ28, 6) := rfl
theorem cl_J31 : clT[26]? = some (RJ31, TJ31, 6) := rfl
theorem cl_J40 : clT[27]? = some (RJ40, TJ40, 6) := rfl
theorem cl_J8 : clT[28]? = some (RJ8, TJ8, 5) := rfl
theorem cl_J24 : clT[29]? = some (RJ24, TJ24, 4) := rfl
theorem cl_J25 : clT[30]? = some (RJ25, TJ25, 6) := rfl
theorem cl_J29 : clT[31]? = some (RJ29, TJ29, 6) := rfl
theorem cl_J41 : clT[32]? = some (RJ41, TJ41, 6) := rfl

/-- an array of ints (or bytes, chars, booleans), of longs, of doubles, of references; an object; a lambda's object -/
abbrev oA (ty : FieldType) (n : Nat) (f : Nat → Int32) : Ob := .inl (ty, n, .inl f)
abbrev oL (n : Nat) (f : Nat → Int64) : Ob := .inl (.long, n, .inr (.inl f))
abbrev oD (n : Nat) (f : Nat → UInt64) : Ob := .inl (.double, n, .inr (.inr (.inr (.inl f))))
abbrev oR (C : String) (n : Nat) (f : Nat → Option Nat) : Ob := .inl (.object C, n, .inr (.inr (.inr (.inr f))))
abbrev oI (ci : Nat) (fs : List Value) : Ob := .inr (ci, fs)
/-- the launch, the start's state, the classes' numbers and slots -/
abbrev Bt : Type := Launch × State × va_G
abbrev b_l (B : Bt) : Launch := B.1
abbrev b_s (B : Bt) : State := B.2.1
abbrev b_D (B : Bt) : va_G := B.2.2
/-- what the claim's start gives -/
def Bs (B : Bt) : Prop := (b_l B).stackTraces = false ∧ va_K (b_D B) clT [] (b_s B) ∧ ∃ b : Nat, (∀ w ∈ lw_tbl, w.before #[Value.ref b] (b_s B) = true) ∧ (Jvm.Cond.and given_1 narrow_1).before #[Value.ref b] (b_s B) = true
/-- the object o lies at q -/
def cok (B : Bt) (q : Nat) (o : Ob) (H : Heap) : Prop := match o with
  | .inl (ty, a) => ∃ cA : ClassId, H[q]? = some (vp_cell cA a) ∧ ArrOfT (b_s B) cA ty ∧ va_RA (b_s B) cA ty ∧ a.1 < 2 ^ 31
  | .inr (ci, fs) => ∃ r : vw_C, clT[ci]? = some r ∧ t_OB q ((b_D B).1 ci) r.2.2 ((b_D B).2 ci) H (vp_V fs)
theorem cok.kept {B : Bt} {q : Nat} {o : Ob} {H H1 : Heap} (h : cok B q o H) (e : H1[q]? = H[q]?) : cok B q o H1 := by
  rcases o with ⟨ty, a⟩ | ⟨ci, fs⟩
  · obtain ⟨cA, h1, h2⟩ := h
    exact ⟨cA, e.trans h1, h2⟩
  · obtain ⟨r, h1, h2⟩ := h
    exact ⟨r, h1, h2.kept e⟩
theorem cok.lt {B : Bt} {q : Nat} {o : Ob} {H : Heap} (h : cok B q o H) : q < H.size := by
  rcases o with ⟨ty, a⟩ | ⟨ci, fs⟩
  · obtain ⟨cA, h1, h2⟩ := h
    exact (Array.getElem?_eq_some_iff.mp h1).1
  · obtain ⟨r, h1, cell, h2, -⟩ := h
    exact (Array.getElem?_eq_some_iff.mp h2).1
/-- the simple heap h lies in H; since the start (h0 in H0) nothing that was there and not in h0 has changed; below the claim's start nothing at all -/
def Inv (B : Bt) (h0 : PH) (H0 : Heap) (h : PH) (H : Heap) : Prop :=
  (∀ a o, h a = some o → (b_s B).heap.size ≤ a ∧ cok B a o H) ∧ H0.size ≤ H.size ∧ (∀ q, q < H0.size → h0 q = none → H[q]? = H0[q]?) ∧ (∀ q o, h q = some o → h0 q ≠ none ∨ H0.size ≤ q) ∧
  (b_s B).heap.size ≤ H0.size ∧ (∀ q, q < (b_s B).heap.size → H[q]? = (b_s B).heap[q]?)
theorem Inv.less {B : Bt} {h0 : PH} {H0 : Heap} {h h' : PH} {H : Heap} (I : Inv B h0 H0 h H) (l : hle h' h) : Inv B h0 H0 h' H :=
  ⟨fun a o e => I.1 a o (l a o e), I.2.1, I.2.2.1, fun q o e => I.2.2.2.1 q o (l q o e), I.2.2.2.2⟩
/-- a cell of h set anew -/
theorem Inv.set {B : Bt} {h0 : PH} {H0 : Heap} {h : PH} {H H1 : Heap} (I : Inv B h0 H0 h H) {a : Nat} {o o' : Ob} (ha : h a = some o) (hz : H1.size = H.size) (hq : ∀ q, q ≠ a → H1[q]? = H[q]?) (hc : cok B a o' H1) : Inv B h0 H0 (hset h a o') H1 := by
  obtain ⟨i1, i2, i3, i4, i5, i6⟩ := I
  have hb := (i1 a o ha).1
  refine ⟨fun x y e => ?_, by omega, fun q h1 h2 => ?_, fun q y e => ?_, i5, fun q h1 => ?_⟩
  · by_cases hx : x = a
    · subst hx
      rw [hset_s] at e
      cases e
      exact ⟨hb, hc⟩
    · rw [hset_n hx] at e
      exact ⟨(i1 x y e).1, (i1 x y e).2.kept (hq x hx)⟩
  · rw [hq q, i3 q h1 h2]
    intro e
    subst e
    rcases i4 q o ha with z | z
    · exact z h2
    · omega
  · by_cases hx : q = a
    · subst hx
      exact i4 q o ha
    · rw [hset_n hx] at e
      exact i4 q y e
  · rw [hq q (by omega), i6 q h1]
/-- a cell made -/
theorem Inv.new {B : Bt} {h0 : PH} {H0 : Heap} {h : PH} {H H1 : Heap} (I : Inv B h0 H0 h H) {o' : Ob} (hz : H1.size = H.size + 1) (hq : ∀ q, q < H.size → H1[q]? = H[q]?) (hc : cok B H.size o' H1) : Inv B h0 H0 (hset h H.size o') H1 ∧ h H.size = none := by
  obtain ⟨i1, i2, i3, i4, i5, i6⟩ := I
  have hn : h H.size = none := by
    cases e : h H.size with
    | none => rfl
    | some o => exact absurd (i1 _ _ e).2.lt (Nat.lt_irrefl _)
  refine ⟨⟨fun x y e => ?_, by omega, fun q h1 h2 => ?_, fun q y e => ?_, i5, fun q h1 => ?_⟩, hn⟩
  · by_cases hx : x = H.size
    · subst hx
      rw [hset_s] at e
      cases e
      exact ⟨by omega, hc⟩
    · rw [hset_n hx] at e
      have := (i1 x y e).2.lt
      exact ⟨(i1 x y e).1, (i1 x y e).2.kept (hq x this)⟩
  · rw [hq q (by omega), i3 q h1 h2]
  · by_cases hx : q = H.size
    · subst hx
      exact Or.inr i2
    · rw [hset_n hx] at e
      exact i4 q y e
  · rw [hq q (by omega), i6 q h1]
/-- a frame's surroundings -/
abbrev Ct : Type := Program × Env × Room × State × MethodId × Array Value × List Frame × Method × Code × PH × (State → Prop)
abbrev c_p (Γ : Ct) : Program := Γ.1
abbrev c_e (Γ : Ct) : Env := Γ.2.1
abbrev c_R (Γ : Ct) : Room := Γ.2.2.1
abbrev c_s (Γ : Ct) : State := Γ.2.2.2.1
abbrev c_m (Γ : Ct) : MethodId := Γ.2.2.2.2.1
abbrev c_a (Γ : Ct) : Array Value := Γ.2.2.2.2.2.1
abbrev c_b (Γ : Ct) : List Frame := Γ.2.2.2.2.2.2.1
abbrev c_me (Γ : Ct) : Method := Γ.2.2.2.2.2.2.2.1
abbrev c_c (Γ : Ct) : Code := Γ.2.2.2.2.2.2.2.2.1
abbrev c_h (Γ : Ct) : PH := Γ.2.2.2.2.2.2.2.2.2.1
abbrev c_Q (Γ : Ct) : State → Prop := Γ.2.2.2.2.2.2.2.2.2.2
abbrev Wf (B : Bt) (Γ : Ct) (H : Heap) (locs : List Loc) (cells slots : Nat) (g : JFrame) : Prop := W (c_p Γ) (b_l B) (c_e Γ) (c_R Γ) (c_s Γ) (c_m Γ) (c_a Γ) (c_b Γ) (c_me Γ) (c_c Γ) H locs cells slots (c_Q Γ) g
/-- THE JUDGEMENT: with the assertions ws of the heap, kc cells and ks slots left, from the frame at pc the machine comes to what the method owes -/
def G (B : Bt) (Γ : Ct) (kc ks : Nat) (ws : List An) (pc : Nat) (ls : List Slot) (st : List Value) : Prop :=
  ∀ (h : PH) (H : Heap) (locs : List Loc) (cells slots : Nat), Sat ws h → Inv B (c_h Γ) (c_s Γ).heap h H → (∀ z ∈ locs, (b_s B).heap.size ≤ z.base) → cells + kc ≤ (c_R Γ).cells → slots + ks ≤ (c_R Γ).slots → Wf B Γ H locs cells slots (F0 (c_m Γ) pc ls.toArray st)
/-- .. with q, of class E, thrown over it -/
def GX (B : Bt) (Γ : Ct) (E : String) (q : Nat) (kc ks : Nat) (ws : List An) (pc : Nat) (ls : List Slot) : Prop :=
  ∀ (h : PH) (H : Heap) (locs : List Loc) (cells slots : Nat) (rest : List Value), Sat ws h → Inv B (c_h Γ) (c_s Γ).heap h H → (∀ z ∈ locs, (b_s B).heap.size ≤ z.base) → cells + kc ≤ (c_R Γ).cells → slots + ks ≤ (c_R Γ).slots → (∃ ce : Cell, H[q]? = some ce ∧ ce.vm = .none ∧ (c_s Γ).vm.findClass E = some ce.cls) →
    vy_W (c_p Γ) (b_l B) (c_e Γ) (c_R Γ) (c_s Γ) (c_m Γ) (c_a Γ) (c_b Γ) (c_me Γ) (c_c Γ) H locs cells slots (c_Q Γ) (F0 (c_m Γ) pc ls.toArray rest) q
/-- the method's surroundings are those of the code cc of the method mn of own, nL locals -/
def Cx (B : Bt) (Γ : Ct) (cc : ByteArray) (own : String) (nL : Nat) (mn : String) (fr lo : Nat) : Prop :=
  (c_p Γ).tables.exec = Jvm.exec ∧ (c_c Γ).code = cc ∧ (c_s Γ).vm.findClass own = some (c_m Γ).cls ∧ (c_c Γ).maxLocals = nL ∧ (∀ w ∈ lw_all, w.before (c_a Γ) (c_s Γ) = true) ∧ (b_s B).WarmedH (c_s Γ).vm ∧ Bs B ∧ (c_me Γ).name = mn ∧ (c_me Γ).locks = false ∧ (c_R Γ).frames = fr ∧ (c_R Γ).locals = lo
section CX
variable {B : Bt} {Γ : Ct} {cc : ByteArray} {own : String} {nL : Nat} {mn : String} {fr lo : Nat}
theorem Cx.x (X : Cx B Γ cc own nL mn fr lo) : (c_p Γ).tables.exec = Jvm.exec := X.1
theorem Cx.b (X : Cx B Γ cc own nL mn fr lo) : (c_c Γ).code = cc := X.2.1
theorem Cx.o (X : Cx B Γ cc own nL mn fr lo) : (c_s Γ).vm.findClass own = some (c_m Γ).cls := X.2.2.1
theorem Cx.ml (X : Cx B Γ cc own nL mn fr lo) : (c_c Γ).maxLocals = nL := X.2.2.2.1
theorem Cx.ts (X : Cx B Γ cc own nL mn fr lo) : ∀ w ∈ lw_all, w.before (c_a Γ) (c_s Γ) = true := X.2.2.2.2.1
theorem Cx.w (X : Cx B Γ cc own nL mn fr lo) : (b_s B).WarmedH (c_s Γ).vm := X.2.2.2.2.2.1
theorem Cx.bs (X : Cx B Γ cc own nL mn fr lo) : Bs B := X.2.2.2.2.2.2.1
theorem Cx.nm (X : Cx B Γ cc own nL mn fr lo) : (c_me Γ).name = mn := X.2.2.2.2.2.2.2.1
theorem Cx.lk (X : Cx B Γ cc own nL mn fr lo) : (c_me Γ).locks = false := X.2.2.2.2.2.2.2.2.1
theorem Cx.rf (X : Cx B Γ cc own nL mn fr lo) : (c_R Γ).frames = fr := X.2.2.2.2.2.2.2.2.2.1
theorem Cx.rl (X : Cx B Γ cc own nL mn fr lo) : (c_R Γ).locals = lo := X.2.2.2.2.2.2.2.2.2.2
theorem Cx.k (X : Cx B Γ cc own nL mn fr lo) : va_K (b_D B) clT [] (c_s Γ) := va_K.moved X.w.alike X.bs.2.1
theorem Cx.fx (X : Cx B Γ cc own nL mn fr lo) : CallFix (c_p Γ) (c_m Γ) (c_c Γ) cc nL (c_s Γ) (c_a Γ) lw_all own := ⟨X.x, X.b, X.ml, X.o, X.ts⟩
/-- a word that the tables alone decide -/
theorem Cx.nw (X : Cx B Γ cc own nL mn fr lo) {w : Cond} (hw : w ∈ lw_tbl) (ho : w.onTables = true) (hk : w.keeps = true) {a : Array Value} : w.before a (c_s Γ) = true := by
  obtain ⟨b, h, -⟩ := X.bs.2.2
  exact word_at X.w (Or.inl (by rw [ho, hk]; rfl)) (h w hw)
end CX

section GR
variable {B : Bt} {Γ : Ct} {cc : ByteArray} {own : String} {nL : Nat} {mn : String} {fr lo : Nat} {kc ks pc : Nat} {ws : List An} {ls : List Slot} {st : List Value}
theorem g_ent {ws' : List An} (h : Ent ws ws') (k : G B Γ kc ks ws' pc ls st) : G B Γ kc ks ws pc ls st := fun x H locs cells slots i1 => k x H locs cells slots (h x i1)
theorem g_bud {kc' ks' : Nat} (h : kc' ≤ kc) (h2 : ks' ≤ ks) (k : G B Γ kc' ks' ws pc ls st) : G B Γ kc ks ws pc ls st := fun x H locs cells slots i1 i2 i3 i4 i5 => k x H locs cells slots i1 i2 i3 (by omega) (by omega)
theorem g_ex {α : Type} {f : α → List An} {rest : List An} (h : Pk (ex f) ws rest) (k : ∀ x, G B Γ kc ks (f x ++ rest) pc ls st) : G B Γ kc ks ws pc ls st := fun y H locs cells slots i1 => by
  obtain ⟨x, hx⟩ := ex_out h i1
  exact k x y H locs cells slots hx
theorem g_pu {φ : Prop} {rest : List An} (h : Pk (pu φ) ws rest) (k : φ → G B Γ kc ks rest pc ls st) : G B Γ kc ks ws pc ls st := fun y H locs cells slots i1 => by
  obtain ⟨h1, h2⟩ := pu_out h i1
  exact k h1 y H locs cells slots h2
/-- what the heap says, purely -/
theorem g_get {φ : Prop} (h : ∀ y, Sat ws y → φ) (k : φ → G B Γ kc ks ws pc ls st) : G B Γ kc ks ws pc ls st := fun y H locs cells slots i1 => k (h y i1) y H locs cells slots i1
theorem g_eqi {x y : Int32} (e : x = y) (k : G B Γ kc ks ws pc ls (.int y :: st)) : G B Γ kc ks ws pc ls (.int x :: st) := e ▸ k
theorem g_eq {ls' : List Slot} {st' : List Value} (e : ls = ls') (e2 : st = st') (k : G B Γ kc ks ws pc ls' st') : G B Γ kc ks ws pc ls st := e ▸ e2 ▸ k
theorem g_iconst {n : Int} {v : Int32} (X : Cx B Γ cc own nL mn fr lo) (d : decode cc pc = .ok (.iconst n, 1)) (hv : Int32.ofInt n = v) (k : G B Γ kc ks ws (pc + 1) ls (.int v :: st)) : G B Γ kc ks ws pc ls st := fun h H locs cells slots i1 i2 i3 i4 i5 => lv_iconst X.x X.b d hv (k h H locs cells slots i1 i2 i3 i4 i5)
theorem g_bipush {n : Int} {v : Int32} (X : Cx B Γ cc own nL mn fr lo) (d : decode cc pc = .ok (.bipush n, 2)) (hv : (Int8.ofInt n).toInt32 = v) (k : G B Γ kc ks ws (pc + 2) ls (.int v :: st)) : G B Γ kc ks ws pc ls st := fun h H locs cells slots i1 i2 i3 i4 i5 => lv_bipush X.x X.b d hv (k h H locs cells slots i1 i2 i3 i4 i5)
theorem g_sipush {n : Int} {v : Int32} (X : Cx B Γ cc own nL mn fr lo) (d : decode cc pc = .ok (.sipush n, 3)) (hv : (Int16.ofInt n).toInt32 = v) (k : G B Γ kc ks ws (pc + 3) ls (.int v :: st)) : G B Γ kc ks ws pc ls st := fun h H locs cells slots i1 i2 i3 i4 i5 => lv_sipush X.x X.b d hv (k h H locs cells slots i1 i2 i3 i4 i5)
theorem g_lconst {n : Fin 2} {v : Int64} (X : Cx B Γ cc own nL mn fr lo) (d : decode cc pc = .ok (.lconst n, 1)) (hv : Int64.ofNat (n : Nat) = v) (k : G B Γ kc ks ws (pc + 1) ls (.long v :: st)) : G B Γ kc ks ws pc ls st := fun h H locs cells slots i1 i2 i3 i4 i5 => lv_lconst X.x X.b d hv (k h H locs cells slots i1 i2 i3 i4 i5)
theorem g_dconst0 (X : Cx B Γ cc own nL mn fr lo) (d : decode cc pc = .ok (.dconst 0, 1)) (k : G B Γ kc ks ws (pc + 1) ls (.double 0 :: st)) : G B Γ kc ks ws pc ls st := fun h H locs cells slots i1 i2 i3 i4 i5 => lv_dconst0 X.x X.b d (k h H locs cells slots i1 i2 i3 i4 i5)
theorem g_fconst0 (X : Cx B Γ cc own nL mn fr lo) (d : decode cc pc = .ok (.fconst 0, 1)) (k : G B Γ kc ks ws (pc + 1) ls (.float 0 :: st)) : G B Γ kc ks ws pc ls st := fun h H locs cells slots i1 i2 i3 i4 i5 => lv_fconst0 X.x X.b d (k h H locs cells slots i1 i2 i3 i4 i5)
theorem g_null (X : Cx B Γ cc own nL mn fr lo) (d : decode cc pc = .ok (.aconst_null, 1)) (k : G B Γ kc ks ws (pc + 1) ls (.null :: st)) : G B Γ kc ks ws pc ls st := fun h H locs cells slots i1 i2 i3 i4 i5 => lv_null X.x X.b d (k h H locs cells slots i1 i2 i3 i4 i5)
theorem g_iload_n {j : Fin 4} {i : Nat} {x : Int32} (X : Cx B Γ cc own nL mn fr lo) (d : decode cc pc = .ok (.iload_n j, 1)) (hi : (j : Nat) = i) (hl : ls[i]? = some (.val (.int x))) (k : G B Γ kc ks ws (pc + 1) ls (.int x :: st)) : G B Γ kc ks ws pc ls st := fun h H locs cells slots i1 i2 i3 i4 i5 => lv_iload_n X.x X.b d hi (by rw [List.getElem?_toArray]; exact hl) (k h H locs cells slots i1 i2 i3 i4 i5)
theorem g_iload {i : Nat} {x : Int32} (X : Cx B Γ cc own nL mn fr lo) (d : decode cc pc = .ok (.iload i, 2)) (hl : ls[i]? = some (.val (.int x))) (k : G B Γ kc ks ws (pc + 2) ls (.int x :: st)) : G B Γ kc ks ws pc ls st := fun h H locs cells slots i1 i2 i3 i4 i5 => lv_iload X.x X.b d (by rw [List.getElem?_toArray]; exact hl) (k h H locs cells slots i1 i2 i3 i4 i5)
theorem g_lload_n {j : Fin 4} {i : Nat} {x : Int64} (X : Cx B Γ cc own nL mn fr lo) (d : decode cc pc = .ok (.lload_n j, 1)) (hi : (j : Nat) = i) (hl : ls[i]? = some (.val (.long x))) (k : G B Γ kc ks ws (pc + 1) ls (.long x :: st)) : G B Γ kc ks ws pc ls st := fun h H locs cells slots i1 i2 i3 i4 i5 => lv_lload_n X.x X.b d hi (by rw [List.getElem?_toArray]; exact hl) (k h H locs cells slots i1 i2 i3 i4 i5)
theorem g_lload {i : Nat} {x : Int64} (X : Cx B Γ cc own nL mn fr lo) (d : decode cc pc = .ok (.lload i, 2)) (hl : ls[i]? = some (.val (.long x))) (k : G B Γ kc ks ws (pc + 2) ls (.long x :: st)) : G B Γ kc ks ws pc ls st := fun h H locs cells slots i1 i2 i3 i4 i5 => lv_lload X.x X.b d (by rw [List.getElem?_toArray]; exact hl) (k h H locs cells slots i1 i2 i3 i4 i5)
theorem g_fload_n {j : Fin 4} {i : Nat} {x : UInt32} (X : Cx B Γ cc own nL mn fr lo) (d : decode cc pc = .ok (.fload_n j, 1)) (hi : (j : Nat) = i) (hl : ls[i]? = some (.val (.float x))) (k : G B Γ kc ks ws (pc + 1) ls (.float x :: st)) : G B Γ kc ks ws pc ls st := fun h H locs cells slots i1 i2 i3 i4 i5 => lv_fload_n X.x X.b d hi (by rw [List.getElem?_toArray]; exact hl) (k h H locs cells slots i1 i2 i3 i4 i5)
theorem g_fload {i : Nat} {x : UInt32} (X : Cx B Γ cc own nL mn fr lo) (d : decode cc pc = .ok (.fload i, 2)) (hl : ls[i]? = some (.val (.float x))) (k : G B Γ kc ks ws (pc + 2) ls (.float x :: st)) : G B Γ kc ks ws pc ls st := fun h H locs cells slots i1 i2 i3 i4 i5 => lv_fload X.x X.b d (by rw [List.getElem?_toArray]; exact hl) (k h H locs cells slots i1 i2 i3 i4 i5)
theorem g_dload_n {j : Fin 4} {i : Nat} {x : UInt64} (X : Cx B Γ cc own nL mn fr lo) (d : decode cc pc = .ok (.dload_n j, 1)) (hi : (j : Nat) = i) (hl : ls[i]? = some (.val (.double x))) (k : G B Γ kc ks ws (pc + 1) ls (.double x :: st)) : G B Γ kc ks ws pc ls st := fun h H locs cells slots i1 i2 i3 i4 i5 => lv_dload_n X.x X.b d hi (by rw [List.getElem?_toArray]; exact hl) (k h H locs cells slots i1 i2 i3 i4 i5)
theorem g_dload {i : Nat} {x : UInt64} (X : Cx B Γ cc own nL mn fr lo) (d : decode cc pc = .ok (.dload i, 2)) (hl : ls[i]? = some (.val (.double x))) (k : G B Γ kc ks ws (pc + 2) ls (.double x :: st)) : G B Γ kc ks ws pc ls st := fun h H locs cells slots i1 i2 i3 i4 i5 => lv_dload X.x X.b d (by rw [List.getElem?_toArray]; exact hl) (k h H locs cells slots i1 i2 i3 i4 i5)
theorem g_aload_n {j : Fin 4} {i : Nat} {x : Nat} (X : Cx B Γ cc own nL mn fr lo) (d : decode cc pc = .ok (.aload_n j, 1)) (hi : (j : Nat) = i) (hl : ls[i]? = some (.val (.ref x))) (k : G B Γ kc ks ws (pc + 1) ls (.ref x :: st)) : G B Γ kc ks ws pc ls st := fun h H locs cells slots i1 i2 i3 i4 i5 => lv_aload_n X.x X.b d hi (by rw [List.getElem?_toArray]; exact hl) (k h H locs cells slots i1 i2 i3 i4 i5)
theorem g_aload {i : Nat} {x : Nat} (X : Cx B Γ cc own nL mn fr lo) (d : decode cc pc = .ok (.aload i, 2)) (hl : ls[i]? = some (.val (.ref x))) (k : G B Γ kc ks ws (pc + 2) ls (.ref x :: st)) : G B Γ kc ks ws pc ls st := fun h H locs cells slots i1 i2 i3 i4 i5 => lv_aload X.x X.b d (by rw [List.getElem?_toArray]; exact hl) (k h H locs cells slots i1 i2 i3 i4 i5)
theorem g_aload_nN {j : Fin 4} {i : Nat} (X : Cx B Γ cc own nL mn fr lo) (d : decode cc pc = .ok (.aload_n j, 1)) (hi : (j : Nat) = i) (hl : ls[i]? = some (.val .null)) (k : G B Γ kc ks ws (pc + 1) ls (.null :: st)) : G B Γ kc ks ws pc ls st := fun h H locs cells slots i1 i2 i3 i4 i5 => lv_aload_nN X.x X.b d hi (by rw [List.getElem?_toArray]; exact hl) (k h H locs cells slots i1 i2 i3 i4 i5)
theorem g_aloadN {i : Nat} (X : Cx B Γ cc own nL mn fr lo) (d : decode cc pc = .ok (.aload i, 2)) (hl : ls[i]? = some (.val .null)) (k : G B Γ kc ks ws (pc + 2) ls (.null :: st)) : G B Γ kc ks ws pc ls st := fun h H locs cells slots i1 i2 i3 i4 i5 => lv_aloadN X.x X.b d (by rw [List.getElem?_toArray]; exact hl) (k h H locs cells slots i1 i2 i3 i4 i5)
theorem g_iadd {x y : Int32} (X : Cx B Γ cc own nL mn fr lo) (d : decode cc pc = .ok (.iadd, 1)) (k : G B Γ kc ks ws (pc + 1) ls (.int (x + y) :: st)) : G B Γ kc ks ws pc ls (.int y :: .int x :: st) := fun h H locs cells slots i1 i2 i3 i4 i5 => lv_iadd X.x X.b d (k h H locs cells slots i1 i2 i3 i4 i5)
theorem g_isub {x y : Int32} (X : Cx B Γ cc own nL mn fr lo) (d : decode cc pc = .ok (.isub, 1)) (k : G B Γ kc ks ws (pc + 1) ls (.int (x - y) :: st)) : G B Γ kc ks ws pc ls (.int y :: .int x :: st) := fun h H locs cells slots i1 i2 i3 i4 i5 => lv_isub X.x X.b d (k h H locs cells slots i1 i2 i3 i4 i5)
theorem g_imul {x y : Int32} (X : Cx B Γ cc own nL mn fr lo) (d : decode cc pc = .ok (.imul, 1)) (k : G B Γ kc ks ws (pc + 1) ls (.int (x * y) :: st)) : G B Γ kc ks ws pc ls (.int y :: .int x :: st) := fun h H locs cells slots i1 i2 i3 i4 i5 => lv_imul X.x X.b d (k h H locs cells slots i1 i2 i3 i4 i5)
theorem g_iand {x y : Int32} (X : Cx B Γ cc own nL mn fr lo) (d : decode cc pc = .ok (.iand, 1)) (k : G B Γ kc ks ws (pc + 1) ls (.int (x &&& y) :: st)) : G B Γ kc ks ws pc ls (.int y :: .int x :: st) := fun h H locs cells slots i1 i2 i3 i4 i5 => lv_iand X.x X.b d (k h H locs cells slots i1 i2 i3 i4 i5)
theorem g_ior {x y : Int32} (X : Cx B Γ cc own nL mn fr lo) (d : decode cc pc = .ok (.ior, 1)) (k : G B Γ kc ks ws (pc + 1) ls (.int (x ||| y) :: st)) : G B Γ kc ks ws pc ls (.int y :: .int x :: st) := fun h H locs cells slots i1 i2 i3 i4 i5 => lv_ior X.x X.b d (k h H locs cells slots i1 i2 i3 i4 i5)
theorem g_ixor {x y : Int32} (X : Cx B Γ cc own nL mn fr lo) (d : decode cc pc = .ok (.ixor, 1)) (k : G B Γ kc ks ws (pc + 1) ls (.int (x ^^^ y) :: st)) : G B Γ kc ks ws pc ls (.int y :: .int x :: st) := fun h H locs cells slots i1 i2 i3 i4 i5 => lv_ixor X.x X.b d (k h H locs cells slots i1 i2 i3 i4 i5)
theorem g_idiv {x y : Int32} (X : Cx B Γ cc own nL mn fr lo) (d : decode cc pc = .ok (.idiv, 1)) (hne : ¬ y = 0) (k : G B Γ kc ks ws (pc + 1) ls (.int (x / y) :: st)) : G B Γ kc ks ws pc ls (.int y :: .int x :: st) := fun h H locs cells slots i1 i2 i3 i4 i5 => lv_idiv X.x X.b d hne (k h H locs cells slots i1 i2 i3 i4 i5)
theorem g_irem {x y : Int32} (X : Cx B Γ cc own nL mn fr lo) (d : decode cc pc = .ok (.irem, 1)) (hne : ¬ y = 0) (k : G B Γ kc ks ws (pc + 1) ls (.int (x - x / y * y) :: st)) : G B Γ kc ks ws pc ls (.int y :: .int x :: st) := fun h H locs cells slots i1 i2 i3 i4 i5 => lv_irem X.x X.b d hne (k h H locs cells slots i1 i2 i3 i4 i5)
theorem g_ineg {x : Int32} (X : Cx B Γ cc own nL mn fr lo) (d : decode cc pc = .ok (.ineg, 1)) (k : G B Γ kc ks ws (pc + 1) ls (.int (-x) :: st)) : G B Γ kc ks ws pc ls (.int x :: st) := fun h H locs cells slots i1 i2 i3 i4 i5 => lv_ineg X.x X.b d (k h H locs cells slots i1 i2 i3 i4 i5)
theorem g_ladd {x y : Int64} (X : Cx B Γ cc own nL mn fr lo) (d : decode cc pc = .ok (.ladd, 1)) (k : G B Γ kc ks ws (pc + 1) ls (.long (x + y) :: st)) : G B Γ kc ks ws pc ls (.long y :: .long x :: st) := fun h H locs cells slots i1 i2 i3 i4 i5 => lv_ladd X.x X.b d (k h H locs cells slots i1 i2 i3 i4 i5)
theorem g_lsub {x y : Int64} (X : Cx B Γ cc own nL mn fr lo) (d : decode cc pc = .ok (.lsub, 1)) (k : G B Γ kc ks ws (pc + 1) ls (.long (x - y) :: st)) : G B Γ kc ks ws pc ls (.long y :: .long x :: st) := fun h H locs cells slots i1 i2 i3 i4 i5 => lv_lsub X.x X.b d (k h H locs cells slots i1 i2 i3 i4 i5)
theorem g_lmul {x y : Int64} (X : Cx B Γ cc own nL mn fr lo) (d : decode cc pc = .ok (.lmul, 1)) (k : G B Γ kc ks ws (pc + 1) ls (.long (x * y) :: st)) : G B Γ kc ks ws pc ls (.long y :: .long x :: st) := fun h H locs cells slots i1 i2 i3 i4 i5 => lv_lmul X.x X.b d (k h H locs cells slots i1 i2 i3 i4 i5)
theorem g_land {x y : Int64} (X : Cx B Γ cc own nL mn fr lo) (d : decode cc pc = .ok (.land, 1)) (k : G B Γ kc ks ws (pc + 1) ls (.long (x &&& y) :: st)) : G B Γ kc ks ws pc ls (.long y :: .long x :: st) := fun h H locs cells slots i1 i2 i3 i4 i5 => lv_land X.x X.b d (k h H locs cells slots i1 i2 i3 i4 i5)
theorem g_lor {x y : Int64} (X : Cx B Γ cc own nL mn fr lo) (d : decode cc pc = .ok (.lor, 1)) (k : G B Γ kc ks ws (pc + 1) ls (.long (x ||| y) :: st)) : G B Γ kc ks ws pc ls (.long y :: .long x :: st) := fun h H locs cells slots i1 i2 i3 i4 i5 => lv_lor X.x X.b d (k h H locs cells slots i1 i2 i3 i4 i5)
theorem g_lxor {x y : Int64} (X : Cx B Γ cc own nL mn fr lo) (d : decode cc pc = .ok (.lxor, 1)) (k : G B Γ kc ks ws (pc + 1) ls (.long (x ^^^ y) :: st)) : G B Γ kc ks ws pc ls (.long y :: .long x :: st) := fun h H locs cells slots i1 i2 i3 i4 i5 => lv_lxor X.x X.b d (k h H locs cells slots i1 i2 i3 i4 i5)
theorem g_i2l {x : Int32} {v : Int64} (X : Cx B Γ cc own nL mn fr lo) (d : decode cc pc = .ok (.i2l, 1)) (hv : x.toInt64 = v) (k : G B Γ kc ks ws (pc + 1) ls (.long v :: st)) : G B Γ kc ks ws pc ls (.int x :: st) := fun h H locs cells slots i1 i2 i3 i4 i5 => lv_i2l X.x X.b d hv (k h H locs cells slots i1 i2 i3 i4 i5)
theorem g_l2i {x : Int64} {v : Int32} (X : Cx B Γ cc own nL mn fr lo) (d : decode cc pc = .ok (.l2i, 1)) (hv : x.toInt32 = v) (k : G B Γ kc ks ws (pc + 1) ls (.int v :: st)) : G B Γ kc ks ws pc ls (.long x :: st) := fun h H locs cells slots i1 i2 i3 i4 i5 => lv_l2i X.x X.b d hv (k h H locs cells slots i1 i2 i3 i4 i5)
theorem g_i2b {x v : Int32} (X : Cx B Γ cc own nL mn fr lo) (d : decode cc pc = .ok (.i2b, 1)) (hv : x.toInt8.toInt32 = v) (k : G B Γ kc ks ws (pc + 1) ls (.int v :: st)) : G B Γ kc ks ws pc ls (.int x :: st) := fun h H locs cells slots i1 i2 i3 i4 i5 => lv_i2b X.x X.b d hv (k h H locs cells slots i1 i2 i3 i4 i5)
theorem g_i2c {x v : Int32} (X : Cx B Γ cc own nL mn fr lo) (d : decode cc pc = .ok (.i2c, 1)) (hv : (x.toUInt32 % 65536).toInt32 = v) (k : G B Γ kc ks ws (pc + 1) ls (.int v :: st)) : G B Γ kc ks ws pc ls (.int x :: st) := fun h H locs cells slots i1 i2 i3 i4 i5 => lv_i2c X.x X.b d hv (k h H locs cells slots i1 i2 i3 i4 i5)
theorem g_iushr {x y v : Int32} (X : Cx B Γ cc own nL mn fr lo) (d : decode cc pc = .ok (.iushr, 1)) (hv : (x.toUInt32 >>> (y.toUInt32 &&& Int32.toUInt32 31)).toInt32 = v) (k : G B Γ kc ks ws (pc + 1) ls (.int v :: st)) : G B Γ kc ks ws pc ls (.int y :: .int x :: st) := fun h H locs cells slots i1 i2 i3 i4 i5 => lv_iushr X.x X.b d hv (k h H locs cells slots i1 i2 i3 i4 i5)
theorem g_dup {v : Value} (X : Cx B Γ cc own nL mn fr lo) (d : decode cc pc = .ok (.dup, 1)) (hv : v.category = 1) (k : G B Γ kc ks ws (pc + 1) ls (v :: v :: st)) : G B Γ kc ks ws pc ls (v :: st) := fun h H locs cells slots i1 i2 i3 i4 i5 => lv_dup X.x X.b d hv (k h H locs cells slots i1 i2 i3 i4 i5)
theorem g_pop {v : Value} (X : Cx B Γ cc own nL mn fr lo) (d : decode cc pc = .ok (.pop, 1)) (hv : v.category = 1) (k : G B Γ kc ks ws (pc + 1) ls st) : G B Γ kc ks ws pc ls (v :: st) := fun h H locs cells slots i1 i2 i3 i4 i5 => lv_pop X.x X.b d hv (k h H locs cells slots i1 i2 i3 i4 i5)
theorem g_dup_x1 {v u : Value} (X : Cx B Γ cc own nL mn fr lo) (d : decode cc pc = .ok (.dup_x1, 1)) (hv : v.category = 1) (hu : u.category = 1) (k : G B Γ kc ks ws (pc + 1) ls (v :: u :: v :: st)) : G B Γ kc ks ws pc ls (v :: u :: st) := fun h H locs cells slots i1 i2 i3 i4 i5 => lv_dup_x1 X.x X.b d hv hu (k h H locs cells slots i1 i2 i3 i4 i5)
theorem g_dup2 {v u : Value} (X : Cx B Γ cc own nL mn fr lo) (d : decode cc pc = .ok (.dup2, 1)) (hv : v.category = 1) (hu : u.category = 1) (k : G B Γ kc ks ws (pc + 1) ls (v :: u :: v :: u :: st)) : G B Γ kc ks ws pc ls (v :: u :: st) := fun h H locs cells slots i1 i2 i3 i4 i5 => lv_dup2_11 X.x X.b d hv hu (k h H locs cells slots i1 i2 i3 i4 i5)
theorem g_dup_x2 {v u t : Value} (X : Cx B Γ cc own nL mn fr lo) (d : decode cc pc = .ok (.dup_x2, 1)) (hv : v.category = 1) (hu : u.category = 1) (ht : t.category = 1) (k : G B Γ kc ks ws (pc + 1) ls (v :: u :: t :: v :: st)) : G B Γ kc ks ws pc ls (v :: u :: t :: st) := fun h H locs cells slots i1 i2 i3 i4 i5 => lv_dup_x2 X.x X.b d hv hu ht (k h H locs cells slots i1 i2 i3 i4 i5)
theorem g_goto {off : Int} {tgt : Nat} (X : Cx B Γ cc own nL mn fr lo) (d : decode cc pc = .ok (.goto off, 3)) (ht : (pc : Int) + off = (tgt : Int)) (k : G B Γ kc ks ws tgt ls st) : G B Γ kc ks ws pc ls st := fun h H locs cells slots i1 i2 i3 i4 i5 => lv_goto X.x X.b d ht (k h H locs cells slots i1 i2 i3 i4 i5)
theorem g_if_eq {x : Int32} {off : Int} {tgt : Nat} (X : Cx B Γ cc own nL mn fr lo) (d : decode cc pc = .ok (.ifCond .eq off, 3)) (ht : (pc : Int) + off = (tgt : Int)) (kt : x = 0 → G B Γ kc ks ws tgt ls st) (kf : ¬ x = 0 → G B Γ kc ks ws (pc + 3) ls st) : G B Γ kc ks ws pc ls (.int x :: st) := fun h H locs cells slots i1 i2 i3 i4 i5 => lv_if_eq X.x X.b d ht (fun q => kt q h H locs cells slots i1 i2 i3 i4 i5) (fun q => kf q h H locs cells slots i1 i2 i3 i4 i5)
theorem g_if_ne {x : Int32} {off : Int} {tgt : Nat} (X : Cx B Γ cc own nL mn fr lo) (d : decode cc pc = .ok (.ifCond .ne off, 3)) (ht : (pc : Int) + off = (tgt : Int)) (kt : x ≠ 0 → G B Γ kc ks ws tgt ls st) (kf : x = 0 → G B Γ kc ks ws (pc + 3) ls st) : G B Γ kc ks ws pc ls (.int x :: st) := fun h H locs cells slots i1 i2 i3 i4 i5 => lv_if_ne X.x X.b d ht (fun q => kt q h H locs cells slots i1 i2 i3 i4 i5) (fun q => kf q h H locs cells slots i1 i2 i3 i4 i5)
theorem g_if_lt {x : Int32} {off : Int} {tgt : Nat} (X : Cx B Γ cc own nL mn fr lo) (d : decode cc pc = .ok (.ifCond .lt off, 3)) (ht : (pc : Int) + off = (tgt : Int)) (kt : x < 0 → G B Γ kc ks ws tgt ls st) (kf : ¬ x < 0 → G B Γ kc ks ws (pc + 3) ls st) : G B Γ kc ks ws pc ls (.int x :: st) := fun h H locs cells slots i1 i2 i3 i4 i5 => lv_if_lt X.x X.b d ht (fun q => kt q h H locs cells slots i1 i2 i3 i4 i5) (fun q => kf q h H locs cells slots i1 i2 i3 i4 i5)
theorem g_if_ge {x : Int32} {off : Int} {tgt : Nat} (X : Cx B Γ cc own nL mn fr lo) (d : decode cc pc = .ok (.ifCond .ge off, 3)) (ht : (pc : Int) + off = (tgt : Int)) (kt : 0 ≤ x → G B Γ kc ks ws tgt ls st) (kf : ¬ 0 ≤ x → G B Γ kc ks ws (pc + 3) ls st) : G B Γ kc ks ws pc ls (.int x :: st) := fun h H locs cells slots i1 i2 i3 i4 i5 => lv_if_ge X.x X.b d ht (fun q => kt q h H locs cells slots i1 i2 i3 i4 i5) (fun q => kf q h H locs cells slots i1 i2 i3 i4 i5)
theorem g_if_gt {x : Int32} {off : Int} {tgt : Nat} (X : Cx B Γ cc own nL mn fr lo) (d : decode cc pc = .ok (.ifCond .gt off, 3)) (ht : (pc : Int) + off = (tgt : Int)) (kt : 0 < x → G B Γ kc ks ws tgt ls st) (kf : ¬ 0 < x → G B Γ kc ks ws (pc + 3) ls st) : G B Γ kc ks ws pc ls (.int x :: st) := fun h H locs cells slots i1 i2 i3 i4 i5 => lv_if_gt X.x X.b d ht (fun q => kt q h H locs cells slots i1 i2 i3 i4 i5) (fun q => kf q h H locs cells slots i1 i2 i3 i4 i5)
theorem g_if_le {x : Int32} {off : Int} {tgt : Nat} (X : Cx B Γ cc own nL mn fr lo) (d : decode cc pc = .ok (.ifCond .le off, 3)) (ht : (pc : Int) + off = (tgt : Int)) (kt : x ≤ 0 → G B Γ kc ks ws tgt ls st) (kf : ¬ x ≤ 0 → G B Γ kc ks ws (pc + 3) ls st) : G B Γ kc ks ws pc ls (.int x :: st) := fun h H locs cells slots i1 i2 i3 i4 i5 => lv_if_le X.x X.b d ht (fun q => kt q h H locs cells slots i1 i2 i3 i4 i5) (fun q => kf q h H locs cells slots i1 i2 i3 i4 i5)
theorem g_icmp_eq {x y : Int32} {off : Int} {tgt : Nat} (X : Cx B Γ cc own nL mn fr lo) (d : decode cc pc = .ok (.if_icmp .eq off, 3)) (ht : (pc : Int) + off = (tgt : Int)) (kt : x = y → G B Γ kc ks ws tgt ls st) (kf : ¬ x = y → G B Γ kc ks ws (pc + 3) ls st) : G B Γ kc ks ws pc ls (.int y :: .int x :: st) := fun h H locs cells slots i1 i2 i3 i4 i5 => lv_icmp_eq X.x X.b d ht (fun q => kt q h H locs cells slots i1 i2 i3 i4 i5) (fun q => kf q h H locs cells slots i1 i2 i3 i4 i5)
theorem g_icmp_ne {x y : Int32} {off : Int} {tgt : Nat} (X : Cx B Γ cc own nL mn fr lo) (d : decode cc pc = .ok (.if_icmp .ne off, 3)) (ht : (pc : Int) + off = (tgt : Int)) (kt : x ≠ y → G B Γ kc ks ws tgt ls st) (kf : x = y → G B Γ kc ks ws (pc + 3) ls st) : G B Γ kc ks ws pc ls (.int y :: .int x :: st) := fun h H locs cells slots i1 i2 i3 i4 i5 => lv_icmp_ne X.x X.b d ht (fun q => kt q h H locs cells slots i1 i2 i3 i4 i5) (fun q => kf q h H locs cells slots i1 i2 i3 i4 i5)
theorem g_icmp_lt {x y : Int32} {off : Int} {tgt : Nat} (X : Cx B Γ cc own nL mn fr lo) (d : decode cc pc = .ok (.if_icmp .lt off, 3)) (ht : (pc : Int) + off = (tgt : Int)) (kt : x < y → G B Γ kc ks ws tgt ls st) (kf : ¬ x < y → G B Γ kc ks ws (pc + 3) ls st) : G B Γ kc ks ws pc ls (.int y :: .int x :: st) := fun h H locs cells slots i1 i2 i3 i4 i5 => lv_icmp_lt X.x X.b d ht (fun q => kt q h H locs cells slots i1 i2 i3 i4 i5) (fun q => kf q h H locs cells slots i1 i2 i3 i4 i5)
theorem g_icmp_ge {x y : Int32} {off : Int} {tgt : Nat} (X : Cx B Γ cc own nL mn fr lo) (d : decode cc pc = .ok (.if_icmp .ge off, 3)) (ht : (pc : Int) + off = (tgt : Int)) (kt : y ≤ x → G B Γ kc ks ws tgt ls st) (kf : ¬ y ≤ x → G B Γ kc ks ws (pc + 3) ls st) : G B Γ kc ks ws pc ls (.int y :: .int x :: st) := fun h H locs cells slots i1 i2 i3 i4 i5 => lv_icmp_ge X.x X.b d ht (fun q => kt q h H locs cells slots i1 i2 i3 i4 i5) (fun q => kf q h H locs cells slots i1 i2 i3 i4 i5)
theorem g_icmp_gt {x y : Int32} {off : Int} {tgt : Nat} (X : Cx B Γ cc own nL mn fr lo) (d : decode cc pc = .ok (.if_icmp .gt off, 3)) (ht : (pc : Int) + off = (tgt : Int)) (kt : y < x → G B Γ kc ks ws tgt ls st) (kf : ¬ y < x → G B Γ kc ks ws (pc + 3) ls st) : G B Γ kc ks ws pc ls (.int y :: .int x :: st) := fun h H locs cells slots i1 i2 i3 i4 i5 => lv_icmp_gt X.x X.b d ht (fun q => kt q h H locs cells slots i1 i2 i3 i4 i5) (fun q => kf q h H locs cells slots i1 i2 i3 i4 i5)
theorem g_icmp_le {x y : Int32} {off : Int} {tgt : Nat} (X : Cx B Γ cc own nL mn fr lo) (d : decode cc pc = .ok (.if_icmp .le off, 3)) (ht : (pc : Int) + off = (tgt : Int)) (kt : x ≤ y → G B Γ kc ks ws tgt ls st) (kf : ¬ x ≤ y → G B Γ kc ks ws (pc + 3) ls st) : G B Γ kc ks ws pc ls (.int y :: .int x :: st) := fun h H locs cells slots i1 i2 i3 i4 i5 => lv_icmp_le X.x X.b d ht (fun q => kt q h H locs cells slots i1 i2 i3 i4 i5) (fun q => kf q h H locs cells slots i1 i2 i3 i4 i5)
theorem g_acmp_eq {rx ry : Option Nat} {vx vy : Value} {off : Int} {tgt : Nat} (X : Cx B Γ cc own nL mn fr lo) (d : decode cc pc = .ok (.if_acmp .eq off, 3)) (ht : (pc : Int) + off = (tgt : Int)) (hx : va_rf rx = vx) (hy : va_rf ry = vy) (kt : rx = ry → G B Γ kc ks ws tgt ls st) (kf : ¬ rx = ry → G B Γ kc ks ws (pc + 3) ls st) : G B Γ kc ks ws pc ls (vy :: vx :: st) := fun h H locs cells slots i1 i2 i3 i4 i5 => by
  subst hx; subst hy
  exact lv_acmp_eq X.x X.b d ht (fun q => kt q h H locs cells slots i1 i2 i3 i4 i5) (fun q => kf q h H locs cells slots i1 i2 i3 i4 i5)
theorem g_acmp_ne {rx ry : Option Nat} {vx vy : Value} {off : Int} {tgt : Nat} (X : Cx B Γ cc own nL mn fr lo) (d : decode cc pc = .ok (.if_acmp .ne off, 3)) (ht : (pc : Int) + off = (tgt : Int)) (hx : va_rf rx = vx) (hy : va_rf ry = vy) (kt : ¬ rx = ry → G B Γ kc ks ws tgt ls st) (kf : rx = ry → G B Γ kc ks ws (pc + 3) ls st) : G B Γ kc ks ws pc ls (vy :: vx :: st) := fun h H locs cells slots i1 i2 i3 i4 i5 => by
  subst hx; subst hy
  exact lv_acmp_ne X.x X.b d ht (fun q => kt q h H locs cells slots i1 i2 i3 i4 i5) (fun q => kf q h H locs cells slots i1 i2 i3 i4 i5)
theorem g_ifnonnull {x : Nat} {off : Int} {tgt : Nat} (X : Cx B Γ cc own nL mn fr lo) (d : decode cc pc = .ok (.ifnonnull off, 3)) (ht : (pc : Int) + off = (tgt : Int)) (k : G B Γ kc ks ws tgt ls st) : G B Γ kc ks ws pc ls (.ref x :: st) := fun h H locs cells slots i1 i2 i3 i4 i5 => lv_ifnonnull X.x X.b d ht (k h H locs cells slots i1 i2 i3 i4 i5)
theorem g_ifnull {x : Nat} {off : Int} (X : Cx B Γ cc own nL mn fr lo) (d : decode cc pc = .ok (.ifnull off, 3)) (k : G B Γ kc ks ws (pc + 3) ls st) : G B Γ kc ks ws pc ls (.ref x :: st) := fun h H locs cells slots i1 i2 i3 i4 i5 => lv_ifnull X.x X.b d (k h H locs cells slots i1 i2 i3 i4 i5)
theorem g_ifnullN {off : Int} {tgt : Nat} (X : Cx B Γ cc own nL mn fr lo) (d : decode cc pc = .ok (.ifnull off, 3)) (ht : (pc : Int) + off = (tgt : Int)) (k : G B Γ kc ks ws tgt ls st) : G B Γ kc ks ws pc ls (.null :: st) := fun h H locs cells slots i1 i2 i3 i4 i5 => lv_ifnullN X.x X.b d ht (k h H locs cells slots i1 i2 i3 i4 i5)
theorem g_ifnonnullN {off : Int} (X : Cx B Γ cc own nL mn fr lo) (d : decode cc pc = .ok (.ifnonnull off, 3)) (k : G B Γ kc ks ws (pc + 3) ls st) : G B Γ kc ks ws pc ls (.null :: st) := fun h H locs cells slots i1 i2 i3 i4 i5 => lv_ifnonnullN X.x X.b d (k h H locs cells slots i1 i2 i3 i4 i5)
theorem g_castN {ix : Nat} (X : Cx B Γ cc own nL mn fr lo) (d : decode cc pc = .ok (.checkcast ix, 3)) (k : G B Γ kc ks ws (pc + 3) ls (.null :: st)) : G B Γ kc ks ws pc ls (.null :: st) := fun h H locs cells slots i1 i2 i3 i4 i5 => lv_castN X.x X.b d (k h H locs cells slots i1 i2 i3 i4 i5)
theorem g_lookup {dflt : Int} {ps : Array (Int × Int)} {len : Nat} {x : Int32} {off : Int} {tgt : Nat} (X : Cx B Γ cc own nL mn fr lo) (d : decode cc pc = .ok (.lookupswitch dflt ps, len)) (hp : (ps.toList.zip (ps.toList.drop 1)).all (fun (a, next) => a.1 < next.1) = true) (ho : Op.lookupswitch.offset ps.toList dflt x.toInt = off) (ht : (pc : Int) + off = (tgt : Int)) (k : G B Γ kc ks ws tgt ls st) : G B Γ kc ks ws pc ls (.int x :: st) := fun h H locs cells slots i1 i2 i3 i4 i5 => lv_lookup X.x X.b d hp ho ht (k h H locs cells slots i1 i2 i3 i4 i5)
theorem g_tableOut {dflt tl hi : Int} {offs : Array Int} {len : Nat} {x : Int32} {tgt : Nat} (X : Cx B Γ cc own nL mn fr lo) (d : decode cc pc = .ok (.tableswitch dflt tl hi offs, len)) (h0 : x.toInt < tl ∨ hi < x.toInt) (ht : (pc : Int) + dflt = (tgt : Int)) (k : G B Γ kc ks ws tgt ls st) : G B Γ kc ks ws pc ls (.int x :: st) := fun h H locs cells slots i1 i2 i3 i4 i5 => lv_tableOut X.x X.b d h0 ht (k h H locs cells slots i1 i2 i3 i4 i5)
theorem g_tableIn {dflt tl hi : Int} {offs : Array Int} {len : Nat} {x : Int32} {off : Int} {tgt : Nat} (X : Cx B Γ cc own nL mn fr lo) (d : decode cc pc = .ok (.tableswitch dflt tl hi offs, len)) (h1 : ¬ x.toInt < tl) (h2 : ¬ hi < x.toInt) (ho : offs[(x.toInt - tl).toNat]? = some off) (ht : (pc : Int) + off = (tgt : Int)) (k : G B Γ kc ks ws tgt ls st) : G B Γ kc ks ws pc ls (.int x :: st) := fun h H locs cells slots i1 i2 i3 i4 i5 => lv_tableIn X.x X.b d h1 h2 ho ht (k h H locs cells slots i1 i2 i3 i4 i5)

/-- a store: the list of locals behind it -/
theorem W_st {p : Program} {l : Launch} {e : Env} {R : Room} {s : State} {m : MethodId} {args : Array Value} {below : List Frame} {meth : Method} {c : Code} {H : Heap} {locs : List Loc} {cells slots : Nat} {Q : State → Prop} {cc : ByteArray} {pc : Nat} {rest : List Value} {la lb : Array Slot} {v : Value} {len : Nat} (hexec : p.tables.exec = Jvm.exec) (hb : c.code = cc) {i : Nat} (hs : storeLocals la i v = some lb)
    (hd : (∃ x, v = .int x ∧ ((∃ k : Fin 4, (k : Nat) = i ∧ decode cc pc = .ok (.istore_n k, 1) ∧ len = 1) ∨ (decode cc pc = .ok (.istore i, 2) ∧ len = 2))) ∨ (∃ x, v = .ref x ∧ ((∃ k : Fin 4, (k : Nat) = i ∧ decode cc pc = .ok (.astore_n k, 1) ∧ len = 1) ∨ (decode cc pc = .ok (.astore i, 2) ∧ len = 2))) ∨ (v = .null ∧ ((∃ k : Fin 4, (k : Nat) = i ∧ decode cc pc = .ok (.astore_n k, 1) ∧ len = 1) ∨ (decode cc pc = .ok (.astore i, 2) ∧ len = 2))))
    (kk : W p l e R s m args below meth c H locs cells slots Q (F0 m (pc + len) lb rest)) : W p l e R s m args below meth c H locs cells slots Q (F0 m pc la (v :: rest)) := by
  intro T hT X
  obtain ⟨t, a, b⟩ := kk T hT X
  refine ⟨t, ?_, b⟩
  rcases hd with ⟨x, rfl, ⟨k, rfl, hd, rfl⟩ | ⟨hd, rfl⟩⟩ | ⟨x, rfl, ⟨k, rfl, hd, rfl⟩ | ⟨hd, rfl⟩⟩ | ⟨rfl, ⟨k, rfl, hd, rfl⟩ | ⟨hd, rfl⟩⟩
  all_goals
    jvm_step X.here [X.here.top, ↓top_set X.here.top, hexec, hb, hd, hs, Value.isRef]
    exact a
theorem g_istore_n {j : Fin 4} {i : Nat} {x : Int32} {ls' : List Slot} (X : Cx B Γ cc own nL mn fr lo) (d : decode cc pc = .ok (.istore_n j, 1)) (hi : (j : Nat) = i) (hs : storeLocals ls.toArray i (.int x) = some ls'.toArray) (k : G B Γ kc ks ws (pc + 1) ls' st) : G B Γ kc ks ws pc ls (.int x :: st) := fun h H locs cells slots i1 i2 i3 i4 i5 => W_st X.x X.b hs (Or.inl ⟨x, rfl, Or.inl ⟨j, hi, d, rfl⟩⟩) (k h H locs cells slots i1 i2 i3 i4 i5)
theorem g_istore {i : Nat} {x : Int32} {ls' : List Slot} (X : Cx B Γ cc own nL mn fr lo) (d : decode cc pc = .ok (.istore i, 2)) (hs : storeLocals ls.toArray i (.int x) = some ls'.toArray) (k : G B Γ kc ks ws (pc + 2) ls' st) : G B Γ kc ks ws pc ls (.int x :: st) := fun h H locs cells slots i1 i2 i3 i4 i5 => W_st X.x X.b hs (Or.inl ⟨x, rfl, Or.inr ⟨d, rfl⟩⟩) (k h H locs cells slots i1 i2 i3 i4 i5)
theorem g_astore_n {j : Fin 4} {i : Nat} {x : Nat} {ls' : List Slot} (X : Cx B Γ cc own nL mn fr lo) (d : decode cc pc = .ok (.astore_n j, 1)) (hi : (j : Nat) = i) (hs : storeLocals ls.toArray i (.ref x) = some ls'.toArray) (k : G B Γ kc ks ws (pc + 1) ls' st) : G B Γ kc ks ws pc ls (.ref x :: st) := fun h H locs cells slots i1 i2 i3 i4 i5 => W_st X.x X.b hs (Or.inr (Or.inl ⟨x, rfl, Or.inl ⟨j, hi, d, rfl⟩⟩)) (k h H locs cells slots i1 i2 i3 i4 i5)
theorem g_astore {i : Nat} {x : Nat} {ls' : List Slot} (X : Cx B Γ cc own nL mn fr lo) (d : decode cc pc = .ok (.astore i, 2)) (hs : storeLocals ls.toArray i (.ref x) = some ls'.toArray) (k : G B Γ kc ks ws (pc + 2) ls' st) : G B Γ kc ks ws pc ls (.ref x :: st) := fun h H locs cells slots i1 i2 i3 i4 i5 => W_st X.x X.b hs (Or.inr (Or.inl ⟨x, rfl, Or.inr ⟨d, rfl⟩⟩)) (k h H locs cells slots i1 i2 i3 i4 i5)
theorem g_astore_nN {j : Fin 4} {i : Nat} {ls' : List Slot} (X : Cx B Γ cc own nL mn fr lo) (d : decode cc pc = .ok (.astore_n j, 1)) (hi : (j : Nat) = i) (hs : storeLocals ls.toArray i .null = some ls'.toArray) (k : G B Γ kc ks ws (pc + 1) ls' st) : G B Γ kc ks ws pc ls (.null :: st) := fun h H locs cells slots i1 i2 i3 i4 i5 => W_st X.x X.b hs (Or.inr (Or.inr ⟨rfl, Or.inl ⟨j, hi, d, rfl⟩⟩)) (k h H locs cells slots i1 i2 i3 i4 i5)
theorem g_astoreN {i : Nat} {ls' : List Slot} (X : Cx B Γ cc own nL mn fr lo) (d : decode cc pc = .ok (.astore i, 2)) (hs : storeLocals ls.toArray i .null = some ls'.toArray) (k : G B Γ kc ks ws (pc + 2) ls' st) : G B Γ kc ks ws pc ls (.null :: st) := fun h H locs cells slots i1 i2 i3 i4 i5 => W_st X.x X.b hs (Or.inr (Or.inr ⟨rfl, Or.inr ⟨d, rfl⟩⟩)) (k h H locs cells slots i1 i2 i3 i4 i5)
theorem W_iinc {p : Program} {l : Launch} {e : Env} {R : Room} {s : State} {m : MethodId} {args : Array Value} {below : List Frame} {meth : Method} {c : Code} {H : Heap} {locs : List Loc} {cells slots : Nat} {Q : State → Prop} {cc : ByteArray} {pc : Nat} {rest : List Value} {la lb : Array Slot} (hexec : p.tables.exec = Jvm.exec) (hb : c.code = cc) {i len : Nat} {n : Int} {x v : Int32} (hl : la[i]? = some (.val (.int x))) (hv : x + Int32.ofInt n = v) (hs : storeLocals la i (.int v) = some lb) (hd : decode cc pc = .ok (.iinc i n, len)) (hlen : len = 3 ∨ len = 6)
    (kk : W p l e R s m args below meth c H locs cells slots Q (F0 m (pc + len) lb rest)) : W p l e R s m args below meth c H locs cells slots Q (F0 m pc la rest) := by
  subst hv
  intro T hT X
  obtain ⟨t, a, b⟩ := kk T hT X
  refine ⟨t, ?_, b⟩
  rcases hlen with rfl | rfl
  all_goals
    jvm_step X.here [X.here.top, ↓top_set X.here.top, hexec, hb, hd, hl, hs]
    exact a
theorem g_iinc {i len : Nat} {n : Int} {x v : Int32} {ls' : List Slot} (X : Cx B Γ cc own nL mn fr lo) (d : decode cc pc = .ok (.iinc i n, len)) (hlen : len = 3 ∨ len = 6) (hl : ls[i]? = some (.val (.int x))) (hv : x + Int32.ofInt n = v) (hs : storeLocals ls.toArray i (.int v) = some ls'.toArray) (k : G B Γ kc ks ws (pc + len) ls' st) : G B Γ kc ks ws pc ls st := fun h H locs cells slots i1 i2 i3 i4 i5 => W_iinc X.x X.b (by rw [List.getElem?_toArray]; exact hl) hv hs d hlen (k h H locs cells slots i1 i2 i3 i4 i5)

end GR
