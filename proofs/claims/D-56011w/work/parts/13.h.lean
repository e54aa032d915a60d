/-! ROWS OF THE HEAP: fields, arrays, new objects; ends; calls -/
theorem P1o {B : Bt} {q ci : Nat} {fs : List Value} {H : Heap} (h : cok B q (oI ci fs) H) : va_P (b_D B) clT [(q, .inr (ci, fs))] H := by
  intro k e hk
  cases k with
  | zero => cases hk; exact h
  | succ k => simp at hk
theorem P1a {B : Bt} {q : Nat} {cA : ClassId} {a : vp_A} {H : Heap} (h : H[q]? = some (vp_cell cA a)) : va_P (b_D B) clT [(q, .inl (cA, a))] H := by
  intro k e hk
  cases k with
  | zero => cases hk; exact h
  | succ k => simp at hk
/-- an object's field by the entry ix of own -/
def FL (own : String) (ix ci j : Nat) (ty : FieldType) (fin : Bool) : Prop := ∃ (C : String) (T : u_T) (N : Nat) (ref : String) (tyf : Nat → FieldType), clT[ci]? = some (C, T, N) ∧ (∀ w ∈ u_ws C T N, w ∈ lw_all) ∧ (∀ k, k < N → parseFieldDescriptor (T k).2.2.1 = some (tyf k)) ∧
  (∀ a, a < N → ∀ b, b < N → a ≠ b → (T a).2.1 ≠ (T b).2.1) ∧ j < N ∧ Cond.fieldLink own ix ref (T j).2.1 (T j).2.2.1 ∈ lw_all ∧ ((T j).1 = ref ∨ Cond.sameField ref (T j).1 (T j).2.1 (T j).2.2.1 ∈ lw_all) ∧ tyf j = ty ∧ (T j).2.2.2 = fin ∧ (fin = true → (T j).1 = own)
/-- .. of a nest mate -/
def FN (own : String) (ix ci j : Nat) (ty : FieldType) : Prop := ∃ (C : String) (T : u_T) (N : Nat) (ref host : String) (tyf : Nat → FieldType), clT[ci]? = some (C, T, N) ∧ (∀ w ∈ u_ws C T N, w ∈ lw_all) ∧ (∀ k, k < N → parseFieldDescriptor (T k).2.2.1 = some (tyf k)) ∧
  (∀ a, a < N → ∀ b, b < N → a ≠ b → (T a).2.1 ≠ (T b).2.1) ∧ j < N ∧ Cond.fieldLinkNest own ix ref (T j).2.1 (T j).2.2.1 host ∈ lw_tbl ∧ (T j).1 = ref ∧ tyf j = ty ∧ ((T j).2.2.2 = false ∨ (T j).2.2.2 = true)
/-- an object made by the entry ix of own -/
def NW (own : String) (ix ci N : Nat) (fs : List Value) : Prop := ∃ (C : String) (T : u_T) (tyf : Nat → FieldType), clT[ci]? = some (C, T, N) ∧ (∀ w ∈ u_ws C T N, w ∈ lw_all) ∧ (∀ k, k < N → parseFieldDescriptor (T k).2.2.1 = some (tyf k)) ∧ Cond.classLink own ix C ∈ lw_all ∧ Cond.instantiable C N ∈ lw_all ∧ Cond.initialized C ∈ lw_all ∧ ∀ k, k < N → vp_V fs k = defaultValue (tyf k)
/-- what is asked of an object of class ci, by the entry ix of own -/
def CK (own : String) (ix ci : Nat) : Prop := ∃ (C nm : String) (T : u_T) (N : Nat), clT[ci]? = some (C, T, N) ∧ Cond.classLink own ix nm ∈ lw_all ∧ (nm = C ∨ Cond.castable C nm ∈ lw_tbl)
/-- a is an object of class ci -/
def Rc (a ci : Nat) (ws : List An) : Prop := ∀ h, Sat ws h → ∃ fs, h a = some (oI ci fs)
theorem Rc.pt {a ci : Nat} {fs : List Value} {ws : List An} : Rc a ci (pt a (oI ci fs) :: ws) := fun h H => ⟨fs, pt_out Pk.here H⟩
theorem Rc.there {a ci : Nat} {P : An} {ws : List An} (h : Rc a ci ws) : Rc a ci (P :: ws) := fun x H => h x (Sat_tl H)
theorem Rc.ent {a ci : Nat} {w1 w2 : List An} (e : Ent w1 w2) (h : Rc a ci w2) : Rc a ci w1 := fun x H => h x (e x H)
section GH
variable {B : Bt} {Γ : Ct} {cc : ByteArray} {own : String} {nL : Nat} {mn : String} {fr lo : Nat} {kc ks pc : Nat} {ws : List An} {ls : List Slot} {st : List Value}
theorem Cx.nF (X : Cx B Γ cc own nL mn fr lo) {a : String} {i : Nat} {b n d h : String} (hw : Cond.fieldLinkNest a i b n d h ∈ lw_tbl) {A : Array Value} : (Cond.fieldLinkNest a i b n d h).before A (c_s Γ) = true := by
  obtain ⟨q, g, -⟩ := X.bs.2.2
  exact va_Nw.use rfl (va_Nw.warmF X.w (va_Nw.of rfl (g _ hw)))
theorem Cx.nM (X : Cx B Γ cc own nL mn fr lo) {a : String} {i : Nat} {x : MethodName} {h : String} (hw : Cond.methodLinkNest a i x h ∈ lw_tbl) : va_Nw (.methodLinkNest a i x h) (c_s Γ) := by
  obtain ⟨q, g, -⟩ := X.bs.2.2
  exact va_Nw.warmM X.w (va_Nw.of rfl (g _ hw))
theorem Cx.nC (X : Cx B Γ cc own nL mn fr lo) {C T : String} (hw : Cond.castable C T ∈ lw_tbl) : va_Nw (.castable C T) (c_s Γ) := by
  obtain ⟨q, g, -⟩ := X.bs.2.2
  exact va_Nw.warmC X.w (va_Nw.of rfl (g _ hw))
theorem Cx.nA (X : Cx B Γ cc own nL mn fr lo) {C : String} (hw : Cond.arrayOver (.object C) ∈ lw_tbl) {A : Array Value} : (Cond.arrayOver (.object C)).before A (c_s Γ) = true := by
  obtain ⟨q, g, -⟩ := X.bs.2.2
  exact va_AO.use (va_AO.moved X.w.alike (va_AO.of (g _ hw)))
theorem Cx.ka (X : Cx B Γ cc own nL mn fr lo) {cA : ClassId} {ty : FieldType} (h1 : ArrOfT (b_s B) cA ty) (h2 : va_RA (b_s B) cA ty) : va_K (b_D B) clT [(cA, ty)] (c_s Γ) :=
  ⟨X.k.1, fun k q hk => by
    cases k with
    | zero => cases hk; exact ⟨arrOfT_moved X.w.alike h1, h2.moved X.w.alike⟩
    | succ k => simp at hk⟩
theorem g_getf {a ix ci j : Nat} {fs : List Value} {v : Value} {ty : FieldType} {fin : Bool} {ws' : List An} (X : Cx B Γ cc own nL mn fr lo) (d : decode cc pc = .ok (.getfield ix, 3)) (f : FL own ix ci j ty fin) (hp : Pk (pt a (oI ci fs)) ws ws') (hv : fs[j]? = some v) (k : G B Γ kc ks ws (pc + 3) ls (v :: st)) : G B Γ kc ks ws pc ls (.ref a :: st) := by
  intro h H locs cells slots i1 i2 i3 i4 i5
  obtain ⟨C, T, N, ref, tyf, hc, hin, hty, hnm, hj, hlk, hsm, -⟩ := f
  refine va_get X.x X.b X.ts hin X.o X.k (P1o (i2.1 a _ (pt_out hp i1)).2) 0 rfl hc j hj (X.ts _ hlk) ?_ hv d (k h H locs cells slots i1 i2 i3 i4 i5)
  rcases hsm with e | e
  · rw [← e]; exact fun x hx => hx
  · exact fun x hx => u_same (X.ts _ e) x hx
theorem g_getfN {a ix ci j : Nat} {fs : List Value} {v : Value} {ty : FieldType} {ws' : List An} (X : Cx B Γ cc own nL mn fr lo) (d : decode cc pc = .ok (.getfield ix, 3)) (f : FN own ix ci j ty) (hp : Pk (pt a (oI ci fs)) ws ws') (hv : fs[j]? = some v) (k : G B Γ kc ks ws (pc + 3) ls (v :: st)) : G B Γ kc ks ws pc ls (.ref a :: st) := by
  intro h H locs cells slots i1 i2 i3 i4 i5
  obtain ⟨C, T, N, ref, host, tyf, hc, hin, hty, hnm, hj, hlk, hsm, -⟩ := f
  exact va_getN X.x X.b X.ts hin X.o X.k (P1o (i2.1 a _ (pt_out hp i1)).2) 0 rfl hc j hj (X.nF hlk) (by rw [← hsm]; exact fun x hx => hx) hv d (k h H locs cells slots i1 i2 i3 i4 i5)
/-- a field written: the heap behind it -/
theorem cok_put {B : Bt} {s : State} {ci N j : Nat} {C : String} {T : u_T} {a : Nat} {fs : List Value} {v : Value} {H H1 : Heap} {cell : Cell} (hc : clT[ci]? = some (C, T, N)) (hj : j < N) (hl : j < fs.length) (q2 : cell.cls = (b_D B).1 ci) (q3 : cell.vm = .none) (q4 : ∀ k, k < N → cell.slots[(b_D B).2 ci k]? = some (vp_V fs k))
    (hap : ∀ x y, x < N → y < N → x ≠ y → (b_D B).2 ci x ≠ (b_D B).2 ci y) (e1 : H1[a]? = some (cell.setSlot ((b_D B).2 ci j) v)) : cok B a (oI ci (fs.set j v)) H1 :=
  ⟨_, hc, t_OB.to (V := updV (vp_V fs) j v) ⟨_, e1, q2, q3, t_set q4 hap hj v⟩ (fun k _ => vp_updV_set hl v k)⟩
theorem g_putf {a ix ci j : Nat} {fs : List Value} {v : Value} {ty : FieldType} {ws' : List An} (X : Cx B Γ cc own nL mn fr lo) (d : decode cc pc = .ok (.putfield ix, 3)) (f : FL own ix ci j ty false) (hp : Rp (pt a (oI ci fs)) ws (pt a (oI ci (fs.set j v))) ws') (hl : j < fs.length) (hn : narrow ty v = v) (hf : fits ty v = true) (k : G B Γ kc ks ws' (pc + 3) ls st) : G B Γ kc ks ws pc ls (v :: .ref a :: st) := by
  intro h H locs cells slots i1 i2 i3 i4 i5
  obtain ⟨C, T, N, ref, tyf, hc, hin, hty, hnm, hj, hlk, hsm, rfl, hfin, -⟩ := f
  obtain ⟨ha, hs'⟩ := Rp_set hp i1
  have hap := va_apart (own := own) X.ts hin tyf hty hnm X.k hc
  obtain ⟨hb, r, h1, cell, q1, q2, q3, q4⟩ := i2.1 a _ ha
  have hr : r = (C, T, N) := Option.some.inj (h1.symm.trans hc)
  subst hr
  obtain ⟨hS, hfc, kC, hkC, hkind⟩ := X.k.1 ci _ hc
  obtain ⟨cf, kf, fi, f, hi, hsl⟩ := hS j hj
  have hlay := X.ts _ (hin _ (u_in_lay hj))
  unfold u_lay at hlay
  rw [if_neg (by rw [hfin]; decide)] at hlay
  have hst := (u_facts hfc hkC (u_lays X.ts hin hj) hi).1
  have h6 := u_store hfc hkC hkind hlay hi (hty j hj) hn hf
  have hi' : (c_s Γ).fieldFound? ref (T j).2.1 (T j).2.2.1 = some (cf, kf, fi, f) := by
    rcases hsm with e | e
    · rw [← e]; exact hi
    · exact u_same (X.ts _ e) _ hi
  refine W.putK X.x X.b (f := f) ⟨X.o, X.ts _ hlk, ⟨_, _, _, hi'⟩, hst⟩ (by rw [q2]; exact h6) q1 q3 (by rw [hsl]; exact k2_hasslot (q4 j hj)) rfl rfl d fun H' e1 e2 e3 => ?_
  rw [hsl] at e1 ⊢
  exact k _ H' _ cells slots hs' (i2.set ha e2 e3 (cok_put (s := c_s Γ) (H := H) hc hj hl q2 q3 q4 hap e1)) (fun z hz => by
    rcases List.mem_append.mp hz with h9 | h9
    · exact i3 z h9
    · rw [List.mem_singleton.mp h9]; exact hb) i4 i5
theorem g_putfF {a ix ci j : Nat} {fs : List Value} {v : Value} {ty : FieldType} {ws' : List An} (X : Cx B Γ cc own nL mn fr lo) (d : decode cc pc = .ok (.putfield ix, 3)) (f : FL own ix ci j ty true) (hm : mn = "<init>") (hp : Rp (pt a (oI ci fs)) ws (pt a (oI ci (fs.set j v))) ws') (hl : j < fs.length) (hn : narrow ty v = v) (hf : fits ty v = true) (k : G B Γ kc ks ws' (pc + 3) ls st) : G B Γ kc ks ws pc ls (v :: .ref a :: st) := by
  intro h H locs cells slots i1 i2 i3 i4 i5
  obtain ⟨C, T, N, ref, tyf, hc, hin, hty, hnm, hj, hlk, hsm, rfl, hfin, hdecl⟩ := f
  have hdecl := hdecl rfl
  obtain ⟨ha, hs'⟩ := Rp_set hp i1
  have hap := va_apart (own := own) X.ts hin tyf hty hnm X.k hc
  obtain ⟨hb, r, h1, cell, q1, q2, q3, q4⟩ := i2.1 a _ ha
  have hr : r = (C, T, N) := Option.some.inj (h1.symm.trans hc)
  subst hr
  obtain ⟨hS, hfc, kC, hkC, hkind⟩ := X.k.1 ci _ hc
  obtain ⟨cf, kf, fi, f, hi, hsl⟩ := hS j hj
  have hlay := X.ts _ (hin _ (u_in_lay hj))
  unfold u_lay at hlay
  rw [if_pos hfin] at hlay
  have hst := (u_facts hfc hkC (u_lays X.ts hin hj) hi).1
  have hcf : (c_m Γ).cls = cf := by
    obtain ⟨_, _, c', _, _, _, -, -, hf', -, -, -, hown2, -⟩ := Cond.laysFinal_spec hlay
    have e1 : c' = cf := by have := hi.symm.trans hf'; simp at this; exact this.1.symm
    rw [hdecl] at hown2
    rw [← e1]; exact Option.some.inj (X.o.symm.trans hown2)
  have h6 := u_fits hfc hkC hkind (Or.inr hlay) hi (hty j hj) hn hf
  have hi' : (c_s Γ).fieldFound? ref (T j).2.1 (T j).2.2.1 = some (cf, kf, fi, f) := by
    rcases hsm with e | e
    · rw [← e]; exact hi
    · exact u_same (X.ts _ e) _ hi
  refine W.putFinK X.x X.b X.o (X.ts _ hlk) hi' hst hcf (X.nm.trans hm) (by rw [q2]; exact h6) q1 q3 (by rw [hsl]; exact k2_hasslot (q4 j hj)) rfl rfl d fun H' e1 e2 e3 => ?_
  rw [hsl] at e1 ⊢
  exact k _ H' _ cells slots hs' (i2.set ha e2 e3 (cok_put (s := c_s Γ) (H := H) hc hj hl q2 q3 q4 hap e1)) (fun z hz => by
    rcases List.mem_append.mp hz with h9 | h9
    · exact i3 z h9
    · rw [List.mem_singleton.mp h9]; exact hb) i4 i5
theorem g_putfN {a ix ci j : Nat} {fs : List Value} {v : Value} {ty : FieldType} {ws' : List An} (X : Cx B Γ cc own nL mn fr lo) (d : decode cc pc = .ok (.putfield ix, 3)) (f : FN own ix ci j ty) (hfin : ∀ C T N, clT[ci]? = some (C, T, N) → (T j).2.2.2 = false) (hp : Rp (pt a (oI ci fs)) ws (pt a (oI ci (fs.set j v))) ws') (hl : j < fs.length) (hn : narrow ty v = v) (hf : fits ty v = true) (k : G B Γ kc ks ws' (pc + 3) ls st) : G B Γ kc ks ws pc ls (v :: .ref a :: st) := by
  intro h H locs cells slots i1 i2 i3 i4 i5
  obtain ⟨C, T, N, ref, host, tyf, hc, hin, hty, hnm, hj, hlk, hsm, rfl, -⟩ := f
  have hfin := hfin C T N hc
  obtain ⟨ha, hs'⟩ := Rp_set hp i1
  have hap := va_apart (own := own) X.ts hin tyf hty hnm X.k hc
  obtain ⟨hb, r, h1, cell, q1, q2, q3, q4⟩ := i2.1 a _ ha
  have hr : r = (C, T, N) := Option.some.inj (h1.symm.trans hc)
  subst hr
  obtain ⟨hS, hfc, kC, hkC, hkind⟩ := X.k.1 ci _ hc
  obtain ⟨cf, kf, fi, f, hi, hsl⟩ := hS j hj
  have hlay := X.ts _ (hin _ (u_in_lay hj))
  unfold u_lay at hlay
  rw [if_neg (by rw [hfin]; decide)] at hlay
  have hst := (u_facts hfc hkC (u_lays X.ts hin hj) hi).1
  have h6 := u_store hfc hkC hkind hlay hi (hty j hj) hn hf
  have hi' : (c_s Γ).fieldFound? ref (T j).2.1 (T j).2.2.1 = some (cf, kf, fi, f) := by rw [← hsm]; exact hi
  refine va_WputK X.x X.b (f := f) X.o (X.nF hlk) hi' hst (by rw [q2]; exact h6) q1 q3 (by rw [hsl]; exact k2_hasslot (q4 j hj)) rfl rfl d fun H' e1 e2 e3 => ?_
  rw [hsl] at e1 ⊢
  exact k _ H' _ cells slots hs' (i2.set ha e2 e3 (cok_put (s := c_s Γ) (H := H) hc hj hl q2 q3 q4 hap e1)) (fun z hz => by
    rcases List.mem_append.mp hz with h9 | h9
    · exact i3 z h9
    · rw [List.mem_singleton.mp h9]; exact hb) i4 i5
theorem g_new {ix ci N : Nat} {fs : List Value} (X : Cx B Γ cc own nL mn fr lo) (d : decode cc pc = .ok (.new ix, 3)) (f : NW own ix ci N fs) (hc : 1 ≤ kc) (hs : N ≤ ks) (k : ∀ q, G B Γ (kc - 1) (ks - N) (pt q (oI ci fs) :: ws) (pc + 3) ls (.ref q :: st)) : G B Γ kc ks ws pc ls st := by
  intro h H locs cells slots i1 i2 i3 i4 i5
  obtain ⟨C, T, tyf, hcl, hin, hty, hlk, hins, hini, hdef⟩ := f
  obtain ⟨hS, hfc, -⟩ := X.k.1 ci _ hcl
  refine W.newcK X.x X.b X.o (X.ts _ hlk) (X.ts _ hins) (X.ts _ hini) rfl d (by omega) (by omega) hfc rfl fun H' kC hkC e1 e2 e3 => ?_
  have hob : t_OB H.size ((b_D B).1 ci) N ((b_D B).2 ci) H' (vp_V fs) := (u_born tyf X.ts hin (X.k.1 ci _ hcl) hkC e1 hty).to (fun j hj => (hdef j hj).symm)
  obtain ⟨j1, j2⟩ := i2.new (o' := oI ci fs) e2 e3 ⟨_, hcl, hob⟩
  exact k H.size _ H' locs _ _ (Sat_new i1 j2) j1 i3 (by omega) (by omega)
theorem nI_vp {i : Int32} {j n : Nat} (hi : i = nI j) (hj : j < n) (hn : n < 2 ^ 31) : vp_in i n ∧ i.toNatClampNeg = j := by
  subst hi
  exact ⟨vp_in_nI hj hn, nI_clamp (by omega)⟩
theorem g_alen {a : Nat} {ty : FieldType} {x : vp_A} {v : Int32} {ws' : List An} (X : Cx B Γ cc own nL mn fr lo) (d : decode cc pc = .ok (.arraylength, 1)) (hp : Pk (pt a (.inl (ty, x))) ws ws') (hv : nI x.1 = v) (k : G B Γ kc ks ws (pc + 1) ls (.int v :: st)) : G B Γ kc ks ws pc ls (.ref a :: st) := by
  intro h H locs cells slots i1 i2 i3 i4 i5
  obtain ⟨hb, cA, h1, h2, h3, h4⟩ := i2.1 a _ (pt_out hp i1)
  exact va_alen X.x X.b (X.ka h2 h3) (P1a h1) 0 0 rfl rfl hv d (k h H locs cells slots i1 i2 i3 i4 i5)
theorem g_iald {a n : Nat} {f : Nat → Int32} {i v : Int32} {ws' : List An} (j : Nat) (X : Cx B Γ cc own nL mn fr lo) (d : decode cc pc = .ok (.iaload, 1)) (hp : Pk (pt a (oA .int n f)) ws ws') (hi : i = nI j) (hj : j < n) (hv : f j = v) (k : G B Γ kc ks ws (pc + 1) ls (.int v :: st)) : G B Γ kc ks ws pc ls (.int i :: .ref a :: st) := by
  intro h H locs cells slots i1 i2 i3 i4 i5
  obtain ⟨hb, cA, h1, h2, h3, h4⟩ := i2.1 a _ (pt_out hp i1)
  obtain ⟨g1, g2⟩ := nI_vp hi hj h4
  exact va_iald X.x X.b (X.ka h2 h3) (P1a h1) 0 0 rfl rfl g1 d (by rw [g2, hv]; exact k h H locs cells slots i1 i2 i3 i4 i5)
theorem g_bald {a n : Nat} {f : Nat → Int32} {i v : Int32} {ws' : List An} (j : Nat) (X : Cx B Γ cc own nL mn fr lo) (d : decode cc pc = .ok (.baload, 1)) (hp : Pk (pt a (oA .byte n f)) ws ws') (hi : i = nI j) (hj : j < n) (hv : f j = v) (k : G B Γ kc ks ws (pc + 1) ls (.int v :: st)) : G B Γ kc ks ws pc ls (.int i :: .ref a :: st) := by
  intro h H locs cells slots i1 i2 i3 i4 i5
  obtain ⟨hb, cA, h1, h2, h3, h4⟩ := i2.1 a _ (pt_out hp i1)
  obtain ⟨g1, g2⟩ := nI_vp hi hj h4
  exact va_bald X.x X.b (X.ka h2 h3) (P1a h1) 0 0 rfl rfl g1 d (by rw [g2, hv]; exact k h H locs cells slots i1 i2 i3 i4 i5)
theorem g_cald {a n : Nat} {f : Nat → Int32} {i v : Int32} {ws' : List An} (j : Nat) (X : Cx B Γ cc own nL mn fr lo) (d : decode cc pc = .ok (.caload, 1)) (hp : Pk (pt a (oA .char n f)) ws ws') (hi : i = nI j) (hj : j < n) (hv : f j = v) (k : G B Γ kc ks ws (pc + 1) ls (.int v :: st)) : G B Γ kc ks ws pc ls (.int i :: .ref a :: st) := by
  intro h H locs cells slots i1 i2 i3 i4 i5
  obtain ⟨hb, cA, h1, h2, h3, h4⟩ := i2.1 a _ (pt_out hp i1)
  obtain ⟨g1, g2⟩ := nI_vp hi hj h4
  exact va_cald X.x X.b (X.ka h2 h3) (P1a h1) 0 0 rfl rfl g1 d (by rw [g2, hv]; exact k h H locs cells slots i1 i2 i3 i4 i5)
theorem g_lald {a n : Nat} {f : Nat → Int64} {i : Int32} {v : Int64} {ws' : List An} (j : Nat) (X : Cx B Γ cc own nL mn fr lo) (d : decode cc pc = .ok (.laload, 1)) (hp : Pk (pt a (oL n f)) ws ws') (hi : i = nI j) (hj : j < n) (hv : f j = v) (k : G B Γ kc ks ws (pc + 1) ls (.long v :: st)) : G B Γ kc ks ws pc ls (.int i :: .ref a :: st) := by
  intro h H locs cells slots i1 i2 i3 i4 i5
  obtain ⟨hb, cA, h1, h2, h3, h4⟩ := i2.1 a _ (pt_out hp i1)
  obtain ⟨g1, g2⟩ := nI_vp hi hj h4
  exact va_lald X.x X.b (X.ka h2 h3) (P1a h1) 0 0 rfl rfl g1 d (by rw [g2, hv]; exact k h H locs cells slots i1 i2 i3 i4 i5)
theorem g_dald {a n : Nat} {f : Nat → UInt64} {i : Int32} {v : UInt64} {ws' : List An} (j : Nat) (X : Cx B Γ cc own nL mn fr lo) (d : decode cc pc = .ok (.daload, 1)) (hp : Pk (pt a (oD n f)) ws ws') (hi : i = nI j) (hj : j < n) (hv : f j = v) (k : G B Γ kc ks ws (pc + 1) ls (.double v :: st)) : G B Γ kc ks ws pc ls (.int i :: .ref a :: st) := by
  intro h H locs cells slots i1 i2 i3 i4 i5
  obtain ⟨hb, cA, h1, h2, h3, h4⟩ := i2.1 a _ (pt_out hp i1)
  obtain ⟨g1, g2⟩ := nI_vp hi hj h4
  exact va_dald X.x X.b (X.ka h2 h3) (P1a h1) 0 0 rfl rfl g1 d (by rw [g2, hv]; exact k h H locs cells slots i1 i2 i3 i4 i5)
theorem g_aald {C : String} {a n : Nat} {f : Nat → Option Nat} {i : Int32} {v : Value} {ws' : List An} (j : Nat) (X : Cx B Γ cc own nL mn fr lo) (d : decode cc pc = .ok (.aaload, 1)) (hp : Pk (pt a (oR C n f)) ws ws') (hi : i = nI j) (hj : j < n) (hv : va_rf (f j) = v) (k : G B Γ kc ks ws (pc + 1) ls (v :: st)) : G B Γ kc ks ws pc ls (.int i :: .ref a :: st) := by
  intro h H locs cells slots i1 i2 i3 i4 i5
  obtain ⟨hb, cA, h1, h2, h3, h4⟩ := i2.1 a _ (pt_out hp i1)
  obtain ⟨g1, g2⟩ := nI_vp hi hj h4
  exact va_aldq X.x X.b (X.ka h2 h3) (P1a h1) 0 0 rfl rfl g1 d (by rw [g2, hv]; exact k h H locs cells slots i1 i2 i3 i4 i5)
theorem lc_app {B : Bt} {locs : List Loc} {a k : Nat} (i3 : ∀ z ∈ locs, (b_s B).heap.size ≤ z.base) (hb : (b_s B).heap.size ≤ a) : ∀ z ∈ locs ++ [(⟨a, k⟩ : Loc)], (b_s B).heap.size ≤ z.base := fun z hz => by
  rcases List.mem_append.mp hz with h9 | h9
  · exact i3 z h9
  · rw [List.mem_singleton.mp h9]; exact hb
theorem g_iast {a n : Nat} {f : Nat → Int32} {i x : Int32} {ws' : List An} (j : Nat) (X : Cx B Γ cc own nL mn fr lo) (d : decode cc pc = .ok (.iastore, 1)) (hp : Rp (pt a (oA .int n f)) ws (pt a (oA .int n (upd f j x))) ws') (hi : i = nI j) (hj : j < n) (k : G B Γ kc ks ws' (pc + 1) ls st) : G B Γ kc ks ws pc ls (.int x :: .int i :: .ref a :: st) := by
  intro h H locs cells slots i1 i2 i3 i4 i5
  obtain ⟨ha, hs'⟩ := Rp_set hp i1
  obtain ⟨hb, cA, h1, h2, h3, h4⟩ := i2.1 a _ ha
  obtain ⟨g1, g2⟩ := nI_vp hi hj h4
  have h2' := arrOfT_moved X.w.alike h2
  refine W.iast X.x X.b h1 (h2' n (fun j => .int (f j))) (fun q => by cases q) (by show ¬ (i < 0 ∨ (arrV _ _ _).slots.size ≤ _); rw [arrV_size]; exact g1) rfl rfl d fun H1 e z oq => ?_
  refine k _ H1 _ cells slots hs' (i2.set ha z oq ⟨cA, ?_, h2, h3, h4⟩) (lc_app i3 hb) i4 i5
  rw [e, g2, vp_cell_i, vp_cell_i, arrV_store]
  congr 2
  funext q
  by_cases hq : q = j
  · subst hq; simp [updV, upd]
  · simp [updV, upd, hq]
theorem g_bast {a n : Nat} {f : Nat → Int32} {i x y : Int32} {ws' : List An} (j : Nat) (X : Cx B Γ cc own nL mn fr lo) (d : decode cc pc = .ok (.bastore, 1)) (hx : narrow .byte (.int x) = .int y) (hp : Rp (pt a (oA .byte n f)) ws (pt a (oA .byte n (upd f j y))) ws') (hi : i = nI j) (hj : j < n) (k : G B Γ kc ks ws' (pc + 1) ls st) : G B Γ kc ks ws pc ls (.int x :: .int i :: .ref a :: st) := by
  intro h H locs cells slots i1 i2 i3 i4 i5
  obtain ⟨ha, hs'⟩ := Rp_set hp i1
  obtain ⟨hb, cA, h1, h2, h3, h4⟩ := i2.1 a _ ha
  obtain ⟨g1, g2⟩ := nI_vp hi hj h4
  have h2' := arrOfT_moved X.w.alike h2
  refine W.bast X.x X.b h1 (h2' n (fun j => .int (f j))) (fun q => by cases q) (by show ¬ (i < 0 ∨ (arrV _ _ _).slots.size ≤ _); rw [arrV_size]; exact g1) rfl rfl d fun H1 e z oq => ?_
  refine k _ H1 _ cells slots hs' (i2.set ha z oq ⟨cA, ?_, h2, h3, h4⟩) (lc_app i3 hb) i4 i5
  rw [e, g2, hx, vp_cell_i, vp_cell_i, arrV_store]
  congr 2
  funext q
  by_cases hq : q = j
  · subst hq; simp [updV, upd]
  · simp [updV, upd, hq]
theorem g_cast {a n : Nat} {f : Nat → Int32} {i x y : Int32} {ws' : List An} (j : Nat) (X : Cx B Γ cc own nL mn fr lo) (d : decode cc pc = .ok (.castore, 1)) (hx : narrow .char (.int x) = .int y) (hp : Rp (pt a (oA .char n f)) ws (pt a (oA .char n (upd f j y))) ws') (hi : i = nI j) (hj : j < n) (k : G B Γ kc ks ws' (pc + 1) ls st) : G B Γ kc ks ws pc ls (.int x :: .int i :: .ref a :: st) := by
  intro h H locs cells slots i1 i2 i3 i4 i5
  obtain ⟨ha, hs'⟩ := Rp_set hp i1
  obtain ⟨hb, cA, h1, h2, h3, h4⟩ := i2.1 a _ ha
  obtain ⟨g1, g2⟩ := nI_vp hi hj h4
  have h2' := arrOfT_moved X.w.alike h2
  refine W.cast X.x X.b h1 (h2' n (fun j => .int (f j))) (fun q => by cases q) (by show ¬ (i < 0 ∨ (arrV _ _ _).slots.size ≤ _); rw [arrV_size]; exact g1) rfl rfl d fun H1 e z oq => ?_
  refine k _ H1 _ cells slots hs' (i2.set ha z oq ⟨cA, ?_, h2, h3, h4⟩) (lc_app i3 hb) i4 i5
  rw [e, g2, hx, vp_cell_i, vp_cell_i, arrV_store]
  congr 2
  funext q
  by_cases hq : q = j
  · subst hq; simp [updV, upd]
  · simp [updV, upd, hq]
theorem g_last {a n : Nat} {f : Nat → Int64} {i : Int32} {x : Int64} {ws' : List An} (j : Nat) (X : Cx B Γ cc own nL mn fr lo) (d : decode cc pc = .ok (.lastore, 1)) (hp : Rp (pt a (oL n f)) ws (pt a (oL n (vp_updL f j x))) ws') (hi : i = nI j) (hj : j < n) (k : G B Γ kc ks ws' (pc + 1) ls st) : G B Γ kc ks ws pc ls (.long x :: .int i :: .ref a :: st) := by
  intro h H locs cells slots i1 i2 i3 i4 i5
  obtain ⟨ha, hs'⟩ := Rp_set hp i1
  obtain ⟨hb, cA, h1, h2, h3, h4⟩ := i2.1 a _ ha
  obtain ⟨g1, g2⟩ := nI_vp hi hj h4
  have h2' := arrOfT_moved X.w.alike h2
  refine W.last X.x X.b h1 (h2' n (fun j => .long (f j))) (fun q => by cases q) (by show ¬ (i < 0 ∨ (arrV _ _ _).slots.size ≤ _); rw [arrV_size]; exact g1) rfl rfl d fun H1 e z oq => ?_
  refine k _ H1 _ cells slots hs' (i2.set ha z oq ⟨cA, ?_, h2, h3, h4⟩) (lc_app i3 hb) i4 i5
  rw [e, g2, vp_cell_l, vp_cell_l, arrV_store]
  congr 2
  funext q
  by_cases hq : q = j
  · subst hq; simp [updV, vp_updL]
  · simp [updV, vp_updL, hq]
theorem g_dast {a n : Nat} {f : Nat → UInt64} {i : Int32} {x : UInt64} {ws' : List An} (j : Nat) (X : Cx B Γ cc own nL mn fr lo) (d : decode cc pc = .ok (.dastore, 1)) (hp : Rp (pt a (oD n f)) ws (pt a (oD n (vf_upd f j x))) ws') (hi : i = nI j) (hj : j < n) (k : G B Γ kc ks ws' (pc + 1) ls st) : G B Γ kc ks ws pc ls (.double x :: .int i :: .ref a :: st) := by
  intro h H locs cells slots i1 i2 i3 i4 i5
  obtain ⟨ha, hs'⟩ := Rp_set hp i1
  obtain ⟨hb, cA, h1, h2, h3, h4⟩ := i2.1 a _ ha
  obtain ⟨g1, g2⟩ := nI_vp hi hj h4
  have h2' := arrOfT_moved X.w.alike h2
  refine W.dast X.x X.b h1 (h2' n (fun j => .double (f j))) (fun q => by cases q) (by show ¬ (i < 0 ∨ (arrV _ _ _).slots.size ≤ _); rw [arrV_size]; exact g1) rfl rfl d fun H1 e z oq => ?_
  refine k _ H1 _ cells slots hs' (i2.set ha z oq ⟨cA, ?_, h2, h3, h4⟩) (lc_app i3 hb) i4 i5
  rw [e, g2, vp_cell_d, vp_cell_d, arrV_store]
  congr 2
  funext q
  by_cases hq : q = j
  · subst hq; simp [updV, vf_upd]
  · simp [updV, vf_upd, hq]
end GH
