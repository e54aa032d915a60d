/-! EXCEPTIONS: made, thrown, caught; more kinds of calls -/
set_option maxRecDepth 100000
/-- words that hold all through a run -/
def wmb : Cond → Bool
  | .declares _ => true
  | .castable _ _ => true
  | .fieldLinkNest _ _ _ _ _ _ => true
  | .methodLinkNest _ _ _ _ => true
  | w => goodWord w
theorem wm_of {B : Bt} {s : State} (hB : Bs B) (hW : (b_s B).WarmedH s.vm) {w : Cond} (hw : w ∈ lw_tbl) (h : wmb w = true) {a : Array Value} : w.before a s = true := by
  obtain ⟨q, g, -⟩ := hB.2.2
  have h0 := g w hw
  unfold wmb at h
  split at h
  · exact va_Nw.use rfl (va_Nw.warmD hW (va_Nw.of rfl h0))
  · exact va_Nw.use rfl (va_Nw.warmC hW (va_Nw.of rfl h0))
  · exact va_Nw.use rfl (va_Nw.warmF hW (va_Nw.of rfl h0))
  · exact va_Nw.use rfl (va_Nw.warmM hW (va_Nw.of rfl h0))
  · exact word_at hW (good_of_word h) h0
/-- the facts of 'new E()' by the entries ik, ic of own; names: what lies between E and Throwable -/
def TH (own : String) (ik ic : Nat) (E : String) (names : List String) : Prop := Bundle.fit E = true ∧ (∀ n ∈ names, Bundle.fit n = true) ∧ (∀ w ∈ Cond.classLink own ik E :: Cond.initialized E :: vy_at0 own ic E names, w ∈ lw_tbl ∧ wmb w = true ∧ vy_ot w = true)
theorem th_of {own : String} {ik ic : Nat} {E : String} {names : List String} (ps : List Nat) (h1 : Bundle.fit E = true) (h2 : names.all Bundle.fit = true) (hp : (Cond.classLink own ik E :: Cond.initialized E :: vy_at0 own ic E names) = ps.filterMap (fun i => lw_tbl[i]?)) (hw : (Cond.classLink own ik E :: Cond.initialized E :: vy_at0 own ic E names).all wmb = true) (ho : (Cond.classLink own ik E :: Cond.initialized E :: vy_at0 own ic E names).all vy_ot = true) : TH own ik ic E names :=
  ⟨h1, fun n hn => List.all_eq_true.mp h2 n hn, fun w h => ⟨by
    rw [hp] at h
    obtain ⟨i, -, hi⟩ := List.mem_filterMap.mp h
    exact List.mem_of_getElem? hi, List.all_eq_true.mp hw w h, List.all_eq_true.mp ho w h⟩⟩
/-- a static of the start: null or some reference, in a cell below it -/
theorem bs_zq {B : Bt} (hB : Bs B) {s : State} (hW : (b_s B).WarmedH s.vm) {C n d : String} (hl : Cond.laysStatic C n d ∈ lw_tbl) (hi : Cond.initialized C ∈ lw_tbl) (hr : Cond.isRef (.static C n d) ∈ flatC (Jvm.Cond.and given_1 narrow_1)) {H : Heap} (hH : ∀ q, q < (b_s B).heap.size → H[q]? = (b_s B).heap[q]?) : vy_Zq C n d (fun q => (b_s B).heap.size ≤ q) s H := by
  obtain ⟨q, g, hg⟩ := hB.2.2
  have hf := flat_of_before _ hg
  have h1 : vy_Zq C n d (fun q => (b_s B).heap.size ≤ q) (b_s B) (b_s B).heap := vy_Zqof (g _ hl) (g _ hi) (hf _ hr) (fun q hq => by omega)
  exact vy_Zq.kept (vy_Zq.moved hW.alike h1) (fun a ha hA => hH a ha)
/-- where the heap only grows -/
theorem Inv.grow {B : Bt} {h0 : PH} {H0 : Heap} {h : PH} {H H1 : Heap} (I : Inv B h0 H0 h H) {o' : Ob} (hz : H.size + 1 ≤ H1.size) (hq : ∀ q, q < H.size → H1[q]? = H[q]?) (hc : cok B H.size o' H1) : Inv B h0 H0 (hset h H.size o') H1 ∧ h H.size = none := by
  obtain ⟨i1, i2, i3, i4, i5, i6⟩ := I
  have hn : h H.size = none := by
    cases e : h H.size with
    | none => rfl
    | some o => exact absurd (i1 _ _ e).2.lt (Nat.lt_irrefl _)
  refine ⟨⟨fun x y e => ?_, by omega, fun q h1 h2 => ?_, fun q y e => ?_, i5, fun q h1 => ?_⟩, hn⟩
  · by_cases hx : x = H.size
    · subst hx
      rw [hset_s] at e
      cases e
      exact ⟨by omega, hc⟩
    · rw [hset_n hx] at e
      have := (i1 x y e).2.lt
      exact ⟨(i1 x y e).1, (i1 x y e).2.kept (hq x this)⟩
  · rw [hq q (by omega), i3 q h1 h2]
  · by_cases hx : q = H.size
    · subst hx
      exact Or.inr i2
    · rw [hset_n hx] at e
      exact i4 q y e
  · rw [hq q (by omega), i6 q h1]
section WX
variable {p : Program} {l : Launch} {e : Env} {R : Room} {s : State} {m : MethodId} {args : Array Value} {below : List Frame} {meth : Method} {c : Code} {H : Heap} {locs : List Loc} {cells slots : Nat} {Q : State → Prop} {ls : Array Slot} {rest : List Value}
/-- 'new E()' that isn't thrown at once (follows the kit's vx_make0) -/
theorem W_make0 {cc : ByteArray} {pc : Nat} (hexec : p.tables.exec = Jvm.exec) (hb : c.code = cc) (hl : l.stackTraces = false) {own cls : String} {names : List String} {ik ic : Nat} {A : Nat → Prop}
    (hown : s.vm.findClass own = some m.cls) (hcls : Bundle.fit cls = true) (hnames : ∀ n ∈ names, Bundle.fit n = true)
    (hk : (Cond.classLink own ik cls).before args s = true) (hini : (Cond.initialized cls).before args s = true) (hat : ∀ w ∈ vy_at0 own ic cls names, w.before args s = true)
    (hgood : ∀ w ∈ Cond.classLink own ik cls :: Cond.initialized cls :: vy_at0 own ic cls names, vy_ot w = true)
    (hU : vy_Zq Bundle.tN "UNASSIGNED_STACK" Bundle.steD A s H) (hN : vy_Zq Bundle.tN "SUPPRESSED_SENTINEL" Bundle.listD A s H) (hsize : ls.size = c.maxLocals)
    (d0 : decode cc pc = .ok (.new ik, 3)) (d3 : decode cc (pc + 3) = .ok (.dup, 1)) (d4 : decode cc (pc + 4) = .ok (.invokespecial ic, 3))
    (hRframes : names.length + 3 < R.frames) (hRlocals : (rest.map fun v => v.category).sum + (13 * (names.length + 1) + 42) ≤ R.locals) (hRcells : cells + 1 ≤ R.cells) (hRslots : slots + 6 ≤ R.slots)
    (kk : ∀ (H1 : Heap) (ce : Cell), H1[H.size]? = some ce → ce.vm = .none → s.vm.findClass cls = some ce.cls → H.size + 1 ≤ H1.size → (∀ q, q < H.size → H1[q]? = H[q]?) → W p l e R s m args below meth c H1 locs (cells + 1) (slots + 6) Q (F0 m (pc + 7) ls (.ref H.size :: rest))) :
    W p l e R s m args below meth c H locs cells slots Q (F0 m pc ls rest) := by
  intro T hT X
  subst hT
  have htr : e.platform.stackTraces = false := (show e.platform.stackTraces = l.stackTraces by rw [X.admits.platform]).trans hl
  have Y := vy_rebase X (R' := { frames := R.frames, locals := R.locals, cells := 1, slots := 6 }) (Nat.le_refl _) (Nat.le_refl _) hRcells hRslots
  obtain ⟨s', hA'⟩ : ∃ z, z = (T.setVm s.vm).setFrames (.invoking m args :: below) := ⟨_, rfl⟩
  rw [← hA'] at Y
  have hvm : s'.vm = s.vm := by rw [hA']; rfl
  have hhp : s'.heap = T.heap := by rw [hA']; rfl
  have hW0 : s.WarmedH s'.vm := by rw [hvm]; exact State.WarmedH.refl s
  have hat' : ∀ w ∈ vy_at0 own ic cls names, w.before args s' = true := fun w hw => vy_ot_at hW0 hvm.symm (hgood w (List.mem_cons_of_mem _ (List.mem_cons_of_mem _ hw))) (hat w hw)
  have hk' : (Cond.classLink own ik cls).before args s' = true := vy_ot_at hW0 hvm.symm (hgood _ List.mem_cons_self) hk
  have hini' : (Cond.initialized cls).before args s' = true := vy_ot_at hW0 hvm.symm (hgood _ (List.mem_cons_of_mem _ List.mem_cons_self)) hini
  have hU' : vy_Zq Bundle.tN "UNASSIGNED_STACK" Bundle.steD A s' s'.heap := by rw [hhp]; exact vy_Zq.moved hW0.alike hU
  have hN' : vy_Zq Bundle.tN "SUPPRESSED_SENTINEL" Bundle.listD A s' s'.heap := by rw [hhp]; exact vy_Zq.moved hW0.alike hN
  have h : ∀ w ∈ Bundle.ownAtoms0 own ic cls names, w.before args s' = true := vy_own hat' (vy_isRefq hU'.1) (vy_isRefq hN'.1) hU'.2.word hN'.2.word
  have hown' : s'.vm.findClass own = some m.cls := by rw [hvm]; exact hown
  have hins : (Cond.instantiable cls 6).before args s' = true := h _ (by simp [Bundle.ownAtoms0])
  obtain ⟨vm₁, cX, kX, hfX, hkX, -, -, X₁, st1⟩ := Y.newCold hexec (own := own) (C := cls) (index := ik) (n := 6) hown' hk' hins hini'
    (g := F0 m pc ls rest) rfl (by rw [hb]; exact d0) (Nat.le_refl _) (Nat.le_refl _)
  generalize hT1 : (T.setVm vm₁).pushCell { cls := cX, slots := kX.instanceTypes.map defaultValue, vm := .none } = T1 at X₁ st1
  have hcat : (Value.ref T.heap.size).category = 1 := rfl
  have hcellA : T1.heap[T.heap.size]? = some (freshCell cX kX) := by rw [← hT1]; exact State.heap_pushCell_size _ _
  have d3' : decode c.code (pc + 3) = .ok (.dup, 1) := by rw [hb]; exact d3
  obtain ⟨V, ce, L, Z, hL, hlt, hcl9, hvm9, st⟩ := vy_ctorMade0 X₁ hexec htr (own := own) (cls := cls) (names := names) (ic := ic) hown' hcls hnames h (fun x hx => nomatch hx) hfX hkX hcellA (by rw [hhp]; exact Nat.le_refl _)
    (g := { method := m, pc := pc + 4, locals := ls, stack := .ref T.heap.size :: .ref T.heap.size :: rest, locked := none }) rfl hsize (rest := rest) rfl
    (by rw [hb]; exact d4) hRframes (by simp only [List.map_cons, List.sum_cons, hcat]; omega)
  have Z0 := Stand.forget (locs := []) Z (fun y hy => by rw [hL y hy, hhp]; exact Nat.le_refl _)
  obtain ⟨f1, f2⟩ := vy_frame Z0.same
  rw [hhp] at f1 f2
  have hcid : s.vm.findClass cls = some ce.cls := by
    rw [hcl9, ← hvm]
    exact hfX
  have hh : (V.setCell T.heap.size ce).heap[T.heap.size]? = some ce := heapAt_setCell_self (s := V) ce hlt
  subst hA'
  have X5 := vy_back9 X Y Z0
  have X6 : Stand p l e R s m args below meth c (V.setCell T.heap.size ce) locs (cells + 1) (slots + 6) := { X5 with same := X5.same.mono (by omega) (by omega) }
  obtain ⟨t, a1, b1⟩ := kk (V.setCell T.heap.size ce).heap ce hh hvm9 hcid (by have := (Array.getElem?_eq_some_iff.mp hh).1; omega) (fun q hq => f2 q hq (fun z hz => nomatch hz)) _ rfl X6
  refine ⟨t, st1 _ ?_, b1⟩
  show Steps p.tables e below (T1.setTop { method := m, pc := pc + 3, locals := ls, stack := .ref T.heap.size :: rest, locked := none }) _
  jvm_step X₁.here [X₁.here.top, hexec, d3', Value.category]
  exact st _ a1
end WX
section GX
variable {B : Bt} {Γ : Ct} {cc : ByteArray} {own : String} {nL : Nat} {mn : String} {fr lo : Nat} {kc ks pc : Nat} {ws : List An} {ls : List Slot} {st rest : List Value} {y : MethodName} {rm : Room} {As : List Value} {pre rs : List An} {post : Option Value → List An → Prop} {exc : String → Nat → List An → Prop} {ret : Option FieldType} {hh : List (Nat × Nat × Nat × Nat)}
theorem th_laysU : Cond.laysStatic Bundle.tN "UNASSIGNED_STACK" Bundle.steD ∈ lw_tbl := q456
theorem th_laysN : Cond.laysStatic Bundle.tN "SUPPRESSED_SENTINEL" Bundle.listD ∈ lw_tbl := q458
theorem g_make0 {ik ic eci : Nat} {E : String} {T0 : u_T} {names : List String} (X : Cx B Γ cc own nL mn fr lo) (th : TH own ik ic E names) (hcl : clT[eci]? = some (E, T0, 0)) (d0 : decode cc pc = .ok (.new ik, 3)) (d3 : decode cc (pc + 3) = .ok (.dup, 1)) (d4 : decode cc (pc + 4) = .ok (.invokespecial ic, 3)) (hls : ls.length = nL)
    (hR : names.length + 3 < fr ∧ (st.map fun v => v.category).sum + (13 * (names.length + 1) + 42) ≤ lo) (hc : 1 ≤ kc) (hs : 6 ≤ ks) (k : ∀ q, G B Γ (kc - 1) (ks - 6) (pt q (oI eci []) :: ws) (pc + 7) ls (.ref q :: st)) : G B Γ kc ks ws pc ls st := by
  intro h H locs cells slots i1 i2 i3 i4 i5
  obtain ⟨t1, t2, t3⟩ := th
  have hH := i2.2.2.2.2.2
  have wm : ∀ w ∈ Cond.classLink own ik E :: Cond.initialized E :: vy_at0 own ic E names, w.before (c_a Γ) (c_s Γ) = true := fun w hw => wm_of X.bs X.w (t3 w hw).1 (t3 w hw).2.1
  refine W_make0 X.x X.b X.bs.1 (A := fun q => (b_s B).heap.size ≤ q) X.o t1 t2 (wm _ List.mem_cons_self) (wm _ (List.mem_cons_of_mem _ List.mem_cons_self)) (fun w hw => wm w (List.mem_cons_of_mem _ (List.mem_cons_of_mem _ hw))) (fun w hw => (t3 w hw).2.2)
    (bs_zq X.bs X.w th_laysU (lw_all_tbl q105) (by decide +kernel) hH) (bs_zq X.bs X.w th_laysN (lw_all_tbl q105) (by decide +kernel) hH) (by rw [X.ml]; simpa using hls) d0 d3 d4 (by rw [X.rf]; exact hR.1) (by rw [X.rl]; exact hR.2) (by omega) (by omega) fun H1 ce e1 e2 e3 e4 e5 => ?_
  have hcid : ce.cls = (b_D B).1 eci := Option.some.inj (e3.symm.trans (X.k.1 eci _ hcl).2.1)
  have hck : cok B H.size (oI eci []) H1 := ⟨_, hcl, ce, e1, hcid, e2, fun k hk => absurd hk (Nat.not_lt_zero k)⟩
  obtain ⟨j1, j2⟩ := i2.grow e4 e5 hck
  exact k H.size _ H1 locs _ _ (Sat_new i1 j2) j1 i3 (by omega) (by omega)
theorem g_athrow {q ci N : Nat} {E : String} {T0 : u_T} (X : Cx B Γ cc own nL mn fr lo) (d : decode cc pc = .ok (.athrow, 1)) (hcl : clT[ci]? = some (E, T0, N)) (hr : Rc q ci ws) (k : GX B Γ E q kc ks ws pc ls) : G B Γ kc ks ws pc ls (.ref q :: st) := by
  intro h H locs cells slots i1 i2 i3 i4 i5
  obtain ⟨fs, hf⟩ := hr h i1
  obtain ⟨hb, r, h1, cell, q1, q2, q3, q4⟩ := i2.1 q _ hf
  refine vy_athrow X.x X.b d (k h H locs cells slots st i1 i2 i3 i4 i5 ⟨cell, q1, q3, ?_⟩)
  rw [q2]
  exact (X.k.1 ci _ hcl).2.1
/-- caught here, past rows that name other classes -/
theorem gx_catch {E nm : String} {q : Nat} (pre : List ExceptionTableEntry) (x : ExceptionTableEntry) (suf : List ExceptionTableEntry) (X : Cx B Γ cc own nL mn fr lo) (Y : Cr B Γ ret hh post exc) (hsplit : tableOf hh = pre ++ x :: suf)
    (hpass : ∀ z ∈ pre, covers z pc = false ∨ (z.catchType ≠ 0 ∧ ∃ nm : String, Cond.classLink own z.catchType nm ∈ lw_all ∧ va_Nc E nm (c_s Γ))) (hx : covers x pc = true) (h0 : x.catchType ≠ 0) (hlink : Cond.classLink own x.catchType nm ∈ lw_all) (hcast : Cond.castable E nm ∈ lw_tbl)
    (k : G B Γ kc ks ws x.handlerPc ls [.ref q]) : GX B Γ E q kc ks ws pc ls := by
  intro h H locs cells slots rest i1 i2 i3 i4 i5 i6
  obtain ⟨ce, c1, c2, c3⟩ := i6
  exact vy_catch X.o pre x suf (by rw [Y.2.2]; exact hsplit) (fun z hz => by
    rcases hpass z hz with g | ⟨g, nm, g1, g2⟩
    · exact Or.inl g
    · exact Or.inr ⟨g, nm, X.ts _ g1, g2⟩) hx h0 (X.ts _ hlink) (va_Nw.use rfl (X.nC hcast)) c1 c2 c3 (k h H locs cells slots i1 i2 i3 i4 i5)
/-- two classes of which one isn't the other's -/
theorem Cx.nN (X : Cx B Γ cc own nL mn fr lo) {E nm : String} (h : Cond.not (.castable E nm) ∈ flatC (Jvm.Cond.and given_1 narrow_1)) : va_Nc E nm (c_s Γ) := by
  obtain ⟨q, g, hg⟩ := X.bs.2.2
  exact va_Nc.moved X.w.alike (va_Nc.of (flat_of_before _ hg _ h))
/-- not caught here, past rows that name other classes -/
theorem gx_outP {E : String} {q : Nat} {ws' : List An} (X : Cx B Γ cc own nL mn fr lo) (Y : Cr B Γ ret hh post exc) (hpass : ∀ z ∈ tableOf hh, covers z pc = false ∨ (z.catchType ≠ 0 ∧ ∃ nm : String, Cond.classLink own z.catchType nm ∈ lw_all ∧ va_Nc E nm (c_s Γ))) (hp : exc E q ws') (e : Ent ws ws') : GX B Γ E q kc ks ws pc ls := by
  intro h H locs cells slots rest i1 i2 i3 i4 i5 i6
  obtain ⟨ce, c1, c2, c3⟩ := i6
  show vy_W (c_p Γ) (b_l B) (c_e Γ) (c_R Γ) (c_s Γ) (c_m Γ) (c_a Γ) (c_b Γ) (c_me Γ) (c_c Γ) H locs cells slots (c_Q Γ) _ q
  rw [Y.1]
  exact vy_outP X.o X.lk (fun z hz => by
    rw [Y.2.2] at hz
    rcases hpass z hz with g | ⟨g, nm, g1, g2⟩
    · exact Or.inl g
    · exact Or.inr ⟨g, nm, X.ts _ g1, g2⟩) c1 c2 c3 (fun t ht _ => ⟨ws', h, hp, e h i1, by rw [ht]; exact i2⟩) i3 (by omega) (by omega)
/-- the facts of a nest mate's call -/
def NS (own : String) (ix : Nat) (y : MethodName) (bytes : ByteArray) (maxL : Nat) (ret : Option FieldType) (n : Nat) : Prop := ∃ host : String, Cond.methodLinkNest own ix y host ∈ lw_tbl ∧ Cond.code y bytes maxL ret ∈ lw_all ∧ Cond.initialized y.cls ∈ lw_all ∧ Cond.static y ∈ lw_all ∧ y.cls ≠ "java/lang/invoke/MethodHandle" ∧ y.cls ≠ "java/lang/invoke/VarHandle" ∧ (parseMethodDescriptor y.desc).map (fun d => d.parameters.length) = some n
def NI (own : String) (ix : Nat) (y : MethodName) (bytes : ByteArray) (maxL : Nat) (n : Nat) : Prop := ∃ host : String, Cond.methodLinkNest own ix y host ∈ lw_tbl ∧ Cond.code y bytes maxL none ∈ lw_all ∧ Cond.initialized y.cls ∈ lw_all ∧ Cond.instanceMethod y ∈ lw_all ∧ y.name = "<init>" ∧ y.cls ≠ "java/lang/invoke/MethodHandle" ∧ y.cls ≠ "java/lang/invoke/VarHandle" ∧ (parseMethodDescriptor y.desc).map (fun d => d.parameters.length) = some n
theorem g_callSN {ix n : Nat} {bytes : ByteArray} {maxL : Nat} {ret : Option FieldType} (X : Cx B Γ cc own nL mn fr lo) (d : decode cc pc = .ok (.invokestatic ix, 3)) (m : NS own ix y bytes maxL ret n) (T : Tr B y (Cond.code y bytes maxL ret) rm As pre post exc) (hst : st = As.reverse ++ rest)
    (p : Pks pre ws rs) (hlen : As.length = n) (hls : ls.length = nL) (hR : rm.frames + 1 ≤ fr ∧ 8 + (maxL + 11) + rm.locals ≤ lo) (hcat : (rest.map fun v => v.category).sum ≤ 8) (hb : rm.cells ≤ kc ∧ rm.slots ≤ ks)
    (kn : ∀ r w1, post r w1 → G B Γ (kc - rm.cells) (ks - rm.slots) (w1 ++ rs) (pc + 3) ls (r.toList ++ rest)) (kx : ∀ E q w1, exc E q w1 → GX B Γ E q (kc - rm.cells) (ks - rm.slots) (w1 ++ rs) pc ls) : G B Γ kc ks ws pc ls st := by
  intro h H locs cells slots i1 i2 i3 i4 i5
  obtain ⟨hc, hr2, s, k1, k2⟩ := Sat_app (p h i1)
  subst hst
  obtain ⟨host, m1, m2, m3, m4, m5⟩ := m
  exact g_back X s k2 i2 i3 i4 i5 hb.1 hb.2 kn kx (vy_runSN (As := As) (rest := rest) (host := host) X.fx (T hc k1) ⟨va_cnB n X.ts (lw_meth m2) rfl rfl rfl (X.nM m1) (X.ts _ m3) m5 (by rw [X.rf, X.rl]; exact hR), X.ts _ m4, trivial⟩ ⟨blindPc _ _ _, X.pcd s i2⟩ rfl hlen (by show ls.toArray.size = nL; simpa using hls) rfl (lv_room hcat) d ⟨by omega, by omega⟩)
theorem g_callIN {ix n b : Nat} {bytes : ByteArray} {maxL : Nat} (X : Cx B Γ cc own nL mn fr lo) (d : decode cc pc = .ok (.invokespecial ix, 3)) (m : NI own ix y bytes maxL n) (T : Tr B y (Cond.code y bytes maxL none) rm (.ref b :: As) pre post exc) (hst : st = As.reverse ++ .ref b :: rest)
    (p : Pks pre ws rs) (hlen : As.length = n) (hls : ls.length = nL) (hR : rm.frames + 1 ≤ fr ∧ 8 + (maxL + 11) + rm.locals ≤ lo) (hcat : (rest.map fun v => v.category).sum ≤ 8) (hb : rm.cells ≤ kc ∧ rm.slots ≤ ks)
    (kn : ∀ r w1, post r w1 → G B Γ (kc - rm.cells) (ks - rm.slots) (w1 ++ rs) (pc + 3) ls (r.toList ++ rest)) (kx : ∀ E q w1, exc E q w1 → GX B Γ E q (kc - rm.cells) (ks - rm.slots) (w1 ++ rs) pc ls) : G B Γ kc ks ws pc ls st := by
  intro h H locs cells slots i1 i2 i3 i4 i5
  obtain ⟨hc, hr2, s, k1, k2⟩ := Sat_app (p h i1)
  subst hst
  obtain ⟨host, m1, m2, m3, m4, m5, m6⟩ := m
  exact g_back X s k2 i2 i3 i4 i5 hb.1 hb.2 kn kx (vy_runIN (As := As) (rest := rest) (host := host) X.fx (T hc k1) ⟨va_cnB n X.ts (lw_meth m2) rfl rfl rfl (X.nM m1) (X.ts _ m3) m6 (by rw [X.rf, X.rl]; exact hR), m5, X.ts _ m4⟩ ⟨blindPc _ _ _, X.pcd s i2⟩ rfl hlen (by show ls.toArray.size = nL; simpa using hls) rfl (lv_room hcat) d ⟨by omega, by omega⟩)
/-- the facts of a call through an interface: the entry says x, an object of class C has y -/
def MF (own : String) (ix : Nat) (C : String) (x y : MethodName) (bytes : ByteArray) (maxL : Nat) (ret : Option FieldType) (n : Nat) : Prop := GoodIn lw_all (va_wsF own ix C x y (ws_ y bytes maxL ret)) ∧ Cond.declares x ∈ lw_tbl ∧ Cond.interfaceMethod x.cls x.cls x.name x.desc ∈ lw_tbl ∧ Cond.publicMethod y ∈ lw_tbl ∧ Cond.unhidden C x.name x.desc ∈ lw_tbl ∧ Cond.castable C x.cls ∈ lw_tbl ∧
  x.cls ≠ "java/lang/invoke/MethodHandle" ∧ x.cls ≠ "java/lang/invoke/VarHandle" ∧ (parseMethodDescriptor x.desc).map (fun d => d.parameters.length) = some n
theorem g_callF {ix cnt n b ci : Nat} {C : String} {T9 : u_T} {N9 : Nat} {x : MethodName} {bytes : ByteArray} {maxL : Nat} {ret : Option FieldType} (X : Cx B Γ cc own nL mn fr lo) (d : decode cc pc = .ok (.invokeinterface ix cnt, 5)) (m : MF own ix C x y bytes maxL ret n) (T : Tr B y (Cond.code y bytes maxL ret) rm (.ref b :: As) pre post exc) (hst : st = As.reverse ++ .ref b :: rest)
    (hcl : clT[ci]? = some (C, T9, N9)) (hr : Rc b ci ws) (p : Pks pre ws rs) (hlen : As.length = n) (hls : ls.length = nL) (hR : rm.frames + 1 ≤ fr ∧ 8 + (maxL + 11) + rm.locals ≤ lo) (hcat : (rest.map fun v => v.category).sum ≤ 8) (hb : rm.cells ≤ kc ∧ rm.slots ≤ ks)
    (kn : ∀ r w1, post r w1 → G B Γ (kc - rm.cells) (ks - rm.slots) (w1 ++ rs) (pc + 5) ls (r.toList ++ rest)) (kx : ∀ E q w1, exc E q w1 → GX B Γ E q (kc - rm.cells) (ks - rm.slots) (w1 ++ rs) pc ls) : G B Γ kc ks ws pc ls st := by
  intro h H locs cells slots i1 i2 i3 i4 i5
  obtain ⟨hc, hr2, s, k1, k2⟩ := Sat_app (p h i1)
  subst hst
  obtain ⟨m1, f1, f2, f3, f4, f5, m2⟩ := m
  have hF : va_Fw C x y (c_s Γ) := by
    obtain ⟨q, g, hg⟩ := X.bs.2.2
    exact va_Fw.moved ⟨m2.1, m2.2.1⟩ X.w.alike (va_Fw.of (g _ f1) (g _ f2) (g _ f3) (g _ f4) (g _ f5))
  exact g_back X s k2 i2 i3 i4 i5 hb.1 hb.2 kn kx (vy_runF (As := As) (rest := rest) (X.k.1 ci _ hcl).2 X.fx (T hc k1) (va_cwF n X.ts m1 rfl rfl rfl hF m2 (by rw [X.rf, X.rl]; exact hR)) ⟨blindPc _ _ _, X.rcv hcl hr i1 i2, X.pcd s i2⟩ rfl hlen (by show ls.toArray.size = nL; simpa using hls) rfl (lv_room hcat) d ⟨by omega, by omega⟩)
/-- calls of methods with handlers -/
def MVW (own : String) (ix : Nat) (C : String) (y : MethodName) (bytes : ByteArray) (maxL : Nat) (ret : Option FieldType) (hh : List (Nat × Nat × Nat × Nat)) (n : Nat) : Prop := GoodIn lw_all (wsV own ix C y (wsW_ y bytes maxL ret hh)) ∧ y.cls = C ∧ y.cls ≠ "java/lang/invoke/MethodHandle" ∧ y.cls ≠ "java/lang/invoke/VarHandle" ∧ (parseMethodDescriptor y.desc).map (fun d => d.parameters.length) = some n
def MSW (own : String) (ix : Nat) (y : MethodName) (bytes : ByteArray) (maxL : Nat) (ret : Option FieldType) (hh : List (Nat × Nat × Nat × Nat)) (n : Nat) : Prop := GoodIn lw_all (va_wsS own ix y (wsW_ y bytes maxL ret hh)) ∧ y.cls ≠ "java/lang/invoke/MethodHandle" ∧ y.cls ≠ "java/lang/invoke/VarHandle" ∧ (parseMethodDescriptor y.desc).map (fun d => d.parameters.length) = some n
theorem g_callVW {ix n b ci : Nat} {C : String} {T9 : u_T} {N9 : Nat} {bytes : ByteArray} {maxL : Nat} {ret : Option FieldType} {h9 : List (Nat × Nat × Nat × Nat)} (X : Cx B Γ cc own nL mn fr lo) (d : decode cc pc = .ok (.invokevirtual ix, 3)) (m : MVW own ix C y bytes maxL ret h9 n) (T : Tr B y (Cond.codeWith y bytes maxL ret h9) rm (.ref b :: As) pre post exc) (hst : st = As.reverse ++ .ref b :: rest)
    (hcl : clT[ci]? = some (C, T9, N9)) (hr : Rc b ci ws) (p : Pks pre ws rs) (hlen : As.length = n) (hls : ls.length = nL) (hR : rm.frames + 1 ≤ fr ∧ 8 + (maxL + 11) + rm.locals ≤ lo) (hcat : (rest.map fun v => v.category).sum ≤ 8) (hb : rm.cells ≤ kc ∧ rm.slots ≤ ks)
    (kn : ∀ r w1, post r w1 → G B Γ (kc - rm.cells) (ks - rm.slots) (w1 ++ rs) (pc + 3) ls (r.toList ++ rest)) (kx : ∀ E q w1, exc E q w1 → GX B Γ E q (kc - rm.cells) (ks - rm.slots) (w1 ++ rs) pc ls) : G B Γ kc ks ws pc ls st := by
  intro h H locs cells slots i1 i2 i3 i4 i5
  obtain ⟨hc, hr2, s, k1, k2⟩ := Sat_app (p h i1)
  subst hst
  exact g_back X s k2 i2 i3 i4 i5 hb.1 hb.2 kn kx (vy_runVX (As := As) (rest := rest) X.fx (T hc k1) (vy_cwVW n X.ts m.1 rfl rfl rfl m.2 (by rw [X.rf, X.rl]; exact hR)) ⟨blindPc _ _ _, X.rcv hcl hr i1 i2, X.pcd s i2⟩ rfl hlen (by show ls.toArray.size = nL; simpa using hls) rfl (lv_room hcat) d ⟨by omega, by omega⟩)
theorem g_callSW {ix n : Nat} {bytes : ByteArray} {maxL : Nat} {ret : Option FieldType} {h9 : List (Nat × Nat × Nat × Nat)} (X : Cx B Γ cc own nL mn fr lo) (d : decode cc pc = .ok (.invokestatic ix, 3)) (m : MSW own ix y bytes maxL ret h9 n) (T : Tr B y (Cond.codeWith y bytes maxL ret h9) rm As pre post exc) (hst : st = As.reverse ++ rest)
    (p : Pks pre ws rs) (hlen : As.length = n) (hls : ls.length = nL) (hR : rm.frames + 1 ≤ fr ∧ 8 + (maxL + 11) + rm.locals ≤ lo) (hcat : (rest.map fun v => v.category).sum ≤ 8) (hb : rm.cells ≤ kc ∧ rm.slots ≤ ks)
    (kn : ∀ r w1, post r w1 → G B Γ (kc - rm.cells) (ks - rm.slots) (w1 ++ rs) (pc + 3) ls (r.toList ++ rest)) (kx : ∀ E q w1, exc E q w1 → GX B Γ E q (kc - rm.cells) (ks - rm.slots) (w1 ++ rs) pc ls) : G B Γ kc ks ws pc ls st := by
  intro h H locs cells slots i1 i2 i3 i4 i5
  obtain ⟨hc, hr2, s, k1, k2⟩ := Sat_app (p h i1)
  subst hst
  exact g_back X s k2 i2 i3 i4 i5 hb.1 hb.2 kn kx (vy_runSX (As := As) (rest := rest) X.fx (T hc k1) (vy_cwSW n X.ts m.1 rfl rfl rfl m.2 (by rw [X.rf, X.rl]; exact hR)) ⟨blindPc _ _ _, X.pcd s i2⟩ rfl hlen (by show ls.toArray.size = nL; simpa using hls) rfl (lv_room hcat) d ⟨by omega, by omega⟩)
end GX
/-- a contract of a method with handlers -/
theorem tr_ofH {B : Bt} {y : MethodName} {cc : ByteArray} {maxL : Nat} {ret : Option FieldType} {hh : List (Nat × Nat × Nat × Nat)} {rm : Room} {As : List Value} {pre : List An} {post : Option Value → List An → Prop} {exc : String → Nat → List An → Prop} {own : String} (hB : Bs B) (hpl : plainFor y = true) (hown : y.cls = own)
    (body : ∀ Γ : Ct, Cx B Γ cc own maxL y.name rm.frames rm.locals → Cr B Γ ret hh post exc → G B Γ rm.cells rm.slots pre 0 (lg_sl As ++ List.replicate (maxL - (lg_sl As).length) .unset) []) : Tr B y (Cond.codeWith y cc maxL ret hh) rm As pre post exc := by
  intro h0 hS
  refine vy_ofWH (cc := cc) (maxL := maxL) (ret := ret) (hh := hh) hpl rfl ?_
  intro p e s m args below meth c s₁ BL hml hv
  obtain ⟨rfl, hW, hI⟩ := hv
  have hts := atoms_spec (ws := Cond.codeWith y cc maxL ret hh :: lw_all) BL.pre
  have hts' : ∀ w ∈ lw_all, w.before As.toArray s = true := fun w h => hts w (List.mem_cons_of_mem _ h)
  have hx : Cx B (p, e, rm, s, m, As.toArray, below, meth, c, h0, vy_MQ below (QcOf B h0 post) (XcOf B h0 exc) As.toArray s rm.cells rm.slots (fun q => (b_s B).heap.size ≤ q)) cc own maxL y.name rm.frames rm.locals :=
    ⟨BL.exec, BL.bytes, hown ▸ findClass_of_methodNamed BL.named, hml, hts', hW, hB, (name_of_methodNamed BL.named BL.method).1, BL.notSynchronized, rfl, rfl⟩
  have hy : Cr B (p, e, rm, s, m, As.toArray, below, meth, c, h0, vy_MQ below (QcOf B h0 post) (XcOf B h0 exc) As.toArray s rm.cells rm.slots (fun q => (b_s B).heap.size ≤ q)) ret hh post exc :=
    ⟨rfl, BL.returns, vy_table (x := y) BL (hts _ List.mem_cons_self)⟩
  rw [lg_entry_eq]
  exact body _ hx hy h0 s.heap [] 0 0 hS hI (fun z hz => nomatch hz) (by show 0 + rm.cells ≤ rm.cells; omega) (by show 0 + rm.slots ≤ rm.slots; omega)
