/-! ROWS: arrays made, casts, ends, contracts, calls -/
section GI
variable {B : Bt} {Γ : Ct} {cc : ByteArray} {own : String} {nL : Nat} {mn : String} {fr lo : Nat} {kc ks pc : Nat} {ws : List An} {ls : List Slot} {st : List Value}
theorem g_newa {atype : ArrayType} {ty : FieldType} {n : Int32} {N : Nat} {a0 : vp_A} (X : Cx B Γ cc own nL mn fr lo) (d : decode cc pc = .ok (.newarray atype, 2)) (hty : newarray.typeOf atype = ty) (harr : Cond.arrayClass ty ∈ lw_all) (hn : n = nI N) (ha : ∀ cA : ClassId, vp_cell cA a0 = arrV cA N (fun _ => defaultValue ty)) (ha1 : a0.1 = N) (hN : N * componentBytes ty ≤ 536870912) (hN2 : N < 2 ^ 31) (hc : 1 ≤ kc) (hs : N ≤ ks)
    (k : ∀ q, G B Γ (kc - 1) (ks - N) (pt q (.inl (ty, a0)) :: ws) (pc + 2) ls (.ref q :: st)) : G B Γ kc ks ws pc ls (.int n :: st) := by
  intro h H locs cells slots i1 i2 i3 i4 i5
  subst hty
  subst hn
  refine va_newaK X.x X.b (X.ts _ harr) rfl d rfl (nI_pos hN2) (nI_clamp hN2) hN (by omega) (by omega) rfl fun H1 cA e1 z1 o1 hAr hNm => ?_
  have hc : cok B H.size (.inl (newarray.typeOf atype, a0)) H1 := ⟨cA, by rw [ha]; exact e1, arrOfT_moved X.w.alike.symm hAr, va_RA.moved X.w.alike.symm (by cases atype <;> exact hNm), by omega⟩
  obtain ⟨j1, j2⟩ := i2.new z1 o1 hc
  exact k H.size _ H1 locs _ _ (Sat_new i1 j2) j1 i3 (by omega) (by omega)
theorem g_anew {ix : Nat} {C : String} {n : Int32} {N : Nat} (X : Cx B Γ cc own nL mn fr lo) (d : decode cc pc = .ok (.anewarray ix, 3)) (hl : Cond.classLink own ix C ∈ lw_all) (hov : Cond.arrayOver (.object C) ∈ lw_tbl) (hn : n = nI N) (hN : N * 4 ≤ 536870912) (hc : 1 ≤ kc) (hs : N ≤ ks)
    (k : ∀ q, G B Γ (kc - 1) (ks - N) (pt q (oR C N (fun _ => none)) :: ws) (pc + 3) ls (.ref q :: st)) : G B Γ kc ks ws pc ls (.int n :: st) := by
  intro h H locs cells slots i1 i2 i3 i4 i5
  subst hn
  have hN2 : N < 2 ^ 31 := by omega
  refine W.anew X.x X.b X.o (X.ts _ hl) (X.nA hov) rfl d rfl (nI_pos hN2) (by rw [nI_clamp hN2]; exact hN) (by omega) (by rw [nI_clamp hN2]; omega) fun cA kA comp f1 f2 f3 f4 => ?_
  rw [nI_clamp hN2]
  have hAr : ArrOfT (c_s Γ) cA (.object C) := fun n z => ⟨fun k h => (by cases h), kA, f2, comp, f3⟩
  have z1 : (H.push { cls := cA, slots := Array.replicate N .null, vm := .none }).size = H.size + 1 := by simp
  have o1 : ∀ q, q < H.size → (H.push { cls := cA, slots := Array.replicate N .null, vm := .none })[q]? = H[q]? := fun q hq => by
    rw [Array.getElem?_push, if_neg (Nat.ne_of_lt hq)]
  have hc : cok B H.size (oR C N (fun _ => none)) (H.push { cls := cA, slots := Array.replicate N .null, vm := .none }) := ⟨cA, by
    rw [vp_cell_q]
    show _ = some (arrV cA N (fun _ => Value.null))
    rw [← arrV_new]; simp, arrOfT_moved X.w.alike.symm hAr, va_RA.moved X.w.alike.symm ⟨kA, comp, f2, f3, f4, f1⟩, hN2⟩
  obtain ⟨j1, j2⟩ := i2.new z1 o1 hc
  exact k H.size _ _ locs _ _ (Sat_new i1 j2) j1 i3 (by omega) (by omega)
theorem Cx.rcv (X : Cx B Γ cc own nL mn fr lo) {a ci : Nat} {C : String} {T : u_T} {N : Nat} (hc : clT[ci]? = some (C, T, N)) (hr : Rc a ci ws) {h : PH} {H : Heap} (i1 : Sat ws h) (i2 : Inv B (c_h Γ) (c_s Γ).heap h H) : ∃ cell : Cell, H[a]? = some cell ∧ cell.vm.isStatics = false ∧ (c_s Γ).vm.findClass C = some cell.cls := by
  obtain ⟨fs, hf⟩ := hr h i1
  exact va_recv (q := (C, T, N)) X.k (P1o (i2.1 a _ hf).2) (ci := ci) (q0 := 0) hc rfl
theorem g_cast_ {a ix ci : Nat} (X : Cx B Γ cc own nL mn fr lo) (d : decode cc pc = .ok (.checkcast ix, 3)) (f : CK own ix ci) (hr : Rc a ci ws) (k : G B Γ kc ks ws (pc + 3) ls (.ref a :: st)) : G B Γ kc ks ws pc ls (.ref a :: st) := by
  intro h H locs cells slots i1 i2 i3 i4 i5
  obtain ⟨C, nm, T, N, hc, hl, h2⟩ := f
  rcases h2 with rfl | h2
  · exact va_castS X.x X.b X.o (X.ts _ hl) (X.k.1 ci _ hc).2 (X.rcv hc hr i1 i2) d (k h H locs cells slots i1 i2 i3 i4 i5)
  · exact va_castY X.x X.b X.o (X.ts _ hl) (X.nC h2) (X.rcv hc hr i1 i2) d (k h H locs cells slots i1 i2 i3 i4 i5)
theorem g_inst {a ix ci : Nat} (X : Cx B Γ cc own nL mn fr lo) (d : decode cc pc = .ok (.instanceof ix, 3)) (f : CK own ix ci) (hr : Rc a ci ws) (k : G B Γ kc ks ws (pc + 3) ls (.int 1 :: st)) : G B Γ kc ks ws pc ls (.ref a :: st) := by
  intro h H locs cells slots i1 i2 i3 i4 i5
  obtain ⟨C, nm, T, N, hc, hl, h2⟩ := f
  rcases h2 with rfl | h2
  · exact va_instS X.x X.b X.o (X.ts _ hl) (X.k.1 ci _ hc).2 (X.rcv hc hr i1 i2) d (k h H locs cells slots i1 i2 i3 i4 i5)
  · exact va_instY X.x X.b X.o (X.ts _ hl) (X.nC h2) (X.rcv hc hr i1 i2) d (k h H locs cells slots i1 i2 i3 i4 i5)
/-- a reference put into an array of Objects -/
theorem g_aast {a v n ci : Nat} {T : u_T} {N : Nat} {C : String} {f : Nat → Option Nat} {i : Int32} {ws' : List An} (j : Nat) (X : Cx B Γ cc own nL mn fr lo) (d : decode cc pc = .ok (.aastore, 1)) (hc : clT[ci]? = some (C, T, N)) (hcast : Cond.castable C "java/lang/Object" ∈ lw_tbl) (hr : Rc v ci ws) (hp : Rp (pt a (oR "java/lang/Object" n f)) ws (pt a (oR "java/lang/Object" n (va_up f j (some v)))) ws') (hi : i = nI j) (hj : j < n) (k : G B Γ kc ks ws' (pc + 1) ls st) : G B Γ kc ks ws pc ls (.ref v :: .int i :: .ref a :: st) := by
  intro h H locs cells slots i1 i2 i3 i4 i5
  obtain ⟨ha, hs'⟩ := Rp_set hp i1
  obtain ⟨hb, cA, h1, h2, h3, h4⟩ := i2.1 a _ ha
  obtain ⟨g1, g2⟩ := nI_vp hi hj h4
  have h2' := arrOfT_moved X.w.alike h2
  obtain ⟨kA, comp, r1, r2, r3, r4⟩ := va_RA.moved X.w.alike h3
  obtain ⟨cv, v1, v2, v3⟩ := X.rcv hc hr i1 i2
  obtain ⟨c1, c2, k1, k2, k3⟩ := Cond.castable_spec (va_Nw.use (A := c_a Γ) rfl (X.nC hcast))
  cases k1.symm.trans v3
  cases k2.symm.trans r3
  obtain ⟨kv, hkv, -⟩ := Vm.findClass_spec v3
  obtain ⟨kc', hkc, -⟩ := Vm.findClass_spec r3
  refine W.aast X.x X.b (t := .object "java/lang/Object") (kcomp := kc') (kv := kv) h1 (fun q e => by cases e) (fun e => by cases e) r1 r2 rfl hkc (by
    obtain ⟨z1, z2⟩ := not_or.mp g1
    exact ⟨z1, by rw [vp_cell_q, arrV_size]; omega⟩) v1 (fun q e => by rw [e] at v2; cases v2) hkv k3 rfl rfl d fun H1 e z oq => ?_
  refine k _ H1 _ cells slots hs' (i2.set ha z oq ⟨cA, ?_, h2, h3, h4⟩) (lc_app i3 hb) i4 i5
  rw [e, g2, vp_cell_q, vp_cell_q, arrV_store]
  congr 2
  funext q
  by_cases hq : q = j
  · subst hq; simp [updV, va_up, va_rf]
  · simp [updV, va_up, hq]
end GI
/-- what a method owes at its end -/
def QcOf (B : Bt) (h0 : PH) (post : Option Value → List An → Prop) : Array Value → State → Outcome → State → Prop := fun _ st o t => ∃ (r : Option Value) (ws' : List An) (h' : PH), o = .returned r ∧ post r ws' ∧ Sat ws' h' ∧ Inv B h0 st.heap h' t.heap
def XcOf (B : Bt) (h0 : PH) (exc : String → Nat → List An → Prop) : String → Addr → State → State → Prop := fun E q st t => ∃ (ws' : List An) (h' : PH), exc E q ws' ∧ Sat ws' h' ∧ Inv B h0 st.heap h' t.heap
def PcOf (B : Bt) (h0 : PH) (As : List Value) : Array Value → State → Prop := fun v U => v = As.toArray ∧ (b_s B).WarmedH U.vm ∧ Inv B h0 U.heap h0 U.heap
/-- A CONTRACT: with the arguments As and the heap pre, the method y (hd: its code's word) returns with post or throws with exc, in the room rm -/
def Tr (B : Bt) (y : MethodName) (hd : Cond) (rm : Room) (As : List Value) (pre : List An) (post : Option Value → List An → Prop) (exc : String → Nat → List An → Prop) : Prop :=
  ∀ h0 : PH, Sat pre h0 → vy_Met (b_l B) y (hd :: lw_all) rm (PcOf B h0 As) (QcOf B h0 post) (XcOf B h0 exc) rm.cells rm.slots (fun q => (b_s B).heap.size ≤ q)
/-- nothing is thrown -/
def nox : String → Nat → List An → Prop := fun _ _ _ => False
def Cr (B : Bt) (Γ : Ct) (ret : Option FieldType) (hh : List (Nat × Nat × Nat × Nat)) (post : Option Value → List An → Prop) (exc : String → Nat → List An → Prop) : Prop :=
  c_Q Γ = vy_MQ (c_b Γ) (QcOf B (c_h Γ) post) (XcOf B (c_h Γ) exc) (c_a Γ) (c_s Γ) (c_R Γ).cells (c_R Γ).slots (fun q => (b_s B).heap.size ≤ q) ∧ (c_me Γ).sig.returnType = ret ∧ (c_c Γ).exceptionTable.toList = tableOf hh
theorem blindPc (B : Bt) (h0 : PH) (As : List Value) : FrameBlind (PcOf B h0 As) := fun _ _ _ _ h => h
section GE
variable {B : Bt} {Γ : Ct} {cc : ByteArray} {own : String} {nL : Nat} {mn : String} {fr lo : Nat} {kc ks pc : Nat} {ws : List An} {ls : List Slot} {st : List Value} {ret : Option FieldType} {hh : List (Nat × Nat × Nat × Nat)} {post : Option Value → List An → Prop} {exc : String → Nat → List An → Prop}
theorem g_end {v : Option Value} {vs : List Value} {ws' : List An} (Y : Cr B Γ ret hh post exc) (hp : post v ws') (e : Ent ws ws')
    (row : ∀ (H : Heap) (locs : List Loc) (cells slots : Nat), (∀ t : State, t.heap = H → (c_s Γ).WarmedH t.vm → QcOf B (c_h Γ) post (c_a Γ) (c_s Γ) (.returned v) t) → (∀ z ∈ locs, (b_s B).heap.size ≤ z.base) → W (c_p Γ) (b_l B) (c_e Γ) (c_R Γ) (c_s Γ) (c_m Γ) (c_a Γ) (c_b Γ) (c_me Γ) (c_c Γ) H locs cells slots (MQ (c_b Γ) (QcOf B (c_h Γ) post) (c_a Γ) (c_s Γ) cells slots (fun q => (b_s B).heap.size ≤ q)) (F0 (c_m Γ) pc ls.toArray vs)) : G B Γ kc ks ws pc ls vs := by
  intro h H locs cells slots i1 i2 i3 i4 i5
  show W (c_p Γ) (b_l B) (c_e Γ) (c_R Γ) (c_s Γ) (c_m Γ) (c_a Γ) (c_b Γ) (c_me Γ) (c_c Γ) H locs cells slots (c_Q Γ) _
  rw [Y.1]
  refine vy_ret (W.widen (k := (c_R Γ).cells) (n := (c_R Γ).slots) (by omega) (by omega) ?_)
  exact row H locs _ _ (fun t ht _ => ⟨v, ws', h, rfl, hp, e h i1, by rw [ht]; exact i2⟩) i3
theorem g_iret {ty : FieldType} {v : Int32} {ws' : List An} (X : Cx B Γ cc own nL mn fr lo) (Y : Cr B Γ (some ty) hh post exc) (d : decode cc pc = .ok (.ireturn, 1)) (hn : narrow ty (.int v) = .int v) (hp : post (some (.int v)) ws') (e : Ent ws ws') : G B Γ kc ks ws pc ls [.int v] :=
  g_end Y hp e fun H locs cells slots hq hf => W.zret X.x X.b Y.2.1 hn hq hf d X.lk
theorem g_lret {v : Int64} {ws' : List An} (X : Cx B Γ cc own nL mn fr lo) (Y : Cr B Γ (some .long) hh post exc) (d : decode cc pc = .ok (.lreturn, 1)) (hp : post (some (.long v)) ws') (e : Ent ws ws') : G B Γ kc ks ws pc ls [.long v] :=
  g_end Y hp e fun H locs cells slots hq hf => W.lret X.x X.b Y.2.1 hq hf d X.lk
theorem g_dret {v : UInt64} {ws' : List An} (X : Cx B Γ cc own nL mn fr lo) (Y : Cr B Γ (some .double) hh post exc) (d : decode cc pc = .ok (.dreturn, 1)) (hp : post (some (.double v)) ws') (e : Ent ws ws') : G B Γ kc ks ws pc ls [.double v] :=
  g_end Y hp e fun H locs cells slots hq hf => W.dret X.x X.b Y.2.1 hq hf d X.lk
theorem g_fret {v : UInt32} {ws' : List An} (X : Cx B Γ cc own nL mn fr lo) (Y : Cr B Γ (some .float) hh post exc) (d : decode cc pc = .ok (.freturn, 1)) (hp : post (some (.float v)) ws') (e : Ent ws ws') : G B Γ kc ks ws pc ls [.float v] :=
  g_end Y hp e fun H locs cells slots hq hf => W.fret X.x X.b Y.2.1 hq hf d X.lk
theorem g_vret {ws' : List An} (X : Cx B Γ cc own nL mn fr lo) (Y : Cr B Γ none hh post exc) (d : decode cc pc = .ok (.return_, 1)) (hp : post none ws') (e : Ent ws ws') : G B Γ kc ks ws pc ls [] :=
  g_end Y hp e fun H locs cells slots hq hf => W.vret X.x X.b Y.2.1 hq hf d X.lk
theorem g_aret {rt : FieldType} {v : Value} {ws' : List An} (X : Cx B Γ cc own nL mn fr lo) (Y : Cr B Γ (some rt) hh post exc) (d : decode cc pc = .ok (.areturn, 1)) (hrt : (∃ n, rt = .object n) ∨ ∃ t, rt = .array t) (hv : v = .null ∨ ∃ a, v = .ref a) (hp : post (some v) ws') (e : Ent ws ws') : G B Γ kc ks ws pc ls [v] :=
  g_end Y hp e fun H locs cells slots hq hf => W.aret X.x X.b Y.2.1 hrt hv hq hf d X.lk
/-- not caught here -/
theorem gx_out {E : String} {q : Nat} {ws' : List An} (X : Cx B Γ cc own nL mn fr lo) (Y : Cr B Γ ret hh post exc) (hout : ∀ x ∈ tableOf hh, covers x pc = false) (hp : exc E q ws') (e : Ent ws ws') : GX B Γ E q kc ks ws pc ls := by
  intro h H locs cells slots rest i1 i2 i3 i4 i5 i6
  obtain ⟨ce, c1, c2, c3⟩ := i6
  show vy_W (c_p Γ) (b_l B) (c_e Γ) (c_R Γ) (c_s Γ) (c_m Γ) (c_a Γ) (c_b Γ) (c_me Γ) (c_c Γ) H locs cells slots (c_Q Γ) _ q
  rw [Y.1]
  exact vy_out (by rw [Y.2.2]; exact hout) X.lk c1 c2 c3 (fun t ht _ => ⟨ws', h, hp, e h i1, by rw [ht]; exact i2⟩) i3 (by omega) (by omega)
end GE
/-- the callee's part of the heap comes back beside the rest -/
theorem Inv.join {B : Bt} {h0 h hc hr hc' : PH} {H0 H H' : Heap} (I : Inv B h0 H0 h H) (s : spl h hc hr) (J : Inv B hc H hc' H') : ∃ h', spl h' hc' hr ∧ Inv B h0 H0 h' H' := by
  obtain ⟨i1, i2, i3, i4, i5, i6⟩ := I
  obtain ⟨j1, j2, j3, j4, j5, j6⟩ := J
  have hd : ∀ a o, hc' a = some o → hr a = none := fun a o e => by
    rcases j4 a o e with z | z
    · cases e2 : hc a with
      | none => exact absurd e2 z
      | some o2 => exact spl_d s e2
    · cases e2 : hr a with
      | none => rfl
      | some o2 => exact absurd (i1 a o2 (spl_r s e2)).2.lt (by omega)
  refine ⟨hun hc' hr, spl_u hd, fun a o e => ?_, by omega, fun q h1 h2 => ?_, fun q o e => ?_, i5, j6⟩
  · rcases spl_o (spl_u hd) e with e1 | e1
    · exact j1 a o e1
    · have := (i1 a o (spl_r s e1))
      exact ⟨this.1, this.2.kept (j3 a this.2.lt (spl_d' s e1))⟩
  · rw [j3 q (by omega), i3 q h1 h2]
    cases e2 : hc q with
    | none => rfl
    | some o2 =>
      rcases i4 q o2 (spl_l s e2) with z | z
      · exact absurd h2 z
      · omega
  · rcases spl_o (spl_u hd) e with e1 | e1
    · rcases j4 q o e1 with z | z
      · cases e2 : hc q with
        | none => exact absurd e2 z
        | some o2 => exact i4 q o2 (spl_l s e2)
      · exact Or.inr (by omega)
    · exact i4 q o (spl_r s e1)
theorem Inv.cut {B : Bt} {h0 h hc hr : PH} {H0 H : Heap} (I : Inv B h0 H0 h H) (s : spl h hc hr) : Inv B hc H hc H :=
  ⟨fun a o e => I.1 a o (spl_l s e), Nat.le_refl _, fun _ _ _ => rfl, fun q o e => Or.inl (by rw [e]; simp), Nat.le_trans I.2.2.2.2.1 I.2.1, I.2.2.2.2.2⟩
section GC
variable {B : Bt} {Γ : Ct} {cc : ByteArray} {own : String} {nL : Nat} {mn : String} {fr lo : Nat} {kc ks pc : Nat} {ws : List An} {ls : List Slot} {st rest : List Value} {y : MethodName} {hd : Cond} {rm : Room} {As : List Value} {pre rs : List An} {post : Option Value → List An → Prop} {exc : String → Nat → List An → Prop}
/-- behind a call -/
theorem g_back {len mc ms : Nat} {h hc hr : PH} {H : Heap} {locs : List Loc} {cells slots : Nat} {av : Array Value} (X : Cx B Γ cc own nL mn fr lo) (s : spl h hc hr) (hsr : Sat rs hr) (i2 : Inv B (c_h Γ) (c_s Γ).heap h H) (i3 : ∀ z ∈ locs, (b_s B).heap.size ≤ z.base) (i4 : cells + kc ≤ (c_R Γ).cells) (i5 : slots + ks ≤ (c_R Γ).slots) (hc1 : mc ≤ kc) (hs1 : ms ≤ ks)
    (kn : ∀ r w1, post r w1 → G B Γ (kc - mc) (ks - ms) (w1 ++ rs) (pc + len) ls (r.toList ++ rest)) (kx : ∀ E q w1, exc E q w1 → GX B Γ E q (kc - mc) (ks - ms) (w1 ++ rs) pc ls)
    (hr : ∀ T : State, T.heap = H → Stand (c_p Γ) (b_l B) (c_e Γ) (c_R Γ) (c_s Γ) (c_m Γ) (c_a Γ) (c_b Γ) (c_me Γ) (c_c Γ) T locs cells slots →
    (∃ (v : Option Value) (st₀ t T' : State) (L : List Loc), st₀.heap = H ∧ Stand (c_p Γ) (b_l B) (c_e Γ) (c_R Γ) (c_s Γ) (c_m Γ) (c_a Γ) (c_b Γ) (c_me Γ) (c_c Γ) T' (locs ++ L) (cells + mc) (slots + ms) ∧ (∀ q ∈ L, (b_s B).heap.size ≤ q.base) ∧ T'.heap = t.heap ∧ T'.vm = t.vm ∧ QcOf B hc post av st₀ (.returned v) t ∧
      Goes (c_p Γ) (c_e Γ) (c_b Γ) T (F0 (c_m Γ) pc ls.toArray st) T' (F0 (c_m Γ) (pc + len) ls.toArray (v.toList ++ rest))) ∨
    (∃ (q : Addr) (st₀ t T' : State) (L : List Loc) (E : String) (ce : Cell), st₀.heap = H ∧ Stand (c_p Γ) (b_l B) (c_e Γ) (c_R Γ) (c_s Γ) (c_m Γ) (c_a Γ) (c_b Γ) (c_me Γ) (c_c Γ) T' (locs ++ L) (cells + mc) (slots + ms) ∧ (∀ z ∈ L, (b_s B).heap.size ≤ z.base) ∧ T'.heap = t.heap ∧ T'.vm = t.vm ∧ XcOf B hc exc E q st₀ t ∧ t.heap[q]? = some ce ∧ ce.vm = .none ∧ (c_s Γ).vm.findClass E = some ce.cls ∧
      Steps (c_p Γ).tables (c_e Γ) (c_b Γ) (T.setTop (F0 (c_m Γ) pc ls.toArray st)) ((T'.setTop (F0 (c_m Γ) pc ls.toArray rest)).pushFrame (.throwing q)))) :
    Wf B Γ H locs cells slots (F0 (c_m Γ) pc ls.toArray st) := by
  intro T hT XT
  have hlc : ∀ L : List Loc, (∀ q ∈ L, (b_s B).heap.size ≤ q.base) → ∀ z ∈ locs ++ L, (b_s B).heap.size ≤ z.base := fun L hL z hz => by
    rcases List.mem_append.mp hz with h9 | h9
    · exact i3 z h9
    · exact hL z h9
  rcases hr T hT XT with ⟨v, st₀, t, T', L, h0, X', hL, e1, e2, ⟨r, w1, hc', hv, hp, hs', hI⟩, st⟩ | ⟨q, st₀, t, T', L, E, ce, h0, X', hL, e1, e2, ⟨w1, hc', hp, hs', hI⟩, hce, hcv, hcl, st⟩
  · cases hv
    rw [h0, ← e1] at hI
    obtain ⟨h', k1, k2⟩ := i2.join s hI
    obtain ⟨t2, a1, b1⟩ := kn v w1 hp h' T'.heap (locs ++ L) (cells + mc) (slots + ms) (Sat_app' k1 hs' hsr) k2 (hlc L hL) (by omega) (by omega) T' rfl X'
    exact ⟨t2, st t2 a1, b1⟩
  · rw [h0, ← e1] at hI
    obtain ⟨h', k1, k2⟩ := i2.join s hI
    obtain ⟨t2, a1, b1⟩ := kx E q w1 hp h' T'.heap (locs ++ L) (cells + mc) (slots + ms) rest (Sat_app' k1 hs' hsr) k2 (hlc L hL) (by omega) (by omega) ⟨ce, by rw [e1]; exact hce, hcv, hcl⟩ T' rfl X'
    exact ⟨t2, st.trans a1, b1⟩
theorem Cx.pcd (X : Cx B Γ cc own nL mn fr lo) {h hc hr : PH} {H : Heap} (s : spl h hc hr) (i2 : Inv B (c_h Γ) (c_s Γ).heap h H) {As : List Value} : ∀ U : State, U.heap = H → (c_s Γ).WarmedH U.vm → PcOf B hc As As.toArray U :=
  fun U hU hW => ⟨rfl, State.WarmedH.trans X.w hW, by rw [hU]; exact i2.cut s⟩
/-- the facts of a call through an object; of a static call; of a constructor's -/
def MV (own : String) (ix : Nat) (C : String) (y : MethodName) (bytes : ByteArray) (maxL : Nat) (ret : Option FieldType) (n : Nat) : Prop := GoodIn lw_all (wsV own ix C y (ws_ y bytes maxL ret)) ∧ y.cls = C ∧ y.cls ≠ "java/lang/invoke/MethodHandle" ∧ y.cls ≠ "java/lang/invoke/VarHandle" ∧ (parseMethodDescriptor y.desc).map (fun d => d.parameters.length) = some n
def MS (own : String) (ix : Nat) (y : MethodName) (bytes : ByteArray) (maxL : Nat) (ret : Option FieldType) (n : Nat) : Prop := GoodIn lw_all (va_wsS own ix y (ws_ y bytes maxL ret)) ∧ y.cls ≠ "java/lang/invoke/MethodHandle" ∧ y.cls ≠ "java/lang/invoke/VarHandle" ∧ (parseMethodDescriptor y.desc).map (fun d => d.parameters.length) = some n
def MI (own : String) (ix : Nat) (y : MethodName) (bytes : ByteArray) (maxL : Nat) (n : Nat) : Prop := Cond.code y bytes maxL none ∈ lw_all ∧ Cond.initialized y.cls ∈ lw_all ∧ Cond.methodLink own ix y ∈ lw_all ∧ Cond.instanceMethod y ∈ lw_all ∧ y.name = "<init>" ∧ y.cls ≠ "java/lang/invoke/MethodHandle" ∧ y.cls ≠ "java/lang/invoke/VarHandle" ∧ (parseMethodDescriptor y.desc).map (fun d => d.parameters.length) = some n
theorem g_callV {ix n b ci : Nat} {C : String} {T9 : u_T} {N9 : Nat} {bytes : ByteArray} {maxL : Nat} {ret : Option FieldType} (X : Cx B Γ cc own nL mn fr lo) (d : decode cc pc = .ok (.invokevirtual ix, 3)) (m : MV own ix C y bytes maxL ret n) (T : Tr B y (Cond.code y bytes maxL ret) rm (.ref b :: As) pre post exc) (hst : st = As.reverse ++ .ref b :: rest)
    (hcl : clT[ci]? = some (C, T9, N9)) (hr : Rc b ci ws) (p : Pks pre ws rs) (hlen : As.length = n) (hls : ls.length = nL) (hR : rm.frames + 1 ≤ fr ∧ 8 + (maxL + 11) + rm.locals ≤ lo) (hcat : (rest.map fun v => v.category).sum ≤ 8) (hb : rm.cells ≤ kc ∧ rm.slots ≤ ks)
    (kn : ∀ r w1, post r w1 → G B Γ (kc - rm.cells) (ks - rm.slots) (w1 ++ rs) (pc + 3) ls (r.toList ++ rest)) (kx : ∀ E q w1, exc E q w1 → GX B Γ E q (kc - rm.cells) (ks - rm.slots) (w1 ++ rs) pc ls) : G B Γ kc ks ws pc ls st := by
  intro h H locs cells slots i1 i2 i3 i4 i5
  obtain ⟨hc, hr2, s, k1, k2⟩ := Sat_app (p h i1)
  subst hst
  exact g_back X s k2 i2 i3 i4 i5 hb.1 hb.2 kn kx (vy_runV (As := As) (rest := rest) X.fx (T hc k1) (cwV n X.ts m.1 rfl rfl rfl m.2 (by rw [X.rf, X.rl]; exact hR)) ⟨blindPc _ _ _, X.rcv hcl hr i1 i2, X.pcd s i2⟩ rfl hlen (by show ls.toArray.size = nL; simpa using hls) rfl (lv_room hcat) d ⟨by omega, by omega⟩)
theorem g_callS {ix n : Nat} {bytes : ByteArray} {maxL : Nat} {ret : Option FieldType} (X : Cx B Γ cc own nL mn fr lo) (d : decode cc pc = .ok (.invokestatic ix, 3)) (m : MS own ix y bytes maxL ret n) (T : Tr B y (Cond.code y bytes maxL ret) rm As pre post exc) (hst : st = As.reverse ++ rest)
    (p : Pks pre ws rs) (hlen : As.length = n) (hls : ls.length = nL) (hR : rm.frames + 1 ≤ fr ∧ 8 + (maxL + 11) + rm.locals ≤ lo) (hcat : (rest.map fun v => v.category).sum ≤ 8) (hb : rm.cells ≤ kc ∧ rm.slots ≤ ks)
    (kn : ∀ r w1, post r w1 → G B Γ (kc - rm.cells) (ks - rm.slots) (w1 ++ rs) (pc + 3) ls (r.toList ++ rest)) (kx : ∀ E q w1, exc E q w1 → GX B Γ E q (kc - rm.cells) (ks - rm.slots) (w1 ++ rs) pc ls) : G B Γ kc ks ws pc ls st := by
  intro h H locs cells slots i1 i2 i3 i4 i5
  obtain ⟨hc, hr2, s, k1, k2⟩ := Sat_app (p h i1)
  subst hst
  exact g_back X s k2 i2 i3 i4 i5 hb.1 hb.2 kn kx (vy_runS (As := As) (rest := rest) X.fx (T hc k1) (va_cwS n X.ts m.1 rfl rfl rfl m.2 (by rw [X.rf, X.rl]; exact hR)) ⟨blindPc _ _ _, X.pcd s i2⟩ rfl hlen (by show ls.toArray.size = nL; simpa using hls) rfl (lv_room hcat) d ⟨by omega, by omega⟩)
theorem g_callI {ix n b : Nat} {bytes : ByteArray} {maxL : Nat} (X : Cx B Γ cc own nL mn fr lo) (d : decode cc pc = .ok (.invokespecial ix, 3)) (m : MI own ix y bytes maxL n) (T : Tr B y (Cond.code y bytes maxL none) rm (.ref b :: As) pre post exc) (hst : st = As.reverse ++ .ref b :: rest)
    (p : Pks pre ws rs) (hlen : As.length = n) (hls : ls.length = nL) (hR : rm.frames + 1 ≤ fr ∧ 8 + (maxL + 11) + rm.locals ≤ lo) (hcat : (rest.map fun v => v.category).sum ≤ 8) (hb : rm.cells ≤ kc ∧ rm.slots ≤ ks)
    (kn : ∀ r w1, post r w1 → G B Γ (kc - rm.cells) (ks - rm.slots) (w1 ++ rs) (pc + 3) ls (r.toList ++ rest)) (kx : ∀ E q w1, exc E q w1 → GX B Γ E q (kc - rm.cells) (ks - rm.slots) (w1 ++ rs) pc ls) : G B Γ kc ks ws pc ls st := by
  intro h H locs cells slots i1 i2 i3 i4 i5
  obtain ⟨hc, hr2, s, k1, k2⟩ := Sat_app (p h i1)
  subst hst
  obtain ⟨m1, m2, m3, m4, m5, m6⟩ := m
  exact g_back X s k2 i2 i3 i4 i5 hb.1 hb.2 kn kx (vy_runI (As := As) (rest := rest) X.fx (T hc k1) (cwI n X.ts (lw_meth m1) rfl rfl rfl (X.ts _ m2) (X.ts _ m3) (X.ts _ m4) m5 m6 (by rw [X.rf, X.rl]; exact hR)) ⟨blindPc _ _ _, X.pcd s i2⟩ rfl hlen (by show ls.toArray.size = nL; simpa using hls) rfl (lv_room hcat) d ⟨by omega, by omega⟩)
theorem g_objInit {ix a : Nat} (X : Cx B Γ cc own nL mn fr lo) (d : decode cc pc = .ok (.invokespecial ix, 3)) (m : Cond.methodLink own ix Lib.objectInit ∈ lw_all) (m2 : Cond.instanceMethod Lib.objectInit ∈ lw_all) (m3 : Cond.code Lib.objectInit ⟨#[0xb1]⟩ 1 none ∈ lw_all) (hls : ls.length = nL) (hR : 1 ≤ fr ∧ (st.map fun v => v.category).sum + 12 ≤ lo) (k : G B Γ kc ks ws (pc + 3) ls st) : G B Γ kc ks ws pc ls (.ref a :: st) := by
  intro h H locs cells slots i1 i2 i3 i4 i5
  refine W.objInit X.x X.b X.o (X.ts _ m) (X.ts _ m2) (X.ts _ m3) rfl (by rw [X.ml]; show ls.toArray.size = nL; simpa using hls) rfl d (by rw [X.rf]; exact hR.1) (by rw [X.rl]; show 0 + _ + 12 ≤ lo; omega) (k h H locs cells slots i1 i2 i3 i4 i5)
end GC
/-- A CONTRACT IS PROVED by a walk from the method's entry -/
theorem tr_of {B : Bt} {y : MethodName} {cc : ByteArray} {maxL : Nat} {ret : Option FieldType} {rm : Room} {As : List Value} {pre : List An} {post : Option Value → List An → Prop} {exc : String → Nat → List An → Prop} {own : String} (hB : Bs B) (hpl : plainFor y = true) (hown : y.cls = own)
    (body : ∀ Γ : Ct, Cx B Γ cc own maxL y.name rm.frames rm.locals → Cr B Γ ret [] post exc → G B Γ rm.cells rm.slots pre 0 (lg_sl As ++ List.replicate (maxL - (lg_sl As).length) .unset) []) : Tr B y (Cond.code y cc maxL ret) rm As pre post exc := by
  intro h0 hS
  refine vy_ofW (cc := cc) (maxL := maxL) (ret := ret) hpl rfl ?_
  intro p e s m args below meth c s₁ BL hml ht hv
  obtain ⟨rfl, hW, hI⟩ := hv
  have hts := atoms_spec (ws := Cond.code y cc maxL ret :: lw_all) BL.pre
  have hts' : ∀ w ∈ lw_all, w.before As.toArray s = true := fun w h => hts w (List.mem_cons_of_mem _ h)
  have hx : Cx B (p, e, rm, s, m, As.toArray, below, meth, c, h0, vy_MQ below (QcOf B h0 post) (XcOf B h0 exc) As.toArray s rm.cells rm.slots (fun q => (b_s B).heap.size ≤ q)) cc own maxL y.name rm.frames rm.locals :=
    ⟨BL.exec, BL.bytes, hown ▸ findClass_of_methodNamed BL.named, hml, hts', hW, hB, (name_of_methodNamed BL.named BL.method).1, BL.notSynchronized, rfl, rfl⟩
  have hy : Cr B (p, e, rm, s, m, As.toArray, below, meth, c, h0, vy_MQ below (QcOf B h0 post) (XcOf B h0 exc) As.toArray s rm.cells rm.slots (fun q => (b_s B).heap.size ≤ q)) ret [] post exc :=
    ⟨rfl, BL.returns, by
      have h9 : c.exceptionTable.toList = [] := List.eq_nil_iff_forall_not_mem.mpr fun x hx => ht x hx
      rw [h9]; rfl⟩
  rw [lg_entry_eq]
  exact body _ hx hy h0 s.heap [] 0 0 hS hI (fun z hz => nomatch hz) (by show 0 + rm.cells ≤ rm.cells; omega) (by show 0 + rm.slots ≤ rm.slots; omega)
