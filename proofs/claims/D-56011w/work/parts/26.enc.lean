/-! WHAT THE OPERATIONS DO TO THE MODEL's ARRAY -/
theorem nI_dec {n : Nat} (h : 0 < n) : nI n - 1 = nI (n - 1) := by
  obtain ⟨k, rfl⟩ : ∃ k, n = k + 1 := ⟨n - 1, by omega⟩
  exact nI_pred k
theorem EnN.set {M : Nat → Int32} {N : Nat → Nat} {i v : Nat} {x : Int32} (h : EnN M N) (e : x = nI v) : EnN (upd M i x) (up N i v) := by
  intro j hj
  by_cases hi : j = i
  · subst hi
    rw [upd_s, up_s, e]
  · rw [upd_n hi, up_n hi]
    exact h j hj
theorem EnN.set1 {M : Nat → Int32} {N : Nat → Nat} {i v : Nat} (h : EnN M N) (e : M i = nI v) : EnN M (up N i v) := by
  intro j hj
  by_cases hi : j = i
  · subst hi
    rw [up_s, e]
  · rw [up_n hi]
    exact h j hj
theorem md_len {T : List (Nat × Nat)} {k : Nat} {f g : Nat → Nat} : (mdT T k f g).length = T.length := List.length_modify ..
theorem md_get {T : List (Nat × Nat)} {k j : Nat} {f g : Nat → Nat} {c : Nat × Nat} (h : (mdT T k f g)[j]? = some c) : (j = k ∧ ∃ a, T[j]? = some a ∧ c = (f a.1, g a.2)) ∨ (j ≠ k ∧ T[j]? = some c) := by
  by_cases hk : k = j
  · subst hk
    simp only [List.getElem?_modify, if_true, Option.map_eq_map] at h
    cases ha : T[k]? with
    | none => rw [ha] at h; exact nomatch h
    | some a => rw [ha] at h; exact Or.inl ⟨rfl, a, rfl, (Option.some.inj h).symm⟩
  · simp only [List.getElem?_modify, if_neg hk, Option.map_eq_map, Option.map_id'] at h
    exact Or.inr ⟨fun e => hk e.symm, h⟩
theorem md_at {T : List (Nat × Nat)} {k : Nat} {f g : Nat → Nat} {c : Nat × Nat} (h : T[k]? = some c) : (mdT T k f g)[k]? = some (f c.1, g c.2) := by
  simp only [List.getElem?_modify, if_true, h]; rfl
theorem md_off {T : List (Nat × Nat)} {k j : Nat} {f g : Nat → Nat} (h : k ≠ j) : (mdT T k f g)[j]? = T[j]? := by
  simp only [List.getElem?_modify, if_neg h, Option.map_eq_map, Option.map_id']
theorem md_md {T : List (Nat × Nat)} {k : Nat} {f g : Nat → Nat} : mdT (mdT T k f id) k id g = mdT T k f g := by
  refine List.ext_getElem? fun j => ?_
  by_cases hk : k = j
  · subst hk
    cases ha : T[k]? with
    | none =>
      have h1 : T.length ≤ k := List.getElem?_eq_none_iff.mp ha
      rw [List.getElem?_eq_none_iff.mpr (by rw [md_len, md_len]; exact h1), List.getElem?_eq_none_iff.mpr (by rw [md_len]; exact h1)]
    | some a => rw [md_at (md_at ha), md_at ha]; rfl
  · rw [md_off hk, md_off hk, md_off hk]
theorem EnT.c {M : Nat → Int32} {T : List (Nat × Nat)} {k : Nat} {x : Int32} {f : Nat → Nat} (h : EnT M T) (hx : ∀ c, T[k]? = some c → x = nI (f c.1)) : EnT (upd M (17 + 3 * k) x) (mdT T k f id) := by
  refine ⟨by rw [md_len, upd_n (by omega)]; exact h.1, by rw [md_len]; exact h.2.1, fun j t hj => ?_⟩
  rcases md_get hj with ⟨rfl, a, ha, rfl⟩ | ⟨hn, hj⟩
  · exact ⟨by rw [upd_s]; exact hx a ha, by rw [upd_n (by omega)]; exact (h.2.2 _ a ha).2⟩
  · exact ⟨by rw [upd_n (by omega)]; exact (h.2.2 j t hj).1, by rw [upd_n (by omega)]; exact (h.2.2 j t hj).2⟩
theorem EnT.w {M : Nat → Int32} {T : List (Nat × Nat)} {k : Nat} {x : Int32} {f : Nat → Nat} (h : EnT M T) (hx : ∀ c, T[k]? = some c → x = nI (f c.2)) : EnT (upd M (17 + 3 * k + 1) x) (mdT T k id f) := by
  refine ⟨by rw [md_len, upd_n (by omega)]; exact h.1, by rw [md_len]; exact h.2.1, fun j t hj => ?_⟩
  rcases md_get hj with ⟨rfl, a, ha, rfl⟩ | ⟨hn, hj⟩
  · exact ⟨by rw [upd_n (by omega)]; exact (h.2.2 _ a ha).1, by rw [upd_s]; exact hx a ha⟩
  · exact ⟨by rw [upd_n (by omega)]; exact (h.2.2 j t hj).1, by rw [upd_n (by omega)]; exact (h.2.2 j t hj).2⟩
theorem EnT.add {M : Nat → Int32} {T : List (Nat × Nat)} {c w : Nat} {x : Int32} (h : EnT M T) (hl : T.length < 6) (hx : x = nI (T.length + 1)) : EnT (upd (upd (upd M (17 + 3 * T.length) (nI c)) (17 + 3 * T.length + 1) (nI w)) 0 x) (T ++ [(c, w)]) := by
  have h2 : (T ++ [(c, w)]).length = T.length + 1 := by simp
  refine ⟨by rw [upd_s, h2, hx], by omega, fun j t hj => ?_⟩
  have hl2 := (List.getElem?_eq_some_iff.mp hj).1
  rw [h2] at hl2
  by_cases he : j = T.length
  · subst he
    simp only [List.getElem?_concat_length, Option.some.injEq] at hj
    subst hj
    exact ⟨by rw [upd_n (by omega), upd_n (by omega), upd_s], by rw [upd_n (by omega), upd_s]⟩
  · rw [List.getElem?_append_left (by omega)] at hj
    exact ⟨by rw [upd_n (by omega), upd_n (by omega), upd_n (by omega)]; exact (h.2.2 j t hj).1, by rw [upd_n (by omega), upd_n (by omega), upd_n (by omega)]; exact (h.2.2 j t hj).2⟩
theorem EnO.u {M : Nat → Int32} {O : List OO} {k v : Nat} {o : OO} {x : Int32} (h : EnO M O) (ho : O[k]? = some o) (hx : x = nI v) (hv : v < 100) : EnO (upd M (35 + 5 * k + 4) x) (O.set k (o.1, o.2.1, o.2.2.1, o.2.2.2.1, v)) := by
  have hk := (List.getElem?_eq_some_iff.mp ho).1
  refine ⟨by rw [List.length_set, upd_n (by omega)]; exact h.1, by rw [List.length_set]; exact h.2.1, fun j t hj => ?_⟩
  by_cases he : k = j
  · subst he
    rw [List.getElem?_set_self hk] at hj
    cases hj
    obtain ⟨⟨e0, e1, e2, e3, e4⟩, k1, k2, k3, k4⟩ := h.2.2 k o ho
    exact ⟨⟨by rw [upd_n (by omega)]; exact e0, by rw [upd_n (by omega)]; exact e1, by rw [upd_n (by omega)]; exact e2, by rw [upd_n (by omega)]; exact e3, by rw [upd_s]; exact hx⟩, k1, k2, k3, hv⟩
  · rw [List.getElem?_set_ne he] at hj
    exact ⟨(h.2.2 j t hj).1.cg fun i hi => upd_n (by omega), (h.2.2 j t hj).2⟩
theorem EnO.close {M : Nat → Int32} {O : List OO} {k : Nat} (h : EnO M O) (hk : k < O.length) : EnO (clM M k) (O.eraseIdx k) := by
  have hl := h.2.1
  have hl2 : (O.eraseIdx k).length = O.length - 1 := List.length_eraseIdx_of_lt hk
  refine ⟨upd_s.trans (by rw [hl2, h.1]; exact nI_dec (by omega)), by omega, fun j t hj => ?_⟩
  have hj2 := (List.getElem?_eq_some_iff.mp hj).1
  rw [List.getElem?_eraseIdx] at hj
  by_cases hlt : j < k
  · rw [if_pos hlt] at hj
    exact ⟨(h.2.2 j t hj).1.cg fun i hi => (upd_n (by omega)).trans ((cpu_lo (by omega)).trans (cpu_lo (by omega))), (h.2.2 j t hj).2⟩
  · rw [if_neg hlt] at hj
    obtain ⟨⟨e0, e1, e2, e3, e4⟩, hk2⟩ := h.2.2 _ t hj
    have q : ∀ d, d < 5 → clM M k (35 + 5 * j + d) = M (35 + 5 * (j + 1) + d) := fun d hd => (upd_n (by omega)).trans ((cpu_lo (by omega)).trans ((cpu_in (by omega) (by omega)).trans (congrArg M (by omega))))
    exact ⟨⟨(q 0 (by decide)).trans e0, (q 1 (by decide)).trans e1, (q 2 (by decide)).trans e2, (q 3 (by decide)).trans e3, (q 4 (by decide)).trans e4⟩, hk2⟩
theorem EnO.add {M M' : Nat → Int32} {O : List OO} {o : OO} (h : EnO M O) (hl : O.length < 16) (ho : okO o) (h1 : M' 1 = nI (O.length + 1)) (h2 : EncO M' (35 + 5 * O.length) o) (e : ∀ i, 35 ≤ i ∧ i < 35 + 5 * O.length → M' i = M i) : EnO M' (O ++ [o]) := by
  have hl2 : (O ++ [o]).length = O.length + 1 := by simp
  refine ⟨by rw [hl2]; exact h1, by omega, fun j t hj => ?_⟩
  have hj2 := (List.getElem?_eq_some_iff.mp hj).1
  by_cases he : j = O.length
  · subst he
    simp only [List.getElem?_concat_length, Option.some.injEq] at hj
    subst hj
    exact ⟨h2, ho⟩
  · rw [List.getElem?_append_left (by omega)] at hj
    exact ⟨(h.2.2 j t hj).1.cg fun i hi => e i (by omega), (h.2.2 j t hj).2⟩
theorem EnC.add {M M' : Nat → Int32} {C : List CC} {o : CC} (h : EnC M C) (hl : C.length < 8) (ho : okC o) (h1 : M' 3 = nI (C.length + 1)) (h2 : EncC M' (115 + 5 * C.length) o) (e : ∀ i, 115 ≤ i ∧ i < 115 + 5 * C.length → M' i = M i) : EnC M' (C ++ [o]) := by
  have hl2 : (C ++ [o]).length = C.length + 1 := by simp
  refine ⟨by rw [hl2]; exact h1, by omega, fun j t hj => ?_⟩
  have hj2 := (List.getElem?_eq_some_iff.mp hj).1
  by_cases he : j = C.length
  · subst he
    simp only [List.getElem?_concat_length, Option.some.injEq] at hj
    subst hj
    exact ⟨h2, ho⟩
  · rw [List.getElem?_append_left (by omega)] at hj
    exact ⟨(h.2.2 j t hj).1.cg fun i hi => e i (by omega), (h.2.2 j t hj).2⟩
/-- the array with the contract at k closed -/
abbrev clC (M : Nat → Int32) (k : Nat) : Nat → Int32 := upd (cpu (cpu M (fun q => M (q + 5)) (115 + 5 * k) 150) (fun _ => 0) 150 155) 3 (M 3 - 1)
theorem EnC.close {M : Nat → Int32} {O : List CC} {k : Nat} (h : EnC M O) (hk : k < O.length) : EnC (clC M k) (O.eraseIdx k) := by
  have hl := h.2.1
  have hl2 : (O.eraseIdx k).length = O.length - 1 := List.length_eraseIdx_of_lt hk
  refine ⟨upd_s.trans (by rw [hl2, h.1]; exact nI_dec (by omega)), by omega, fun j t hj => ?_⟩
  have hj2 := (List.getElem?_eq_some_iff.mp hj).1
  rw [List.getElem?_eraseIdx] at hj
  by_cases hlt : j < k
  · rw [if_pos hlt] at hj
    exact ⟨(h.2.2 j t hj).1.cg fun i hi => (upd_n (by omega)).trans ((cpu_lo (by omega)).trans (cpu_lo (by omega))), (h.2.2 j t hj).2⟩
  · rw [if_neg hlt] at hj
    obtain ⟨⟨e0, e1, e2, e3, e4⟩, hk2⟩ := h.2.2 _ t hj
    have q : ∀ d, d < 5 → clC M k (115 + 5 * j + d) = M (115 + 5 * (j + 1) + d) := fun d hd => (upd_n (by omega)).trans ((cpu_lo (by omega)).trans ((cpu_in (by omega) (by omega)).trans (congrArg M (by omega))))
    exact ⟨⟨(q 0 (by decide)).trans e0, (q 1 (by decide)).trans e1, (q 2 (by decide)).trans e2, (q 3 (by decide)).trans e3, (q 4 (by decide)).trans e4⟩, hk2⟩
/-- closing an order touches the orders alone -/
theorem clM_n {M : Nat → Int32} {k i : Nat} (h : i < 35 ∨ 115 ≤ i) (h1 : i ≠ 1) : clM M k i = M i := by
  rcases h with h | h
  · exact (upd_n h1).trans ((cpu_lo (by omega)).trans (cpu_lo (by omega)))
  · exact (upd_n h1).trans ((cpu_hi (by omega)).trans (cpu_hi (by omega)))
theorem clC_n {M : Nat → Int32} {k i : Nat} (h : i < 115) (h1 : i ≠ 3) : clC M k i = M i := (upd_n h1).trans ((cpu_lo (by omega)).trans (cpu_lo (by omega)))
theorem Enc.closeO {M : Nat → Int32} {S : SS} {k : Nat} (h : Enc M S) (hk : k < (sO S).length) : Enc (clM M k) (wO S ((sO S).eraseIdx k)) :=
  ⟨h.1.cg fun i hi => clM_n (by omega) (by omega), h.2.1.cg fun i hi => clM_n (by omega) (by omega), h.2.2.1.cg fun i hi => clM_n (by omega) (by omega), h.2.2.2.1.close hk, h.2.2.2.2.1.cg fun i hi => clM_n (by omega) (by omega), h.2.2.2.2.2.1.cg fun i hi => clM_n (by omega) (by omega), h.2.2.2.2.2.2.cg fun i hi => clM_n (by omega) (by omega)⟩
theorem Enc.closeC {M : Nat → Int32} {S : SS} {k : Nat} (h : Enc M S) (hk : k < (sC S).length) : Enc (clC M k) (wC S ((sC S).eraseIdx k)) :=
  ⟨h.1.cg fun i hi => clC_n (by omega) (by omega), h.2.1.cg fun i hi => clC_n (by omega) (by omega), h.2.2.1.cg fun i hi => clC_n (by omega) (by omega), h.2.2.2.1.cg fun i hi => clC_n (by omega) (by omega), h.2.2.2.2.1.close hk, h.2.2.2.2.2.1.cg fun i hi => clC_n (by omega) (by omega), h.2.2.2.2.2.2.cg fun i hi => clC_n (by omega) (by omega)⟩
theorem Enc.c {M : Nat → Int32} {S : SS} {k : Nat} {x : Int32} {f : Nat → Nat} (h : Enc M S) (hk : k < 6) (hx : ∀ c, (sT S)[k]? = some c → x = nI (f c.1)) : Enc (upd M (17 + 3 * k) x) (wT S (mdT (sT S) k f id)) :=
  ⟨h.1.cg fun i hi => upd_n (by omega), h.2.1.cg fun i hi => upd_n (by omega), h.2.2.1.c hx, h.2.2.2.1.cg fun i hi => upd_n (by omega), h.2.2.2.2.1.cg fun i hi => upd_n (by omega), h.2.2.2.2.2.1.cg fun i hi => upd_n (by omega), h.2.2.2.2.2.2.cg fun i hi => upd_n (by omega)⟩
theorem Enc.w {M : Nat → Int32} {S : SS} {k : Nat} {x : Int32} {f : Nat → Nat} (h : Enc M S) (hk : k < 6) (hx : ∀ c, (sT S)[k]? = some c → x = nI (f c.2)) : Enc (upd M (17 + 3 * k + 1) x) (wT S (mdT (sT S) k id f)) :=
  ⟨h.1.cg fun i hi => upd_n (by omega), h.2.1.cg fun i hi => upd_n (by omega), h.2.2.1.w hx, h.2.2.2.1.cg fun i hi => upd_n (by omega), h.2.2.2.2.1.cg fun i hi => upd_n (by omega), h.2.2.2.2.2.1.cg fun i hi => upd_n (by omega), h.2.2.2.2.2.2.cg fun i hi => upd_n (by omega)⟩
theorem Enc.n {M : Nat → Int32} {S : SS} {i v : Nat} {x : Int32} (h : Enc M S) (hi : i = 2 ∨ (4 ≤ i ∧ i < 11)) (hx : x = nI v) : Enc (upd M i x) (wN S (up (sN S) i v)) :=
  ⟨h.1.set hx, h.2.1.cg fun i hi => upd_n (by omega), h.2.2.1.cg fun i hi => upd_n (by omega), h.2.2.2.1.cg fun i hi => upd_n (by omega), h.2.2.2.2.1.cg fun i hi => upd_n (by omega), h.2.2.2.2.2.1.cg fun i hi => upd_n (by omega), h.2.2.2.2.2.2.cg fun i hi => upd_n (by omega)⟩
theorem Enc.u {M : Nat → Int32} {S : SS} {k v : Nat} {o : OO} {x : Int32} (h : Enc M S) (ho : (sO S)[k]? = some o) (hx : x = nI v) (hv : v < 100) : Enc (upd M (35 + 5 * k + 4) x) (wO S ((sO S).set k (o.1, o.2.1, o.2.2.1, o.2.2.2.1, v))) := by
  have hk := (List.getElem?_eq_some_iff.mp ho).1
  have hl := h.2.2.2.1.2.1
  exact ⟨h.1.cg fun i hi => upd_n (by omega), h.2.1.cg fun i hi => upd_n (by omega), h.2.2.1.cg fun i hi => upd_n (by omega), h.2.2.2.1.u ho hx hv, h.2.2.2.2.1.cg fun i hi => upd_n (by omega), h.2.2.2.2.2.1.cg fun i hi => upd_n (by omega), h.2.2.2.2.2.2.cg fun i hi => upd_n (by omega)⟩
theorem Enc.addT {M : Nat → Int32} {S : SS} {c w : Nat} {x : Int32} (h : Enc M S) (hl : (sT S).length < 6) (hx : x = nI ((sT S).length + 1)) : Enc (upd (upd (upd M (17 + 3 * (sT S).length) (nI c)) (17 + 3 * (sT S).length + 1) (nI w)) 0 x) (wT S (sT S ++ [(c, w)])) :=
  ⟨h.1.cg fun i hi => by repeat rw [upd_n (by omega)], h.2.1.cg fun i hi => by repeat rw [upd_n (by omega)], h.2.2.1.add hl hx, h.2.2.2.1.cg fun i hi => by repeat rw [upd_n (by omega)], h.2.2.2.2.1.cg fun i hi => by repeat rw [upd_n (by omega)], h.2.2.2.2.2.1.cg fun i hi => by repeat rw [upd_n (by omega)], h.2.2.2.2.2.2.cg fun i hi => by repeat rw [upd_n (by omega)]⟩
theorem Enc.addO {M : Nat → Int32} {S : SS} {o : OO} {x : Int32} {k : Nat} (h : Enc M S) (hk : k = (sO S).length) (hl : k < 16) (ho : okO o) (hx : x = nI (k + 1)) : Enc (upd (upd (upd (upd (upd (upd M (35 + 5 * k) (nI o.1)) (35 + 5 * k + 1) (nI o.2.1)) (35 + 5 * k + 2) (bI o.2.2.1)) (35 + 5 * k + 3) (nI o.2.2.2.1)) (35 + 5 * k + 4) (nI o.2.2.2.2)) 1 x) (wO S (sO S ++ [o])) := by
  subst hk hx
  refine ⟨h.1.cg fun i hi => by repeat rw [upd_n (by omega)], h.2.1.cg fun i hi => by repeat rw [upd_n (by omega)], h.2.2.1.cg fun i hi => by repeat rw [upd_n (by omega)], h.2.2.2.1.add hl ho upd_s ?_ ?_, h.2.2.2.2.1.cg fun i hi => by repeat rw [upd_n (by omega)], h.2.2.2.2.2.1.cg fun i hi => by repeat rw [upd_n (by omega)], h.2.2.2.2.2.2.cg fun i hi => by repeat rw [upd_n (by omega)]⟩
  · refine ⟨?_, ?_, ?_, ?_, ?_⟩
    · repeat rw [upd_n (by omega)]
      exact upd_s
    · repeat rw [upd_n (by omega)]
      exact upd_s
    · repeat rw [upd_n (by omega)]
      exact upd_s
    · repeat rw [upd_n (by omega)]
      exact upd_s
    · repeat rw [upd_n (by omega)]
      exact upd_s
  · intro i hi
    repeat rw [upd_n (by omega)]
theorem Enc.addC {M : Nat → Int32} {S : SS} {o : CC} {x : Int32} {k : Nat} (h : Enc M S) (hk : k = (sC S).length) (hl : k < 8) (ho : okC o) (hx : x = nI (k + 1)) : Enc (upd (upd (upd (upd (upd (upd M (115 + 5 * k) (nI o.1)) (115 + 5 * k + 1) (nI o.2.1)) (115 + 5 * k + 2) (nI o.2.2.1)) (115 + 5 * k + 3) (nI o.2.2.2.1)) (115 + 5 * k + 4) (nI o.2.2.2.2)) 3 x) (wC S (sC S ++ [o])) := by
  subst hk hx
  refine ⟨h.1.cg fun i hi => by repeat rw [upd_n (by omega)], h.2.1.cg fun i hi => by repeat rw [upd_n (by omega)], h.2.2.1.cg fun i hi => by repeat rw [upd_n (by omega)], h.2.2.2.1.cg fun i hi => by repeat rw [upd_n (by omega)], h.2.2.2.2.1.add hl ho upd_s ?_ ?_, h.2.2.2.2.2.1.cg fun i hi => by repeat rw [upd_n (by omega)], h.2.2.2.2.2.2.cg fun i hi => by repeat rw [upd_n (by omega)]⟩
  · refine ⟨?_, ?_, ?_, ?_, ?_⟩
    · repeat rw [upd_n (by omega)]
      exact upd_s
    · repeat rw [upd_n (by omega)]
      exact upd_s
    · repeat rw [upd_n (by omega)]
      exact upd_s
    · repeat rw [upd_n (by omega)]
      exact upd_s
    · repeat rw [upd_n (by omega)]
      exact upd_s
  · intro i hi
    repeat rw [upd_n (by omega)]
theorem Enc.setA {M : Nat → Int32} {S : SS} {A : Option (Nat × Nat)} {x y : Int32} (h : Enc M S) (hx : x = oI_ (A.map (·.1))) (hA : ∀ r v, A = some (r, v) → y = nI v ∧ r < 4 ∧ v < 100) : Enc (upd (upd M 11 x) 12 y) (wA S A) :=
  ⟨h.1.cg fun i hi => by repeat rw [upd_n (by omega)], h.2.1.cg fun i hi => by repeat rw [upd_n (by omega)], h.2.2.1.cg fun i hi => by repeat rw [upd_n (by omega)], h.2.2.2.1.cg fun i hi => by repeat rw [upd_n (by omega)], h.2.2.2.2.1.cg fun i hi => by repeat rw [upd_n (by omega)], ⟨by rw [upd_n (by decide), upd_s, hx], fun r v e => by rw [upd_s]; exact hA r v e⟩, h.2.2.2.2.2.2.cg fun i hi => by repeat rw [upd_n (by omega)]⟩
theorem Enc.setH {M : Nat → Int32} {S : SS} {r : Nat} {t : Option Nat} {x : Int32} (h : Enc M S) (hr : r < 4) (hx : x = oI_ t) (ht : ∀ k, t = some k → k < 6) : Enc (upd M (13 + r) x) (wH S (up (sH S) r t)) :=
  ⟨h.1.cg fun i hi => by repeat rw [upd_n (by omega)], fun k hk => by
    by_cases e : k = r
    · subst e
      rw [upd_s]
      exact ⟨by rw [hx]; exact congrArg oI_ up_s.symm, fun t' e => ht t' (up_s.symm.trans e)⟩
    · rw [upd_n (by omega)]
      exact ⟨(h.2.1 k hk).1.trans (congrArg oI_ (up_n e).symm), fun t' e' => (h.2.1 k hk).2 t' ((up_n e).symm.trans e')⟩, h.2.2.1.cg fun i hi => by repeat rw [upd_n (by omega)], h.2.2.2.1.cg fun i hi => by repeat rw [upd_n (by omega)], h.2.2.2.2.1.cg fun i hi => by repeat rw [upd_n (by omega)], h.2.2.2.2.2.1.cg fun i hi => by repeat rw [upd_n (by omega)], h.2.2.2.2.2.2.cg fun i hi => by repeat rw [upd_n (by omega)]⟩
theorem Enc.setB {M : Nat → Int32} {S : SS} {t v : Nat} {x : Int32} (h : Enc M S) (hr : t < 6) (hx : x = nI v) (hv : v < 1000) : Enc (upd M (17 + 3 * t + 2) x) (wB S (up (sB S) t v)) :=
  ⟨h.1.cg fun i hi => by repeat rw [upd_n (by omega)], h.2.1.cg fun i hi => by repeat rw [upd_n (by omega)], h.2.2.1.cg fun i hi => by repeat rw [upd_n (by omega)], h.2.2.2.1.cg fun i hi => by repeat rw [upd_n (by omega)], h.2.2.2.2.1.cg fun i hi => by repeat rw [upd_n (by omega)], h.2.2.2.2.2.1.cg fun i hi => by repeat rw [upd_n (by omega)], fun k hk => by
    by_cases e : k = t
    · subst e
      rw [upd_s]
      exact ⟨hx.trans (congrArg nI up_s.symm), Nat.lt_of_le_of_lt (Nat.le_of_eq up_s) hv⟩
    · rw [upd_n (by omega)]
      exact ⟨(h.2.2.2.2.2.2 k hk).1.trans (congrArg nI (up_n e).symm), Nat.lt_of_le_of_lt (Nat.le_of_eq (up_n e)) (h.2.2.2.2.2.2 k hk).2⟩⟩
section STEPS
variable {M : Nat → Int32} {S : SS} {k i v : Nat} {c : Nat × Nat}
theorem Enc.cs (h : Enc M S) (hk : k < 6) (hc : (sT S)[k]? = some c) (hv : v ≤ c.1) : Enc (upd M (17 + 3 * k) (M (17 + 3 * k) - nI v)) (wT S (mdT (sT S) k (· - v) id)) :=
  h.c (f := (· - v)) hk fun d e => by cases hc.symm.trans e; rw [(h.2.2.1.2.2 k c hc).1, pk_sub hv]
theorem Enc.ws (h : Enc M S) (hk : k < 6) (hc : (sT S)[k]? = some c) (hv : v ≤ c.2) : Enc (upd M (17 + 3 * k + 1) (M (17 + 3 * k + 1) - nI v)) (wT S (mdT (sT S) k id (· - v))) :=
  h.w (f := (· - v)) hk fun d e => by cases hc.symm.trans e; rw [(h.2.2.1.2.2 k c hc).2, pk_sub hv]
theorem Enc.ca (h : Enc M S) (hk : k < 6) : Enc (upd M (17 + 3 * k) (M (17 + 3 * k) + nI v)) (wT S (mdT (sT S) k (· + v) id)) :=
  h.c (f := (· + v)) hk fun d e => by rw [(h.2.2.1.2.2 k d e).1, nI_add]
theorem Enc.wa (h : Enc M S) (hk : k < 6) : Enc (upd M (17 + 3 * k + 1) (M (17 + 3 * k + 1) + nI v)) (wT S (mdT (sT S) k id (· + v))) :=
  h.w (f := (· + v)) hk fun d e => by rw [(h.2.2.1.2.2 k d e).2, nI_add]
theorem Enc.na (h : Enc M S) (hi : i = 2 ∨ (4 ≤ i ∧ i < 11)) : Enc (upd M i (M i + nI v)) (wN S (up (sN S) i (sN S i + v))) :=
  h.n hi (by rw [h.1 i hi, nI_add])
theorem Enc.nv {y : Int32} (h : Enc M S) (hi : i = 2 ∨ (4 ≤ i ∧ i < 11)) (hy : y = nI v) : Enc (upd M i (M i + y)) (wN S (up (sN S) i (sN S i + v))) :=
  h.n hi (by rw [h.1 i hi, hy, nI_add])
theorem Enc.n1 (h : Enc M S) (hi : i = 2 ∨ (4 ≤ i ∧ i < 11)) : Enc (upd M i (M i + 1)) (wN S (up (sN S) i (sN S i + 1))) :=
  h.n hi (by rw [h.1 i hi, nI_1])
end STEPS
theorem Enc.cgN {M : Nat → Int32} {S : SS} {N : Nat → Nat} (h : Enc M S) (e : ∀ i, i = 2 ∨ (4 ≤ i ∧ i < 11) → N i = sN S i) : Enc M (wN S N) :=
  ⟨fun i hi => (h.1 i hi).trans (congrArg nI (e i hi).symm), h.2⟩
