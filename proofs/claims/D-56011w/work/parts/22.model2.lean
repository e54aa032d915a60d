/-! THE MODEL: orders looked up -/
set_option maxRecDepth 100000
theorem io (j : Nat) : (35 : Int32) + 5 * nI j = nI (35 + 5 * j) := by rw [show (35 : Int32) = nI 35 by decide, show (5 : Int32) = nI 5 by decide, pk_mul, nI_add]
theorem it_ (j : Nat) : (17 : Int32) + 3 * nI j = nI (17 + 3 * j) := by rw [show (17 : Int32) = nI 17 by decide, show (3 : Int32) = nI 3 by decide, pk_mul, nI_add]
theorem ic (j : Nat) : (115 : Int32) + 5 * nI j = nI (115 + 5 * j) := by rw [show (115 : Int32) = nI 115 by decide, show (5 : Int32) = nI 5 by decide, pk_mul, nI_add]
theorem nIp2 (a : Nat) : nI a + 2 = nI (a + 2) := by rw [show (2 : Int32) = nI 2 by decide, nI_add]
theorem nIp3 (a : Nat) : nI a + 3 = nI (a + 3) := by rw [show (3 : Int32) = nI 3 by decide, nI_add]
theorem nIp4 (a : Nat) : nI a + 4 = nI (a + 4) := by rw [show (4 : Int32) = nI 4 by decide, nI_add]
theorem nIp5 (a : Nat) : nI a + 5 = nI (a + 5) := by rw [show (5 : Int32) = nI 5 by decide, nI_add]
section MODEL
variable {B : Bt} {m : Nat} {ad : Nat → Nat} {sv ch ea fa th pm lm cm p0 s0 iw : Int32} {M A : Nat → Int32} {O : List OO}
/-- the place of the order with a number -/
def plU (x : Int32) (O : List OO) : Nat → Option Nat
  | 0 => none
  | k + 1 => match plU x O k with
    | some f => some f
    | none => match O[k]? with
      | none => none
      | some o => if nI o.1 = x then some k else none
theorem plU_mono {x : Int32} {O : List OO} {a f : Nat} (h : plU x O a = some f) : ∀ {b : Nat}, a ≤ b → plU x O b = some f := by
  intro b hb
  obtain ⟨d, rfl⟩ : ∃ d, b = a + d := ⟨b - a, by omega⟩
  clear hb
  induction d with
  | zero => exact h
  | succ d ih => rw [← Nat.add_assoc]; simp only [plU, ih]
theorem plU_lt {x : Int32} {O : List OO} : ∀ (k f : Nat), plU x O k = some f → f < k ∧ ∃ o, O[f]? = some o ∧ nI o.1 = x
  | 0, f, h => nomatch h
  | k + 1, f, h => by
    have ih := plU_lt (x := x) (O := O) k
    simp only [plU] at h
    cases hp : plU x O k with
    | some g =>
      simp only [hp] at h
      obtain rfl : g = f := Option.some.inj h
      obtain ⟨h1, h2⟩ := ih g hp
      exact ⟨by omega, h2⟩
    | none =>
      simp only [hp] at h
      cases ho : O[k]? with
      | none => simp [ho] at h
      | some o =>
        simp only [ho] at h
        by_cases hx : nI o.1 = x
        · rw [if_pos hx] at h
          cases h
          exact ⟨by omega, o, ho, hx⟩
        · rw [if_neg hx] at h
          cases h
theorem c_X3_placeOf (hB : Bs B) {x : Int32} (hE : EnO M O) : Tr B yX3_placeOf (Cond.code yX3_placeOf cX3_placeOf 3 (some .int)) (rmd 2 0 0) [.ref m, .int x] (wM m ad sv ch ea fa th pm lm cm p0 s0 iw M) (fun r w => r = some (.int (oI_ (plU x O O.length))) ∧ w = wM m ad sv ch ea fa th pm lm cm p0 s0 iw M) nox := by
  refine tr_of hB (by decide +kernel) rfl ?_
  intro Γ X Y
  refine g_eq (ls' := [.val (.ref m), .val (.int x), .unset]) rfl rfl ?_
  refine g_iconst (v := 0) X dX3_placeOf_0 rfl ?_
  refine is_3_2n X dX3_placeOf_1 rfl rfl ?_
  have L : ∀ j k, k + j = O.length → plU x O k = none → G B Γ 0 0 (wM m ad sv ch ea fa th pm lm cm p0 s0 iw M) 2 [.val (.ref m), .val (.int x), .val (.int (nI k))] [] := by
    intro j
    induction j with
    | zero =>
      intro k hk hn
      refine g_iload_n X dX3_placeOf_2 rfl rfl ?_
      refine g_aload_n X dX3_placeOf_3 rfl rfl ?_
      refine g_getf X dX3_placeOf_4 fl_X3_9 (by repeat (first | with_reducible exact Pk.here | with_reducible apply Pk.there)) (by exact rfl) ?_
      refine g_iconst (v := 1) X dX3_placeOf_7 rfl ?_
      refine g_iald (1) X dX3_placeOf_8 (by repeat (first | with_reducible exact Pk.here | with_reducible apply Pk.there)) (by decide) (by decide) (by exact hE.1) ?_
      refine g_icmp_ge (tgt := 33) X dX3_placeOf_9 (by decide) (fun c_9 => ?_) (fun c_9 => absurd (nI_le (by omega) (by have := hE.2.1; omega)) c_9)
      refine g_iconst (v := (-1)) X dX3_placeOf_33 rfl ?_
      exact g_iret X Y dX3_placeOf_34 (rfl) (⟨by rw [show O.length = k by omega, hn]; rfl, rfl⟩) (Pks.tail (rest := _) (by repeat (first | with_reducible exact Pks.nil | (with_reducible refine Pks.pure (by assumption) ?_) | (with_reducible apply Pks.cons; focus ((repeat (first | with_reducible exact Pk.here | with_reducible apply Pk.there)); done)))))
    | succ j ih =>
      intro k hk hn
      have hlen := hE.2.1
      obtain ⟨o, ho⟩ : ∃ o, O[k]? = some o := ⟨_, List.getElem?_eq_getElem (by omega)⟩
      obtain ⟨⟨e0, e1, e2, e3, e4⟩, k1, k2, k3, k4⟩ := hE.2.2 k o ho
      refine g_iload_n X dX3_placeOf_2 rfl rfl ?_
      refine g_aload_n X dX3_placeOf_3 rfl rfl ?_
      refine g_getf X dX3_placeOf_4 fl_X3_9 (by repeat (first | with_reducible exact Pk.here | with_reducible apply Pk.there)) (by exact rfl) ?_
      refine g_iconst (v := 1) X dX3_placeOf_7 rfl ?_
      refine g_iald (1) X dX3_placeOf_8 (by repeat (first | with_reducible exact Pk.here | with_reducible apply Pk.there)) (by decide) (by decide) (by exact hE.1) ?_
      refine g_icmp_ge (tgt := 33) X dX3_placeOf_9 (by decide) (fun c_9 => absurd c_9 (nI_ge (by omega) (by omega))) (fun c_9 => ?_)
      refine g_aload_n X dX3_placeOf_12 rfl rfl ?_
      refine g_getf X dX3_placeOf_13 fl_X3_9 (by repeat (first | with_reducible exact Pk.here | with_reducible apply Pk.there)) (by exact rfl) ?_
      refine g_iload_n X dX3_placeOf_16 rfl rfl ?_
      refine g_callS X dX3_placeOf_17 ms_X3_61 (c_X3_orderAtPlace hB) rfl (by repeat (first | with_reducible exact Pks.nil | (with_reducible refine Pks.pure (by assumption) ?_) | (with_reducible apply Pks.cons; focus ((repeat (first | with_reducible exact Pk.here | with_reducible apply Pk.there)); done)))) rfl rfl (by decide) (by exact Nat.le_of_ble_eq_true rfl) (by first | decide | omega) (fun r w1 hq => ?_) (fun E q w1 hq => hq.elim)
      obtain ⟨rfl, rfl⟩ := hq
      dsimp only [wM, List.cons_append, List.nil_append, Option.toList_some, Option.toList_none]
      refine g_iald (35+5*k) X dX3_placeOf_20 (by repeat (first | with_reducible exact Pk.here | with_reducible apply Pk.there)) (io k) (by omega) (by exact e0) ?_
      refine g_iload_n X dX3_placeOf_21 rfl rfl ?_
      refine g_icmp_ne (tgt := 27) X dX3_placeOf_22 (by decide) (fun c_22 => ?_) (fun c_22 => ?_)
      · refine ii_3_2 (v := nI (k + 1)) X dX3_placeOf_27 (nI_1 k) rfl ?_
        refine g_goto (tgt := 2) X dX3_placeOf_30 (by decide) ?_
        refine g_bud (kc' := 0) (ks' := 0) (Nat.zero_le _) (Nat.zero_le _) ?_
        exact ih (k + 1) (by omega) (by simp only [plU, hn, ho]; rw [if_neg c_22])
      · refine g_iload_n X dX3_placeOf_25 rfl rfl ?_
        exact g_iret X Y dX3_placeOf_26 (rfl) (⟨by rw [plU_mono (a := k + 1) (by simp only [plU, hn, ho]; rw [if_pos c_22]) (by omega)]; rfl, rfl⟩) (Pks.tail (rest := _) (by repeat (first | with_reducible exact Pks.nil | (with_reducible refine Pks.pure (by assumption) ?_) | (with_reducible apply Pks.cons; focus ((repeat (first | with_reducible exact Pk.here | with_reducible apply Pk.there)); done)))))
  exact L O.length 0 (by omega) rfl
theorem c_X3_isSide (hB : Bs B) {k : Nat} {b : Bool} {o : OO} (hE : EnO M O) (ho : O[k]? = some o) : Tr B yX3_isSide (Cond.code yX3_isSide cX3_isSide 3 (some .boolean)) (rmd 2 0 0) [.ref m, .int (nI k), .int (bI b)] (wM m ad sv ch ea fa th pm lm cm p0 s0 iw M) (fun r w => r = some (.int (bI (o.2.2.1 == b))) ∧ w = wM m ad sv ch ea fa th pm lm cm p0 s0 iw M) nox := by
  have hl := (List.getElem?_eq_some_iff.mp ho).1
  have hl2 := hE.2.1
  obtain ⟨⟨e0, e1, e2, e3, e4⟩, k1, k2, k3, k4⟩ := hE.2.2 k o ho
  refine tr_of hB (by decide +kernel) rfl ?_
  intro Γ X Y
  refine g_eq (ls' := [.val (.ref m), .val (.int (nI k)), .val (.int (bI b))]) rfl rfl ?_
  refine g_aload_n X dX3_isSide_0 rfl rfl ?_
  refine g_getf X dX3_isSide_1 fl_X3_9 (by repeat (first | with_reducible exact Pk.here | with_reducible apply Pk.there)) (by exact rfl) ?_
  refine g_iload_n X dX3_isSide_4 rfl rfl ?_
  refine g_callS X dX3_isSide_5 ms_X3_61 (c_X3_orderAtPlace hB) rfl (by repeat (first | with_reducible exact Pks.nil | (with_reducible refine Pks.pure (by assumption) ?_) | (with_reducible apply Pks.cons; focus ((repeat (first | with_reducible exact Pk.here | with_reducible apply Pk.there)); done)))) rfl rfl (by decide) (by exact Nat.le_of_ble_eq_true rfl) (by first | decide | omega) (fun r w1 hq => ?_) (fun E q w1 hq => hq.elim)
  obtain ⟨rfl, rfl⟩ := hq
  dsimp only [wM, List.cons_append, List.nil_append, Option.toList_some, Option.toList_none]
  refine g_iconst (v := 2) X dX3_isSide_8 rfl ?_
  refine g_iadd X dX3_isSide_9 ?_
  refine g_iald (35+5*k+2) X dX3_isSide_10 (by repeat (first | with_reducible exact Pk.here | with_reducible apply Pk.there)) (by rw [io, nIp2]) (by omega) (by exact e2) ?_
  refine g_iconst (v := 1) X dX3_isSide_11 rfl ?_
  refine g_icmp_ne (tgt := 19) X dX3_isSide_12 (by decide) (fun c_12 => ?_) (fun c_12 => ?_)
  · refine g_iconst (v := 0) X dX3_isSide_19 rfl ?_
    refine g_iload_n X dX3_isSide_20 rfl rfl ?_
    refine g_icmp_ne (tgt := 28) X dX3_isSide_21 (by decide) (fun c_21 => ?_) (fun c_21 => ?_)
    · refine g_iconst (v := 0) X dX3_isSide_28 rfl ?_
      exact g_iret X Y dX3_isSide_29 (rfl) (⟨by congr 2; revert c_12 c_21; cases o.2.2.1 <;> cases b <;> decide, rfl⟩) (Pks.tail (rest := _) (by repeat (first | with_reducible exact Pks.nil | (with_reducible refine Pks.pure (by assumption) ?_) | (with_reducible apply Pks.cons; focus ((repeat (first | with_reducible exact Pk.here | with_reducible apply Pk.there)); done)))))
    · refine g_iconst (v := 1) X dX3_isSide_24 rfl ?_
      refine g_goto (tgt := 29) X dX3_isSide_25 (by decide) ?_
      exact g_iret X Y dX3_isSide_29 (rfl) (⟨by congr 2; revert c_12 c_21; cases o.2.2.1 <;> cases b <;> decide, rfl⟩) (Pks.tail (rest := _) (by repeat (first | with_reducible exact Pks.nil | (with_reducible refine Pks.pure (by assumption) ?_) | (with_reducible apply Pks.cons; focus ((repeat (first | with_reducible exact Pk.here | with_reducible apply Pk.there)); done)))))
  · refine g_iconst (v := 1) X dX3_isSide_15 rfl ?_
    refine g_goto (tgt := 20) X dX3_isSide_16 (by decide) ?_
    refine g_iload_n X dX3_isSide_20 rfl rfl ?_
    refine g_icmp_ne (tgt := 28) X dX3_isSide_21 (by decide) (fun c_21 => ?_) (fun c_21 => ?_)
    · refine g_iconst (v := 0) X dX3_isSide_28 rfl ?_
      exact g_iret X Y dX3_isSide_29 (rfl) (⟨by congr 2; revert c_12 c_21; cases o.2.2.1 <;> cases b <;> decide, rfl⟩) (Pks.tail (rest := _) (by repeat (first | with_reducible exact Pks.nil | (with_reducible refine Pks.pure (by assumption) ?_) | (with_reducible apply Pks.cons; focus ((repeat (first | with_reducible exact Pk.here | with_reducible apply Pk.there)); done)))))
    · refine g_iconst (v := 1) X dX3_isSide_24 rfl ?_
      refine g_goto (tgt := 29) X dX3_isSide_25 (by decide) ?_
      exact g_iret X Y dX3_isSide_29 (rfl) (⟨by congr 2; revert c_12 c_21; cases o.2.2.1 <;> cases b <;> decide, rfl⟩) (Pks.tail (rest := _) (by repeat (first | with_reducible exact Pks.nil | (with_reducible refine Pks.pure (by assumption) ?_) | (with_reducible apply Pks.cons; focus ((repeat (first | with_reducible exact Pk.here | with_reducible apply Pk.there)); done)))))
theorem c_X3_matches (hB : Bs B) {k p : Nat} {b : Bool} {o : OO} (hE : EnO M O) (ho : O[k]? = some o) (hp : p < 100) : Tr B yX3_matches (Cond.code yX3_matches cX3_matches 5 (some .boolean)) (rmd 3 0 0) [.ref m, .int (bI b), .int (nI p), .int (nI k)] (wM m ad sv ch ea fa th pm lm cm p0 s0 iw M) (fun r w => r = some (.int (bI (matB b p o))) ∧ w = wM m ad sv ch ea fa th pm lm cm p0 s0 iw M) nox := by
  have hl := (List.getElem?_eq_some_iff.mp ho).1
  have hl2 := hE.2.1
  obtain ⟨⟨e0, e1, e2, e3, e4⟩, k1, k2, k3, k4⟩ := hE.2.2 k o ho
  refine tr_of hB (by decide +kernel) rfl ?_
  intro Γ X Y
  refine g_eq (ls' := [.val (.ref m), .val (.int (bI b)), .val (.int (nI p)), .val (.int (nI k)), .unset]) rfl rfl ?_
  refine g_aload_n X dX3_matches_0 rfl rfl ?_
  refine g_getf X dX3_matches_1 fl_X3_9 (by repeat (first | with_reducible exact Pk.here | with_reducible apply Pk.there)) (by exact rfl) ?_
  refine g_iload_n X dX3_matches_4 rfl rfl ?_
  refine g_callS X dX3_matches_5 ms_X3_61 (c_X3_orderAtPlace hB) rfl (by repeat (first | with_reducible exact Pks.nil | (with_reducible refine Pks.pure (by assumption) ?_) | (with_reducible apply Pks.cons; focus ((repeat (first | with_reducible exact Pk.here | with_reducible apply Pk.there)); done)))) rfl rfl (by decide) (by exact Nat.le_of_ble_eq_true rfl) (by first | decide | omega) (fun r w1 hq => ?_) (fun E q w1 hq => hq.elim)
  obtain ⟨rfl, rfl⟩ := hq
  dsimp only [wM, List.cons_append, List.nil_append, Option.toList_some, Option.toList_none]
  refine g_iconst (v := 3) X dX3_matches_8 rfl ?_
  refine g_iadd X dX3_matches_9 ?_
  refine g_iald (35+5*k+3) X dX3_matches_10 (by repeat (first | with_reducible exact Pk.here | with_reducible apply Pk.there)) (by rw [io, nIp3]) (by omega) (by exact e3) ?_
  refine is_5_4 X dX3_matches_11 rfl ?_
  refine g_aload_n X dX3_matches_13 rfl rfl ?_
  refine g_iload_n X dX3_matches_14 rfl rfl ?_
  refine g_iload_n X dX3_matches_15 rfl rfl ?_
  refine g_callV X dX3_matches_16 mv_X3_65 (c_X3_isSide hB hE ho) rfl cl_X3 (by repeat (first | with_reducible exact Rc.pt | with_reducible apply Rc.there)) (by repeat (first | with_reducible exact Pks.nil | (with_reducible refine Pks.pure (by assumption) ?_) | (with_reducible apply Pks.cons; focus ((repeat (first | with_reducible exact Pk.here | with_reducible apply Pk.there)); done)))) rfl rfl (by decide) (by exact Nat.le_of_ble_eq_true rfl) (by first | decide | omega) (fun r w1 hq => ?_) (fun E q w1 hq => hq.elim)
  obtain ⟨rfl, rfl⟩ := hq
  dsimp only [wM, List.cons_append, List.nil_append, Option.toList_some, Option.toList_none]
  refine g_if_ne (tgt := 45) X dX3_matches_19 (by decide) (fun c_19 => ?_) (fun c_19 => ?_)
  · refine g_iconst (v := 0) X dX3_matches_45 rfl ?_
    exact g_iret X Y dX3_matches_46 (rfl) (⟨by congr 2; simp only [bI_0, bI_n0, bI_1, nI_ltI (show p < 2 ^ 31 by omega) (show o.2.2.2.1 < 2 ^ 31 by omega), nI_ltI (show o.2.2.2.1 < 2 ^ 31 by omega) (show p < 2 ^ 31 by omega)] at *; cases b <;> cases hb : o.2.2.1 <;> simp_all [matB, bI], rfl⟩) (Pks.tail (rest := _) (by repeat (first | with_reducible exact Pks.nil | (with_reducible refine Pks.pure (by assumption) ?_) | (with_reducible apply Pks.cons; focus ((repeat (first | with_reducible exact Pk.here | with_reducible apply Pk.there)); done)))))
  · refine g_iload_n X dX3_matches_22 rfl rfl ?_
    refine g_if_eq (tgt := 35) X dX3_matches_23 (by decide) (fun c_23 => ?_) (fun c_23 => ?_)
    · refine g_iload X dX3_matches_35 rfl ?_
      refine g_iload_n X dX3_matches_37 rfl rfl ?_
      refine g_icmp_lt (tgt := 45) X dX3_matches_38 (by decide) (fun c_38 => ?_) (fun c_38 => ?_)
      · refine g_iconst (v := 0) X dX3_matches_45 rfl ?_
        exact g_iret X Y dX3_matches_46 (rfl) (⟨by congr 2; simp only [bI_0, bI_n0, bI_1, nI_ltI (show p < 2 ^ 31 by omega) (show o.2.2.2.1 < 2 ^ 31 by omega), nI_ltI (show o.2.2.2.1 < 2 ^ 31 by omega) (show p < 2 ^ 31 by omega)] at *; cases b <;> cases hb : o.2.2.1 <;> simp_all [matB, bI], rfl⟩) (Pks.tail (rest := _) (by repeat (first | with_reducible exact Pks.nil | (with_reducible refine Pks.pure (by assumption) ?_) | (with_reducible apply Pks.cons; focus ((repeat (first | with_reducible exact Pk.here | with_reducible apply Pk.there)); done)))))
      · refine g_iconst (v := 1) X dX3_matches_41 rfl ?_
        refine g_goto (tgt := 46) X dX3_matches_42 (by decide) ?_
        exact g_iret X Y dX3_matches_46 (rfl) (⟨by congr 2; simp only [bI_0, bI_n0, bI_1, nI_ltI (show p < 2 ^ 31 by omega) (show o.2.2.2.1 < 2 ^ 31 by omega), nI_ltI (show o.2.2.2.1 < 2 ^ 31 by omega) (show p < 2 ^ 31 by omega)] at *; cases b <;> cases hb : o.2.2.1 <;> simp_all [matB, bI], rfl⟩) (Pks.tail (rest := _) (by repeat (first | with_reducible exact Pks.nil | (with_reducible refine Pks.pure (by assumption) ?_) | (with_reducible apply Pks.cons; focus ((repeat (first | with_reducible exact Pk.here | with_reducible apply Pk.there)); done)))))
    · refine g_iload_n X dX3_matches_26 rfl rfl ?_
      refine g_iload X dX3_matches_27 rfl ?_
      refine g_icmp_lt (tgt := 45) X dX3_matches_29 (by decide) (fun c_29 => ?_) (fun c_29 => ?_)
      · refine g_iconst (v := 0) X dX3_matches_45 rfl ?_
        exact g_iret X Y dX3_matches_46 (rfl) (⟨by congr 2; simp only [bI_0, bI_n0, bI_1, nI_ltI (show p < 2 ^ 31 by omega) (show o.2.2.2.1 < 2 ^ 31 by omega), nI_ltI (show o.2.2.2.1 < 2 ^ 31 by omega) (show p < 2 ^ 31 by omega)] at *; cases b <;> cases hb : o.2.2.1 <;> simp_all [matB, bI], rfl⟩) (Pks.tail (rest := _) (by repeat (first | with_reducible exact Pks.nil | (with_reducible refine Pks.pure (by assumption) ?_) | (with_reducible apply Pks.cons; focus ((repeat (first | with_reducible exact Pk.here | with_reducible apply Pk.there)); done)))))
      · refine g_goto (tgt := 41) X dX3_matches_32 (by decide) ?_
        refine g_iconst (v := 1) X dX3_matches_41 rfl ?_
        refine g_goto (tgt := 46) X dX3_matches_42 (by decide) ?_
        exact g_iret X Y dX3_matches_46 (rfl) (⟨by congr 2; simp only [bI_0, bI_n0, bI_1, nI_ltI (show p < 2 ^ 31 by omega) (show o.2.2.2.1 < 2 ^ 31 by omega), nI_ltI (show o.2.2.2.1 < 2 ^ 31 by omega) (show p < 2 ^ 31 by omega)] at *; cases b <;> cases hb : o.2.2.1 <;> simp_all [matB, bI], rfl⟩) (Pks.tail (rest := _) (by repeat (first | with_reducible exact Pks.nil | (with_reducible refine Pks.pure (by assumption) ?_) | (with_reducible apply Pks.cons; focus ((repeat (first | with_reducible exact Pk.here | with_reducible apply Pk.there)); done)))))
end MODEL
