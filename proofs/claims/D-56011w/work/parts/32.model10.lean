/-! THE MODEL: auctions closed -/
set_option maxRecDepth 100000
section MODEL
variable {B : Bt} {m : Nat} {ad : Nat → Nat} {sv ch ea fa th pm lm cm p0 s0 iw : Int32} {M A : Nat → Int32} {S : SS} {R : Rs}
/-- the room and the reserve of the auction -/
theorem c_X3_validBid (hB : Bs B) {k r v : Nat} (hE : Enc M S) (hA : sA S = some (r, v)) (hb : boT (sT S)) (hk : k < (sT S).length) : Tr B yX3_validBid (Cond.code yX3_validBid cX3_validBid 3 (some .int)) (rmd 2 0 0) [.ref m, .int (nI k)] (wM m ad sv ch ea fa th pm lm cm p0 s0 iw M) (fun q w => q = some (.int (nI (vbS v S k))) ∧ w = wM m ad sv ch ea fa th pm lm cm p0 s0 iw M) nox := by
  have hl := hE.2.2.1.2.1
  have e12 := (hE.2.2.2.2.2.1.2 r v hA).1
  have hv := (hE.2.2.2.2.2.1.2 r v hA).2.2
  obtain ⟨eb, hbk⟩ := hE.2.2.2.2.2.2 k (by omega)
  obtain ⟨c, hc⟩ : ∃ c, (sT S)[k]? = some c := ⟨_, List.getElem?_eq_getElem hk⟩
  have hM := hE.2.2.1.2.2 k c hc
  have hcb := hb c (List.mem_of_getElem? hc)
  have hca : caT (sT S) k = c.1 := by simp only [caT, hc]
  refine tr_of hB (by decide +kernel) rfl ?_
  intro Γ X Y
  refine g_eq (ls' := [.val (.ref m), .val (.int (nI k)), .unset]) rfl rfl ?_
  refine g_aload_n X dX3_validBid_0 rfl rfl ?_
  refine g_getf X dX3_validBid_1 fl_X3_9 (by repeat (first | with_reducible exact Pk.here | with_reducible apply Pk.there)) (by exact rfl) ?_
  refine g_iload_n X dX3_validBid_4 rfl rfl ?_
  refine g_callS X dX3_validBid_5 ms_X3_78 (c_X3_traderAt hB) rfl (by repeat (first | with_reducible exact Pks.nil | (with_reducible refine Pks.pure (by assumption) ?_) | (with_reducible apply Pks.cons; focus ((repeat (first | with_reducible exact Pk.here | with_reducible apply Pk.there)); done)) | (refine Pks.cons Pk.here ?_))) rfl rfl (by decide) (by exact Nat.le_of_ble_eq_true rfl) (by first | decide | omega) (fun r w1 hq => ?_) (fun E q w1 hq => hq.elim)
  obtain ⟨rfl, rfl⟩ := hq
  dsimp only [wM, PoM, List.cons_append, List.nil_append, Option.toList_some, Option.toList_none]
  rw [it_]
  refine g_iconst (v := 2) X dX3_validBid_8 rfl ?_
  refine g_iadd X dX3_validBid_9 ?_
  rw [nIp2]
  refine g_iald (17 + 3 * k + 2) X dX3_validBid_10 (by repeat (first | with_reducible exact Pk.here | with_reducible apply Pk.there)) (rfl) (by omega) (by exact eb) ?_
  refine is_3_2n X dX3_validBid_11 rfl rfl ?_
  refine g_iload_n X dX3_validBid_12 rfl rfl ?_
  refine g_aload_n X dX3_validBid_13 rfl rfl ?_
  refine g_getf X dX3_validBid_14 fl_X3_9 (by repeat (first | with_reducible exact Pk.here | with_reducible apply Pk.there)) (by exact rfl) ?_
  refine g_bipush (v := 12) X dX3_validBid_17 rfl ?_
  refine g_iald (12) X dX3_validBid_19 (by repeat (first | with_reducible exact Pk.here | with_reducible apply Pk.there)) (rfl) (by decide) (by exact e12) ?_
  refine g_icmp_lt (tgt := 40) X dX3_validBid_20 (by decide) (fun c_20 => ?_) (fun c_20 => ?_)
  · have h1 : ¬ v ≤ sB S k := fun q => c_20 |> fun z => absurd ((nI_ltI (by omega) (by omega)).mp z) (by omega)
    refine g_iconst (v := 0) X dX3_validBid_40 rfl ?_
    exact g_iret X Y dX3_validBid_41 (rfl) (⟨by rw [vbS, if_neg fun q => h1 q.1]; rfl, rfl⟩) (Pks.tail (rest := _) (by repeat (first | with_reducible exact Pks.nil | (with_reducible refine Pks.pure (by assumption) ?_) | (with_reducible apply Pks.cons; focus ((repeat (first | with_reducible exact Pk.here | with_reducible apply Pk.there)); done)) | (refine Pks.cons Pk.here ?_))))
  · have h1 : v ≤ sB S k := Nat.le_of_not_lt fun q => c_20 ((nI_ltI (by omega) (by omega)).mpr q)
    refine g_iload_n X dX3_validBid_23 rfl rfl ?_
    refine g_aload_n X dX3_validBid_24 rfl rfl ?_
    refine g_getf X dX3_validBid_25 fl_X3_9 (by repeat (first | with_reducible exact Pk.here | with_reducible apply Pk.there)) (by exact rfl) ?_
    refine g_iload_n X dX3_validBid_28 rfl rfl ?_
    refine g_callS X dX3_validBid_29 ms_X3_78 (c_X3_traderAt hB) rfl (by repeat (first | with_reducible exact Pks.nil | (with_reducible refine Pks.pure (by assumption) ?_) | (with_reducible apply Pks.cons; focus ((repeat (first | with_reducible exact Pk.here | with_reducible apply Pk.there)); done)) | (refine Pks.cons Pk.here ?_))) rfl rfl (by decide) (by exact Nat.le_of_ble_eq_true rfl) (by first | decide | omega) (fun r w1 hq => ?_) (fun E q w1 hq => hq.elim)
    obtain ⟨rfl, rfl⟩ := hq
    dsimp only [wM, PoM, List.cons_append, List.nil_append, Option.toList_some, Option.toList_none]
    rw [it_]
    refine g_iald (17 + 3 * k) X dX3_validBid_32 (by repeat (first | with_reducible exact Pk.here | with_reducible apply Pk.there)) (rfl) (by omega) (by exact hM.1) ?_
    refine g_icmp_gt (tgt := 40) X dX3_validBid_33 (by decide) (fun c_33 => ?_) (fun c_33 => ?_)
    · have h2 : ¬ sB S k ≤ c.1 := fun q => absurd ((nI_ltI (by omega) (by omega)).mp c_33) (by omega)
      refine g_iconst (v := 0) X dX3_validBid_40 rfl ?_
      exact g_iret X Y dX3_validBid_41 (rfl) (⟨by rw [vbS, if_neg fun q => h2 (hca ▸ q.2)]; rfl, rfl⟩) (Pks.tail (rest := _) (by repeat (first | with_reducible exact Pks.nil | (with_reducible refine Pks.pure (by assumption) ?_) | (with_reducible apply Pks.cons; focus ((repeat (first | with_reducible exact Pk.here | with_reducible apply Pk.there)); done)) | (refine Pks.cons Pk.here ?_))))
    · have h2 : sB S k ≤ c.1 := Nat.le_of_not_lt fun q => c_33 ((nI_ltI (by omega) (by omega)).mpr q)
      refine g_iload_n X dX3_validBid_36 rfl rfl ?_
      refine g_goto (tgt := 41) X dX3_validBid_37 (by decide) ?_
      exact g_iret X Y dX3_validBid_41 (rfl) (⟨by rw [vbS, if_pos ⟨h1, hca ▸ h2⟩], rfl⟩) (Pks.tail (rest := _) (by repeat (first | with_reducible exact Pks.nil | (with_reducible refine Pks.pure (by assumption) ?_) | (with_reducible apply Pks.cons; focus ((repeat (first | with_reducible exact Pk.here | with_reducible apply Pk.there)); done)) | (refine Pks.cons Pk.here ?_))))
theorem c_X3_winnerNow (hB : Bs B) {r v : Nat} (hE : Enc M S) (hA : sA S = some (r, v)) (hb : boT (sT S)) : Tr B yX3_winnerNow (Cond.code yX3_winnerNow cX3_winnerNow 4 (some .int)) (rmd 3 0 0) [.ref m] (wM m ad sv ch ea fa th pm lm cm p0 s0 iw M) (fun q w => q = some (.int (oI_ (wiS v S))) ∧ w = wM m ad sv ch ea fa th pm lm cm p0 s0 iw M) nox := by
  have hl := hE.2.2.1.2.1
  have hT := hE.2.2.1.1
  have hvb : ∀ k, k < 6 → vbS v S k < 1000 := fun k hk => Nat.lt_of_le_of_lt vb_le.2.2 (hE.2.2.2.2.2.2 k hk).2
  refine tr_of hB (by decide +kernel) rfl ?_
  intro Γ X Y
  refine g_eq (ls' := [.val (.ref m), .unset, .unset, .unset]) rfl rfl ?_
  refine g_iconst (v := (-1)) X dX3_winnerNow_0 rfl ?_
  refine is_4_1n X dX3_winnerNow_1 rfl rfl ?_
  refine g_iconst (v := 0) X dX3_winnerNow_2 rfl ?_
  refine is_4_2n X dX3_winnerNow_3 rfl rfl ?_
  have L : ∀ j k, k + j = (sT S).length → ∀ x3 : Slot, LZ x3 → G B Γ 0 0 (wM m ad sv ch ea fa th pm lm cm p0 s0 iw M) 4 [.val (.ref m), .val (.int (oI_ (wiU v S k))), .val (.int (nI k)), x3] [] := by
    intro j
    induction j with
    | zero =>
      intro k hk x3 h3
      obtain rfl : k = (sT S).length := by omega
      refine g_iload_n X dX3_winnerNow_4 rfl rfl ?_
      refine g_aload_n X dX3_winnerNow_5 rfl rfl ?_
      refine g_getf X dX3_winnerNow_6 fl_X3_9 (by repeat (first | with_reducible exact Pk.here | with_reducible apply Pk.there)) (by exact rfl) ?_
      refine g_iconst (v := 0) X dX3_winnerNow_9 rfl ?_
      refine g_iald (0) X dX3_winnerNow_10 (by repeat (first | with_reducible exact Pk.here | with_reducible apply Pk.there)) (rfl) (by decide) (by exact hT) ?_
      refine g_icmp_ge (tgt := 62) X dX3_winnerNow_11 (by decide) (fun c_11 => ?_) (fun c_11 => absurd (nI_le (by omega) (by omega)) c_11)
      refine g_iload_n X dX3_winnerNow_62 rfl rfl ?_
      exact g_iret X Y dX3_winnerNow_63 (rfl) (⟨rfl, rfl⟩) (Pks.tail (rest := _) (by repeat (first | with_reducible exact Pks.nil | (with_reducible refine Pks.pure (by assumption) ?_) | (with_reducible apply Pks.cons; focus ((repeat (first | with_reducible exact Pk.here | with_reducible apply Pk.there)); done)) | (refine Pks.cons Pk.here ?_))))
    | succ j ih =>
      intro k hk x3 h3
      have hb1 : ∀ g, wiU v S k = some g → g < 2 ^ 31 := fun g hg => by have := (wiU_lt hg).1; omega
      have J : ∀ x : Int32, x = bP (∀ g, wiU v S k = some g → vbS v S g < vbS v S k) → G B Γ 0 0 (wM m ad sv ch ea fa th pm lm cm p0 s0 iw M) 37 [.val (.ref m), .val (.int (oI_ (wiU v S k))), .val (.int (nI k)), x3] [.int x] := by
        intro x hx
        have h6 := hvb k (by omega)
        by_cases h7 : 0 < vbS v S k
        · by_cases h8 : ∀ g, wiU v S k = some g → vbS v S g < vbS v S k
          · have hw : wiU v S (k + 1) = some k := if_pos ⟨h7, h8⟩
            rw [bP_t h8] at hx
            subst hx
            refine is_4_3n X dX3_winnerNow_37 rfl (by exact st_lz [_, _, _] [] h3 rfl) ?_
            refine g_aload_n X dX3_winnerNow_38 rfl rfl ?_
            refine g_iload_n X dX3_winnerNow_39 rfl rfl ?_
            refine g_callV X dX3_winnerNow_40 mv_X3_158 (c_X3_validBid hB hE hA hb (by omega)) rfl cl_X3 (by repeat (first | with_reducible exact Rc.pt | with_reducible apply Rc.there)) (by repeat (first | with_reducible exact Pks.nil | (with_reducible refine Pks.pure (by assumption) ?_) | (with_reducible apply Pks.cons; focus ((repeat (first | with_reducible exact Pk.here | with_reducible apply Pk.there)); done)) | (refine Pks.cons Pk.here ?_))) rfl rfl (by decide) (by exact Nat.le_of_ble_eq_true rfl) (by first | decide | omega) (fun r w1 hq => ?_) (fun E q w1 hq => hq.elim)
            obtain ⟨rfl, rfl⟩ := hq
            dsimp only [wM, PoM, List.cons_append, List.nil_append, Option.toList_some, Option.toList_none]
            refine g_if_le (tgt := 54) X dX3_winnerNow_43 (by decide) (fun c_43 => absurd c_43 (nI_nle h7 (by omega))) (fun c_43 => ?_)
            refine g_iload_n X dX3_winnerNow_46 rfl rfl ?_
            refine g_if_eq (tgt := 54) X dX3_winnerNow_47 (by decide) (fun c_47 => absurd c_47 (by decide)) (fun c_47 => ?_)
            refine g_iload_n X dX3_winnerNow_50 rfl rfl ?_
            refine g_goto (tgt := 55) X dX3_winnerNow_51 (by decide) ?_
            refine is_4_1n X dX3_winnerNow_55 rfl rfl ?_
            refine ii_4_2 (v := nI (k + 1)) X dX3_winnerNow_56 (nI_1 k) rfl ?_
            refine g_goto (tgt := 4) X dX3_winnerNow_59 (by decide) ?_
            have := ih (k + 1) (by omega) _ (LZ.i (x := 1))
            rw [hw] at this
            exact this
          · have hw : wiU v S (k + 1) = wiU v S k := if_neg fun q => h8 q.2
            rw [bP_f h8] at hx
            subst hx
            refine is_4_3n X dX3_winnerNow_37 rfl (by exact st_lz [_, _, _] [] h3 rfl) ?_
            refine g_aload_n X dX3_winnerNow_38 rfl rfl ?_
            refine g_iload_n X dX3_winnerNow_39 rfl rfl ?_
            refine g_callV X dX3_winnerNow_40 mv_X3_158 (c_X3_validBid hB hE hA hb (by omega)) rfl cl_X3 (by repeat (first | with_reducible exact Rc.pt | with_reducible apply Rc.there)) (by repeat (first | with_reducible exact Pks.nil | (with_reducible refine Pks.pure (by assumption) ?_) | (with_reducible apply Pks.cons; focus ((repeat (first | with_reducible exact Pk.here | with_reducible apply Pk.there)); done)) | (refine Pks.cons Pk.here ?_))) rfl rfl (by decide) (by exact Nat.le_of_ble_eq_true rfl) (by first | decide | omega) (fun r w1 hq => ?_) (fun E q w1 hq => hq.elim)
            obtain ⟨rfl, rfl⟩ := hq
            dsimp only [wM, PoM, List.cons_append, List.nil_append, Option.toList_some, Option.toList_none]
            refine g_if_le (tgt := 54) X dX3_winnerNow_43 (by decide) (fun c_43 => absurd c_43 (nI_nle h7 (by omega))) (fun c_43 => ?_)
            refine g_iload_n X dX3_winnerNow_46 rfl rfl ?_
            refine g_if_eq (tgt := 54) X dX3_winnerNow_47 (by decide) (fun c_47 => ?_) (fun c_47 => absurd (rfl) c_47)
            refine g_iload_n X dX3_winnerNow_54 rfl rfl ?_
            refine is_4_1n X dX3_winnerNow_55 rfl rfl ?_
            refine ii_4_2 (v := nI (k + 1)) X dX3_winnerNow_56 (nI_1 k) rfl ?_
            refine g_goto (tgt := 4) X dX3_winnerNow_59 (by decide) ?_
            have := ih (k + 1) (by omega) _ (LZ.i (x := 0))
            rw [hw] at this
            exact this
        · have hw : wiU v S (k + 1) = wiU v S k := if_neg fun q => h7 q.1
          have h9 : vbS v S k = 0 := by omega
          refine is_4_3n X dX3_winnerNow_37 rfl (by exact st_lz [_, _, _] [] h3 rfl) ?_
          refine g_aload_n X dX3_winnerNow_38 rfl rfl ?_
          refine g_iload_n X dX3_winnerNow_39 rfl rfl ?_
          refine g_callV X dX3_winnerNow_40 mv_X3_158 (c_X3_validBid hB hE hA hb (by omega)) rfl cl_X3 (by repeat (first | with_reducible exact Rc.pt | with_reducible apply Rc.there)) (by repeat (first | with_reducible exact Pks.nil | (with_reducible refine Pks.pure (by assumption) ?_) | (with_reducible apply Pks.cons; focus ((repeat (first | with_reducible exact Pk.here | with_reducible apply Pk.there)); done)) | (refine Pks.cons Pk.here ?_))) rfl rfl (by decide) (by exact Nat.le_of_ble_eq_true rfl) (by first | decide | omega) (fun r w1 hq => ?_) (fun E q w1 hq => hq.elim)
          obtain ⟨rfl, rfl⟩ := hq
          dsimp only [wM, PoM, List.cons_append, List.nil_append, Option.toList_some, Option.toList_none]
          rw [h9]
          refine g_if_le (tgt := 54) X dX3_winnerNow_43 (by decide) (fun c_43 => ?_) (fun c_43 => absurd ((by decide : nI 0 ≤ 0)) c_43)
          refine g_iload_n X dX3_winnerNow_54 rfl rfl ?_
          refine is_4_1n X dX3_winnerNow_55 rfl rfl ?_
          refine ii_4_2 (v := nI (k + 1)) X dX3_winnerNow_56 (nI_1 k) rfl ?_
          refine g_goto (tgt := 4) X dX3_winnerNow_59 (by decide) ?_
          have := ih (k + 1) (by omega) _ (LZ.i (x := x))
          rw [hw] at this
          exact this
      cases hw : wiU v S k with
      | none =>
        rw [hw] at J
        refine g_iload_n X dX3_winnerNow_4 rfl rfl ?_
        refine g_aload_n X dX3_winnerNow_5 rfl rfl ?_
        refine g_getf X dX3_winnerNow_6 fl_X3_9 (by repeat (first | with_reducible exact Pk.here | with_reducible apply Pk.there)) (by exact rfl) ?_
        refine g_iconst (v := 0) X dX3_winnerNow_9 rfl ?_
        refine g_iald (0) X dX3_winnerNow_10 (by repeat (first | with_reducible exact Pk.here | with_reducible apply Pk.there)) (rfl) (by decide) (by exact hT) ?_
        refine g_icmp_ge (tgt := 62) X dX3_winnerNow_11 (by decide) (fun c_11 => absurd c_11 (nI_ge (by omega) (by omega))) (fun c_11 => ?_)
        refine g_iload_n X dX3_winnerNow_14 rfl rfl ?_
        refine g_iconst (v := (-1)) X dX3_winnerNow_15 rfl ?_
        refine g_icmp_eq (tgt := 32) X dX3_winnerNow_16 (by decide) (fun c_16 => ?_) (fun c_16 => absurd (rfl) c_16)
        refine g_iconst (v := 1) X dX3_winnerNow_32 rfl ?_
        refine g_goto (tgt := 37) X dX3_winnerNow_33 (by decide) ?_
        exact J 1 (bP_t fun g hg => nomatch hg).symm
      | some g =>
        have hg := (wiU_lt hw).1
        have hg6 := hvb g (by omega)
        have h6 := hvb k (by omega)
        rw [hw] at J
        refine g_iload_n X dX3_winnerNow_4 rfl rfl ?_
        refine g_aload_n X dX3_winnerNow_5 rfl rfl ?_
        refine g_getf X dX3_winnerNow_6 fl_X3_9 (by repeat (first | with_reducible exact Pk.here | with_reducible apply Pk.there)) (by exact rfl) ?_
        refine g_iconst (v := 0) X dX3_winnerNow_9 rfl ?_
        refine g_iald (0) X dX3_winnerNow_10 (by repeat (first | with_reducible exact Pk.here | with_reducible apply Pk.there)) (rfl) (by decide) (by exact hT) ?_
        refine g_icmp_ge (tgt := 62) X dX3_winnerNow_11 (by decide) (fun c_11 => absurd c_11 (nI_ge (by omega) (by omega))) (fun c_11 => ?_)
        refine g_iload_n X dX3_winnerNow_14 rfl rfl ?_
        refine g_iconst (v := (-1)) X dX3_winnerNow_15 rfl ?_
        refine g_icmp_eq (tgt := 32) X dX3_winnerNow_16 (by decide) (fun c_16 => absurd c_16 (fun e => nomatch (oI_none (x := some g) (fun j e => by cases e; omega)).mp e)) (fun c_16 => ?_)
        refine g_aload_n X dX3_winnerNow_19 rfl rfl ?_
        refine g_iload_n X dX3_winnerNow_20 rfl rfl ?_
        refine g_callV X dX3_winnerNow_21 mv_X3_158 (c_X3_validBid hB hE hA hb (by omega)) rfl cl_X3 (by repeat (first | with_reducible exact Rc.pt | with_reducible apply Rc.there)) (by repeat (first | with_reducible exact Pks.nil | (with_reducible refine Pks.pure (by assumption) ?_) | (with_reducible apply Pks.cons; focus ((repeat (first | with_reducible exact Pk.here | with_reducible apply Pk.there)); done)) | (refine Pks.cons Pk.here ?_))) rfl rfl (by decide) (by exact Nat.le_of_ble_eq_true rfl) (by first | decide | omega) (fun r w1 hq => ?_) (fun E q w1 hq => hq.elim)
        obtain ⟨rfl, rfl⟩ := hq
        dsimp only [wM, PoM, List.cons_append, List.nil_append, Option.toList_some, Option.toList_none]
        refine g_aload_n X dX3_winnerNow_24 rfl rfl ?_
        refine g_iload_n X dX3_winnerNow_25 rfl rfl ?_
        refine g_callV X dX3_winnerNow_26 mv_X3_158 (c_X3_validBid hB hE hA hb (k := g) (by omega)) rfl cl_X3 (by repeat (first | with_reducible exact Rc.pt | with_reducible apply Rc.there)) (by repeat (first | with_reducible exact Pks.nil | (with_reducible refine Pks.pure (by assumption) ?_) | (with_reducible apply Pks.cons; focus ((repeat (first | with_reducible exact Pk.here | with_reducible apply Pk.there)); done)) | (refine Pks.cons Pk.here ?_))) rfl rfl (by decide) (by exact Nat.le_of_ble_eq_true rfl) (by first | decide | omega) (fun r w1 hq => ?_) (fun E q w1 hq => hq.elim)
        obtain ⟨rfl, rfl⟩ := hq
        dsimp only [wM, PoM, List.cons_append, List.nil_append, Option.toList_some, Option.toList_none]
        refine g_icmp_le (tgt := 36) X dX3_winnerNow_29 (by decide) (fun c_29 => ?_) (fun c_29 => ?_)
        · have h7 := (nI_leI (by omega) (by omega)).mp c_29
          refine g_iconst (v := 0) X dX3_winnerNow_36 rfl ?_
          exact J 0 (bP_f fun q => by have := q g rfl; omega).symm
        · have h7 : ¬ vbS v S k ≤ vbS v S g := fun q => c_29 ((nI_leI (by omega) (by omega)).mpr q)
          refine g_iconst (v := 1) X dX3_winnerNow_32 rfl ?_
          refine g_goto (tgt := 37) X dX3_winnerNow_33 (by decide) ?_
          exact J 1 (bP_t fun f hf => by cases hf; omega).symm
  exact L (sT S).length 0 (by omega) _ LZ.u
theorem c_X3_winnersPrice (hB : Bs B) {r v : Nat} (hE : Enc M S) (hA : sA S = some (r, v)) (hb : boT (sT S)) : Tr B yX3_winnersPrice (Cond.code yX3_winnersPrice cX3_winnersPrice 3 (some .int)) (rmd 4 0 0) [.ref m] (wM m ad sv ch ea fa th pm lm cm p0 s0 iw M) (fun q w => q = some (.int (nI (wpS v S))) ∧ w = wM m ad sv ch ea fa th pm lm cm p0 s0 iw M) nox := by
  have hl := hE.2.2.1.2.1
  have hT := hE.2.2.1.1
  have e12 := (hE.2.2.2.2.2.1.2 r v hA).1
  have hv := (hE.2.2.2.2.2.1.2 r v hA).2.2
  have hvb : ∀ k, k < 6 → vbS v S k < 1000 := fun k hk => Nat.lt_of_le_of_lt vb_le.2.2 (hE.2.2.2.2.2.2 k hk).2
  have hwp : ∀ k, k ≤ 6 → wpU v S k < 1000 := by
    intro k
    induction k with
    | zero => intro _; exact Nat.lt_trans hv (by decide)
    | succ k ih =>
      intro hk
      show (if wiS v S = some k then wpU v S k else max (wpU v S k) (vbS v S k)) < 1000
      by_cases h : wiS v S = some k
      · rw [if_pos h]; exact ih (by omega)
      · rw [if_neg h]; exact Nat.max_lt.mpr ⟨ih (by omega), hvb k (by omega)⟩
  refine tr_of hB (by decide +kernel) rfl ?_
  intro Γ X Y
  refine g_eq (ls' := [.val (.ref m), .unset, .unset]) rfl rfl ?_
  refine g_aload_n X dX3_winnersPrice_0 rfl rfl ?_
  refine g_getf X dX3_winnersPrice_1 fl_X3_9 (by repeat (first | with_reducible exact Pk.here | with_reducible apply Pk.there)) (by exact rfl) ?_
  refine g_bipush (v := 12) X dX3_winnersPrice_4 rfl ?_
  refine g_iald (12) X dX3_winnersPrice_6 (by repeat (first | with_reducible exact Pk.here | with_reducible apply Pk.there)) (rfl) (by decide) (by exact e12) ?_
  refine is_3_1n X dX3_winnersPrice_7 rfl rfl ?_
  refine g_iconst (v := 0) X dX3_winnersPrice_8 rfl ?_
  refine is_3_2n X dX3_winnersPrice_9 rfl rfl ?_
  have L : ∀ j k, k + j = (sT S).length → G B Γ 0 0 (wM m ad sv ch ea fa th pm lm cm p0 s0 iw M) 10 [.val (.ref m), .val (.int (nI (wpU v S k))), .val (.int (nI k))] [] := by
    intro j
    induction j with
    | zero =>
      intro k hk
      obtain rfl : k = (sT S).length := by omega
      refine g_iload_n X dX3_winnersPrice_10 rfl rfl ?_
      refine g_aload_n X dX3_winnersPrice_11 rfl rfl ?_
      refine g_getf X dX3_winnersPrice_12 fl_X3_9 (by repeat (first | with_reducible exact Pk.here | with_reducible apply Pk.there)) (by exact rfl) ?_
      refine g_iconst (v := 0) X dX3_winnersPrice_15 rfl ?_
      refine g_iald (0) X dX3_winnersPrice_16 (by repeat (first | with_reducible exact Pk.here | with_reducible apply Pk.there)) (rfl) (by decide) (by exact hT) ?_
      refine g_icmp_ge (tgt := 48) X dX3_winnersPrice_17 (by decide) (fun c_17 => ?_) (fun c_17 => absurd (nI_le (by omega) (by omega)) c_17)
      refine g_iload_n X dX3_winnersPrice_48 rfl rfl ?_
      exact g_iret X Y dX3_winnersPrice_49 (rfl) (⟨rfl, rfl⟩) (Pks.tail (rest := _) (by repeat (first | with_reducible exact Pks.nil | (with_reducible refine Pks.pure (by assumption) ?_) | (with_reducible apply Pks.cons; focus ((repeat (first | with_reducible exact Pk.here | with_reducible apply Pk.there)); done)) | (refine Pks.cons Pk.here ?_))))
    | succ j ih =>
      intro k hk
      have hb1 : ∀ g, wiS v S = some g → g < 2 ^ 31 := fun g hg => by have := (wiU_lt hg).1; omega
      by_cases h : wiS v S = some k
      · have hw : wpU v S (k + 1) = wpU v S k := if_pos h
        refine g_iload_n X dX3_winnersPrice_10 rfl rfl ?_
        refine g_aload_n X dX3_winnersPrice_11 rfl rfl ?_
        refine g_getf X dX3_winnersPrice_12 fl_X3_9 (by repeat (first | with_reducible exact Pk.here | with_reducible apply Pk.there)) (by exact rfl) ?_
        refine g_iconst (v := 0) X dX3_winnersPrice_15 rfl ?_
        refine g_iald (0) X dX3_winnersPrice_16 (by repeat (first | with_reducible exact Pk.here | with_reducible apply Pk.there)) (rfl) (by decide) (by exact hT) ?_
        refine g_icmp_ge (tgt := 48) X dX3_winnersPrice_17 (by decide) (fun c_17 => absurd c_17 (nI_ge (by omega) (by omega))) (fun c_17 => ?_)
        refine g_iload_n X dX3_winnersPrice_20 rfl rfl ?_
        refine g_aload_n X dX3_winnersPrice_21 rfl rfl ?_
        refine g_callV X dX3_winnersPrice_22 mv_X3_161 (c_X3_winnerNow hB hE hA hb) rfl cl_X3 (by repeat (first | with_reducible exact Rc.pt | with_reducible apply Rc.there)) (by repeat (first | with_reducible exact Pks.nil | (with_reducible refine Pks.pure (by assumption) ?_) | (with_reducible apply Pks.cons; focus ((repeat (first | with_reducible exact Pk.here | with_reducible apply Pk.there)); done)) | (refine Pks.cons Pk.here ?_))) rfl rfl (by decide) (by exact Nat.le_of_ble_eq_true rfl) (by first | decide | omega) (fun r w1 hq => ?_) (fun E q w1 hq => hq.elim)
        obtain ⟨rfl, rfl⟩ := hq
        dsimp only [wM, PoM, List.cons_append, List.nil_append, Option.toList_some, Option.toList_none]
        refine g_icmp_ne (tgt := 32) X dX3_winnersPrice_25 (by decide) (fun c_25 => absurd c_25 (fun q => q ((oI_at hb1 (by omega)).mpr h))) (fun c_25 => ?_)
        refine g_iload_n X dX3_winnersPrice_28 rfl rfl ?_
        refine g_goto (tgt := 41) X dX3_winnersPrice_29 (by decide) ?_
        refine is_3_1n X dX3_winnersPrice_41 rfl rfl ?_
        refine ii_3_2 (v := nI (k + 1)) X dX3_winnersPrice_42 (nI_1 k) rfl ?_
        refine g_goto (tgt := 10) X dX3_winnersPrice_45 (by decide) ?_
        have := ih (k + 1) (by omega)
        rw [hw] at this
        exact this
      · have hw : wpU v S (k + 1) = max (wpU v S k) (vbS v S k) := if_neg h
        have q1 := hwp k (by omega)
        have q2 := hvb k (by omega)
        refine g_iload_n X dX3_winnersPrice_10 rfl rfl ?_
        refine g_aload_n X dX3_winnersPrice_11 rfl rfl ?_
        refine g_getf X dX3_winnersPrice_12 fl_X3_9 (by repeat (first | with_reducible exact Pk.here | with_reducible apply Pk.there)) (by exact rfl) ?_
        refine g_iconst (v := 0) X dX3_winnersPrice_15 rfl ?_
        refine g_iald (0) X dX3_winnersPrice_16 (by repeat (first | with_reducible exact Pk.here | with_reducible apply Pk.there)) (rfl) (by decide) (by exact hT) ?_
        refine g_icmp_ge (tgt := 48) X dX3_winnersPrice_17 (by decide) (fun c_17 => absurd c_17 (nI_ge (by omega) (by omega))) (fun c_17 => ?_)
        refine g_iload_n X dX3_winnersPrice_20 rfl rfl ?_
        refine g_aload_n X dX3_winnersPrice_21 rfl rfl ?_
        refine g_callV X dX3_winnersPrice_22 mv_X3_161 (c_X3_winnerNow hB hE hA hb) rfl cl_X3 (by repeat (first | with_reducible exact Rc.pt | with_reducible apply Rc.there)) (by repeat (first | with_reducible exact Pks.nil | (with_reducible refine Pks.pure (by assumption) ?_) | (with_reducible apply Pks.cons; focus ((repeat (first | with_reducible exact Pk.here | with_reducible apply Pk.there)); done)) | (refine Pks.cons Pk.here ?_))) rfl rfl (by decide) (by exact Nat.le_of_ble_eq_true rfl) (by first | decide | omega) (fun r w1 hq => ?_) (fun E q w1 hq => hq.elim)
        obtain ⟨rfl, rfl⟩ := hq
        dsimp only [wM, PoM, List.cons_append, List.nil_append, Option.toList_some, Option.toList_none]
        refine g_icmp_ne (tgt := 32) X dX3_winnersPrice_25 (by decide) (fun c_25 => ?_) (fun c_25 => absurd c_25 (fun q => h ((oI_at hb1 (by omega)).mp q)))
        refine g_iload_n X dX3_winnersPrice_32 rfl rfl ?_
        refine g_aload_n X dX3_winnersPrice_33 rfl rfl ?_
        refine g_iload_n X dX3_winnersPrice_34 rfl rfl ?_
        refine g_callV X dX3_winnersPrice_35 mv_X3_158 (c_X3_validBid hB hE hA hb (by omega)) rfl cl_X3 (by repeat (first | with_reducible exact Rc.pt | with_reducible apply Rc.there)) (by repeat (first | with_reducible exact Pks.nil | (with_reducible refine Pks.pure (by assumption) ?_) | (with_reducible apply Pks.cons; focus ((repeat (first | with_reducible exact Pk.here | with_reducible apply Pk.there)); done)) | (refine Pks.cons Pk.here ?_))) rfl rfl (by decide) (by exact Nat.le_of_ble_eq_true rfl) (by first | decide | omega) (fun r w1 hq => ?_) (fun E q w1 hq => hq.elim)
        obtain ⟨rfl, rfl⟩ := hq
        dsimp only [wM, PoM, List.cons_append, List.nil_append, Option.toList_some, Option.toList_none]
        refine g_callS X dX3_winnersPrice_38 ms_X3_165 (c_J14_max hB rfl rfl (by omega) (by omega)) rfl (by repeat (first | with_reducible exact Pks.nil | (with_reducible refine Pks.pure (by assumption) ?_) | (with_reducible apply Pks.cons; focus ((repeat (first | with_reducible exact Pk.here | with_reducible apply Pk.there)); done)) | (refine Pks.cons Pk.here ?_))) rfl rfl (by decide) (by exact Nat.le_of_ble_eq_true rfl) (by first | decide | omega) (fun r w1 hq => ?_) (fun E q w1 hq => hq.elim)
        obtain ⟨rfl, rfl⟩ := hq
        dsimp only [wM, PoM, List.cons_append, List.nil_append, Option.toList_some, Option.toList_none]
        refine is_3_1n X dX3_winnersPrice_41 rfl rfl ?_
        refine ii_3_2 (v := nI (k + 1)) X dX3_winnersPrice_42 (nI_1 k) rfl ?_
        refine g_goto (tgt := 10) X dX3_winnersPrice_45 (by decide) ?_
        have := ih (k + 1) (by omega)
        rw [hw] at this
        exact this
  exact L (sT S).length 0 (by omega)
/-- sealed bids of the first k traders gone -/
def zbU (M : Nat → Int32) : Nat → Nat → Int32
  | 0 => M
  | k + 1 => upd (zbU M k) (17 + 3 * k + 2) 0
def zB (b : Nat → Nat) : Nat → Nat → Nat
  | 0 => b
  | k + 1 => up (zB b k) k 0
theorem Enc.zb (h : Enc M S) : ∀ k, k ≤ 6 → Enc (zbU M k) (wB S (zB (sB S) k))
  | 0, _ => h
  | k + 1, hk => (Enc.zb h k (by omega)).setB (t := k) (v := 0) (x := 0) (by omega) rfl (by decide)
theorem zB_lt {b : Nat → Nat} : ∀ {k j : Nat}, j < k → zB b k j = 0
  | k + 1, j, h => by
    by_cases e : j = k
    · subst e; exact up_s
    · exact (up_n e).trans (zB_lt (by omega))
theorem Enc.cgB {b b' : Nat → Nat} (h : Enc M (wB S b)) (e : ∀ k, k < 6 → b' k = b k) : Enc M (wB S b') :=
  ⟨h.1, h.2.1, h.2.2.1, h.2.2.2.1, h.2.2.2.2.1, h.2.2.2.2.2.1, fun k hk => ⟨(h.2.2.2.2.2.2 k hk).1.trans (congrArg nI (e k hk).symm), Nat.lt_of_le_of_lt (Nat.le_of_eq (e k hk)) (h.2.2.2.2.2.2 k hk).2⟩⟩
theorem Enc.z0 (h : Enc M S) : Enc (upd (upd (zbU M 6) 11 (-1)) 12 0) (wA (wB S fun _ => 0) none) :=
  ((h.zb 6 (Nat.le_refl _)).cgB (b' := fun _ => 0) fun k hk => (zB_lt hk).symm).setA rfl fun _ _ e => nomatch e
theorem c_X3_closeIt (hB : Bs B) (hE : Enc M S) (hb : boT (sT S)) (hR : clS S = R) : Tr B yX3_closeIt (Cond.code yX3_closeIt cX3_closeIt 4 (some .int)) (rmd 5 0 0) [.ref m] (wM m ad sv ch ea fa 0 pm lm cm p0 s0 iw M) (PoM m ad sv ch ea fa pm lm cm p0 s0 iw R) nox := by
  have hl := hE.2.2.1.2.1
  have hT := hE.2.2.1.1
  have hA := hE.2.2.2.2.2.1.1
  refine tr_of hB (by decide +kernel) rfl ?_
  intro Γ X Y
  refine g_eq (ls' := [.val (.ref m), .unset, .unset, .unset]) rfl rfl ?_
  have Z : ∀ (M1 : Nat → Int32) (S1 : SS) (x1 : Slot) (p : Nat), Enc M1 S1 → R = (0, nI p, wA (wB S1 fun _ => 0) none) → G B Γ 0 0 (wM m ad sv ch ea fa 0 pm lm cm p0 s0 iw M1) 81 [.val (.ref m), x1, .val (.int (nI p)), .unset] [] := by
    intro M1 S1 x1 p h1 hr
    subst hr
    refine g_iconst (v := 0) X dX3_closeIt_81 rfl ?_
    refine is_4_3n X dX3_closeIt_82 rfl rfl ?_
    have L : ∀ j k, k + j = 6 → G B Γ 0 0 (wM m ad sv ch ea fa 0 pm lm cm p0 s0 iw (zbU M1 k)) 83 [.val (.ref m), x1, .val (.int (nI p)), .val (.int (nI k))] [] := by
      intro j
      induction j with
      | zero =>
        intro k hk
        obtain rfl : k = 6 := by omega
        refine g_iload_n X dX3_closeIt_83 rfl rfl ?_
        refine g_bipush (v := 6) X dX3_closeIt_84 rfl ?_
        refine g_icmp_ge (tgt := 107) X dX3_closeIt_86 (by decide) (fun c_86 => ?_) (fun c_86 => absurd (nI_le (a := 6) (by omega) (by omega)) c_86)
        refine g_aload_n X dX3_closeIt_107 rfl rfl ?_
        refine g_getf X dX3_closeIt_108 fl_X3_9 (by repeat (first | with_reducible exact Pk.here | with_reducible apply Pk.there)) (by exact rfl) ?_
        refine g_bipush (v := 11) X dX3_closeIt_111 rfl ?_
        refine g_iconst (v := (-1)) X dX3_closeIt_113 rfl ?_
        refine g_iast (11) X dX3_closeIt_114 (by repeat (first | with_reducible exact Rp.here | with_reducible apply Rp.there)) (rfl) (by decide) ?_
        refine g_aload_n X dX3_closeIt_115 rfl rfl ?_
        refine g_getf X dX3_closeIt_116 fl_X3_9 (by repeat (first | with_reducible exact Pk.here | with_reducible apply Pk.there)) (by exact rfl) ?_
        refine g_bipush (v := 12) X dX3_closeIt_119 rfl ?_
        refine g_iconst (v := 0) X dX3_closeIt_121 rfl ?_
        refine g_iast (12) X dX3_closeIt_122 (by repeat (first | with_reducible exact Rp.here | with_reducible apply Rp.there)) (rfl) (by decide) ?_
        refine g_iload_n X dX3_closeIt_123 rfl rfl ?_
        exact g_iret X Y dX3_closeIt_124 (rfl) (⟨_, 0, rfl, rfl, rfl, h1.z0⟩) (Pks.tail (rest := _) (by repeat (first | with_reducible exact Pks.nil | (with_reducible refine Pks.pure (by assumption) ?_) | (with_reducible apply Pks.cons; focus ((repeat (first | with_reducible exact Pk.here | with_reducible apply Pk.there)); done)) | (refine Pks.cons Pk.here ?_))))
      | succ j ih =>
        intro k hk
        refine g_iload_n X dX3_closeIt_83 rfl rfl ?_
        refine g_bipush (v := 6) X dX3_closeIt_84 rfl ?_
        refine g_icmp_ge (tgt := 107) X dX3_closeIt_86 (by decide) (fun c_86 => absurd c_86 (nI_ge (b := 6) (by omega) (by omega))) (fun c_86 => ?_)
        refine g_aload_n X dX3_closeIt_89 rfl rfl ?_
        refine g_getf X dX3_closeIt_90 fl_X3_9 (by repeat (first | with_reducible exact Pk.here | with_reducible apply Pk.there)) (by exact rfl) ?_
        refine g_iload_n X dX3_closeIt_93 rfl rfl ?_
        refine g_callS X dX3_closeIt_94 ms_X3_78 (c_X3_traderAt hB) rfl (by repeat (first | with_reducible exact Pks.nil | (with_reducible refine Pks.pure (by assumption) ?_) | (with_reducible apply Pks.cons; focus ((repeat (first | with_reducible exact Pk.here | with_reducible apply Pk.there)); done)) | (refine Pks.cons Pk.here ?_))) rfl rfl (by decide) (by exact Nat.le_of_ble_eq_true rfl) (by first | decide | omega) (fun r w1 hq => ?_) (fun E q w1 hq => hq.elim)
        obtain ⟨rfl, rfl⟩ := hq
        dsimp only [wM, PoM, List.cons_append, List.nil_append, Option.toList_some, Option.toList_none]
        rw [it_]
        refine g_iconst (v := 2) X dX3_closeIt_97 rfl ?_
        refine g_iadd X dX3_closeIt_98 ?_
        refine g_iconst (v := 0) X dX3_closeIt_99 rfl ?_
        refine g_iast (17 + 3 * k + 2) X dX3_closeIt_100 (by repeat (first | with_reducible exact Rp.here | with_reducible apply Rp.there)) (nIp2 _) (by omega) ?_
        refine ii_4_3 (v := nI (k + 1)) X dX3_closeIt_101 (nI_1 k) rfl ?_
        refine g_goto (tgt := 83) X dX3_closeIt_104 (by decide) ?_
        exact ih (k + 1) (by omega)
    exact L 6 0 rfl
  cases ha : sA S with
  | none =>
    obtain rfl : R = erS 1 S := by rw [← hR, clS, ha]
    rw [ha] at hA
    refine g_aload_n X dX3_closeIt_0 rfl rfl ?_
    refine g_getf X dX3_closeIt_1 fl_X3_9 (by repeat (first | with_reducible exact Pk.here | with_reducible apply Pk.there)) (by exact rfl) ?_
    refine g_bipush (v := 11) X dX3_closeIt_4 rfl ?_
    refine g_iald (11) X dX3_closeIt_6 (by repeat (first | with_reducible exact Pk.here | with_reducible apply Pk.there)) (rfl) (by decide) (by exact hA) ?_
    refine g_iconst (v := (-1)) X dX3_closeIt_7 rfl ?_
    refine g_icmp_ne (tgt := 17) X dX3_closeIt_8 (by decide) (fun c_8 => absurd c_8 (fun h => h rfl)) (fun c_8 => ?_)
    refine g_aload_n X dX3_closeIt_11 rfl rfl ?_
    refine g_iconst (v := 1) X dX3_closeIt_12 rfl ?_
    refine g_callV X dX3_closeIt_13 mv_X3_75 (c_X3_throwing hB) rfl cl_X3 (by repeat (first | with_reducible exact Rc.pt | with_reducible apply Rc.there)) (by repeat (first | with_reducible exact Pks.nil | (with_reducible refine Pks.pure (by assumption) ?_) | (with_reducible apply Pks.cons; focus ((repeat (first | with_reducible exact Pk.here | with_reducible apply Pk.there)); done)) | (refine Pks.cons Pk.here ?_))) rfl rfl (by decide) (by exact Nat.le_of_ble_eq_true rfl) (by first | decide | omega) (fun r w1 hq => ?_) (fun E q w1 hq => hq.elim)
    obtain ⟨rfl, rfl⟩ := hq
    dsimp only [wM, PoM, List.cons_append, List.nil_append, Option.toList_some, Option.toList_none]
    exact g_iret X Y dX3_closeIt_16 (rfl) (⟨_, 1, rfl, rfl, rfl, hE⟩) (Pks.tail (rest := _) (by repeat (first | with_reducible exact Pks.nil | (with_reducible refine Pks.pure (by assumption) ?_) | (with_reducible apply Pks.cons; focus ((repeat (first | with_reducible exact Pk.here | with_reducible apply Pk.there)); done)) | (refine Pks.cons Pk.here ?_))))
  | some rv =>
    obtain ⟨r, v⟩ := rv
    have hrv := hE.2.2.2.2.2.1.2 r v ha
    rw [ha] at hA
    cases hw : wiS v S with
    | none =>
      have hr : R = (0, nI 0, wA (wB S fun _ => 0) none) := by simp only [← hR, clS, ha, hw]; rfl
      refine g_aload_n X dX3_closeIt_0 rfl rfl ?_
      refine g_getf X dX3_closeIt_1 fl_X3_9 (by repeat (first | with_reducible exact Pk.here | with_reducible apply Pk.there)) (by exact rfl) ?_
      refine g_bipush (v := 11) X dX3_closeIt_4 rfl ?_
      refine g_iald (11) X dX3_closeIt_6 (by repeat (first | with_reducible exact Pk.here | with_reducible apply Pk.there)) (rfl) (by decide) (by exact hA) ?_
      refine g_iconst (v := (-1)) X dX3_closeIt_7 rfl ?_
      refine g_icmp_ne (tgt := 17) X dX3_closeIt_8 (by decide) (fun c_8 => ?_) (fun c_8 => absurd c_8 (fun e => nomatch (oI_none (x := some r) (fun j e => by cases e; omega)).mp e))
      refine g_aload_n X dX3_closeIt_17 rfl rfl ?_
      refine g_callV X dX3_closeIt_18 mv_X3_161 (c_X3_winnerNow hB hE ha hb) rfl cl_X3 (by repeat (first | with_reducible exact Rc.pt | with_reducible apply Rc.there)) (by repeat (first | with_reducible exact Pks.nil | (with_reducible refine Pks.pure (by assumption) ?_) | (with_reducible apply Pks.cons; focus ((repeat (first | with_reducible exact Pk.here | with_reducible apply Pk.there)); done)) | (refine Pks.cons Pk.here ?_))) rfl rfl (by decide) (by exact Nat.le_of_ble_eq_true rfl) (by first | decide | omega) (fun r w1 hq => ?_) (fun E q w1 hq => hq.elim)
      obtain ⟨rfl, rfl⟩ := hq
      dsimp only [wM, PoM, List.cons_append, List.nil_append, Option.toList_some, Option.toList_none]
      rw [hw]
      refine is_4_1n X dX3_closeIt_21 rfl rfl ?_
      refine g_iload_n X dX3_closeIt_22 rfl rfl ?_
      refine g_iconst (v := (-1)) X dX3_closeIt_23 rfl ?_
      refine g_icmp_ne (tgt := 31) X dX3_closeIt_24 (by decide) (fun c_24 => absurd c_24 (fun h => h rfl)) (fun c_24 => ?_)
      refine g_iconst (v := 0) X dX3_closeIt_27 rfl ?_
      refine g_goto (tgt := 35) X dX3_closeIt_28 (by decide) ?_
      refine is_4_2n X dX3_closeIt_35 rfl rfl ?_
      refine g_iload_n X dX3_closeIt_36 rfl rfl ?_
      refine g_iconst (v := (-1)) X dX3_closeIt_37 rfl ?_
      refine g_icmp_eq (tgt := 81) X dX3_closeIt_38 (by decide) (fun c_38 => ?_) (fun c_38 => absurd (rfl) c_38)
      exact Z M S _ 0 hE hr
    | some t =>
      have ht := (wiU_lt hw).1
      obtain ⟨c, hc⟩ : ∃ c, (sT S)[t]? = some c := ⟨_, List.getElem?_eq_getElem ht⟩
      have hca : caT (sT S) t = c.1 := by simp only [caT, hc]
      have hp := (wp_lt hw (Nat.le_refl _)).1
      rw [hca] at hp
      have hn : ¬ oI_ (some t) = -1 := fun e => nomatch (oI_none (x := some t) (fun j e => by cases e; omega)).mp e
      have f1 := ((hE.cs (k := t) (v := wpS v S) (by omega) hc hp).na (i := 10) (v := wpS v S) (by omega)).setH (r := r) (t := some t) (x := nI t) hrv.2.1 rfl fun k e => by cases e; omega
      refine g_aload_n X dX3_closeIt_0 rfl rfl ?_
      refine g_getf X dX3_closeIt_1 fl_X3_9 (by repeat (first | with_reducible exact Pk.here | with_reducible apply Pk.there)) (by exact rfl) ?_
      refine g_bipush (v := 11) X dX3_closeIt_4 rfl ?_
      refine g_iald (11) X dX3_closeIt_6 (by repeat (first | with_reducible exact Pk.here | with_reducible apply Pk.there)) (rfl) (by decide) (by exact hA) ?_
      refine g_iconst (v := (-1)) X dX3_closeIt_7 rfl ?_
      refine g_icmp_ne (tgt := 17) X dX3_closeIt_8 (by decide) (fun c_8 => ?_) (fun c_8 => absurd c_8 (fun e => nomatch (oI_none (x := some r) (fun j e => by cases e; omega)).mp e))
      refine g_aload_n X dX3_closeIt_17 rfl rfl ?_
      refine g_callV X dX3_closeIt_18 mv_X3_161 (c_X3_winnerNow hB hE ha hb) rfl cl_X3 (by repeat (first | with_reducible exact Rc.pt | with_reducible apply Rc.there)) (by repeat (first | with_reducible exact Pks.nil | (with_reducible refine Pks.pure (by assumption) ?_) | (with_reducible apply Pks.cons; focus ((repeat (first | with_reducible exact Pk.here | with_reducible apply Pk.there)); done)) | (refine Pks.cons Pk.here ?_))) rfl rfl (by decide) (by exact Nat.le_of_ble_eq_true rfl) (by first | decide | omega) (fun r w1 hq => ?_) (fun E q w1 hq => hq.elim)
      obtain ⟨rfl, rfl⟩ := hq
      dsimp only [wM, PoM, List.cons_append, List.nil_append, Option.toList_some, Option.toList_none]
      rw [hw]
      refine is_4_1n X dX3_closeIt_21 rfl rfl ?_
      refine g_iload_n X dX3_closeIt_22 rfl rfl ?_
      refine g_iconst (v := (-1)) X dX3_closeIt_23 rfl ?_
      refine g_icmp_ne (tgt := 31) X dX3_closeIt_24 (by decide) (fun c_24 => ?_) (fun c_24 => absurd c_24 (hn))
      refine g_aload_n X dX3_closeIt_31 rfl rfl ?_
      refine g_callV X dX3_closeIt_32 mv_X3_168 (c_X3_winnersPrice hB hE ha hb) rfl cl_X3 (by repeat (first | with_reducible exact Rc.pt | with_reducible apply Rc.there)) (by repeat (first | with_reducible exact Pks.nil | (with_reducible refine Pks.pure (by assumption) ?_) | (with_reducible apply Pks.cons; focus ((repeat (first | with_reducible exact Pk.here | with_reducible apply Pk.there)); done)) | (refine Pks.cons Pk.here ?_))) rfl rfl (by decide) (by exact Nat.le_of_ble_eq_true rfl) (by first | decide | omega) (fun r w1 hq => ?_) (fun E q w1 hq => hq.elim)
      obtain ⟨rfl, rfl⟩ := hq
      dsimp only [wM, PoM, List.cons_append, List.nil_append, Option.toList_some, Option.toList_none]
      refine is_4_2n X dX3_closeIt_35 rfl rfl ?_
      refine g_iload_n X dX3_closeIt_36 rfl rfl ?_
      refine g_iconst (v := (-1)) X dX3_closeIt_37 rfl ?_
      refine g_icmp_eq (tgt := 81) X dX3_closeIt_38 (by decide) (fun c_38 => absurd c_38 (hn)) (fun c_38 => ?_)
      refine g_aload_n X dX3_closeIt_41 rfl rfl ?_
      refine g_getf X dX3_closeIt_42 fl_X3_9 (by repeat (first | with_reducible exact Pk.here | with_reducible apply Pk.there)) (by exact rfl) ?_
      refine g_iload_n X dX3_closeIt_45 rfl rfl ?_
      refine g_callS X dX3_closeIt_46 ms_X3_78 (c_X3_traderAt hB) rfl (by repeat (first | with_reducible exact Pks.nil | (with_reducible refine Pks.pure (by assumption) ?_) | (with_reducible apply Pks.cons; focus ((repeat (first | with_reducible exact Pk.here | with_reducible apply Pk.there)); done)) | (refine Pks.cons Pk.here ?_))) rfl rfl (by decide) (by exact Nat.le_of_ble_eq_true rfl) (by first | decide | omega) (fun r w1 hq => ?_) (fun E q w1 hq => hq.elim)
      obtain ⟨rfl, rfl⟩ := hq
      dsimp only [wM, PoM, List.cons_append, List.nil_append, Option.toList_some, Option.toList_none]
      rw [show oI_ (some t) = nI t from rfl, it_]
      refine g_dup2 X dX3_closeIt_49 rfl rfl ?_
      refine g_iald (17 + 3 * t) X dX3_closeIt_50 (by repeat (first | with_reducible exact Pk.here | with_reducible apply Pk.there)) (rfl) (by omega) (by exact rfl) ?_
      refine g_iload_n X dX3_closeIt_51 rfl rfl ?_
      refine g_isub X dX3_closeIt_52 ?_
      refine g_iast (17 + 3 * t) X dX3_closeIt_53 (by repeat (first | with_reducible exact Rp.here | with_reducible apply Rp.there)) (rfl) (by omega) ?_
      refine g_aload_n X dX3_closeIt_54 rfl rfl ?_
      refine g_getf X dX3_closeIt_55 fl_X3_9 (by repeat (first | with_reducible exact Pk.here | with_reducible apply Pk.there)) (by exact rfl) ?_
      refine g_bipush (v := 10) X dX3_closeIt_58 rfl ?_
      refine g_dup2 X dX3_closeIt_60 rfl rfl ?_
      refine g_iald (10) X dX3_closeIt_61 (by repeat (first | with_reducible exact Pk.here | with_reducible apply Pk.there)) (rfl) (by decide) (by exact rfl) ?_
      refine g_iload_n X dX3_closeIt_62 rfl rfl ?_
      refine g_iadd X dX3_closeIt_63 ?_
      refine g_iast (10) X dX3_closeIt_64 (by repeat (first | with_reducible exact Rp.here | with_reducible apply Rp.there)) (rfl) (by decide) ?_
      refine g_aload_n X dX3_closeIt_65 rfl rfl ?_
      refine g_getf X dX3_closeIt_66 fl_X3_9 (by repeat (first | with_reducible exact Pk.here | with_reducible apply Pk.there)) (by exact rfl) ?_
      refine g_bipush (v := 13) X dX3_closeIt_69 rfl ?_
      refine g_aload_n X dX3_closeIt_71 rfl rfl ?_
      refine g_getf X dX3_closeIt_72 fl_X3_9 (by repeat (first | with_reducible exact Pk.here | with_reducible apply Pk.there)) (by exact rfl) ?_
      refine g_bipush (v := 11) X dX3_closeIt_75 rfl ?_
      refine g_iald (11) X dX3_closeIt_77 (by repeat (first | with_reducible exact Pk.here | with_reducible apply Pk.there)) (rfl) (by decide) (by rw [upd_n (by omega), upd_n (by omega), hA]) ?_
      refine g_iadd X dX3_closeIt_78 ?_
      rw [show (13 : Int32) = nI 13 by decide, show oI_ (Option.map (·.1) (some (r, v))) = nI r from rfl, nI_add]
      refine g_iload_n X dX3_closeIt_79 rfl rfl ?_
      refine g_iast (13 + r) X dX3_closeIt_80 (by repeat (first | with_reducible exact Rp.here | with_reducible apply Rp.there)) (rfl) (by omega) ?_
      exact Z _ _ _ _ f1 (by simp only [← hR, clS, ha, hw])
end MODEL
