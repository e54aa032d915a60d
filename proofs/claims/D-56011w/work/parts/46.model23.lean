/-! THE MODEL: commands done -/
set_option maxRecDepth 100000
/-- the command c done -/
def doS (c : CM) (S : SS) : Rs := match c.1 with
  | 0 => addS (nI (c.2.getD 0 0)) (nI (c.2.getD 1 0)) S
  | 1 => plS (nI (c.2.getD 0 0)) true (nI (c.2.getD 1 0)) (nI (c.2.getD 2 0)) S
  | 2 => plS (nI (c.2.getD 0 0)) false (nI (c.2.getD 1 0)) (nI (c.2.getD 2 0)) S
  | 3 => caS (nI (c.2.getD 0 0)) S
  | 4 => agS (nI (c.2.getD 0 0)) (nI (c.2.getD 1 0)) (nI (c.2.getD 2 0)) (nI (c.2.getD 3 0)) (nI (c.2.getD 4 0)) S
  | 5 => opS (nI (c.2.getD 0 0)) (nI (c.2.getD 1 0)) S
  | 6 => seS (nI (c.2.getD 0 0)) (nI (c.2.getD 1 0)) S
  | 7 => clS S
  | _ => adS (nI (c.2.getD 0 0)) S
/-- what the operations want of the state -/
def okM (S : SS) : Prop := posO (sO S) ∧ sN S 2 < 2 ^ 28 ∧ boT (sT S) ∧ sN S 4 < 2 ^ 28 ∧ okS S ∧ sN S 8 < 2 ^ 28
theorem do_c {c : CM} {S : SS} : (doS c S).1 < 5 := by
  unfold doS
  split
  · exact add_c
  · exact pl_c
  · exact pl_c
  · exact ca_c
  · exact ag_c
  · exact op_c
  · exact se_c
  · exact cl_c
  · exact ad_c
section MODEL
variable {B : Bt} {m : Nat} {ad : Nat → Nat} {sv ch ea fa th pm lm cm p0 s0 iw : Int32} {M K : Nat → Int32} {S : SS} {L : List CM}
abbrev wD (m : Nat) (ad : Nat → Nat) (sv ch ea fa th pm lm cm p0 s0 iw : Int32) (M K : Nat → Int32) : List An := [pt m (mO ad sv ch ea fa th pm lm cm p0 s0 iw), pt (ad 0) (oA .int 155 M), pt (ad 8) (oA .int 366 K)]
theorem c_X3_does (hB : Bs B) {k : Nat} {c : CM} (hE : Enc M S) (hS : okM S) (hK : EnK K L) (hc : L[k]? = some c) (hk : k ≤ 60) : Tr B yX3_does (Cond.code yX3_does cX3_does 5 none) (rmd 6 0 0) [.ref m, .int (nI (6 * k))] (wD m ad sv ch ea fa 0 pm lm cm p0 s0 iw M K) (fun r w => ∃ M' q, r = none ∧ w = wD m ad sv ch ea fa q pm lm cm p0 s0 iw M' K ∧ q = nI (doS c S).1 ∧ Enc M' (doS c S).2.2) nox := by
  obtain ⟨h0, h1, h2, h3⟩ := hK k c hc
  obtain ⟨s1, s2, s3, s4, s5, s6⟩ := hS
  obtain ⟨w, as⟩ := c
  have g_ : ∀ j, j < as.length → K (6 * k + 1 + j) = nI (as.getD j 0) := fun j hj => h1 j _ (by rw [List.getD_eq_getElem?_getD]; show as[j]? = _; rw [List.getElem?_eq_getElem hj]; rfl)
  have h0' : K (6 * k) = nI w := h0
  have h2' : as.length = arN w := h2
  have h3' : w < 9 := h3
  have t0 : w = 0 ∨ w = 1 ∨ w = 2 ∨ w = 3 ∨ w = 4 ∨ w = 5 ∨ w = 6 ∨ w = 7 ∨ w = 8 := by omega
  refine tr_of hB (by decide +kernel) rfl ?_
  intro Γ X Y
  refine g_eq (ls' := [.val (.ref m), .val (.int (nI (6 * k))), .unset, .unset, .unset]) rfl rfl ?_
  rcases t0 with rfl | rfl | rfl | rfl | rfl | rfl | rfl | rfl | rfl
  · refine g_aload_n X dX3_does_0 rfl rfl ?_
    refine g_getf X dX3_does_1 fl_X3_42 (by repeat (first | with_reducible exact Pk.here | with_reducible apply Pk.there)) (by exact rfl) ?_
    refine g_iload_n X dX3_does_4 rfl rfl ?_
    refine g_iconst (v := 1) X dX3_does_5 rfl ?_
    refine g_iadd X dX3_does_6 ?_
    refine g_iald (6 * k + 1) X dX3_does_7 (by repeat (first | with_reducible exact Pk.here | with_reducible apply Pk.there)) (nI_1 _) (by omega) (by exact g_ 0 (by rw [h2']; decide)) ?_
    refine is_5_2n X dX3_does_8 rfl rfl ?_
    refine g_aload_n X dX3_does_9 rfl rfl ?_
    refine g_getf X dX3_does_10 fl_X3_42 (by repeat (first | with_reducible exact Pk.here | with_reducible apply Pk.there)) (by exact rfl) ?_
    refine g_iload_n X dX3_does_13 rfl rfl ?_
    refine g_iconst (v := 2) X dX3_does_14 rfl ?_
    refine g_iadd X dX3_does_15 ?_
    refine g_iald (6 * k + 1 + 1) X dX3_does_16 (by repeat (first | with_reducible exact Pk.here | with_reducible apply Pk.there)) (nIp2 _) (by omega) (by exact g_ 1 (by rw [h2']; decide)) ?_
    refine is_5_3n X dX3_does_17 rfl rfl ?_
    refine g_aload_n X dX3_does_18 rfl rfl ?_
    refine g_getf X dX3_does_19 fl_X3_42 (by repeat (first | with_reducible exact Pk.here | with_reducible apply Pk.there)) (by exact rfl) ?_
    refine g_iload_n X dX3_does_22 rfl rfl ?_
    refine g_iconst (v := 3) X dX3_does_23 rfl ?_
    refine g_iadd X dX3_does_24 ?_
    refine g_iald (6 * k + 1 + 2) X dX3_does_25 (by repeat (first | with_reducible exact Pk.here | with_reducible apply Pk.there)) (nIp3 _) (by omega) (by exact rfl) ?_
    refine is_5_4 X dX3_does_26 rfl ?_
    refine g_aload_n X dX3_does_28 rfl rfl ?_
    refine g_getf X dX3_does_29 fl_X3_42 (by repeat (first | with_reducible exact Pk.here | with_reducible apply Pk.there)) (by exact rfl) ?_
    refine g_iload_n X dX3_does_32 rfl rfl ?_
    refine g_iald (6 * k) X dX3_does_33 (by repeat (first | with_reducible exact Pk.here | with_reducible apply Pk.there)) (rfl) (by omega) (by exact h0') ?_
    refine g_tableIn (off := 46) (tgt := 80) X dX3_does_34 (by decide) (by decide) (by decide) (by decide) ?_
    refine g_aload_n X dX3_does_80 rfl rfl ?_
    refine g_iload_n X dX3_does_81 rfl rfl ?_
    refine g_iload_n X dX3_does_82 rfl rfl ?_
    refine g_callV X dX3_does_83 mv_X3_84 (c_X3_traderIt hB hE rfl) rfl cl_X3 (by repeat (first | with_reducible exact Rc.pt | with_reducible apply Rc.there)) (by repeat (first | with_reducible exact Pks.nil | (with_reducible refine Pks.pure (by assumption) ?_) | (with_reducible apply Pks.cons; focus ((repeat (first | with_reducible exact Pk.here | with_reducible apply Pk.there)); done)) | (refine Pks.cons Pk.here ?_))) rfl rfl (by decide) (by exact Nat.le_of_ble_eq_true rfl) (by first | decide | omega) (fun r w1 hq => ?_) (fun E q w1 hq => hq.elim)
    obtain ⟨M', q, rfl, rfl, hq, hE'⟩ := hq
    dsimp only [wM, wD, PoM, List.cons_append, List.nil_append, Option.toList_some, Option.toList_none]
    refine g_pop X dX3_does_86 rfl ?_
    refine g_goto (tgt := 187) X dX3_does_87 (by decide) ?_
    exact g_vret X Y dX3_does_187 (⟨M', q, rfl, rfl, hq, hE'⟩) (Pks.tail (rest := _) (by repeat (first | with_reducible exact Pks.nil | (with_reducible refine Pks.pure (by assumption) ?_) | (with_reducible apply Pks.cons; focus ((repeat (first | with_reducible exact Pk.here | with_reducible apply Pk.there)); done)) | (refine Pks.cons Pk.here ?_))))
  · refine g_aload_n X dX3_does_0 rfl rfl ?_
    refine g_getf X dX3_does_1 fl_X3_42 (by repeat (first | with_reducible exact Pk.here | with_reducible apply Pk.there)) (by exact rfl) ?_
    refine g_iload_n X dX3_does_4 rfl rfl ?_
    refine g_iconst (v := 1) X dX3_does_5 rfl ?_
    refine g_iadd X dX3_does_6 ?_
    refine g_iald (6 * k + 1) X dX3_does_7 (by repeat (first | with_reducible exact Pk.here | with_reducible apply Pk.there)) (nI_1 _) (by omega) (by exact g_ 0 (by rw [h2']; decide)) ?_
    refine is_5_2n X dX3_does_8 rfl rfl ?_
    refine g_aload_n X dX3_does_9 rfl rfl ?_
    refine g_getf X dX3_does_10 fl_X3_42 (by repeat (first | with_reducible exact Pk.here | with_reducible apply Pk.there)) (by exact rfl) ?_
    refine g_iload_n X dX3_does_13 rfl rfl ?_
    refine g_iconst (v := 2) X dX3_does_14 rfl ?_
    refine g_iadd X dX3_does_15 ?_
    refine g_iald (6 * k + 1 + 1) X dX3_does_16 (by repeat (first | with_reducible exact Pk.here | with_reducible apply Pk.there)) (nIp2 _) (by omega) (by exact g_ 1 (by rw [h2']; decide)) ?_
    refine is_5_3n X dX3_does_17 rfl rfl ?_
    refine g_aload_n X dX3_does_18 rfl rfl ?_
    refine g_getf X dX3_does_19 fl_X3_42 (by repeat (first | with_reducible exact Pk.here | with_reducible apply Pk.there)) (by exact rfl) ?_
    refine g_iload_n X dX3_does_22 rfl rfl ?_
    refine g_iconst (v := 3) X dX3_does_23 rfl ?_
    refine g_iadd X dX3_does_24 ?_
    refine g_iald (6 * k + 1 + 2) X dX3_does_25 (by repeat (first | with_reducible exact Pk.here | with_reducible apply Pk.there)) (nIp3 _) (by omega) (by exact g_ 2 (by rw [h2']; decide)) ?_
    refine is_5_4 X dX3_does_26 rfl ?_
    refine g_aload_n X dX3_does_28 rfl rfl ?_
    refine g_getf X dX3_does_29 fl_X3_42 (by repeat (first | with_reducible exact Pk.here | with_reducible apply Pk.there)) (by exact rfl) ?_
    refine g_iload_n X dX3_does_32 rfl rfl ?_
    refine g_iald (6 * k) X dX3_does_33 (by repeat (first | with_reducible exact Pk.here | with_reducible apply Pk.there)) (rfl) (by omega) (by exact h0') ?_
    refine g_tableIn (off := 56) (tgt := 90) X dX3_does_34 (by decide) (by decide) (by decide) (by decide) ?_
    refine g_aload_n X dX3_does_90 rfl rfl ?_
    refine g_iload_n X dX3_does_91 rfl rfl ?_
    refine g_iconst (v := 1) X dX3_does_92 rfl ?_
    refine g_iload_n X dX3_does_93 rfl rfl ?_
    refine g_iload X dX3_does_94 rfl ?_
    refine g_callV X dX3_does_96 mv_X3_120 (c_X3_placesIt hB (b := true) hE s1 (by omega) s3 rfl) rfl cl_X3 (by repeat (first | with_reducible exact Rc.pt | with_reducible apply Rc.there)) (by repeat (first | with_reducible exact Pks.nil | (with_reducible refine Pks.pure (by assumption) ?_) | (with_reducible apply Pks.cons; focus ((repeat (first | with_reducible exact Pk.here | with_reducible apply Pk.there)); done)) | (refine Pks.cons Pk.here ?_))) rfl rfl (by decide) (by exact Nat.le_of_ble_eq_true rfl) (by first | decide | omega) (fun r w1 hq => ?_) (fun E q w1 hq => hq.elim)
    obtain ⟨M', q, rfl, rfl, hq, hE'⟩ := hq
    dsimp only [wM, wD, PoM, List.cons_append, List.nil_append, Option.toList_some, Option.toList_none]
    refine g_pop X dX3_does_99 rfl ?_
    refine g_goto (tgt := 187) X dX3_does_100 (by decide) ?_
    exact g_vret X Y dX3_does_187 (⟨M', q, rfl, rfl, hq, hE'⟩) (Pks.tail (rest := _) (by repeat (first | with_reducible exact Pks.nil | (with_reducible refine Pks.pure (by assumption) ?_) | (with_reducible apply Pks.cons; focus ((repeat (first | with_reducible exact Pk.here | with_reducible apply Pk.there)); done)) | (refine Pks.cons Pk.here ?_))))
  · refine g_aload_n X dX3_does_0 rfl rfl ?_
    refine g_getf X dX3_does_1 fl_X3_42 (by repeat (first | with_reducible exact Pk.here | with_reducible apply Pk.there)) (by exact rfl) ?_
    refine g_iload_n X dX3_does_4 rfl rfl ?_
    refine g_iconst (v := 1) X dX3_does_5 rfl ?_
    refine g_iadd X dX3_does_6 ?_
    refine g_iald (6 * k + 1) X dX3_does_7 (by repeat (first | with_reducible exact Pk.here | with_reducible apply Pk.there)) (nI_1 _) (by omega) (by exact g_ 0 (by rw [h2']; decide)) ?_
    refine is_5_2n X dX3_does_8 rfl rfl ?_
    refine g_aload_n X dX3_does_9 rfl rfl ?_
    refine g_getf X dX3_does_10 fl_X3_42 (by repeat (first | with_reducible exact Pk.here | with_reducible apply Pk.there)) (by exact rfl) ?_
    refine g_iload_n X dX3_does_13 rfl rfl ?_
    refine g_iconst (v := 2) X dX3_does_14 rfl ?_
    refine g_iadd X dX3_does_15 ?_
    refine g_iald (6 * k + 1 + 1) X dX3_does_16 (by repeat (first | with_reducible exact Pk.here | with_reducible apply Pk.there)) (nIp2 _) (by omega) (by exact g_ 1 (by rw [h2']; decide)) ?_
    refine is_5_3n X dX3_does_17 rfl rfl ?_
    refine g_aload_n X dX3_does_18 rfl rfl ?_
    refine g_getf X dX3_does_19 fl_X3_42 (by repeat (first | with_reducible exact Pk.here | with_reducible apply Pk.there)) (by exact rfl) ?_
    refine g_iload_n X dX3_does_22 rfl rfl ?_
    refine g_iconst (v := 3) X dX3_does_23 rfl ?_
    refine g_iadd X dX3_does_24 ?_
    refine g_iald (6 * k + 1 + 2) X dX3_does_25 (by repeat (first | with_reducible exact Pk.here | with_reducible apply Pk.there)) (nIp3 _) (by omega) (by exact g_ 2 (by rw [h2']; decide)) ?_
    refine is_5_4 X dX3_does_26 rfl ?_
    refine g_aload_n X dX3_does_28 rfl rfl ?_
    refine g_getf X dX3_does_29 fl_X3_42 (by repeat (first | with_reducible exact Pk.here | with_reducible apply Pk.there)) (by exact rfl) ?_
    refine g_iload_n X dX3_does_32 rfl rfl ?_
    refine g_iald (6 * k) X dX3_does_33 (by repeat (first | with_reducible exact Pk.here | with_reducible apply Pk.there)) (rfl) (by omega) (by exact h0') ?_
    refine g_tableIn (off := 69) (tgt := 103) X dX3_does_34 (by decide) (by decide) (by decide) (by decide) ?_
    refine g_aload_n X dX3_does_103 rfl rfl ?_
    refine g_iload_n X dX3_does_104 rfl rfl ?_
    refine g_iconst (v := 0) X dX3_does_105 rfl ?_
    refine g_iload_n X dX3_does_106 rfl rfl ?_
    refine g_iload X dX3_does_107 rfl ?_
    refine g_callV X dX3_does_109 mv_X3_120 (c_X3_placesIt hB (b := false) hE s1 (by omega) s3 rfl) rfl cl_X3 (by repeat (first | with_reducible exact Rc.pt | with_reducible apply Rc.there)) (by repeat (first | with_reducible exact Pks.nil | (with_reducible refine Pks.pure (by assumption) ?_) | (with_reducible apply Pks.cons; focus ((repeat (first | with_reducible exact Pk.here | with_reducible apply Pk.there)); done)) | (refine Pks.cons Pk.here ?_))) rfl rfl (by decide) (by exact Nat.le_of_ble_eq_true rfl) (by first | decide | omega) (fun r w1 hq => ?_) (fun E q w1 hq => hq.elim)
    obtain ⟨M', q, rfl, rfl, hq, hE'⟩ := hq
    dsimp only [wM, wD, PoM, List.cons_append, List.nil_append, Option.toList_some, Option.toList_none]
    refine g_pop X dX3_does_112 rfl ?_
    refine g_goto (tgt := 187) X dX3_does_113 (by decide) ?_
    exact g_vret X Y dX3_does_187 (⟨M', q, rfl, rfl, hq, hE'⟩) (Pks.tail (rest := _) (by repeat (first | with_reducible exact Pks.nil | (with_reducible refine Pks.pure (by assumption) ?_) | (with_reducible apply Pks.cons; focus ((repeat (first | with_reducible exact Pk.here | with_reducible apply Pk.there)); done)) | (refine Pks.cons Pk.here ?_))))
  · refine g_aload_n X dX3_does_0 rfl rfl ?_
    refine g_getf X dX3_does_1 fl_X3_42 (by repeat (first | with_reducible exact Pk.here | with_reducible apply Pk.there)) (by exact rfl) ?_
    refine g_iload_n X dX3_does_4 rfl rfl ?_
    refine g_iconst (v := 1) X dX3_does_5 rfl ?_
    refine g_iadd X dX3_does_6 ?_
    refine g_iald (6 * k + 1) X dX3_does_7 (by repeat (first | with_reducible exact Pk.here | with_reducible apply Pk.there)) (nI_1 _) (by omega) (by exact g_ 0 (by rw [h2']; decide)) ?_
    refine is_5_2n X dX3_does_8 rfl rfl ?_
    refine g_aload_n X dX3_does_9 rfl rfl ?_
    refine g_getf X dX3_does_10 fl_X3_42 (by repeat (first | with_reducible exact Pk.here | with_reducible apply Pk.there)) (by exact rfl) ?_
    refine g_iload_n X dX3_does_13 rfl rfl ?_
    refine g_iconst (v := 2) X dX3_does_14 rfl ?_
    refine g_iadd X dX3_does_15 ?_
    refine g_iald (6 * k + 1 + 1) X dX3_does_16 (by repeat (first | with_reducible exact Pk.here | with_reducible apply Pk.there)) (nIp2 _) (by omega) (by exact rfl) ?_
    refine is_5_3n X dX3_does_17 rfl rfl ?_
    refine g_aload_n X dX3_does_18 rfl rfl ?_
    refine g_getf X dX3_does_19 fl_X3_42 (by repeat (first | with_reducible exact Pk.here | with_reducible apply Pk.there)) (by exact rfl) ?_
    refine g_iload_n X dX3_does_22 rfl rfl ?_
    refine g_iconst (v := 3) X dX3_does_23 rfl ?_
    refine g_iadd X dX3_does_24 ?_
    refine g_iald (6 * k + 1 + 2) X dX3_does_25 (by repeat (first | with_reducible exact Pk.here | with_reducible apply Pk.there)) (nIp3 _) (by omega) (by exact rfl) ?_
    refine is_5_4 X dX3_does_26 rfl ?_
    refine g_aload_n X dX3_does_28 rfl rfl ?_
    refine g_getf X dX3_does_29 fl_X3_42 (by repeat (first | with_reducible exact Pk.here | with_reducible apply Pk.there)) (by exact rfl) ?_
    refine g_iload_n X dX3_does_32 rfl rfl ?_
    refine g_iald (6 * k) X dX3_does_33 (by repeat (first | with_reducible exact Pk.here | with_reducible apply Pk.there)) (rfl) (by omega) (by exact h0') ?_
    refine g_tableIn (off := 82) (tgt := 116) X dX3_does_34 (by decide) (by decide) (by decide) (by decide) ?_
    refine g_aload_n X dX3_does_116 rfl rfl ?_
    refine g_iload_n X dX3_does_117 rfl rfl ?_
    refine g_callV X dX3_does_118 mv_X3_127 (c_X3_cancelIt hB hE rfl) rfl cl_X3 (by repeat (first | with_reducible exact Rc.pt | with_reducible apply Rc.there)) (by repeat (first | with_reducible exact Pks.nil | (with_reducible refine Pks.pure (by assumption) ?_) | (with_reducible apply Pks.cons; focus ((repeat (first | with_reducible exact Pk.here | with_reducible apply Pk.there)); done)) | (refine Pks.cons Pk.here ?_))) rfl rfl (by decide) (by exact Nat.le_of_ble_eq_true rfl) (by first | decide | omega) (fun r w1 hq => ?_) (fun E q w1 hq => hq.elim)
    obtain ⟨M', q, rfl, rfl, hq, hE'⟩ := hq
    dsimp only [wM, wD, PoM, List.cons_append, List.nil_append, Option.toList_some, Option.toList_none]
    refine g_pop X dX3_does_121 rfl ?_
    refine g_goto (tgt := 187) X dX3_does_122 (by decide) ?_
    exact g_vret X Y dX3_does_187 (⟨M', q, rfl, rfl, hq, hE'⟩) (Pks.tail (rest := _) (by repeat (first | with_reducible exact Pks.nil | (with_reducible refine Pks.pure (by assumption) ?_) | (with_reducible apply Pks.cons; focus ((repeat (first | with_reducible exact Pk.here | with_reducible apply Pk.there)); done)) | (refine Pks.cons Pk.here ?_))))
  · refine g_aload_n X dX3_does_0 rfl rfl ?_
    refine g_getf X dX3_does_1 fl_X3_42 (by repeat (first | with_reducible exact Pk.here | with_reducible apply Pk.there)) (by exact rfl) ?_
    refine g_iload_n X dX3_does_4 rfl rfl ?_
    refine g_iconst (v := 1) X dX3_does_5 rfl ?_
    refine g_iadd X dX3_does_6 ?_
    refine g_iald (6 * k + 1) X dX3_does_7 (by repeat (first | with_reducible exact Pk.here | with_reducible apply Pk.there)) (nI_1 _) (by omega) (by exact g_ 0 (by rw [h2']; decide)) ?_
    refine is_5_2n X dX3_does_8 rfl rfl ?_
    refine g_aload_n X dX3_does_9 rfl rfl ?_
    refine g_getf X dX3_does_10 fl_X3_42 (by repeat (first | with_reducible exact Pk.here | with_reducible apply Pk.there)) (by exact rfl) ?_
    refine g_iload_n X dX3_does_13 rfl rfl ?_
    refine g_iconst (v := 2) X dX3_does_14 rfl ?_
    refine g_iadd X dX3_does_15 ?_
    refine g_iald (6 * k + 1 + 1) X dX3_does_16 (by repeat (first | with_reducible exact Pk.here | with_reducible apply Pk.there)) (nIp2 _) (by omega) (by exact g_ 1 (by rw [h2']; decide)) ?_
    refine is_5_3n X dX3_does_17 rfl rfl ?_
    refine g_aload_n X dX3_does_18 rfl rfl ?_
    refine g_getf X dX3_does_19 fl_X3_42 (by repeat (first | with_reducible exact Pk.here | with_reducible apply Pk.there)) (by exact rfl) ?_
    refine g_iload_n X dX3_does_22 rfl rfl ?_
    refine g_iconst (v := 3) X dX3_does_23 rfl ?_
    refine g_iadd X dX3_does_24 ?_
    refine g_iald (6 * k + 1 + 2) X dX3_does_25 (by repeat (first | with_reducible exact Pk.here | with_reducible apply Pk.there)) (nIp3 _) (by omega) (by exact g_ 2 (by rw [h2']; decide)) ?_
    refine is_5_4 X dX3_does_26 rfl ?_
    refine g_aload_n X dX3_does_28 rfl rfl ?_
    refine g_getf X dX3_does_29 fl_X3_42 (by repeat (first | with_reducible exact Pk.here | with_reducible apply Pk.there)) (by exact rfl) ?_
    refine g_iload_n X dX3_does_32 rfl rfl ?_
    refine g_iald (6 * k) X dX3_does_33 (by repeat (first | with_reducible exact Pk.here | with_reducible apply Pk.there)) (rfl) (by omega) (by exact h0') ?_
    refine g_tableIn (off := 91) (tgt := 125) X dX3_does_34 (by decide) (by decide) (by decide) (by decide) ?_
    refine g_aload_n X dX3_does_125 rfl rfl ?_
    refine g_iload_n X dX3_does_126 rfl rfl ?_
    refine g_iload_n X dX3_does_127 rfl rfl ?_
    refine g_iload X dX3_does_128 rfl ?_
    refine g_aload_n X dX3_does_130 rfl rfl ?_
    refine g_getf X dX3_does_131 fl_X3_42 (by repeat (first | with_reducible exact Pk.here | with_reducible apply Pk.there)) (by exact rfl) ?_
    refine g_iload_n X dX3_does_134 rfl rfl ?_
    refine g_iconst (v := 4) X dX3_does_135 rfl ?_
    refine g_iadd X dX3_does_136 ?_
    refine g_iald (6 * k + 1 + 3) X dX3_does_137 (by repeat (first | with_reducible exact Pk.here | with_reducible apply Pk.there)) (nIp4 _) (by omega) (by exact g_ 3 (by rw [h2']; decide)) ?_
    refine g_aload_n X dX3_does_138 rfl rfl ?_
    refine g_getf X dX3_does_139 fl_X3_42 (by repeat (first | with_reducible exact Pk.here | with_reducible apply Pk.there)) (by exact rfl) ?_
    refine g_iload_n X dX3_does_142 rfl rfl ?_
    refine g_iconst (v := 5) X dX3_does_143 rfl ?_
    refine g_iadd X dX3_does_144 ?_
    refine g_iald (6 * k + 1 + 4) X dX3_does_145 (by repeat (first | with_reducible exact Pk.here | with_reducible apply Pk.there)) (nIp5 _) (by omega) (by exact g_ 4 (by rw [h2']; decide)) ?_
    refine g_callV X dX3_does_146 mv_X3_133 (c_X3_agreeIt hB hE (by omega) rfl) rfl cl_X3 (by repeat (first | with_reducible exact Rc.pt | with_reducible apply Rc.there)) (by repeat (first | with_reducible exact Pks.nil | (with_reducible refine Pks.pure (by assumption) ?_) | (with_reducible apply Pks.cons; focus ((repeat (first | with_reducible exact Pk.here | with_reducible apply Pk.there)); done)) | (refine Pks.cons Pk.here ?_))) rfl rfl (by decide) (by exact Nat.le_of_ble_eq_true rfl) (by first | decide | omega) (fun r w1 hq => ?_) (fun E q w1 hq => hq.elim)
    obtain ⟨M', q, rfl, rfl, hq, hE'⟩ := hq
    dsimp only [wM, wD, PoM, List.cons_append, List.nil_append, Option.toList_some, Option.toList_none]
    refine g_pop X dX3_does_149 rfl ?_
    refine g_goto (tgt := 187) X dX3_does_150 (by decide) ?_
    exact g_vret X Y dX3_does_187 (⟨M', q, rfl, rfl, hq, hE'⟩) (Pks.tail (rest := _) (by repeat (first | with_reducible exact Pks.nil | (with_reducible refine Pks.pure (by assumption) ?_) | (with_reducible apply Pks.cons; focus ((repeat (first | with_reducible exact Pk.here | with_reducible apply Pk.there)); done)) | (refine Pks.cons Pk.here ?_))))
  · refine g_aload_n X dX3_does_0 rfl rfl ?_
    refine g_getf X dX3_does_1 fl_X3_42 (by repeat (first | with_reducible exact Pk.here | with_reducible apply Pk.there)) (by exact rfl) ?_
    refine g_iload_n X dX3_does_4 rfl rfl ?_
    refine g_iconst (v := 1) X dX3_does_5 rfl ?_
    refine g_iadd X dX3_does_6 ?_
    refine g_iald (6 * k + 1) X dX3_does_7 (by repeat (first | with_reducible exact Pk.here | with_reducible apply Pk.there)) (nI_1 _) (by omega) (by exact g_ 0 (by rw [h2']; decide)) ?_
    refine is_5_2n X dX3_does_8 rfl rfl ?_
    refine g_aload_n X dX3_does_9 rfl rfl ?_
    refine g_getf X dX3_does_10 fl_X3_42 (by repeat (first | with_reducible exact Pk.here | with_reducible apply Pk.there)) (by exact rfl) ?_
    refine g_iload_n X dX3_does_13 rfl rfl ?_
    refine g_iconst (v := 2) X dX3_does_14 rfl ?_
    refine g_iadd X dX3_does_15 ?_
    refine g_iald (6 * k + 1 + 1) X dX3_does_16 (by repeat (first | with_reducible exact Pk.here | with_reducible apply Pk.there)) (nIp2 _) (by omega) (by exact g_ 1 (by rw [h2']; decide)) ?_
    refine is_5_3n X dX3_does_17 rfl rfl ?_
    refine g_aload_n X dX3_does_18 rfl rfl ?_
    refine g_getf X dX3_does_19 fl_X3_42 (by repeat (first | with_reducible exact Pk.here | with_reducible apply Pk.there)) (by exact rfl) ?_
    refine g_iload_n X dX3_does_22 rfl rfl ?_
    refine g_iconst (v := 3) X dX3_does_23 rfl ?_
    refine g_iadd X dX3_does_24 ?_
    refine g_iald (6 * k + 1 + 2) X dX3_does_25 (by repeat (first | with_reducible exact Pk.here | with_reducible apply Pk.there)) (nIp3 _) (by omega) (by exact rfl) ?_
    refine is_5_4 X dX3_does_26 rfl ?_
    refine g_aload_n X dX3_does_28 rfl rfl ?_
    refine g_getf X dX3_does_29 fl_X3_42 (by repeat (first | with_reducible exact Pk.here | with_reducible apply Pk.there)) (by exact rfl) ?_
    refine g_iload_n X dX3_does_32 rfl rfl ?_
    refine g_iald (6 * k) X dX3_does_33 (by repeat (first | with_reducible exact Pk.here | with_reducible apply Pk.there)) (rfl) (by omega) (by exact h0') ?_
    refine g_tableIn (off := 119) (tgt := 153) X dX3_does_34 (by decide) (by decide) (by decide) (by decide) ?_
    refine g_aload_n X dX3_does_153 rfl rfl ?_
    refine g_iload_n X dX3_does_154 rfl rfl ?_
    refine g_iload_n X dX3_does_155 rfl rfl ?_
    refine g_callV X dX3_does_156 mv_X3_152 (c_X3_openIt hB hE rfl) rfl cl_X3 (by repeat (first | with_reducible exact Rc.pt | with_reducible apply Rc.there)) (by repeat (first | with_reducible exact Pks.nil | (with_reducible refine Pks.pure (by assumption) ?_) | (with_reducible apply Pks.cons; focus ((repeat (first | with_reducible exact Pk.here | with_reducible apply Pk.there)); done)) | (refine Pks.cons Pk.here ?_))) rfl rfl (by decide) (by exact Nat.le_of_ble_eq_true rfl) (by first | decide | omega) (fun r w1 hq => ?_) (fun E q w1 hq => hq.elim)
    obtain ⟨M', q, rfl, rfl, hq, hE'⟩ := hq
    dsimp only [wM, wD, PoM, List.cons_append, List.nil_append, Option.toList_some, Option.toList_none]
    refine g_pop X dX3_does_159 rfl ?_
    refine g_goto (tgt := 187) X dX3_does_160 (by decide) ?_
    exact g_vret X Y dX3_does_187 (⟨M', q, rfl, rfl, hq, hE'⟩) (Pks.tail (rest := _) (by repeat (first | with_reducible exact Pks.nil | (with_reducible refine Pks.pure (by assumption) ?_) | (with_reducible apply Pks.cons; focus ((repeat (first | with_reducible exact Pk.here | with_reducible apply Pk.there)); done)) | (refine Pks.cons Pk.here ?_))))
  · refine g_aload_n X dX3_does_0 rfl rfl ?_
    refine g_getf X dX3_does_1 fl_X3_42 (by repeat (first | with_reducible exact Pk.here | with_reducible apply Pk.there)) (by exact rfl) ?_
    refine g_iload_n X dX3_does_4 rfl rfl ?_
    refine g_iconst (v := 1) X dX3_does_5 rfl ?_
    refine g_iadd X dX3_does_6 ?_
    refine g_iald (6 * k + 1) X dX3_does_7 (by repeat (first | with_reducible exact Pk.here | with_reducible apply Pk.there)) (nI_1 _) (by omega) (by exact g_ 0 (by rw [h2']; decide)) ?_
    refine is_5_2n X dX3_does_8 rfl rfl ?_
    refine g_aload_n X dX3_does_9 rfl rfl ?_
    refine g_getf X dX3_does_10 fl_X3_42 (by repeat (first | with_reducible exact Pk.here | with_reducible apply Pk.there)) (by exact rfl) ?_
    refine g_iload_n X dX3_does_13 rfl rfl ?_
    refine g_iconst (v := 2) X dX3_does_14 rfl ?_
    refine g_iadd X dX3_does_15 ?_
    refine g_iald (6 * k + 1 + 1) X dX3_does_16 (by repeat (first | with_reducible exact Pk.here | with_reducible apply Pk.there)) (nIp2 _) (by omega) (by exact g_ 1 (by rw [h2']; decide)) ?_
    refine is_5_3n X dX3_does_17 rfl rfl ?_
    refine g_aload_n X dX3_does_18 rfl rfl ?_
    refine g_getf X dX3_does_19 fl_X3_42 (by repeat (first | with_reducible exact Pk.here | with_reducible apply Pk.there)) (by exact rfl) ?_
    refine g_iload_n X dX3_does_22 rfl rfl ?_
    refine g_iconst (v := 3) X dX3_does_23 rfl ?_
    refine g_iadd X dX3_does_24 ?_
    refine g_iald (6 * k + 1 + 2) X dX3_does_25 (by repeat (first | with_reducible exact Pk.here | with_reducible apply Pk.there)) (nIp3 _) (by omega) (by exact rfl) ?_
    refine is_5_4 X dX3_does_26 rfl ?_
    refine g_aload_n X dX3_does_28 rfl rfl ?_
    refine g_getf X dX3_does_29 fl_X3_42 (by repeat (first | with_reducible exact Pk.here | with_reducible apply Pk.there)) (by exact rfl) ?_
    refine g_iload_n X dX3_does_32 rfl rfl ?_
    refine g_iald (6 * k) X dX3_does_33 (by repeat (first | with_reducible exact Pk.here | with_reducible apply Pk.there)) (rfl) (by omega) (by exact h0') ?_
    refine g_tableIn (off := 129) (tgt := 163) X dX3_does_34 (by decide) (by decide) (by decide) (by decide) ?_
    refine g_aload_n X dX3_does_163 rfl rfl ?_
    refine g_iload_n X dX3_does_164 rfl rfl ?_
    refine g_iload_n X dX3_does_165 rfl rfl ?_
    refine g_callV X dX3_does_166 mv_X3_155 (c_X3_sealIt hB hE rfl) rfl cl_X3 (by repeat (first | with_reducible exact Rc.pt | with_reducible apply Rc.there)) (by repeat (first | with_reducible exact Pks.nil | (with_reducible refine Pks.pure (by assumption) ?_) | (with_reducible apply Pks.cons; focus ((repeat (first | with_reducible exact Pk.here | with_reducible apply Pk.there)); done)) | (refine Pks.cons Pk.here ?_))) rfl rfl (by decide) (by exact Nat.le_of_ble_eq_true rfl) (by first | decide | omega) (fun r w1 hq => ?_) (fun E q w1 hq => hq.elim)
    obtain ⟨M', q, rfl, rfl, hq, hE'⟩ := hq
    dsimp only [wM, wD, PoM, List.cons_append, List.nil_append, Option.toList_some, Option.toList_none]
    refine g_pop X dX3_does_169 rfl ?_
    refine g_goto (tgt := 187) X dX3_does_170 (by decide) ?_
    exact g_vret X Y dX3_does_187 (⟨M', q, rfl, rfl, hq, hE'⟩) (Pks.tail (rest := _) (by repeat (first | with_reducible exact Pks.nil | (with_reducible refine Pks.pure (by assumption) ?_) | (with_reducible apply Pks.cons; focus ((repeat (first | with_reducible exact Pk.here | with_reducible apply Pk.there)); done)) | (refine Pks.cons Pk.here ?_))))
  · refine g_aload_n X dX3_does_0 rfl rfl ?_
    refine g_getf X dX3_does_1 fl_X3_42 (by repeat (first | with_reducible exact Pk.here | with_reducible apply Pk.there)) (by exact rfl) ?_
    refine g_iload_n X dX3_does_4 rfl rfl ?_
    refine g_iconst (v := 1) X dX3_does_5 rfl ?_
    refine g_iadd X dX3_does_6 ?_
    refine g_iald (6 * k + 1) X dX3_does_7 (by repeat (first | with_reducible exact Pk.here | with_reducible apply Pk.there)) (nI_1 _) (by omega) (by exact rfl) ?_
    refine is_5_2n X dX3_does_8 rfl rfl ?_
    refine g_aload_n X dX3_does_9 rfl rfl ?_
    refine g_getf X dX3_does_10 fl_X3_42 (by repeat (first | with_reducible exact Pk.here | with_reducible apply Pk.there)) (by exact rfl) ?_
    refine g_iload_n X dX3_does_13 rfl rfl ?_
    refine g_iconst (v := 2) X dX3_does_14 rfl ?_
    refine g_iadd X dX3_does_15 ?_
    refine g_iald (6 * k + 1 + 1) X dX3_does_16 (by repeat (first | with_reducible exact Pk.here | with_reducible apply Pk.there)) (nIp2 _) (by omega) (by exact rfl) ?_
    refine is_5_3n X dX3_does_17 rfl rfl ?_
    refine g_aload_n X dX3_does_18 rfl rfl ?_
    refine g_getf X dX3_does_19 fl_X3_42 (by repeat (first | with_reducible exact Pk.here | with_reducible apply Pk.there)) (by exact rfl) ?_
    refine g_iload_n X dX3_does_22 rfl rfl ?_
    refine g_iconst (v := 3) X dX3_does_23 rfl ?_
    refine g_iadd X dX3_does_24 ?_
    refine g_iald (6 * k + 1 + 2) X dX3_does_25 (by repeat (first | with_reducible exact Pk.here | with_reducible apply Pk.there)) (nIp3 _) (by omega) (by exact rfl) ?_
    refine is_5_4 X dX3_does_26 rfl ?_
    refine g_aload_n X dX3_does_28 rfl rfl ?_
    refine g_getf X dX3_does_29 fl_X3_42 (by repeat (first | with_reducible exact Pk.here | with_reducible apply Pk.there)) (by exact rfl) ?_
    refine g_iload_n X dX3_does_32 rfl rfl ?_
    refine g_iald (6 * k) X dX3_does_33 (by repeat (first | with_reducible exact Pk.here | with_reducible apply Pk.there)) (rfl) (by omega) (by exact h0') ?_
    refine g_tableIn (off := 139) (tgt := 173) X dX3_does_34 (by decide) (by decide) (by decide) (by decide) ?_
    refine g_aload_n X dX3_does_173 rfl rfl ?_
    refine g_callV X dX3_does_174 mv_X3_171 (c_X3_closeIt hB hE s3 rfl) rfl cl_X3 (by repeat (first | with_reducible exact Rc.pt | with_reducible apply Rc.there)) (by repeat (first | with_reducible exact Pks.nil | (with_reducible refine Pks.pure (by assumption) ?_) | (with_reducible apply Pks.cons; focus ((repeat (first | with_reducible exact Pk.here | with_reducible apply Pk.there)); done)) | (refine Pks.cons Pk.here ?_))) rfl rfl (by decide) (by exact Nat.le_of_ble_eq_true rfl) (by first | decide | omega) (fun r w1 hq => ?_) (fun E q w1 hq => hq.elim)
    obtain ⟨M', q, rfl, rfl, hq, hE'⟩ := hq
    dsimp only [wM, wD, PoM, List.cons_append, List.nil_append, Option.toList_some, Option.toList_none]
    refine g_pop X dX3_does_177 rfl ?_
    refine g_goto (tgt := 187) X dX3_does_178 (by decide) ?_
    exact g_vret X Y dX3_does_187 (⟨M', q, rfl, rfl, hq, hE'⟩) (Pks.tail (rest := _) (by repeat (first | with_reducible exact Pks.nil | (with_reducible refine Pks.pure (by assumption) ?_) | (with_reducible apply Pks.cons; focus ((repeat (first | with_reducible exact Pk.here | with_reducible apply Pk.there)); done)) | (refine Pks.cons Pk.here ?_))))
  · refine g_aload_n X dX3_does_0 rfl rfl ?_
    refine g_getf X dX3_does_1 fl_X3_42 (by repeat (first | with_reducible exact Pk.here | with_reducible apply Pk.there)) (by exact rfl) ?_
    refine g_iload_n X dX3_does_4 rfl rfl ?_
    refine g_iconst (v := 1) X dX3_does_5 rfl ?_
    refine g_iadd X dX3_does_6 ?_
    refine g_iald (6 * k + 1) X dX3_does_7 (by repeat (first | with_reducible exact Pk.here | with_reducible apply Pk.there)) (nI_1 _) (by omega) (by exact g_ 0 (by rw [h2']; decide)) ?_
    refine is_5_2n X dX3_does_8 rfl rfl ?_
    refine g_aload_n X dX3_does_9 rfl rfl ?_
    refine g_getf X dX3_does_10 fl_X3_42 (by repeat (first | with_reducible exact Pk.here | with_reducible apply Pk.there)) (by exact rfl) ?_
    refine g_iload_n X dX3_does_13 rfl rfl ?_
    refine g_iconst (v := 2) X dX3_does_14 rfl ?_
    refine g_iadd X dX3_does_15 ?_
    refine g_iald (6 * k + 1 + 1) X dX3_does_16 (by repeat (first | with_reducible exact Pk.here | with_reducible apply Pk.there)) (nIp2 _) (by omega) (by exact rfl) ?_
    refine is_5_3n X dX3_does_17 rfl rfl ?_
    refine g_aload_n X dX3_does_18 rfl rfl ?_
    refine g_getf X dX3_does_19 fl_X3_42 (by repeat (first | with_reducible exact Pk.here | with_reducible apply Pk.there)) (by exact rfl) ?_
    refine g_iload_n X dX3_does_22 rfl rfl ?_
    refine g_iconst (v := 3) X dX3_does_23 rfl ?_
    refine g_iadd X dX3_does_24 ?_
    refine g_iald (6 * k + 1 + 2) X dX3_does_25 (by repeat (first | with_reducible exact Pk.here | with_reducible apply Pk.there)) (nIp3 _) (by omega) (by exact rfl) ?_
    refine is_5_4 X dX3_does_26 rfl ?_
    refine g_aload_n X dX3_does_28 rfl rfl ?_
    refine g_getf X dX3_does_29 fl_X3_42 (by repeat (first | with_reducible exact Pk.here | with_reducible apply Pk.there)) (by exact rfl) ?_
    refine g_iload_n X dX3_does_32 rfl rfl ?_
    refine g_iald (6 * k) X dX3_does_33 (by repeat (first | with_reducible exact Pk.here | with_reducible apply Pk.there)) (rfl) (by omega) (by exact h0') ?_
    refine g_tableOut (tgt := 181) X dX3_does_34 (by decide) (by decide) ?_
    refine g_aload_n X dX3_does_181 rfl rfl ?_
    refine g_iload_n X dX3_does_182 rfl rfl ?_
    refine g_callV X dX3_does_183 mv_X3_146 (c_X3_advanceIt hB hE s5 (by omega) (by omega) rfl) rfl cl_X3 (by repeat (first | with_reducible exact Rc.pt | with_reducible apply Rc.there)) (by repeat (first | with_reducible exact Pks.nil | (with_reducible refine Pks.pure (by assumption) ?_) | (with_reducible apply Pks.cons; focus ((repeat (first | with_reducible exact Pk.here | with_reducible apply Pk.there)); done)) | (refine Pks.cons Pk.here ?_))) rfl rfl (by decide) (by exact Nat.le_of_ble_eq_true rfl) (by first | decide | omega) (fun r w1 hq => ?_) (fun E q w1 hq => hq.elim)
    obtain ⟨M', q, rfl, rfl, hq, hE'⟩ := hq
    dsimp only [wM, wD, PoM, List.cons_append, List.nil_append, Option.toList_some, Option.toList_none]
    refine g_pop X dX3_does_186 rfl ?_
    exact g_vret X Y dX3_does_187 (⟨M', q, rfl, rfl, hq, hE'⟩) (Pks.tail (rest := _) (by repeat (first | with_reducible exact Pks.nil | (with_reducible refine Pks.pure (by assumption) ?_) | (with_reducible apply Pks.cons; focus ((repeat (first | with_reducible exact Pk.here | with_reducible apply Pk.there)); done)) | (refine Pks.cons Pk.here ?_))))
end MODEL
