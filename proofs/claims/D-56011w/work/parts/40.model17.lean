/-! THE MODEL: undoing, saving -/
set_option maxRecDepth 100000
section MODEL
variable {B : Bt} {m : Nat} {ad : Nat → Nat} {sv ch ea fa th pm lm cm p0 s0 iw : Int32} {M A P V : Nat → Int32} {S S1 : SS} {L : List SS} {R : Rs}
abbrev wU (m : Nat) (ad : Nat → Nat) (sv ch ea fa th pm lm cm p0 s0 iw : Int32) (M P : Nat → Int32) : List An := [pt m (mO ad sv ch ea fa th pm lm cm p0 s0 iw), pt (ad 0) (oA .int 155 M), pt (ad 3) (oA .int 1240 P)]
abbrev wV (m : Nat) (ad : Nat → Nat) (sv ch ea fa th pm lm cm p0 s0 iw : Int32) (M V : Nat → Int32) : List An := [pt m (mO ad sv ch ea fa th pm lm cm p0 s0 iw), pt (ad 0) (oA .int 155 M), pt (ad 2) (oA .int 155 V)]
theorem c_X3_undo0 (hB : Bs B) : Tr B yX3_undo (Cond.code yX3_undo cX3_undo 2 (some .int)) (rmd 2 0 0) [.ref m] (wU m ad sv 0 ea fa th pm lm cm p0 s0 iw M P) (fun r w => r = some (.int (-1)) ∧ w = wU m ad sv 0 ea fa 1 pm lm cm p0 s0 iw M P) nox := by
  refine tr_of hB (by decide +kernel) rfl ?_
  intro Γ X Y
  refine g_eq (ls' := [.val (.ref m), .unset]) rfl rfl ?_
  refine g_aload_n X dX3_undo_0 rfl rfl ?_
  refine g_iconst (v := 0) X dX3_undo_1 rfl ?_
  refine pf_20_8 X dX3_undo_2 fl_X3_45 (by repeat (first | with_reducible exact Rp.here | with_reducible apply Rp.there)) rfl rfl ?_
  refine g_aload_n X dX3_undo_5 rfl rfl ?_
  refine g_getf X dX3_undo_6 fl_X3_48 (by repeat (first | with_reducible exact Pk.here | with_reducible apply Pk.there)) (by exact rfl) ?_
  refine g_if_ne (tgt := 18) X dX3_undo_9 (by decide) (fun c_9 => absurd c_9 (fun h => h rfl)) (fun c_9 => ?_)
  refine g_aload_n X dX3_undo_12 rfl rfl ?_
  refine g_iconst (v := 1) X dX3_undo_13 rfl ?_
  refine g_callV X dX3_undo_14 mv_X3_75 (c_X3_throwing hB) rfl cl_X3 (by repeat (first | with_reducible exact Rc.pt | with_reducible apply Rc.there)) (by repeat (first | with_reducible exact Pks.nil | (with_reducible refine Pks.pure (by assumption) ?_) | (with_reducible apply Pks.cons; focus ((repeat (first | with_reducible exact Pk.here | with_reducible apply Pk.there)); done)) | (refine Pks.cons Pk.here ?_))) rfl rfl (by decide) (by exact Nat.le_of_ble_eq_true rfl) (by first | decide | omega) (fun r w1 hq => ?_) (fun E q w1 hq => hq.elim)
  obtain ⟨rfl, rfl⟩ := hq
  dsimp only [wM, wU, wV, List.cons_append, List.nil_append, Option.toList_some, Option.toList_none]
  exact g_iret X Y dX3_undo_17 (rfl) (⟨rfl, rfl⟩) (Pks.tail (rest := _) (by repeat (first | with_reducible exact Pks.nil | (with_reducible refine Pks.pure (by assumption) ?_) | (with_reducible apply Pks.cons; focus ((repeat (first | with_reducible exact Pk.here | with_reducible apply Pk.there)); done)) | (refine Pks.cons Pk.here ?_))))
theorem c_X3_undo (hB : Bs B) (hP : EnP P (L ++ [S1])) (hc : ch = nI (L.length + 1)) : Tr B yX3_undo (Cond.code yX3_undo cX3_undo 2 (some .int)) (rmd 2 0 0) [.ref m] (wU m ad sv ch ea fa th pm lm cm p0 s0 iw M P) (fun r w => ∃ M', r = some (.int (nI L.length)) ∧ w = wU m ad sv (nI L.length) ea fa 0 pm lm cm p0 s0 iw M' P ∧ Enc M' S1 ∧ EnP P L) nox := by
  subst hc
  have hlen : (L ++ [S1]).length = L.length + 1 := by simp
  have hl := hP.1
  rw [hlen] at hl
  have h1 : Enc (fun q => P (155 * L.length + q)) S1 := hP.2 L.length S1 (by simp)
  have h2 : EnP P L := ⟨by omega, fun k S' hk => hP.2 k S' (by rw [List.getElem?_append_left (List.getElem?_eq_some_iff.mp hk).1]; exact hk)⟩
  refine tr_of hB (by decide +kernel) rfl ?_
  intro Γ X Y
  refine g_eq (ls' := [.val (.ref m), .unset]) rfl rfl ?_
  have K : ∀ j k, k + j = 155 → G B Γ 0 0 (wU m ad sv (nI L.length) ea fa 0 pm lm cm p0 s0 iw (cpu M (fun q => P (155 * L.length + q)) 0 k) P) 30 [.val (.ref m), .val (.int (nI k))] [] := by
    intro j
    induction j with
    | zero =>
      intro k hk
      obtain rfl : k = 155 := by omega
      refine g_iload_n X dX3_undo_30 rfl rfl ?_
      refine g_sipush (v := 155) X dX3_undo_31 rfl ?_
      refine g_icmp_ge (tgt := 64) X dX3_undo_34 (by decide) (fun c_34 => ?_) (fun c_34 => absurd (nI_le (a := 155) (by omega) (by omega)) c_34)
      refine g_aload_n X dX3_undo_64 rfl rfl ?_
      refine g_getf X dX3_undo_65 fl_X3_48 (by repeat (first | with_reducible exact Pk.here | with_reducible apply Pk.there)) (by exact rfl) ?_
      exact g_iret X Y dX3_undo_68 (rfl) (⟨_, rfl, rfl, h1.aside (A := M), h2⟩) (Pks.tail (rest := _) (by repeat (first | with_reducible exact Pks.nil | (with_reducible refine Pks.pure (by assumption) ?_) | (with_reducible apply Pks.cons; focus ((repeat (first | with_reducible exact Pk.here | with_reducible apply Pk.there)); done)) | (refine Pks.cons Pk.here ?_))))
    | succ j ih =>
      intro k hk
      refine g_iload_n X dX3_undo_30 rfl rfl ?_
      refine g_sipush (v := 155) X dX3_undo_31 rfl ?_
      refine g_icmp_ge (tgt := 64) X dX3_undo_34 (by decide) (fun c_34 => absurd c_34 (nI_ge (b := 155) (by omega) (by omega))) (fun c_34 => ?_)
      refine g_aload_n X dX3_undo_37 rfl rfl ?_
      refine g_getf X dX3_undo_38 fl_X3_9 (by repeat (first | with_reducible exact Pk.here | with_reducible apply Pk.there)) (by exact rfl) ?_
      refine g_iload_n X dX3_undo_41 rfl rfl ?_
      refine g_aload_n X dX3_undo_42 rfl rfl ?_
      refine g_getf X dX3_undo_43 fl_X3_19 (by repeat (first | with_reducible exact Pk.here | with_reducible apply Pk.there)) (by exact rfl) ?_
      refine g_sipush (v := 155) X dX3_undo_46 rfl ?_
      refine g_aload_n X dX3_undo_49 rfl rfl ?_
      refine g_getf X dX3_undo_50 fl_X3_48 (by repeat (first | with_reducible exact Pk.here | with_reducible apply Pk.there)) (by exact rfl) ?_
      refine g_imul X dX3_undo_53 ?_
      rw [show (155 : Int32) = nI 155 by decide, pk_mul]
      refine g_iload_n X dX3_undo_54 rfl rfl ?_
      refine g_iadd X dX3_undo_55 ?_
      rw [nI_add]
      refine g_iald (155 * L.length + k) X dX3_undo_56 (by repeat (first | with_reducible exact Pk.here | with_reducible apply Pk.there)) (rfl) (by omega) (by exact rfl) ?_
      refine g_iast (k) X dX3_undo_57 (by repeat (first | with_reducible exact Rp.here | with_reducible apply Rp.there)) (rfl) (by omega) ?_
      refine ii_2_1 (v := nI (k + 1)) X dX3_undo_58 (nI_1 k) rfl ?_
      refine g_goto (tgt := 30) X dX3_undo_61 (by decide) ?_
      rw [cpu_st (Nat.zero_le _) rfl]
      exact ih (k + 1) (by omega)
  refine g_aload_n X dX3_undo_0 rfl rfl ?_
  refine g_iconst (v := 0) X dX3_undo_1 rfl ?_
  refine pf_20_8 X dX3_undo_2 fl_X3_45 (by repeat (first | with_reducible exact Rp.here | with_reducible apply Rp.there)) rfl rfl ?_
  refine g_aload_n X dX3_undo_5 rfl rfl ?_
  refine g_getf X dX3_undo_6 fl_X3_48 (by repeat (first | with_reducible exact Pk.here | with_reducible apply Pk.there)) (by exact rfl) ?_
  refine g_if_ne (tgt := 18) X dX3_undo_9 (by decide) (fun c_9 => ?_) (fun c_9 => absurd c_9 (nI_ne0 (by omega) (by omega)))
  refine g_aload_n X dX3_undo_18 rfl rfl ?_
  refine g_dup X dX3_undo_19 rfl ?_
  refine g_getf X dX3_undo_20 fl_X3_48 (by repeat (first | with_reducible exact Pk.here | with_reducible apply Pk.there)) (by exact rfl) ?_
  refine g_iconst (v := 1) X dX3_undo_23 rfl ?_
  refine g_isub X dX3_undo_24 ?_
  rw [nI_pred]
  refine pf_20_5 X dX3_undo_25 fl_X3_48 (by repeat (first | with_reducible exact Rp.here | with_reducible apply Rp.there)) rfl rfl ?_
  refine g_iconst (v := 0) X dX3_undo_28 rfl ?_
  refine is_2_1n X dX3_undo_29 rfl rfl ?_
  have h9 := K 155 0 rfl
  rw [cpu_0] at h9
  exact h9
theorem c_X3_save (hB : Bs B) (hE : Enc M S) : Tr B yX3_save (Cond.code yX3_save cX3_save 2 (some .int)) (rmd 2 0 0) [.ref m] (wV m ad sv ch ea fa th pm lm cm p0 s0 iw M V) (fun r w => ∃ V', r = some (.int (nI (sT S).length)) ∧ w = wV m ad 1 ch ea fa 0 pm lm cm p0 s0 iw M V' ∧ Enc V' S) nox := by
  refine tr_of hB (by decide +kernel) rfl ?_
  intro Γ X Y
  refine g_eq (ls' := [.val (.ref m), .unset]) rfl rfl ?_
  have K : ∀ j k, k + j = 155 → G B Γ 0 0 (wV m ad sv ch ea fa 0 pm lm cm p0 s0 iw M (cpu V M 0 k)) 7 [.val (.ref m), .val (.int (nI k))] [] := by
    intro j
    induction j with
    | zero =>
      intro k hk
      obtain rfl : k = 155 := by omega
      refine g_iload_n X dX3_save_7 rfl rfl ?_
      refine g_sipush (v := 155) X dX3_save_8 rfl ?_
      refine g_icmp_ge (tgt := 32) X dX3_save_11 (by decide) (fun c_11 => ?_) (fun c_11 => absurd (nI_le (a := 155) (by omega) (by omega)) c_11)
      refine g_aload_n X dX3_save_32 rfl rfl ?_
      refine g_iconst (v := 1) X dX3_save_33 rfl ?_
      refine pf_20_3 X dX3_save_34 fl_X3_264 (by repeat (first | with_reducible exact Rp.here | with_reducible apply Rp.there)) rfl rfl ?_
      refine g_aload_n X dX3_save_37 rfl rfl ?_
      refine g_getf X dX3_save_38 fl_X3_9 (by repeat (first | with_reducible exact Pk.here | with_reducible apply Pk.there)) (by exact rfl) ?_
      refine g_iconst (v := 0) X dX3_save_41 rfl ?_
      refine g_iald (0) X dX3_save_42 (by repeat (first | with_reducible exact Pk.here | with_reducible apply Pk.there)) (rfl) (by decide) (by exact hE.2.2.1.1) ?_
      exact g_iret X Y dX3_save_43 (rfl) (⟨_, rfl, rfl, hE.aside⟩) (Pks.tail (rest := _) (by repeat (first | with_reducible exact Pks.nil | (with_reducible refine Pks.pure (by assumption) ?_) | (with_reducible apply Pks.cons; focus ((repeat (first | with_reducible exact Pk.here | with_reducible apply Pk.there)); done)) | (refine Pks.cons Pk.here ?_))))
    | succ j ih =>
      intro k hk
      refine g_iload_n X dX3_save_7 rfl rfl ?_
      refine g_sipush (v := 155) X dX3_save_8 rfl ?_
      refine g_icmp_ge (tgt := 32) X dX3_save_11 (by decide) (fun c_11 => absurd c_11 (nI_ge (b := 155) (by omega) (by omega))) (fun c_11 => ?_)
      refine g_aload_n X dX3_save_14 rfl rfl ?_
      refine g_getf X dX3_save_15 fl_X3_16 (by repeat (first | with_reducible exact Pk.here | with_reducible apply Pk.there)) (by exact rfl) ?_
      refine g_iload_n X dX3_save_18 rfl rfl ?_
      refine g_aload_n X dX3_save_19 rfl rfl ?_
      refine g_getf X dX3_save_20 fl_X3_9 (by repeat (first | with_reducible exact Pk.here | with_reducible apply Pk.there)) (by exact rfl) ?_
      refine g_iload_n X dX3_save_23 rfl rfl ?_
      refine g_iald (k) X dX3_save_24 (by repeat (first | with_reducible exact Pk.here | with_reducible apply Pk.there)) (rfl) (by omega) (by exact rfl) ?_
      refine g_iast (k) X dX3_save_25 (by repeat (first | with_reducible exact Rp.here | with_reducible apply Rp.there)) (rfl) (by omega) ?_
      refine ii_2_1 (v := nI (k + 1)) X dX3_save_26 (nI_1 k) rfl ?_
      refine g_goto (tgt := 7) X dX3_save_29 (by decide) ?_
      rw [cpu_st (Nat.zero_le _) rfl]
      exact ih (k + 1) (by omega)
  refine g_aload_n X dX3_save_0 rfl rfl ?_
  refine g_iconst (v := 0) X dX3_save_1 rfl ?_
  refine pf_20_8 X dX3_save_2 fl_X3_45 (by repeat (first | with_reducible exact Rp.here | with_reducible apply Rp.there)) rfl rfl ?_
  refine g_iconst (v := 0) X dX3_save_5 rfl ?_
  refine is_2_1n X dX3_save_6 rfl rfl ?_
  have h9 := K 155 0 rfl
  rw [cpu_0] at h9
  exact h9
theorem c_X3_restore0 (hB : Bs B) : Tr B yX3_restore (Cond.code yX3_restore cX3_restore 2 (some .int)) (rmd 2 0 0) [.ref m] (wV m ad 0 ch ea fa th pm lm cm p0 s0 iw M V) (fun r w => r = some (.int (-1)) ∧ w = wV m ad 0 ch ea fa 1 pm lm cm p0 s0 iw M V) nox := by
  refine tr_of hB (by decide +kernel) rfl ?_
  intro Γ X Y
  refine g_eq (ls' := [.val (.ref m), .unset]) rfl rfl ?_
  refine g_aload_n X dX3_restore_0 rfl rfl ?_
  refine g_iconst (v := 0) X dX3_restore_1 rfl ?_
  refine pf_20_8 X dX3_restore_2 fl_X3_45 (by repeat (first | with_reducible exact Rp.here | with_reducible apply Rp.there)) rfl rfl ?_
  refine g_aload_n X dX3_restore_5 rfl rfl ?_
  refine g_getf X dX3_restore_6 fl_X3_264 (by repeat (first | with_reducible exact Pk.here | with_reducible apply Pk.there)) (by exact rfl) ?_
  refine g_if_ne (tgt := 18) X dX3_restore_9 (by decide) (fun c_9 => absurd c_9 (fun h => h rfl)) (fun c_9 => ?_)
  refine g_aload_n X dX3_restore_12 rfl rfl ?_
  refine g_iconst (v := 1) X dX3_restore_13 rfl ?_
  refine g_callV X dX3_restore_14 mv_X3_75 (c_X3_throwing hB) rfl cl_X3 (by repeat (first | with_reducible exact Rc.pt | with_reducible apply Rc.there)) (by repeat (first | with_reducible exact Pks.nil | (with_reducible refine Pks.pure (by assumption) ?_) | (with_reducible apply Pks.cons; focus ((repeat (first | with_reducible exact Pk.here | with_reducible apply Pk.there)); done)) | (refine Pks.cons Pk.here ?_))) rfl rfl (by decide) (by exact Nat.le_of_ble_eq_true rfl) (by first | decide | omega) (fun r w1 hq => ?_) (fun E q w1 hq => hq.elim)
  obtain ⟨rfl, rfl⟩ := hq
  dsimp only [wM, wU, wV, List.cons_append, List.nil_append, Option.toList_some, Option.toList_none]
  exact g_iret X Y dX3_restore_17 (rfl) (⟨rfl, rfl⟩) (Pks.tail (rest := _) (by repeat (first | with_reducible exact Pks.nil | (with_reducible refine Pks.pure (by assumption) ?_) | (with_reducible apply Pks.cons; focus ((repeat (first | with_reducible exact Pk.here | with_reducible apply Pk.there)); done)) | (refine Pks.cons Pk.here ?_))))
theorem c_X3_restore (hB : Bs B) (hE : Enc V S) : Tr B yX3_restore (Cond.code yX3_restore cX3_restore 2 (some .int)) (rmd 2 0 0) [.ref m] (wV m ad 1 ch ea fa th pm lm cm p0 s0 iw M V) (fun r w => ∃ M', r = some (.int (nI (sT S).length)) ∧ w = wV m ad 1 0 ea fa 0 pm lm cm p0 s0 iw M' V ∧ Enc M' S) nox := by
  refine tr_of hB (by decide +kernel) rfl ?_
  intro Γ X Y
  refine g_eq (ls' := [.val (.ref m), .unset]) rfl rfl ?_
  have K : ∀ j k, k + j = 155 → G B Γ 0 0 (wV m ad 1 ch ea fa 0 pm lm cm p0 s0 iw (cpu M V 0 k) V) 20 [.val (.ref m), .val (.int (nI k))] [] := by
    intro j
    induction j with
    | zero =>
      intro k hk
      obtain rfl : k = 155 := by omega
      refine g_iload_n X dX3_restore_20 rfl rfl ?_
      refine g_sipush (v := 155) X dX3_restore_21 rfl ?_
      refine g_icmp_ge (tgt := 45) X dX3_restore_24 (by decide) (fun c_24 => ?_) (fun c_24 => absurd (nI_le (a := 155) (by omega) (by omega)) c_24)
      refine g_aload_n X dX3_restore_45 rfl rfl ?_
      refine g_iconst (v := 0) X dX3_restore_46 rfl ?_
      refine pf_20_5 X dX3_restore_47 fl_X3_48 (by repeat (first | with_reducible exact Rp.here | with_reducible apply Rp.there)) rfl rfl ?_
      refine g_aload_n X dX3_restore_50 rfl rfl ?_
      refine g_getf X dX3_restore_51 fl_X3_9 (by repeat (first | with_reducible exact Pk.here | with_reducible apply Pk.there)) (by exact rfl) ?_
      refine g_iconst (v := 0) X dX3_restore_54 rfl ?_
      refine g_iald (0) X dX3_restore_55 (by repeat (first | with_reducible exact Pk.here | with_reducible apply Pk.there)) (rfl) (by decide) (by exact hE.aside.2.2.1.1) ?_
      exact g_iret X Y dX3_restore_56 (rfl) (⟨_, rfl, rfl, hE.aside⟩) (Pks.tail (rest := _) (by repeat (first | with_reducible exact Pks.nil | (with_reducible refine Pks.pure (by assumption) ?_) | (with_reducible apply Pks.cons; focus ((repeat (first | with_reducible exact Pk.here | with_reducible apply Pk.there)); done)) | (refine Pks.cons Pk.here ?_))))
    | succ j ih =>
      intro k hk
      refine g_iload_n X dX3_restore_20 rfl rfl ?_
      refine g_sipush (v := 155) X dX3_restore_21 rfl ?_
      refine g_icmp_ge (tgt := 45) X dX3_restore_24 (by decide) (fun c_24 => absurd c_24 (nI_ge (b := 155) (by omega) (by omega))) (fun c_24 => ?_)
      refine g_aload_n X dX3_restore_27 rfl rfl ?_
      refine g_getf X dX3_restore_28 fl_X3_9 (by repeat (first | with_reducible exact Pk.here | with_reducible apply Pk.there)) (by exact rfl) ?_
      refine g_iload_n X dX3_restore_31 rfl rfl ?_
      refine g_aload_n X dX3_restore_32 rfl rfl ?_
      refine g_getf X dX3_restore_33 fl_X3_16 (by repeat (first | with_reducible exact Pk.here | with_reducible apply Pk.there)) (by exact rfl) ?_
      refine g_iload_n X dX3_restore_36 rfl rfl ?_
      refine g_iald (k) X dX3_restore_37 (by repeat (first | with_reducible exact Pk.here | with_reducible apply Pk.there)) (rfl) (by omega) (by exact rfl) ?_
      refine g_iast (k) X dX3_restore_38 (by repeat (first | with_reducible exact Rp.here | with_reducible apply Rp.there)) (rfl) (by omega) ?_
      refine ii_2_1 (v := nI (k + 1)) X dX3_restore_39 (nI_1 k) rfl ?_
      refine g_goto (tgt := 20) X dX3_restore_42 (by decide) ?_
      rw [cpu_st (Nat.zero_le _) rfl]
      exact ih (k + 1) (by omega)
  refine g_aload_n X dX3_restore_0 rfl rfl ?_
  refine g_iconst (v := 0) X dX3_restore_1 rfl ?_
  refine pf_20_8 X dX3_restore_2 fl_X3_45 (by repeat (first | with_reducible exact Rp.here | with_reducible apply Rp.there)) rfl rfl ?_
  refine g_aload_n X dX3_restore_5 rfl rfl ?_
  refine g_getf X dX3_restore_6 fl_X3_264 (by repeat (first | with_reducible exact Pk.here | with_reducible apply Pk.there)) (by exact rfl) ?_
  refine g_if_ne (tgt := 18) X dX3_restore_9 (by decide) (fun c_9 => ?_) (fun c_9 => absurd c_9 (by decide))
  refine g_iconst (v := 0) X dX3_restore_18 rfl ?_
  refine is_2_1n X dX3_restore_19 rfl rfl ?_
  have h9 := K 155 0 rfl
  rw [cpu_0] at h9
  exact h9
/-- a number or none, as answered -/
def qOpt (x : Option Nat) : Rq := match x with
  | none => erQ 1
  | some k => (0, nI k)
theorem c_X3_errorPosition (hB : Bs B) {x : Option Nat} (hx : ∀ k, x = some k → k < 2 ^ 31) (he : ea = oI_ x) : Tr B yX3_errorPosition (Cond.code yX3_errorPosition cX3_errorPosition 1 (some .int)) (rmd 2 0 0) [.ref m] [pt m (mO ad sv ch ea fa th pm lm cm p0 s0 iw)] (fun r w => ∃ q, r = some (.int (qOpt x).2) ∧ w = [pt m (mO ad sv ch ea fa q pm lm cm p0 s0 iw)] ∧ q = nI (qOpt x).1) nox := by
  subst he
  refine tr_of hB (by decide +kernel) rfl ?_
  intro Γ X Y
  refine g_eq (ls' := [.val (.ref m)]) rfl rfl ?_
  cases x with
  | none =>
    refine g_aload_n X dX3_errorPosition_0 rfl rfl ?_
    refine g_iconst (v := 0) X dX3_errorPosition_1 rfl ?_
    refine pf_20_8 X dX3_errorPosition_2 fl_X3_45 (by repeat (first | with_reducible exact Rp.here | with_reducible apply Rp.there)) rfl rfl ?_
    refine g_aload_n X dX3_errorPosition_5 rfl rfl ?_
    refine g_getf X dX3_errorPosition_6 fl_X3_22 (by repeat (first | with_reducible exact Pk.here | with_reducible apply Pk.there)) (by exact rfl) ?_
    refine g_iconst (v := (-1)) X dX3_errorPosition_9 rfl ?_
    refine g_icmp_ne (tgt := 21) X dX3_errorPosition_10 (by decide) (fun c_10 => absurd c_10 (fun h => h rfl)) (fun c_10 => ?_)
    refine g_aload_n X dX3_errorPosition_13 rfl rfl ?_
    refine g_iconst (v := 1) X dX3_errorPosition_14 rfl ?_
    refine g_callV X dX3_errorPosition_15 mv_X3_75 (c_X3_throwing hB) rfl cl_X3 (by repeat (first | with_reducible exact Rc.pt | with_reducible apply Rc.there)) (by repeat (first | with_reducible exact Pks.nil | (with_reducible refine Pks.pure (by assumption) ?_) | (with_reducible apply Pks.cons; focus ((repeat (first | with_reducible exact Pk.here | with_reducible apply Pk.there)); done)) | (refine Pks.cons Pk.here ?_))) rfl rfl (by decide) (by exact Nat.le_of_ble_eq_true rfl) (by first | decide | omega) (fun r w1 hq => ?_) (fun E q w1 hq => hq.elim)
    obtain ⟨rfl, rfl⟩ := hq
    dsimp only [wM, wU, wV, List.cons_append, List.nil_append, Option.toList_some, Option.toList_none]
    refine g_goto (tgt := 25) X dX3_errorPosition_18 (by decide) ?_
    exact g_iret X Y dX3_errorPosition_25 (rfl) (⟨1, rfl, rfl, rfl⟩) (Pks.tail (rest := _) (by repeat (first | with_reducible exact Pks.nil | (with_reducible refine Pks.pure (by assumption) ?_) | (with_reducible apply Pks.cons; focus ((repeat (first | with_reducible exact Pk.here | with_reducible apply Pk.there)); done)) | (refine Pks.cons Pk.here ?_))))
  | some k =>
    refine g_aload_n X dX3_errorPosition_0 rfl rfl ?_
    refine g_iconst (v := 0) X dX3_errorPosition_1 rfl ?_
    refine pf_20_8 X dX3_errorPosition_2 fl_X3_45 (by repeat (first | with_reducible exact Rp.here | with_reducible apply Rp.there)) rfl rfl ?_
    refine g_aload_n X dX3_errorPosition_5 rfl rfl ?_
    refine g_getf X dX3_errorPosition_6 fl_X3_22 (by repeat (first | with_reducible exact Pk.here | with_reducible apply Pk.there)) (by exact rfl) ?_
    refine g_iconst (v := (-1)) X dX3_errorPosition_9 rfl ?_
    refine g_icmp_ne (tgt := 21) X dX3_errorPosition_10 (by decide) (fun c_10 => ?_) (fun c_10 => absurd c_10 (fun e => nomatch (oI_none hx).mp e))
    refine g_aload_n X dX3_errorPosition_21 rfl rfl ?_
    refine g_getf X dX3_errorPosition_22 fl_X3_22 (by repeat (first | with_reducible exact Pk.here | with_reducible apply Pk.there)) (by exact rfl) ?_
    exact g_iret X Y dX3_errorPosition_25 (rfl) (⟨0, rfl, rfl, rfl⟩) (Pks.tail (rest := _) (by repeat (first | with_reducible exact Pks.nil | (with_reducible refine Pks.pure (by assumption) ?_) | (with_reducible apply Pks.cons; focus ((repeat (first | with_reducible exact Pk.here | with_reducible apply Pk.there)); done)) | (refine Pks.cons Pk.here ?_))))
theorem c_X3_failedCommand (hB : Bs B) {x : Option Nat} (hx : ∀ k, x = some k → k < 2 ^ 31) (he : fa = oI_ x) : Tr B yX3_failedCommand (Cond.code yX3_failedCommand cX3_failedCommand 1 (some .int)) (rmd 2 0 0) [.ref m] [pt m (mO ad sv ch ea fa th pm lm cm p0 s0 iw)] (fun r w => ∃ q, r = some (.int (qOpt x).2) ∧ w = [pt m (mO ad sv ch ea fa q pm lm cm p0 s0 iw)] ∧ q = nI (qOpt x).1) nox := by
  subst he
  refine tr_of hB (by decide +kernel) rfl ?_
  intro Γ X Y
  refine g_eq (ls' := [.val (.ref m)]) rfl rfl ?_
  cases x with
  | none =>
    refine g_aload_n X dX3_failedCommand_0 rfl rfl ?_
    refine g_iconst (v := 0) X dX3_failedCommand_1 rfl ?_
    refine pf_20_8 X dX3_failedCommand_2 fl_X3_45 (by repeat (first | with_reducible exact Rp.here | with_reducible apply Rp.there)) rfl rfl ?_
    refine g_aload_n X dX3_failedCommand_5 rfl rfl ?_
    refine g_getf X dX3_failedCommand_6 fl_X3_26 (by repeat (first | with_reducible exact Pk.here | with_reducible apply Pk.there)) (by exact rfl) ?_
    refine g_iconst (v := (-1)) X dX3_failedCommand_9 rfl ?_
    refine g_icmp_ne (tgt := 21) X dX3_failedCommand_10 (by decide) (fun c_10 => absurd c_10 (fun h => h rfl)) (fun c_10 => ?_)
    refine g_aload_n X dX3_failedCommand_13 rfl rfl ?_
    refine g_iconst (v := 1) X dX3_failedCommand_14 rfl ?_
    refine g_callV X dX3_failedCommand_15 mv_X3_75 (c_X3_throwing hB) rfl cl_X3 (by repeat (first | with_reducible exact Rc.pt | with_reducible apply Rc.there)) (by repeat (first | with_reducible exact Pks.nil | (with_reducible refine Pks.pure (by assumption) ?_) | (with_reducible apply Pks.cons; focus ((repeat (first | with_reducible exact Pk.here | with_reducible apply Pk.there)); done)) | (refine Pks.cons Pk.here ?_))) rfl rfl (by decide) (by exact Nat.le_of_ble_eq_true rfl) (by first | decide | omega) (fun r w1 hq => ?_) (fun E q w1 hq => hq.elim)
    obtain ⟨rfl, rfl⟩ := hq
    dsimp only [wM, wU, wV, List.cons_append, List.nil_append, Option.toList_some, Option.toList_none]
    refine g_goto (tgt := 25) X dX3_failedCommand_18 (by decide) ?_
    exact g_iret X Y dX3_failedCommand_25 (rfl) (⟨1, rfl, rfl, rfl⟩) (Pks.tail (rest := _) (by repeat (first | with_reducible exact Pks.nil | (with_reducible refine Pks.pure (by assumption) ?_) | (with_reducible apply Pks.cons; focus ((repeat (first | with_reducible exact Pk.here | with_reducible apply Pk.there)); done)) | (refine Pks.cons Pk.here ?_))))
  | some k =>
    refine g_aload_n X dX3_failedCommand_0 rfl rfl ?_
    refine g_iconst (v := 0) X dX3_failedCommand_1 rfl ?_
    refine pf_20_8 X dX3_failedCommand_2 fl_X3_45 (by repeat (first | with_reducible exact Rp.here | with_reducible apply Rp.there)) rfl rfl ?_
    refine g_aload_n X dX3_failedCommand_5 rfl rfl ?_
    refine g_getf X dX3_failedCommand_6 fl_X3_26 (by repeat (first | with_reducible exact Pk.here | with_reducible apply Pk.there)) (by exact rfl) ?_
    refine g_iconst (v := (-1)) X dX3_failedCommand_9 rfl ?_
    refine g_icmp_ne (tgt := 21) X dX3_failedCommand_10 (by decide) (fun c_10 => ?_) (fun c_10 => absurd c_10 (fun e => nomatch (oI_none hx).mp e))
    refine g_aload_n X dX3_failedCommand_21 rfl rfl ?_
    refine g_getf X dX3_failedCommand_22 fl_X3_26 (by repeat (first | with_reducible exact Pk.here | with_reducible apply Pk.there)) (by exact rfl) ?_
    exact g_iret X Y dX3_failedCommand_25 (rfl) (⟨0, rfl, rfl, rfl⟩) (Pks.tail (rest := _) (by repeat (first | with_reducible exact Pks.nil | (with_reducible refine Pks.pure (by assumption) ?_) | (with_reducible apply Pks.cons; focus ((repeat (first | with_reducible exact Pk.here | with_reducible apply Pk.there)); done)) | (refine Pks.cons Pk.here ?_))))
end MODEL
