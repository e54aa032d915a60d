/-! THE MODEL: traders, orders placed -/
set_option maxRecDepth 100000
theorem inL {x : Int32} {a b : Int64} {j k : Nat} (ha : a = (nI j).toInt64) (hb : b = (nI k).toInt64) : (a ≤ x.toInt64 ∧ x.toInt64 ≤ b) = inR x j k := by
  subst ha hb; exact propext i2l_in
section MODEL
variable {B : Bt} {m : Nat} {ad : Nat → Nat} {sv ch ea fa th pm lm cm p0 s0 iw : Int32} {M A : Nat → Int32} {S : SS} {R : Rs}
/-- the model behind an operation with the outcome R -/
abbrev PoM (m : Nat) (ad : Nat → Nat) (sv ch ea fa pm lm cm p0 s0 iw : Int32) (R : Rs) : Option Value → List An → Prop := fun r w => ∃ M' q, r = some (.int R.2.1) ∧ w = wM m ad sv ch ea fa q pm lm cm p0 s0 iw M' ∧ q = nI R.1 ∧ Enc M' R.2.2
theorem c_X3_traderIt (hB : Bs B) {c w : Int32} (hE : Enc M S) (hR : addS c w S = R) : Tr B yX3_traderIt (Cond.code yX3_traderIt cX3_traderIt 3 (some .int)) (rmd 2 0 0) [.ref m, .int c, .int w] (wM m ad sv ch ea fa 0 pm lm cm p0 s0 iw M) (PoM m ad sv ch ea fa pm lm cm p0 s0 iw R) nox := by
  have hT := hE.2.2.1.1
  have hl := hE.2.2.1.2.1
  refine tr_of hB (by decide +kernel) rfl ?_
  intro Γ X Y
  refine g_eq (ls' := [.val (.ref m), .val (.int c), .val (.int w)]) rfl rfl ?_
  refine g_iload_n X dX3_traderIt_0 rfl rfl ?_
  refine g_i2l X dX3_traderIt_1 rfl ?_
  refine g_lconst (v := 0) X dX3_traderIt_2 rfl ?_
  refine g_ldc2 X dX3_traderIt_3 q2800 ?_
  refine g_callS X dX3_traderIt_6 ms_X3_51 (c_X3_in hB) rfl (by repeat (first | with_reducible exact Pks.nil | (with_reducible refine Pks.pure (by assumption) ?_) | (with_reducible apply Pks.cons; focus ((repeat (first | with_reducible exact Pk.here | with_reducible apply Pk.there)); done)) | (refine Pks.cons Pk.here ?_))) rfl rfl (by decide) (by exact Nat.le_of_ble_eq_true rfl) (by first | decide | omega) (fun r w1 hq => ?_) (fun E q w1 hq => hq.elim)
  obtain ⟨rfl, rfl⟩ := hq
  dsimp only [wM, PoM, List.cons_append, List.nil_append, Option.toList_some, Option.toList_none]
  rw [inL (j := 0) (k := 999) (by decide) (by decide)]
  refine g_if_eq (tgt := 24) X dX3_traderIt_9 (by decide) (fun c_9 => ?_) (fun c_9 => ?_)
  · obtain rfl : R = erS 1 S := hR.symm.trans (if_pos fun q => bP_0.mp c_9 q.1)
    refine g_aload_n X dX3_traderIt_24 rfl rfl ?_
    refine g_iconst (v := 1) X dX3_traderIt_25 rfl ?_
    refine g_callV X dX3_traderIt_26 mv_X3_75 (c_X3_throwing hB) rfl cl_X3 (by repeat (first | with_reducible exact Rc.pt | with_reducible apply Rc.there)) (by repeat (first | with_reducible exact Pks.nil | (with_reducible refine Pks.pure (by assumption) ?_) | (with_reducible apply Pks.cons; focus ((repeat (first | with_reducible exact Pk.here | with_reducible apply Pk.there)); done)) | (refine Pks.cons Pk.here ?_))) rfl rfl (by decide) (by exact Nat.le_of_ble_eq_true rfl) (by first | decide | omega) (fun r w1 hq => ?_) (fun E q w1 hq => hq.elim)
    obtain ⟨rfl, rfl⟩ := hq
    dsimp only [wM, PoM, List.cons_append, List.nil_append, Option.toList_some, Option.toList_none]
    exact g_iret X Y dX3_traderIt_29 (rfl) (⟨_, 1, rfl, rfl, rfl, hE⟩) (Pks.tail (rest := _) (by repeat (first | with_reducible exact Pks.nil | (with_reducible refine Pks.pure (by assumption) ?_) | (with_reducible apply Pks.cons; focus ((repeat (first | with_reducible exact Pk.here | with_reducible apply Pk.there)); done)) | (refine Pks.cons Pk.here ?_))))
  · have h1 := bP_n0.mp c_9
    refine g_iload_n X dX3_traderIt_12 rfl rfl ?_
    refine g_i2l X dX3_traderIt_13 rfl ?_
    refine g_lconst (v := 0) X dX3_traderIt_14 rfl ?_
    refine g_ldc2 X dX3_traderIt_15 q2804 ?_
    refine g_callS X dX3_traderIt_18 ms_X3_51 (c_X3_in hB) rfl (by repeat (first | with_reducible exact Pks.nil | (with_reducible refine Pks.pure (by assumption) ?_) | (with_reducible apply Pks.cons; focus ((repeat (first | with_reducible exact Pk.here | with_reducible apply Pk.there)); done)) | (refine Pks.cons Pk.here ?_))) rfl rfl (by decide) (by exact Nat.le_of_ble_eq_true rfl) (by first | decide | omega) (fun r w1 hq => ?_) (fun E q w1 hq => hq.elim)
    obtain ⟨rfl, rfl⟩ := hq
    dsimp only [wM, PoM, List.cons_append, List.nil_append, Option.toList_some, Option.toList_none]
    rw [inL (j := 0) (k := 99) (by decide) (by decide)]
    refine g_if_ne (tgt := 30) X dX3_traderIt_21 (by decide) (fun c_21 => ?_) (fun c_21 => ?_)
    · have h2 := bP_n0.mp c_21
      have hR2 := hR.symm.trans (if_neg fun q => q ⟨h1, h2⟩)
      obtain ⟨c', -, hc, rfl⟩ := inR_of (by decide) (by decide) h1
      obtain ⟨w', -, hw, rfl⟩ := inR_of (by decide) (by decide) h2
      rw [show cN (nI c') = c' from nI_clamp (by omega), show cN (nI w') = w' from nI_clamp (by omega)] at hR2
      refine g_aload_n X dX3_traderIt_30 rfl rfl ?_
      refine g_getf X dX3_traderIt_31 fl_X3_9 (by repeat (first | with_reducible exact Pk.here | with_reducible apply Pk.there)) (by exact rfl) ?_
      refine g_iconst (v := 0) X dX3_traderIt_34 rfl ?_
      refine g_iald (0) X dX3_traderIt_35 (by repeat (first | with_reducible exact Pk.here | with_reducible apply Pk.there)) (rfl) (by decide) (by exact hT) ?_
      refine g_bipush (v := 6) X dX3_traderIt_36 rfl ?_
      refine g_icmp_ne (tgt := 47) X dX3_traderIt_38 (by decide) (fun c_38 => ?_) (fun c_38 => ?_)
      · have h3 : ¬ (sT S).length = 6 := fun e => c_38 (by rw [e]; rfl)
        obtain rfl := hR2.trans (if_neg h3)
        refine g_aload_n X dX3_traderIt_47 rfl rfl ?_
        refine g_getf X dX3_traderIt_48 fl_X3_9 (by repeat (first | with_reducible exact Pk.here | with_reducible apply Pk.there)) (by exact rfl) ?_
        refine g_aload_n X dX3_traderIt_51 rfl rfl ?_
        refine g_getf X dX3_traderIt_52 fl_X3_9 (by repeat (first | with_reducible exact Pk.here | with_reducible apply Pk.there)) (by exact rfl) ?_
        refine g_iconst (v := 0) X dX3_traderIt_55 rfl ?_
        refine g_iald (0) X dX3_traderIt_56 (by repeat (first | with_reducible exact Pk.here | with_reducible apply Pk.there)) (rfl) (by decide) (by exact hT) ?_
        refine g_callS X dX3_traderIt_57 ms_X3_78 (c_X3_traderAt hB) rfl (by repeat (first | with_reducible exact Pks.nil | (with_reducible refine Pks.pure (by assumption) ?_) | (with_reducible apply Pks.cons; focus ((repeat (first | with_reducible exact Pk.here | with_reducible apply Pk.there)); done)) | (refine Pks.cons Pk.here ?_))) rfl rfl (by decide) (by exact Nat.le_of_ble_eq_true rfl) (by first | decide | omega) (fun r w1 hq => ?_) (fun E q w1 hq => hq.elim)
        obtain ⟨rfl, rfl⟩ := hq
        dsimp only [wM, PoM, List.cons_append, List.nil_append, Option.toList_some, Option.toList_none]
        rw [it_]
        refine g_iload_n X dX3_traderIt_60 rfl rfl ?_
        refine g_iast (17 + 3 * (sT S).length) X dX3_traderIt_61 (by repeat (first | with_reducible exact Rp.here | with_reducible apply Rp.there)) (rfl) (by omega) ?_
        refine g_aload_n X dX3_traderIt_62 rfl rfl ?_
        refine g_getf X dX3_traderIt_63 fl_X3_9 (by repeat (first | with_reducible exact Pk.here | with_reducible apply Pk.there)) (by exact rfl) ?_
        refine g_aload_n X dX3_traderIt_66 rfl rfl ?_
        refine g_getf X dX3_traderIt_67 fl_X3_9 (by repeat (first | with_reducible exact Pk.here | with_reducible apply Pk.there)) (by exact rfl) ?_
        refine g_iconst (v := 0) X dX3_traderIt_70 rfl ?_
        refine g_iald (0) X dX3_traderIt_71 (by repeat (first | with_reducible exact Pk.here | with_reducible apply Pk.there)) (rfl) (by decide) (by rw [upd_n (by omega), hT]) ?_
        refine g_callS X dX3_traderIt_72 ms_X3_78 (c_X3_traderAt hB) rfl (by repeat (first | with_reducible exact Pks.nil | (with_reducible refine Pks.pure (by assumption) ?_) | (with_reducible apply Pks.cons; focus ((repeat (first | with_reducible exact Pk.here | with_reducible apply Pk.there)); done)) | (refine Pks.cons Pk.here ?_))) rfl rfl (by decide) (by exact Nat.le_of_ble_eq_true rfl) (by first | decide | omega) (fun r w1 hq => ?_) (fun E q w1 hq => hq.elim)
        obtain ⟨rfl, rfl⟩ := hq
        dsimp only [wM, PoM, List.cons_append, List.nil_append, Option.toList_some, Option.toList_none]
        rw [it_]
        refine g_iconst (v := 1) X dX3_traderIt_75 rfl ?_
        refine g_iadd X dX3_traderIt_76 ?_
        rw [nI_1]
        refine g_iload_n X dX3_traderIt_77 rfl rfl ?_
        refine g_iast (17 + 3 * (sT S).length + 1) X dX3_traderIt_78 (by repeat (first | with_reducible exact Rp.here | with_reducible apply Rp.there)) (rfl) (by omega) ?_
        refine g_aload_n X dX3_traderIt_79 rfl rfl ?_
        refine g_getf X dX3_traderIt_80 fl_X3_9 (by repeat (first | with_reducible exact Pk.here | with_reducible apply Pk.there)) (by exact rfl) ?_
        refine g_iconst (v := 0) X dX3_traderIt_83 rfl ?_
        refine g_dup2 X dX3_traderIt_84 rfl rfl ?_
        refine g_iald (0) X dX3_traderIt_85 (by repeat (first | with_reducible exact Pk.here | with_reducible apply Pk.there)) (rfl) (by decide) (by rw [upd_n (by omega), upd_n (by omega), hT]) ?_
        refine g_iconst (v := 1) X dX3_traderIt_86 rfl ?_
        refine g_iadd X dX3_traderIt_87 ?_
        rw [nI_1]
        refine g_iast (0) X dX3_traderIt_88 (by repeat (first | with_reducible exact Rp.here | with_reducible apply Rp.there)) (rfl) (by decide) ?_
        refine g_aload_n X dX3_traderIt_89 rfl rfl ?_
        refine g_getf X dX3_traderIt_90 fl_X3_9 (by repeat (first | with_reducible exact Pk.here | with_reducible apply Pk.there)) (by exact rfl) ?_
        refine g_iconst (v := 0) X dX3_traderIt_93 rfl ?_
        refine g_iald (0) X dX3_traderIt_94 (by repeat (first | with_reducible exact Pk.here | with_reducible apply Pk.there)) (rfl) (by decide) (by exact upd_s) ?_
        refine g_iconst (v := 1) X dX3_traderIt_95 rfl ?_
        refine g_isub X dX3_traderIt_96 ?_
        rw [nI_pred]
        exact g_iret X Y dX3_traderIt_97 (rfl) (⟨_, 0, rfl, rfl, rfl, (hE.addT (by omega) rfl).cgN fun i hi => (up_n (by omega)).trans (up_n (by omega))⟩) (Pks.tail (rest := _) (by repeat (first | with_reducible exact Pks.nil | (with_reducible refine Pks.pure (by assumption) ?_) | (with_reducible apply Pks.cons; focus ((repeat (first | with_reducible exact Pk.here | with_reducible apply Pk.there)); done)) | (refine Pks.cons Pk.here ?_))))
      · have h3 : (sT S).length = 6 := nI_inj (by omega) (by decide) c_38
        obtain rfl := hR2.trans (if_pos h3)
        refine g_aload_n X dX3_traderIt_41 rfl rfl ?_
        refine g_iconst (v := 2) X dX3_traderIt_42 rfl ?_
        refine g_callV X dX3_traderIt_43 mv_X3_75 (c_X3_throwing hB) rfl cl_X3 (by repeat (first | with_reducible exact Rc.pt | with_reducible apply Rc.there)) (by repeat (first | with_reducible exact Pks.nil | (with_reducible refine Pks.pure (by assumption) ?_) | (with_reducible apply Pks.cons; focus ((repeat (first | with_reducible exact Pk.here | with_reducible apply Pk.there)); done)) | (refine Pks.cons Pk.here ?_))) rfl rfl (by decide) (by exact Nat.le_of_ble_eq_true rfl) (by first | decide | omega) (fun r w1 hq => ?_) (fun E q w1 hq => hq.elim)
        obtain ⟨rfl, rfl⟩ := hq
        dsimp only [wM, PoM, List.cons_append, List.nil_append, Option.toList_some, Option.toList_none]
        exact g_iret X Y dX3_traderIt_46 (rfl) (⟨_, 2, rfl, rfl, rfl, hE⟩) (Pks.tail (rest := _) (by repeat (first | with_reducible exact Pks.nil | (with_reducible refine Pks.pure (by assumption) ?_) | (with_reducible apply Pks.cons; focus ((repeat (first | with_reducible exact Pk.here | with_reducible apply Pk.there)); done)) | (refine Pks.cons Pk.here ?_))))
    · obtain rfl : R = erS 1 S := hR.symm.trans (if_pos fun q => bP_0.mp c_21 q.2)
      refine g_aload_n X dX3_traderIt_24 rfl rfl ?_
      refine g_iconst (v := 1) X dX3_traderIt_25 rfl ?_
      refine g_callV X dX3_traderIt_26 mv_X3_75 (c_X3_throwing hB) rfl cl_X3 (by repeat (first | with_reducible exact Rc.pt | with_reducible apply Rc.there)) (by repeat (first | with_reducible exact Pks.nil | (with_reducible refine Pks.pure (by assumption) ?_) | (with_reducible apply Pks.cons; focus ((repeat (first | with_reducible exact Pk.here | with_reducible apply Pk.there)); done)) | (refine Pks.cons Pk.here ?_))) rfl rfl (by decide) (by exact Nat.le_of_ble_eq_true rfl) (by first | decide | omega) (fun r w1 hq => ?_) (fun E q w1 hq => hq.elim)
      obtain ⟨rfl, rfl⟩ := hq
      dsimp only [wM, PoM, List.cons_append, List.nil_append, Option.toList_some, Option.toList_none]
      exact g_iret X Y dX3_traderIt_29 (rfl) (⟨_, 1, rfl, rfl, rfl, hE⟩) (Pks.tail (rest := _) (by repeat (first | with_reducible exact Pks.nil | (with_reducible refine Pks.pure (by assumption) ?_) | (with_reducible apply Pks.cons; focus ((repeat (first | with_reducible exact Pk.here | with_reducible apply Pk.there)); done)) | (refine Pks.cons Pk.here ?_))))
end MODEL
