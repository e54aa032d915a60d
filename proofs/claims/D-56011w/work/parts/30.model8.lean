/-! THE MODEL: orders cancelled, contracts agreed, auctions opened, bids sealed -/
set_option maxRecDepth 100000
section MODEL
variable {B : Bt} {m : Nat} {ad : Nat → Nat} {sv ch ea fa th pm lm cm p0 s0 iw : Int32} {M A : Nat → Int32} {S : SS} {R : Rs}
theorem c_X3_cancelIt (hB : Bs B) {x : Int32} (hE : Enc M S) (hR : caS x S = R) : Tr B yX3_cancelIt (Cond.code yX3_cancelIt cX3_cancelIt 5 (some .int)) (rmd 3 0 0) [.ref m, .int x] (wM m ad sv ch ea fa 0 pm lm cm p0 s0 iw M) (PoM m ad sv ch ea fa pm lm cm p0 s0 iw R) nox := by
  have hl := hE.2.2.2.1.2.1
  refine tr_of hB (by decide +kernel) rfl ?_
  intro Γ X Y
  refine g_eq (ls' := [.val (.ref m), .val (.int x), .unset, .unset, .unset]) rfl rfl ?_
  cases hf : plU x (sO S) (sO S).length with
  | none =>
    obtain rfl : R = erS 1 S := by rw [← hR, caS, hf]
    refine g_aload_n X dX3_cancelIt_0 rfl rfl ?_
    refine g_iload_n X dX3_cancelIt_1 rfl rfl ?_
    refine g_callV X dX3_cancelIt_2 mv_X3_124 (c_X3_placeOf hB hE.2.2.2.1) rfl cl_X3 (by repeat (first | with_reducible exact Rc.pt | with_reducible apply Rc.there)) (by repeat (first | with_reducible exact Pks.nil | (with_reducible refine Pks.pure (by assumption) ?_) | (with_reducible apply Pks.cons; focus ((repeat (first | with_reducible exact Pk.here | with_reducible apply Pk.there)); done)) | (refine Pks.cons Pk.here ?_))) rfl rfl (by decide) (by exact Nat.le_of_ble_eq_true rfl) (by first | decide | omega) (fun r w1 hq => ?_) (fun E q w1 hq => hq.elim)
    obtain ⟨rfl, rfl⟩ := hq
    dsimp only [wM, PoM, List.cons_append, List.nil_append, Option.toList_some, Option.toList_none]
    rw [hf]
    refine is_5_2n X dX3_cancelIt_5 rfl rfl ?_
    refine g_iload_n X dX3_cancelIt_6 rfl rfl ?_
    refine g_iconst (v := (-1)) X dX3_cancelIt_7 rfl ?_
    refine g_icmp_ne (tgt := 17) X dX3_cancelIt_8 (by decide) (fun c_8 => absurd c_8 (fun h => h rfl)) (fun c_8 => ?_)
    refine g_aload_n X dX3_cancelIt_11 rfl rfl ?_
    refine g_iconst (v := 1) X dX3_cancelIt_12 rfl ?_
    refine g_callV X dX3_cancelIt_13 mv_X3_75 (c_X3_throwing hB) rfl cl_X3 (by repeat (first | with_reducible exact Rc.pt | with_reducible apply Rc.there)) (by repeat (first | with_reducible exact Pks.nil | (with_reducible refine Pks.pure (by assumption) ?_) | (with_reducible apply Pks.cons; focus ((repeat (first | with_reducible exact Pk.here | with_reducible apply Pk.there)); done)) | (refine Pks.cons Pk.here ?_))) rfl rfl (by decide) (by exact Nat.le_of_ble_eq_true rfl) (by first | decide | omega) (fun r w1 hq => ?_) (fun E q w1 hq => hq.elim)
    obtain ⟨rfl, rfl⟩ := hq
    dsimp only [wM, PoM, List.cons_append, List.nil_append, Option.toList_some, Option.toList_none]
    exact g_iret X Y dX3_cancelIt_16 (rfl) (⟨_, 1, rfl, rfl, rfl, hE⟩) (Pks.tail (rest := _) (by repeat (first | with_reducible exact Pks.nil | (with_reducible refine Pks.pure (by assumption) ?_) | (with_reducible apply Pks.cons; focus ((repeat (first | with_reducible exact Pk.here | with_reducible apply Pk.there)); done)) | (refine Pks.cons Pk.here ?_))))
  | some k =>
    obtain ⟨hk, o, ho, -⟩ := plU_lt _ _ hf
    obtain ⟨⟨e0, e1, e2, e3, e4⟩, k1, k2, k3, k4⟩ := hE.2.2.2.1.2.2 k o ho
    have hr : R = (0, nI o.2.2.2.2, wO (wT S (if o.2.2.1 then mdT (sT S) o.2.1 (· + o.2.2.2.2 * o.2.2.2.1) id else mdT (sT S) o.2.1 id (· + o.2.2.2.2))) ((sO S).eraseIdx k)) := by simp only [← hR, caS, hf, ho]
    refine g_aload_n X dX3_cancelIt_0 rfl rfl ?_
    refine g_iload_n X dX3_cancelIt_1 rfl rfl ?_
    refine g_callV X dX3_cancelIt_2 mv_X3_124 (c_X3_placeOf hB hE.2.2.2.1) rfl cl_X3 (by repeat (first | with_reducible exact Rc.pt | with_reducible apply Rc.there)) (by repeat (first | with_reducible exact Pks.nil | (with_reducible refine Pks.pure (by assumption) ?_) | (with_reducible apply Pks.cons; focus ((repeat (first | with_reducible exact Pk.here | with_reducible apply Pk.there)); done)) | (refine Pks.cons Pk.here ?_))) rfl rfl (by decide) (by exact Nat.le_of_ble_eq_true rfl) (by first | decide | omega) (fun r w1 hq => ?_) (fun E q w1 hq => hq.elim)
    obtain ⟨rfl, rfl⟩ := hq
    dsimp only [wM, PoM, List.cons_append, List.nil_append, Option.toList_some, Option.toList_none]
    rw [hf]
    refine is_5_2n X dX3_cancelIt_5 rfl rfl ?_
    refine g_iload_n X dX3_cancelIt_6 rfl rfl ?_
    refine g_iconst (v := (-1)) X dX3_cancelIt_7 rfl ?_
    refine g_icmp_ne (tgt := 17) X dX3_cancelIt_8 (by decide) (fun c_8 => ?_) (fun c_8 => absurd c_8 (fun e => nomatch (oI_none (x := some k) (fun j e => by cases e; omega)).mp e))
    refine g_iload_n X dX3_cancelIt_17 rfl rfl ?_
    refine g_callS X dX3_cancelIt_18 ms_X3_61 (c_X3_orderAtPlace hB) rfl (by repeat (first | with_reducible exact Pks.nil | (with_reducible refine Pks.pure (by assumption) ?_) | (with_reducible apply Pks.cons; focus ((repeat (first | with_reducible exact Pk.here | with_reducible apply Pk.there)); done)) | (refine Pks.cons Pk.here ?_))) rfl rfl (by decide) (by exact Nat.le_of_ble_eq_true rfl) (by first | decide | omega) (fun r w1 hq => ?_) (fun E q w1 hq => hq.elim)
    obtain ⟨rfl, rfl⟩ := hq
    dsimp only [wM, PoM, List.cons_append, List.nil_append, Option.toList_some, Option.toList_none]
    rw [show oI_ (some k) = nI k from rfl, io]
    refine is_5_3n X dX3_cancelIt_21 rfl rfl ?_
    refine g_aload_n X dX3_cancelIt_22 rfl rfl ?_
    refine g_getf X dX3_cancelIt_23 fl_X3_9 (by repeat (first | with_reducible exact Pk.here | with_reducible apply Pk.there)) (by exact rfl) ?_
    refine g_iload_n X dX3_cancelIt_26 rfl rfl ?_
    refine g_iconst (v := 4) X dX3_cancelIt_27 rfl ?_
    refine g_iadd X dX3_cancelIt_28 ?_
    refine g_iald (35 + 5 * k + 4) X dX3_cancelIt_29 (by repeat (first | with_reducible exact Pk.here | with_reducible apply Pk.there)) (nIp4 _) (by omega) (by exact e4) ?_
    refine is_5_4 X dX3_cancelIt_30 rfl ?_
    refine g_aload_n X dX3_cancelIt_32 rfl rfl ?_
    refine g_getf X dX3_cancelIt_33 fl_X3_9 (by repeat (first | with_reducible exact Pk.here | with_reducible apply Pk.there)) (by exact rfl) ?_
    refine g_iload_n X dX3_cancelIt_36 rfl rfl ?_
    refine g_iconst (v := 2) X dX3_cancelIt_37 rfl ?_
    refine g_iadd X dX3_cancelIt_38 ?_
    refine g_iald (35 + 5 * k + 2) X dX3_cancelIt_39 (by repeat (first | with_reducible exact Pk.here | with_reducible apply Pk.there)) (nIp2 _) (by omega) (by exact e2) ?_
    refine g_iconst (v := 1) X dX3_cancelIt_40 rfl ?_
    refine g_icmp_ne (tgt := 77) X dX3_cancelIt_41 (by decide) (fun c_41 => ?_) (fun c_41 => ?_)
    · have hb : o.2.2.1 = false := bI_n1.mp c_41
      rw [hb] at hr
      have f1 := (hE.wa (k := o.2.1) (v := o.2.2.2.2) k2).closeO (k := k) hk
      subst hr
      refine g_aload_n X dX3_cancelIt_77 rfl rfl ?_
      refine g_getf X dX3_cancelIt_78 fl_X3_9 (by repeat (first | with_reducible exact Pk.here | with_reducible apply Pk.there)) (by exact rfl) ?_
      refine g_aload_n X dX3_cancelIt_81 rfl rfl ?_
      refine g_getf X dX3_cancelIt_82 fl_X3_9 (by repeat (first | with_reducible exact Pk.here | with_reducible apply Pk.there)) (by exact rfl) ?_
      refine g_iload_n X dX3_cancelIt_85 rfl rfl ?_
      refine g_iconst (v := 1) X dX3_cancelIt_86 rfl ?_
      refine g_iadd X dX3_cancelIt_87 ?_
      refine g_iald (35 + 5 * k + 1) X dX3_cancelIt_88 (by repeat (first | with_reducible exact Pk.here | with_reducible apply Pk.there)) (nI_1 _) (by omega) (by exact e1) ?_
      refine g_callS X dX3_cancelIt_89 ms_X3_78 (c_X3_traderAt hB) rfl (by repeat (first | with_reducible exact Pks.nil | (with_reducible refine Pks.pure (by assumption) ?_) | (with_reducible apply Pks.cons; focus ((repeat (first | with_reducible exact Pk.here | with_reducible apply Pk.there)); done)) | (refine Pks.cons Pk.here ?_))) rfl rfl (by decide) (by exact Nat.le_of_ble_eq_true rfl) (by first | decide | omega) (fun r w1 hq => ?_) (fun E q w1 hq => hq.elim)
      obtain ⟨rfl, rfl⟩ := hq
      dsimp only [wM, PoM, List.cons_append, List.nil_append, Option.toList_some, Option.toList_none]
      rw [it_]
      refine g_iconst (v := 1) X dX3_cancelIt_92 rfl ?_
      refine g_iadd X dX3_cancelIt_93 ?_
      rw [nI_1]
      refine g_dup2 X dX3_cancelIt_94 rfl rfl ?_
      refine g_iald (17 + 3 * o.2.1 + 1) X dX3_cancelIt_95 (by repeat (first | with_reducible exact Pk.here | with_reducible apply Pk.there)) (rfl) (by omega) (by exact rfl) ?_
      refine g_iload X dX3_cancelIt_96 rfl ?_
      refine g_iadd X dX3_cancelIt_98 ?_
      refine g_iast (17 + 3 * o.2.1 + 1) X dX3_cancelIt_99 (by repeat (first | with_reducible exact Rp.here | with_reducible apply Rp.there)) (rfl) (by omega) ?_
      refine g_aload_n X dX3_cancelIt_100 rfl rfl ?_
      refine g_iload_n X dX3_cancelIt_101 rfl rfl ?_
      refine g_callV X dX3_cancelIt_102 mv_X3_91 (c_X3_closesOrder hB (by omega)) rfl cl_X3 (by repeat (first | with_reducible exact Rc.pt | with_reducible apply Rc.there)) (by repeat (first | with_reducible exact Pks.nil | (with_reducible refine Pks.pure (by assumption) ?_) | (with_reducible apply Pks.cons; focus ((repeat (first | with_reducible exact Pk.here | with_reducible apply Pk.there)); done)) | (refine Pks.cons Pk.here ?_))) rfl rfl (by decide) (by exact Nat.le_of_ble_eq_true rfl) (by first | decide | omega) (fun r w1 hq => ?_) (fun E q w1 hq => hq.elim)
      obtain ⟨rfl, rfl⟩ := hq
      dsimp only [wM, PoM, List.cons_append, List.nil_append, Option.toList_some, Option.toList_none]
      refine g_iload X dX3_cancelIt_105 rfl ?_
      exact g_iret X Y dX3_cancelIt_107 (rfl) (⟨_, 0, rfl, rfl, rfl, f1⟩) (Pks.tail (rest := _) (by repeat (first | with_reducible exact Pks.nil | (with_reducible refine Pks.pure (by assumption) ?_) | (with_reducible apply Pks.cons; focus ((repeat (first | with_reducible exact Pk.here | with_reducible apply Pk.there)); done)) | (refine Pks.cons Pk.here ?_))))
    · have hb : o.2.2.1 = true := bI_1.mp c_41
      rw [hb] at hr
      have f1 := (hE.ca (k := o.2.1) (v := o.2.2.2.2 * o.2.2.2.1) k2).closeO (k := k) hk
      subst hr
      refine g_aload_n X dX3_cancelIt_44 rfl rfl ?_
      refine g_getf X dX3_cancelIt_45 fl_X3_9 (by repeat (first | with_reducible exact Pk.here | with_reducible apply Pk.there)) (by exact rfl) ?_
      refine g_aload_n X dX3_cancelIt_48 rfl rfl ?_
      refine g_getf X dX3_cancelIt_49 fl_X3_9 (by repeat (first | with_reducible exact Pk.here | with_reducible apply Pk.there)) (by exact rfl) ?_
      refine g_iload_n X dX3_cancelIt_52 rfl rfl ?_
      refine g_iconst (v := 1) X dX3_cancelIt_53 rfl ?_
      refine g_iadd X dX3_cancelIt_54 ?_
      refine g_iald (35 + 5 * k + 1) X dX3_cancelIt_55 (by repeat (first | with_reducible exact Pk.here | with_reducible apply Pk.there)) (nI_1 _) (by omega) (by exact e1) ?_
      refine g_callS X dX3_cancelIt_56 ms_X3_78 (c_X3_traderAt hB) rfl (by repeat (first | with_reducible exact Pks.nil | (with_reducible refine Pks.pure (by assumption) ?_) | (with_reducible apply Pks.cons; focus ((repeat (first | with_reducible exact Pk.here | with_reducible apply Pk.there)); done)) | (refine Pks.cons Pk.here ?_))) rfl rfl (by decide) (by exact Nat.le_of_ble_eq_true rfl) (by first | decide | omega) (fun r w1 hq => ?_) (fun E q w1 hq => hq.elim)
      obtain ⟨rfl, rfl⟩ := hq
      dsimp only [wM, PoM, List.cons_append, List.nil_append, Option.toList_some, Option.toList_none]
      rw [it_]
      refine g_dup2 X dX3_cancelIt_59 rfl rfl ?_
      refine g_iald (17 + 3 * o.2.1) X dX3_cancelIt_60 (by repeat (first | with_reducible exact Pk.here | with_reducible apply Pk.there)) (rfl) (by omega) (by exact rfl) ?_
      refine g_iload X dX3_cancelIt_61 rfl ?_
      refine g_aload_n X dX3_cancelIt_63 rfl rfl ?_
      refine g_getf X dX3_cancelIt_64 fl_X3_9 (by repeat (first | with_reducible exact Pk.here | with_reducible apply Pk.there)) (by exact rfl) ?_
      refine g_iload_n X dX3_cancelIt_67 rfl rfl ?_
      refine g_iconst (v := 3) X dX3_cancelIt_68 rfl ?_
      refine g_iadd X dX3_cancelIt_69 ?_
      refine g_iald (35 + 5 * k + 3) X dX3_cancelIt_70 (by repeat (first | with_reducible exact Pk.here | with_reducible apply Pk.there)) (nIp3 _) (by omega) (by exact e3) ?_
      refine g_imul X dX3_cancelIt_71 ?_
      rw [pk_mul]
      refine g_iadd X dX3_cancelIt_72 ?_
      refine g_iast (17 + 3 * o.2.1) X dX3_cancelIt_73 (by repeat (first | with_reducible exact Rp.here | with_reducible apply Rp.there)) (rfl) (by omega) ?_
      refine g_goto (tgt := 100) X dX3_cancelIt_74 (by decide) ?_
      refine g_aload_n X dX3_cancelIt_100 rfl rfl ?_
      refine g_iload_n X dX3_cancelIt_101 rfl rfl ?_
      refine g_callV X dX3_cancelIt_102 mv_X3_91 (c_X3_closesOrder hB (by omega)) rfl cl_X3 (by repeat (first | with_reducible exact Rc.pt | with_reducible apply Rc.there)) (by repeat (first | with_reducible exact Pks.nil | (with_reducible refine Pks.pure (by assumption) ?_) | (with_reducible apply Pks.cons; focus ((repeat (first | with_reducible exact Pk.here | with_reducible apply Pk.there)); done)) | (refine Pks.cons Pk.here ?_))) rfl rfl (by decide) (by exact Nat.le_of_ble_eq_true rfl) (by first | decide | omega) (fun r w1 hq => ?_) (fun E q w1 hq => hq.elim)
      obtain ⟨rfl, rfl⟩ := hq
      dsimp only [wM, PoM, List.cons_append, List.nil_append, Option.toList_some, Option.toList_none]
      refine g_iload X dX3_cancelIt_105 rfl ?_
      exact g_iret X Y dX3_cancelIt_107 (rfl) (⟨_, 0, rfl, rfl, rfl, f1⟩) (Pks.tail (rest := _) (by repeat (first | with_reducible exact Pks.nil | (with_reducible refine Pks.pure (by assumption) ?_) | (with_reducible apply Pks.cons; focus ((repeat (first | with_reducible exact Pk.here | with_reducible apply Pk.there)); done)) | (refine Pks.cons Pk.here ?_))))
theorem c_X3_agreeIt (hB : Bs B) {s y u p d : Int32} (hE : Enc M S) (hD : sN S 4 < 2 ^ 29) (hR : agS s y u p d S = R) : Tr B yX3_agreeIt (Cond.code yX3_agreeIt cX3_agreeIt 7 (some .int)) (rmd 3 0 0) [.ref m, .int s, .int y, .int u, .int p, .int d] (wM m ad sv ch ea fa 0 pm lm cm p0 s0 iw M) (PoM m ad sv ch ea fa pm lm cm p0 s0 iw R) nox := by
  have hT := hE.2.2.1.1
  have hl := hE.2.2.1.2.1
  have hC := hE.2.2.2.2.1.1
  have hl2 := hE.2.2.2.2.1.2.1
  refine tr_of hB (by decide +kernel) rfl ?_
  intro Γ X Y
  refine g_eq (ls' := [.val (.ref m), .val (.int s), .val (.int y), .val (.int u), .val (.int p), .val (.int d), .unset]) rfl rfl ?_
  by_cases g1 : isT (sT S).length s ∧ isT (sT S).length y
  · have hR1 := hR.symm.trans (if_neg (Classical.not_not.mpr g1))
    refine g_aload_n X dX3_agreeIt_0 rfl rfl ?_
    refine g_iload_n X dX3_agreeIt_1 rfl rfl ?_
    refine g_callV X dX3_agreeIt_2 mv_X3_95 (c_X3_isTrader hB hT (by omega)) rfl cl_X3 (by repeat (first | with_reducible exact Rc.pt | with_reducible apply Rc.there)) (by repeat (first | with_reducible exact Pks.nil | (with_reducible refine Pks.pure (by assumption) ?_) | (with_reducible apply Pks.cons; focus ((repeat (first | with_reducible exact Pk.here | with_reducible apply Pk.there)); done)) | (refine Pks.cons Pk.here ?_))) rfl rfl (by decide) (by exact Nat.le_of_ble_eq_true rfl) (by first | decide | omega) (fun r w1 hq => ?_) (fun E q w1 hq => hq.elim)
    obtain ⟨rfl, rfl⟩ := hq
    dsimp only [wM, PoM, List.cons_append, List.nil_append, Option.toList_some, Option.toList_none]
    rw [bP_t g1.1]
    refine g_if_eq (tgt := 16) X dX3_agreeIt_5 (by decide) (fun c_5 => absurd c_5 (by decide)) (fun c_5 => ?_)
    refine g_aload_n X dX3_agreeIt_8 rfl rfl ?_
    refine g_iload_n X dX3_agreeIt_9 rfl rfl ?_
    refine g_callV X dX3_agreeIt_10 mv_X3_95 (c_X3_isTrader hB hT (by omega)) rfl cl_X3 (by repeat (first | with_reducible exact Rc.pt | with_reducible apply Rc.there)) (by repeat (first | with_reducible exact Pks.nil | (with_reducible refine Pks.pure (by assumption) ?_) | (with_reducible apply Pks.cons; focus ((repeat (first | with_reducible exact Pk.here | with_reducible apply Pk.there)); done)) | (refine Pks.cons Pk.here ?_))) rfl rfl (by decide) (by exact Nat.le_of_ble_eq_true rfl) (by first | decide | omega) (fun r w1 hq => ?_) (fun E q w1 hq => hq.elim)
    obtain ⟨rfl, rfl⟩ := hq
    dsimp only [wM, PoM, List.cons_append, List.nil_append, Option.toList_some, Option.toList_none]
    rw [bP_t g1.2]
    refine g_if_ne (tgt := 22) X dX3_agreeIt_13 (by decide) (fun c_13 => ?_) (fun c_13 => absurd c_13 (by decide))
    by_cases g2 : ¬ s = y ∧ isDl u p ∧ inR d 1 99
    · have hR2 := hR1.trans (if_neg (Classical.not_not.mpr g2))
      refine g_iload_n X dX3_agreeIt_22 rfl rfl ?_
      refine g_iload_n X dX3_agreeIt_23 rfl rfl ?_
      refine g_icmp_eq (tgt := 49) X dX3_agreeIt_24 (by decide) (fun c_24 => absurd c_24 (g2.1)) (fun c_24 => ?_)
      refine g_iload_n X dX3_agreeIt_27 rfl rfl ?_
      refine g_iload X dX3_agreeIt_28 rfl ?_
      refine g_callS X dX3_agreeIt_30 ms_X3_99 (c_X3_isDeal hB) rfl (by repeat (first | with_reducible exact Pks.nil | (with_reducible refine Pks.pure (by assumption) ?_) | (with_reducible apply Pks.cons; focus ((repeat (first | with_reducible exact Pk.here | with_reducible apply Pk.there)); done)) | (refine Pks.cons Pk.here ?_))) rfl rfl (by decide) (by exact Nat.le_of_ble_eq_true rfl) (by first | decide | omega) (fun r w1 hq => ?_) (fun E q w1 hq => hq.elim)
      obtain ⟨rfl, rfl⟩ := hq
      dsimp only [wM, PoM, List.cons_append, List.nil_append, Option.toList_some, Option.toList_none]
      rw [bP_t g2.2.1]
      refine g_if_eq (tgt := 49) X dX3_agreeIt_33 (by decide) (fun c_33 => absurd c_33 (by decide)) (fun c_33 => ?_)
      refine g_iload X dX3_agreeIt_36 rfl ?_
      refine g_i2l X dX3_agreeIt_38 rfl ?_
      refine g_lconst (v := 1) X dX3_agreeIt_39 rfl ?_
      refine g_ldc2 X dX3_agreeIt_40 q2804 ?_
      refine g_callS X dX3_agreeIt_43 ms_X3_51 (c_X3_in hB) rfl (by repeat (first | with_reducible exact Pks.nil | (with_reducible refine Pks.pure (by assumption) ?_) | (with_reducible apply Pks.cons; focus ((repeat (first | with_reducible exact Pk.here | with_reducible apply Pk.there)); done)) | (refine Pks.cons Pk.here ?_))) rfl rfl (by decide) (by exact Nat.le_of_ble_eq_true rfl) (by first | decide | omega) (fun r w1 hq => ?_) (fun E q w1 hq => hq.elim)
      obtain ⟨rfl, rfl⟩ := hq
      dsimp only [wM, PoM, List.cons_append, List.nil_append, Option.toList_some, Option.toList_none]
      rw [inL (j := 1) (k := 99) (by decide) (by decide), bP_t g2.2.2]
      refine g_if_ne (tgt := 55) X dX3_agreeIt_46 (by decide) (fun c_46 => ?_) (fun c_46 => absurd c_46 (by decide))
      refine g_aload_n X dX3_agreeIt_55 rfl rfl ?_
      refine g_getf X dX3_agreeIt_56 fl_X3_9 (by repeat (first | with_reducible exact Pk.here | with_reducible apply Pk.there)) (by exact rfl) ?_
      refine g_iconst (v := 3) X dX3_agreeIt_59 rfl ?_
      refine g_iald (3) X dX3_agreeIt_60 (by repeat (first | with_reducible exact Pk.here | with_reducible apply Pk.there)) (rfl) (by decide) (by exact hC) ?_
      refine g_bipush (v := 8) X dX3_agreeIt_61 rfl ?_
      refine g_icmp_ne (tgt := 72) X dX3_agreeIt_63 (by decide) (fun c_63 => ?_) (fun c_63 => ?_)
      · have h3 : ¬ (sC S).length = 8 := fun e => c_63 (by rw [e]; rfl)
        have hR3 := hR2.trans (if_neg h3)
        obtain ⟨s', hs, rfl⟩ := isT_of (by omega) g1.1
        obtain ⟨y', hy, rfl⟩ := isT_of (by omega) g1.2
        obtain ⟨u', hu1, hu2, rfl⟩ := inR_of (a := 1) (b := 50) (by decide) (by decide) g2.2.1.1
        obtain ⟨p', hp1, hp2, rfl⟩ := inR_of (a := 1) (b := 99) (by decide) (by decide) g2.2.1.2
        obtain ⟨d', hd1, hd2, rfl⟩ := inR_of (a := 1) (b := 99) (by decide) (by decide) g2.2.2
        rw [show cN (nI s') = s' from nI_clamp (by omega), show cN (nI y') = y' from nI_clamp (by omega), show cN (nI u') = u' from nI_clamp (by omega), show cN (nI p') = p' from nI_clamp (by omega), show cN (nI d') = d' from nI_clamp (by omega)] at hR3
        have e6 := hE.addC (o := (s', y', u', p', sN S 4 + d')) (x := nI ((sC S).length + 1)) rfl (by omega) ⟨by show s' < 6; omega, by show y' < 6; omega, by show u' < 100; omega, by show p' < 100; omega, by show sN S 4 + d' < 2 ^ 30; omega⟩ rfl
        dsimp only at e6
        subst hR3
        refine g_aload_n X dX3_agreeIt_72 rfl rfl ?_
        refine g_getf X dX3_agreeIt_73 fl_X3_9 (by repeat (first | with_reducible exact Pk.here | with_reducible apply Pk.there)) (by exact rfl) ?_
        refine g_iconst (v := 3) X dX3_agreeIt_76 rfl ?_
        refine g_iald (3) X dX3_agreeIt_77 (by repeat (first | with_reducible exact Pk.here | with_reducible apply Pk.there)) (rfl) (by decide) (by exact hC) ?_
        refine g_callS X dX3_agreeIt_78 ms_X3_130 (c_X3_contractAt hB) rfl (by repeat (first | with_reducible exact Pks.nil | (with_reducible refine Pks.pure (by assumption) ?_) | (with_reducible apply Pks.cons; focus ((repeat (first | with_reducible exact Pk.here | with_reducible apply Pk.there)); done)) | (refine Pks.cons Pk.here ?_))) rfl rfl (by decide) (by exact Nat.le_of_ble_eq_true rfl) (by first | decide | omega) (fun r w1 hq => ?_) (fun E q w1 hq => hq.elim)
        obtain ⟨rfl, rfl⟩ := hq
        dsimp only [wM, PoM, List.cons_append, List.nil_append, Option.toList_some, Option.toList_none]
        rw [ic]
        refine is_7_6 X dX3_agreeIt_81 rfl ?_
        refine g_aload_n X dX3_agreeIt_83 rfl rfl ?_
        refine g_getf X dX3_agreeIt_84 fl_X3_9 (by repeat (first | with_reducible exact Pk.here | with_reducible apply Pk.there)) (by exact rfl) ?_
        refine g_iload X dX3_agreeIt_87 rfl ?_
        refine g_iload_n X dX3_agreeIt_89 rfl rfl ?_
        refine g_iast (115 + 5 * (sC S).length) X dX3_agreeIt_90 (by repeat (first | with_reducible exact Rp.here | with_reducible apply Rp.there)) (rfl) (by omega) ?_
        refine g_aload_n X dX3_agreeIt_91 rfl rfl ?_
        refine g_getf X dX3_agreeIt_92 fl_X3_9 (by repeat (first | with_reducible exact Pk.here | with_reducible apply Pk.there)) (by exact rfl) ?_
        refine g_iload X dX3_agreeIt_95 rfl ?_
        refine g_iconst (v := 1) X dX3_agreeIt_97 rfl ?_
        refine g_iadd X dX3_agreeIt_98 ?_
        refine g_iload_n X dX3_agreeIt_99 rfl rfl ?_
        refine g_iast (115 + 5 * (sC S).length + 1) X dX3_agreeIt_100 (by repeat (first | with_reducible exact Rp.here | with_reducible apply Rp.there)) (nI_1 _) (by omega) ?_
        refine g_aload_n X dX3_agreeIt_101 rfl rfl ?_
        refine g_getf X dX3_agreeIt_102 fl_X3_9 (by repeat (first | with_reducible exact Pk.here | with_reducible apply Pk.there)) (by exact rfl) ?_
        refine g_iload X dX3_agreeIt_105 rfl ?_
        refine g_iconst (v := 2) X dX3_agreeIt_107 rfl ?_
        refine g_iadd X dX3_agreeIt_108 ?_
        refine g_iload_n X dX3_agreeIt_109 rfl rfl ?_
        refine g_iast (115 + 5 * (sC S).length + 2) X dX3_agreeIt_110 (by repeat (first | with_reducible exact Rp.here | with_reducible apply Rp.there)) (nIp2 _) (by omega) ?_
        refine g_aload_n X dX3_agreeIt_111 rfl rfl ?_
        refine g_getf X dX3_agreeIt_112 fl_X3_9 (by repeat (first | with_reducible exact Pk.here | with_reducible apply Pk.there)) (by exact rfl) ?_
        refine g_iload X dX3_agreeIt_115 rfl ?_
        refine g_iconst (v := 3) X dX3_agreeIt_117 rfl ?_
        refine g_iadd X dX3_agreeIt_118 ?_
        refine g_iload X dX3_agreeIt_119 rfl ?_
        refine g_iast (115 + 5 * (sC S).length + 3) X dX3_agreeIt_121 (by repeat (first | with_reducible exact Rp.here | with_reducible apply Rp.there)) (nIp3 _) (by omega) ?_
        refine g_aload_n X dX3_agreeIt_122 rfl rfl ?_
        refine g_getf X dX3_agreeIt_123 fl_X3_9 (by repeat (first | with_reducible exact Pk.here | with_reducible apply Pk.there)) (by exact rfl) ?_
        refine g_iload X dX3_agreeIt_126 rfl ?_
        refine g_iconst (v := 4) X dX3_agreeIt_128 rfl ?_
        refine g_iadd X dX3_agreeIt_129 ?_
        refine g_aload_n X dX3_agreeIt_130 rfl rfl ?_
        refine g_getf X dX3_agreeIt_131 fl_X3_9 (by repeat (first | with_reducible exact Pk.here | with_reducible apply Pk.there)) (by exact rfl) ?_
        refine g_iconst (v := 4) X dX3_agreeIt_134 rfl ?_
        refine g_iald (4) X dX3_agreeIt_135 (by repeat (first | with_reducible exact Pk.here | with_reducible apply Pk.there)) (rfl) (by decide) (by rw [upd_n (by omega), upd_n (by omega), upd_n (by omega), upd_n (by omega), hE.1 4 (by omega)]) ?_
        refine g_iload X dX3_agreeIt_136 rfl ?_
        refine g_iadd X dX3_agreeIt_138 ?_
        rw [nI_add]
        refine g_iast (115 + 5 * (sC S).length + 4) X dX3_agreeIt_139 (by repeat (first | with_reducible exact Rp.here | with_reducible apply Rp.there)) (nIp4 _) (by omega) ?_
        refine g_aload_n X dX3_agreeIt_140 rfl rfl ?_
        refine g_getf X dX3_agreeIt_141 fl_X3_9 (by repeat (first | with_reducible exact Pk.here | with_reducible apply Pk.there)) (by exact rfl) ?_
        refine g_iconst (v := 3) X dX3_agreeIt_144 rfl ?_
        refine g_dup2 X dX3_agreeIt_145 rfl rfl ?_
        refine g_iald (3) X dX3_agreeIt_146 (by repeat (first | with_reducible exact Pk.here | with_reducible apply Pk.there)) (rfl) (by decide) (by rw [upd_n (by omega), upd_n (by omega), upd_n (by omega), upd_n (by omega), upd_n (by omega), hC]) ?_
        refine g_iconst (v := 1) X dX3_agreeIt_147 rfl ?_
        refine g_iadd X dX3_agreeIt_148 ?_
        rw [nI_1]
        refine g_iast (3) X dX3_agreeIt_149 (by repeat (first | with_reducible exact Rp.here | with_reducible apply Rp.there)) (rfl) (by decide) ?_
        refine g_aload_n X dX3_agreeIt_150 rfl rfl ?_
        refine g_getf X dX3_agreeIt_151 fl_X3_9 (by repeat (first | with_reducible exact Pk.here | with_reducible apply Pk.there)) (by exact rfl) ?_
        refine g_iconst (v := 3) X dX3_agreeIt_154 rfl ?_
        refine g_iald (3) X dX3_agreeIt_155 (by repeat (first | with_reducible exact Pk.here | with_reducible apply Pk.there)) (rfl) (by decide) (by exact upd_s) ?_
        refine g_iconst (v := 1) X dX3_agreeIt_156 rfl ?_
        refine g_isub X dX3_agreeIt_157 ?_
        rw [nI_pred]
        exact g_iret X Y dX3_agreeIt_158 (rfl) (⟨_, 0, rfl, rfl, rfl, e6⟩) (Pks.tail (rest := _) (by repeat (first | with_reducible exact Pks.nil | (with_reducible refine Pks.pure (by assumption) ?_) | (with_reducible apply Pks.cons; focus ((repeat (first | with_reducible exact Pk.here | with_reducible apply Pk.there)); done)) | (refine Pks.cons Pk.here ?_))))
      · have h3 : (sC S).length = 8 := nI_inj (by omega) (by decide) c_63
        obtain rfl := hR2.trans (if_pos h3)
        refine g_aload_n X dX3_agreeIt_66 rfl rfl ?_
        refine g_iconst (v := 3) X dX3_agreeIt_67 rfl ?_
        refine g_callV X dX3_agreeIt_68 mv_X3_75 (c_X3_throwing hB) rfl cl_X3 (by repeat (first | with_reducible exact Rc.pt | with_reducible apply Rc.there)) (by repeat (first | with_reducible exact Pks.nil | (with_reducible refine Pks.pure (by assumption) ?_) | (with_reducible apply Pks.cons; focus ((repeat (first | with_reducible exact Pk.here | with_reducible apply Pk.there)); done)) | (refine Pks.cons Pk.here ?_))) rfl rfl (by decide) (by exact Nat.le_of_ble_eq_true rfl) (by first | decide | omega) (fun r w1 hq => ?_) (fun E q w1 hq => hq.elim)
        obtain ⟨rfl, rfl⟩ := hq
        dsimp only [wM, PoM, List.cons_append, List.nil_append, Option.toList_some, Option.toList_none]
        exact g_iret X Y dX3_agreeIt_71 (rfl) (⟨_, 3, rfl, rfl, rfl, hE⟩) (Pks.tail (rest := _) (by repeat (first | with_reducible exact Pks.nil | (with_reducible refine Pks.pure (by assumption) ?_) | (with_reducible apply Pks.cons; focus ((repeat (first | with_reducible exact Pk.here | with_reducible apply Pk.there)); done)) | (refine Pks.cons Pk.here ?_))))
    · obtain rfl := hR1.trans (if_pos g2)
      have J : G B Γ 0 0 (wM m ad sv ch ea fa 0 pm lm cm p0 s0 iw M) 49 [.val (.ref m), .val (.int s), .val (.int y), .val (.int u), .val (.int p), .val (.int d), .unset] [] := by
        refine g_aload_n X dX3_agreeIt_49 rfl rfl ?_
        refine g_iconst (v := 2) X dX3_agreeIt_50 rfl ?_
        refine g_callV X dX3_agreeIt_51 mv_X3_75 (c_X3_throwing hB) rfl cl_X3 (by repeat (first | with_reducible exact Rc.pt | with_reducible apply Rc.there)) (by repeat (first | with_reducible exact Pks.nil | (with_reducible refine Pks.pure (by assumption) ?_) | (with_reducible apply Pks.cons; focus ((repeat (first | with_reducible exact Pk.here | with_reducible apply Pk.there)); done)) | (refine Pks.cons Pk.here ?_))) rfl rfl (by decide) (by exact Nat.le_of_ble_eq_true rfl) (by first | decide | omega) (fun r w1 hq => ?_) (fun E q w1 hq => hq.elim)
        obtain ⟨rfl, rfl⟩ := hq
        dsimp only [wM, PoM, List.cons_append, List.nil_append, Option.toList_some, Option.toList_none]
        exact g_iret X Y dX3_agreeIt_54 (rfl) (⟨_, 2, rfl, rfl, rfl, hE⟩) (Pks.tail (rest := _) (by repeat (first | with_reducible exact Pks.nil | (with_reducible refine Pks.pure (by assumption) ?_) | (with_reducible apply Pks.cons; focus ((repeat (first | with_reducible exact Pk.here | with_reducible apply Pk.there)); done)) | (refine Pks.cons Pk.here ?_))))
      by_cases h1 : s = y
      · refine g_iload_n X dX3_agreeIt_22 rfl rfl ?_
        refine g_iload_n X dX3_agreeIt_23 rfl rfl ?_
        refine g_icmp_eq (tgt := 49) X dX3_agreeIt_24 (by decide) (fun c_24 => ?_) (fun c_24 => absurd (h1) c_24)
        exact J
      · by_cases h2 : isDl u p
        · refine g_iload_n X dX3_agreeIt_22 rfl rfl ?_
          refine g_iload_n X dX3_agreeIt_23 rfl rfl ?_
          refine g_icmp_eq (tgt := 49) X dX3_agreeIt_24 (by decide) (fun c_24 => absurd c_24 (h1)) (fun c_24 => ?_)
          refine g_iload_n X dX3_agreeIt_27 rfl rfl ?_
          refine g_iload X dX3_agreeIt_28 rfl ?_
          refine g_callS X dX3_agreeIt_30 ms_X3_99 (c_X3_isDeal hB) rfl (by repeat (first | with_reducible exact Pks.nil | (with_reducible refine Pks.pure (by assumption) ?_) | (with_reducible apply Pks.cons; focus ((repeat (first | with_reducible exact Pk.here | with_reducible apply Pk.there)); done)) | (refine Pks.cons Pk.here ?_))) rfl rfl (by decide) (by exact Nat.le_of_ble_eq_true rfl) (by first | decide | omega) (fun r w1 hq => ?_) (fun E q w1 hq => hq.elim)
          obtain ⟨rfl, rfl⟩ := hq
          dsimp only [wM, PoM, List.cons_append, List.nil_append, Option.toList_some, Option.toList_none]
          rw [bP_t h2]
          refine g_if_eq (tgt := 49) X dX3_agreeIt_33 (by decide) (fun c_33 => absurd c_33 (by decide)) (fun c_33 => ?_)
          refine g_iload X dX3_agreeIt_36 rfl ?_
          refine g_i2l X dX3_agreeIt_38 rfl ?_
          refine g_lconst (v := 1) X dX3_agreeIt_39 rfl ?_
          refine g_ldc2 X dX3_agreeIt_40 q2804 ?_
          refine g_callS X dX3_agreeIt_43 ms_X3_51 (c_X3_in hB) rfl (by repeat (first | with_reducible exact Pks.nil | (with_reducible refine Pks.pure (by assumption) ?_) | (with_reducible apply Pks.cons; focus ((repeat (first | with_reducible exact Pk.here | with_reducible apply Pk.there)); done)) | (refine Pks.cons Pk.here ?_))) rfl rfl (by decide) (by exact Nat.le_of_ble_eq_true rfl) (by first | decide | omega) (fun r w1 hq => ?_) (fun E q w1 hq => hq.elim)
          obtain ⟨rfl, rfl⟩ := hq
          dsimp only [wM, PoM, List.cons_append, List.nil_append, Option.toList_some, Option.toList_none]
          rw [inL (j := 1) (k := 99) (by decide) (by decide), bP_f fun q => g2 ⟨h1, h2, q⟩]
          refine g_if_ne (tgt := 55) X dX3_agreeIt_46 (by decide) (fun c_46 => absurd c_46 (by decide)) (fun c_46 => ?_)
          exact J
        · refine g_iload_n X dX3_agreeIt_22 rfl rfl ?_
          refine g_iload_n X dX3_agreeIt_23 rfl rfl ?_
          refine g_icmp_eq (tgt := 49) X dX3_agreeIt_24 (by decide) (fun c_24 => absurd c_24 (h1)) (fun c_24 => ?_)
          refine g_iload_n X dX3_agreeIt_27 rfl rfl ?_
          refine g_iload X dX3_agreeIt_28 rfl ?_
          refine g_callS X dX3_agreeIt_30 ms_X3_99 (c_X3_isDeal hB) rfl (by repeat (first | with_reducible exact Pks.nil | (with_reducible refine Pks.pure (by assumption) ?_) | (with_reducible apply Pks.cons; focus ((repeat (first | with_reducible exact Pk.here | with_reducible apply Pk.there)); done)) | (refine Pks.cons Pk.here ?_))) rfl rfl (by decide) (by exact Nat.le_of_ble_eq_true rfl) (by first | decide | omega) (fun r w1 hq => ?_) (fun E q w1 hq => hq.elim)
          obtain ⟨rfl, rfl⟩ := hq
          dsimp only [wM, PoM, List.cons_append, List.nil_append, Option.toList_some, Option.toList_none]
          rw [bP_f h2]
          refine g_if_eq (tgt := 49) X dX3_agreeIt_33 (by decide) (fun c_33 => ?_) (fun c_33 => absurd (rfl) c_33)
          exact J
  · obtain rfl := hR.symm.trans (if_pos g1)
    have J : G B Γ 0 0 (wM m ad sv ch ea fa 0 pm lm cm p0 s0 iw M) 16 [.val (.ref m), .val (.int s), .val (.int y), .val (.int u), .val (.int p), .val (.int d), .unset] [] := by
      refine g_aload_n X dX3_agreeIt_16 rfl rfl ?_
      refine g_iconst (v := 1) X dX3_agreeIt_17 rfl ?_
      refine g_callV X dX3_agreeIt_18 mv_X3_75 (c_X3_throwing hB) rfl cl_X3 (by repeat (first | with_reducible exact Rc.pt | with_reducible apply Rc.there)) (by repeat (first | with_reducible exact Pks.nil | (with_reducible refine Pks.pure (by assumption) ?_) | (with_reducible apply Pks.cons; focus ((repeat (first | with_reducible exact Pk.here | with_reducible apply Pk.there)); done)) | (refine Pks.cons Pk.here ?_))) rfl rfl (by decide) (by exact Nat.le_of_ble_eq_true rfl) (by first | decide | omega) (fun r w1 hq => ?_) (fun E q w1 hq => hq.elim)
      obtain ⟨rfl, rfl⟩ := hq
      dsimp only [wM, PoM, List.cons_append, List.nil_append, Option.toList_some, Option.toList_none]
      exact g_iret X Y dX3_agreeIt_21 (rfl) (⟨_, 1, rfl, rfl, rfl, hE⟩) (Pks.tail (rest := _) (by repeat (first | with_reducible exact Pks.nil | (with_reducible refine Pks.pure (by assumption) ?_) | (with_reducible apply Pks.cons; focus ((repeat (first | with_reducible exact Pk.here | with_reducible apply Pk.there)); done)) | (refine Pks.cons Pk.here ?_))))
    by_cases h1 : isT (sT S).length s
    · refine g_aload_n X dX3_agreeIt_0 rfl rfl ?_
      refine g_iload_n X dX3_agreeIt_1 rfl rfl ?_
      refine g_callV X dX3_agreeIt_2 mv_X3_95 (c_X3_isTrader hB hT (by omega)) rfl cl_X3 (by repeat (first | with_reducible exact Rc.pt | with_reducible apply Rc.there)) (by repeat (first | with_reducible exact Pks.nil | (with_reducible refine Pks.pure (by assumption) ?_) | (with_reducible apply Pks.cons; focus ((repeat (first | with_reducible exact Pk.here | with_reducible apply Pk.there)); done)) | (refine Pks.cons Pk.here ?_))) rfl rfl (by decide) (by exact Nat.le_of_ble_eq_true rfl) (by first | decide | omega) (fun r w1 hq => ?_) (fun E q w1 hq => hq.elim)
      obtain ⟨rfl, rfl⟩ := hq
      dsimp only [wM, PoM, List.cons_append, List.nil_append, Option.toList_some, Option.toList_none]
      rw [bP_t h1]
      refine g_if_eq (tgt := 16) X dX3_agreeIt_5 (by decide) (fun c_5 => absurd c_5 (by decide)) (fun c_5 => ?_)
      refine g_aload_n X dX3_agreeIt_8 rfl rfl ?_
      refine g_iload_n X dX3_agreeIt_9 rfl rfl ?_
      refine g_callV X dX3_agreeIt_10 mv_X3_95 (c_X3_isTrader hB hT (by omega)) rfl cl_X3 (by repeat (first | with_reducible exact Rc.pt | with_reducible apply Rc.there)) (by repeat (first | with_reducible exact Pks.nil | (with_reducible refine Pks.pure (by assumption) ?_) | (with_reducible apply Pks.cons; focus ((repeat (first | with_reducible exact Pk.here | with_reducible apply Pk.there)); done)) | (refine Pks.cons Pk.here ?_))) rfl rfl (by decide) (by exact Nat.le_of_ble_eq_true rfl) (by first | decide | omega) (fun r w1 hq => ?_) (fun E q w1 hq => hq.elim)
      obtain ⟨rfl, rfl⟩ := hq
      dsimp only [wM, PoM, List.cons_append, List.nil_append, Option.toList_some, Option.toList_none]
      rw [bP_f fun q => g1 ⟨h1, q⟩]
      refine g_if_ne (tgt := 22) X dX3_agreeIt_13 (by decide) (fun c_13 => absurd c_13 (by decide)) (fun c_13 => ?_)
      exact J
    · refine g_aload_n X dX3_agreeIt_0 rfl rfl ?_
      refine g_iload_n X dX3_agreeIt_1 rfl rfl ?_
      refine g_callV X dX3_agreeIt_2 mv_X3_95 (c_X3_isTrader hB hT (by omega)) rfl cl_X3 (by repeat (first | with_reducible exact Rc.pt | with_reducible apply Rc.there)) (by repeat (first | with_reducible exact Pks.nil | (with_reducible refine Pks.pure (by assumption) ?_) | (with_reducible apply Pks.cons; focus ((repeat (first | with_reducible exact Pk.here | with_reducible apply Pk.there)); done)) | (refine Pks.cons Pk.here ?_))) rfl rfl (by decide) (by exact Nat.le_of_ble_eq_true rfl) (by first | decide | omega) (fun r w1 hq => ?_) (fun E q w1 hq => hq.elim)
      obtain ⟨rfl, rfl⟩ := hq
      dsimp only [wM, PoM, List.cons_append, List.nil_append, Option.toList_some, Option.toList_none]
      rw [bP_f h1]
      refine g_if_eq (tgt := 16) X dX3_agreeIt_5 (by decide) (fun c_5 => ?_) (fun c_5 => absurd (rfl) c_5)
      exact J
end MODEL
