/-! THE MODEL: sums, prices, winners -/
set_option maxRecDepth 100000
abbrev dpF (b : Bool) (p : Int32) : Nat → OO → Int32 := fun _ o => if o.2.2.1 = b ∧ nI o.2.2.2.1 = p then nI o.2.2.2.2 else 0
abbrev dpS (b : Bool) (p : Int32) (O : List OO) : Int32 := smU (dpF b p) O O.length
/-- what l units cost from the rank r on, c so far -/
def cbU (O : List OO) : Nat → Nat → Nat → Int32 → Rq
  | 0, _, _, c => (0, c)
  | f + 1, l, r, c => if l = 0 then (0, c) else match rkS false (nI r) O with
    | none => erQ 2
    | some k => match O[k]? with
      | none => erQ 2
      | some o => cbU O f (l - min l o.2.2.2.2) (r + 1) (c + nI (min l o.2.2.2.2) * nI o.2.2.2.1)
def qCost (u : Int32) (S : SS) : Rq := if inR u 1 999 then cbU (sO S) (cN u) (cN u) 0 0 else erQ 1
/-- 1 for a contract's buyer, -1 for its seller -/
def sdF (t : Nat) (c : CC) : Int32 := if c.2.1 = t then 1 else if c.1 = t then -1 else 0
abbrev exF (t : Nat) : Nat → CC → Int32 := fun _ c => sdF t c * nI c.2.2.1
abbrev vlF (t : Nat) (p : Int32) : Nat → CC → Int32 := fun _ c => sdF t c * ((p - nI c.2.2.2.1) * nI c.2.2.1)
theorem smU_0 {α : Type} {f : Nat → α → Int32} {L : List α} {x : Int32} : x + smU f L 0 = x := Int32.add_zero x
def qExposure (t : Int32) (S : SS) : Rq := if isT (sT S).length t then (0, nI (wiT (sT S) (cN t)) + rvS (cN t) false (sO S) + smU (exF (cN t)) (sC S) (sC S).length) else erQ 1
def qValue (t p : Int32) (S : SS) : Rq := if isT (sT S).length t then (if inR p 0 99 then (0, nI (caT (sT S) (cN t)) + rvS (cN t) true (sO S) + p * (nI (wiT (sT S) (cN t)) + rvS (cN t) false (sO S)) + smU (vlF (cN t) p) (sC S) (sC S).length) else erQ 2) else erQ 1
/-- 0: the auction has a winner; else how asking for it fails -/
def qHas (S : SS) : Nat := match sA S with
  | none => 1
  | some (_, v) => match wiS v S with
    | none => 2
    | some _ => 0
def qWinner (S : SS) : Rq := match sA S with
  | none => erQ 1
  | some (_, v) => match wiS v S with
    | none => erQ 2
    | some t => (0, nI t)
def qPays (S : SS) : Rq := match sA S with
  | none => erQ 1
  | some (_, v) => match wiS v S with
    | none => erQ 2
    | some _ => (0, nI (wpS v S))
def qMean (S : SS) : Nat × UInt64 := if sN S 6 = 0 then (1, 0) else (0, FP.ddiv (FP.i2d (nI (sN S 7))) (FP.i2d (nI (sN S 6))))
def qRate (S : SS) : Nat × UInt32 := if sN S 8 = 0 then (1, 0) else (0, FP.fdiv (FP.i2f (nI (sN S 9))) (FP.i2f (nI (sN S 8))))
section MODEL
variable {B : Bt} {m : Nat} {ad : Nat → Nat} {sv ch ea fa th pm lm cm p0 s0 iw : Int32} {M A : Nat → Int32} {S : SS} {O : List OO} {R : Rq}
theorem c_X3_depth (hB : Bs B) {b : Bool} {p : Int32} (hE : Enc M S) : Tr B yX3_depth (Cond.code yX3_depth cX3_depth 5 (some .int)) (rmd 3 0 0) [.ref m, .int (bI b), .int p] (wM m ad sv ch ea fa th pm lm cm p0 s0 iw M) (fun r w => r = some (.int (dpS b p (sO S))) ∧ w = wM m ad sv ch ea fa 0 pm lm cm p0 s0 iw M) nox := by
  have hO := hE.2.2.2.1
  have hl := hO.2.1
  refine tr_of hB (by decide +kernel) rfl ?_
  intro Γ X Y
  refine g_eq (ls' := [.val (.ref m), .val (.int (bI b)), .val (.int p), .unset, .unset]) rfl rfl ?_
  refine g_aload_n X dX3_depth_0 rfl rfl ?_
  refine g_iconst (v := 0) X dX3_depth_1 rfl ?_
  refine pf_20_8 X dX3_depth_2 fl_X3_45 (by repeat (first | with_reducible exact Rp.here | with_reducible apply Rp.there)) rfl rfl ?_
  refine g_iconst (v := 0) X dX3_depth_5 rfl ?_
  refine is_5_3n X dX3_depth_6 rfl rfl ?_
  refine g_iconst (v := 0) X dX3_depth_7 rfl ?_
  refine is_5_4 X dX3_depth_8 rfl ?_
  have L : ∀ j k, k + j = (sO S).length → G B Γ 0 0 (wM m ad sv ch ea fa 0 pm lm cm p0 s0 iw M) 10 [.val (.ref m), .val (.int (bI b)), .val (.int p), .val (.int (smU (dpF b p) (sO S) k)), .val (.int (nI k))] [] := by
    intro j
    induction j with
    | zero =>
      intro k hk
      obtain rfl : k = (sO S).length := by omega
      refine g_iload X dX3_depth_10 rfl ?_
      refine g_aload_n X dX3_depth_12 rfl rfl ?_
      refine g_getf X dX3_depth_13 fl_X3_9 (by repeat (first | with_reducible exact Pk.here | with_reducible apply Pk.there)) (by exact rfl) ?_
      refine g_iconst (v := 1) X dX3_depth_16 rfl ?_
      refine g_iald (1) X dX3_depth_17 (by repeat (first | with_reducible exact Pk.here | with_reducible apply Pk.there)) (rfl) (by decide) (by exact hO.1) ?_
      refine g_icmp_ge (tgt := 72) X dX3_depth_18 (by decide) (fun c_18 => ?_) (fun c_18 => absurd (nI_le (by omega) (by omega)) c_18)
      refine g_iload_n X dX3_depth_72 rfl rfl ?_
      exact g_iret X Y dX3_depth_73 (rfl) (⟨rfl, rfl⟩) (Pks.tail (rest := _) (by repeat (first | with_reducible exact Pks.nil | (with_reducible refine Pks.pure (by assumption) ?_) | (with_reducible apply Pks.cons; focus ((repeat (first | with_reducible exact Pk.here | with_reducible apply Pk.there)); done)) | (refine Pks.cons Pk.here ?_))))
    | succ j ih =>
      intro k hk
      obtain ⟨o, ho⟩ : ∃ o, (sO S)[k]? = some o := ⟨_, List.getElem?_eq_getElem (show k < (sO S).length by omega)⟩
      obtain ⟨⟨e0, e1, e2, e3, e4⟩, k1, k2, k3, k4⟩ := hO.2.2 k o ho
      have hs := smU_s (f := dpF b p) ho
      have K : ∀ y, y = dpF b p k o → G B Γ 0 0 (wM m ad sv ch ea fa 0 pm lm cm p0 s0 iw M) 64 [.val (.ref m), .val (.int (bI b)), .val (.int p), .val (.int (smU (dpF b p) (sO S) k)), .val (.int (nI k))] [.int y, .int (smU (dpF b p) (sO S) k)] := by
        intro y hy
        rw [← hy] at hs
        refine g_iadd X dX3_depth_64 ?_
        rw [← hs]
        refine is_5_3n X dX3_depth_65 rfl rfl ?_
        refine ii_5_4 (v := nI (k + 1)) X dX3_depth_66 (nI_1 k) rfl ?_
        refine g_goto (tgt := 10) X dX3_depth_69 (by decide) ?_
        exact ih (k + 1) (by omega)
      by_cases hb : o.2.2.1 = b
      · by_cases hp : nI o.2.2.2.1 = p
        · refine g_iload X dX3_depth_10 rfl ?_
          refine g_aload_n X dX3_depth_12 rfl rfl ?_
          refine g_getf X dX3_depth_13 fl_X3_9 (by repeat (first | with_reducible exact Pk.here | with_reducible apply Pk.there)) (by exact rfl) ?_
          refine g_iconst (v := 1) X dX3_depth_16 rfl ?_
          refine g_iald (1) X dX3_depth_17 (by repeat (first | with_reducible exact Pk.here | with_reducible apply Pk.there)) (rfl) (by decide) (by exact hO.1) ?_
          refine g_icmp_ge (tgt := 72) X dX3_depth_18 (by decide) (fun c_18 => absurd c_18 (nI_ge (by omega) (by omega))) (fun c_18 => ?_)
          refine g_iload_n X dX3_depth_21 rfl rfl ?_
          refine g_aload_n X dX3_depth_22 rfl rfl ?_
          refine g_iload X dX3_depth_23 rfl ?_
          refine g_iload_n X dX3_depth_25 rfl rfl ?_
          refine g_callV X dX3_depth_26 mv_X3_65 (c_X3_isSide hB hO ho) rfl cl_X3 (by repeat (first | with_reducible exact Rc.pt | with_reducible apply Rc.there)) (by repeat (first | with_reducible exact Pks.nil | (with_reducible refine Pks.pure (by assumption) ?_) | (with_reducible apply Pks.cons; focus ((repeat (first | with_reducible exact Pk.here | with_reducible apply Pk.there)); done)) | (refine Pks.cons Pk.here ?_))) rfl rfl (by decide) (by exact Nat.le_of_ble_eq_true rfl) (by first | decide | omega) (fun r w1 hq => ?_) (fun E q w1 hq => hq.elim)
          obtain ⟨rfl, rfl⟩ := hq
          dsimp only [wM, PqM, List.cons_append, List.nil_append, Option.toList_some, Option.toList_none]
          rw [beq_iff_eq.mpr hb]
          refine g_if_eq (tgt := 63) X dX3_depth_29 (by decide) (fun c_29 => absurd c_29 (by decide)) (fun c_29 => ?_)
          refine g_aload_n X dX3_depth_32 rfl rfl ?_
          refine g_getf X dX3_depth_33 fl_X3_9 (by repeat (first | with_reducible exact Pk.here | with_reducible apply Pk.there)) (by exact rfl) ?_
          refine g_iload X dX3_depth_36 rfl ?_
          refine g_callS X dX3_depth_38 ms_X3_61 (c_X3_orderAtPlace hB) rfl (by repeat (first | with_reducible exact Pks.nil | (with_reducible refine Pks.pure (by assumption) ?_) | (with_reducible apply Pks.cons; focus ((repeat (first | with_reducible exact Pk.here | with_reducible apply Pk.there)); done)) | (refine Pks.cons Pk.here ?_))) rfl rfl (by decide) (by exact Nat.le_of_ble_eq_true rfl) (by first | decide | omega) (fun r w1 hq => ?_) (fun E q w1 hq => hq.elim)
          obtain ⟨rfl, rfl⟩ := hq
          dsimp only [wM, PqM, List.cons_append, List.nil_append, Option.toList_some, Option.toList_none]
          rw [io]
          refine g_iconst (v := 3) X dX3_depth_41 rfl ?_
          refine g_iadd X dX3_depth_42 ?_
          refine g_iald (35 + 5 * k + 3) X dX3_depth_43 (by repeat (first | with_reducible exact Pk.here | with_reducible apply Pk.there)) (nIp3 _) (by omega) (by exact e3) ?_
          refine g_iload_n X dX3_depth_44 rfl rfl ?_
          refine g_icmp_ne (tgt := 63) X dX3_depth_45 (by decide) (fun c_45 => absurd c_45 (fun q => q hp)) (fun c_45 => ?_)
          refine g_aload_n X dX3_depth_48 rfl rfl ?_
          refine g_getf X dX3_depth_49 fl_X3_9 (by repeat (first | with_reducible exact Pk.here | with_reducible apply Pk.there)) (by exact rfl) ?_
          refine g_iload X dX3_depth_52 rfl ?_
          refine g_callS X dX3_depth_54 ms_X3_61 (c_X3_orderAtPlace hB) rfl (by repeat (first | with_reducible exact Pks.nil | (with_reducible refine Pks.pure (by assumption) ?_) | (with_reducible apply Pks.cons; focus ((repeat (first | with_reducible exact Pk.here | with_reducible apply Pk.there)); done)) | (refine Pks.cons Pk.here ?_))) rfl rfl (by decide) (by exact Nat.le_of_ble_eq_true rfl) (by first | decide | omega) (fun r w1 hq => ?_) (fun E q w1 hq => hq.elim)
          obtain ⟨rfl, rfl⟩ := hq
          dsimp only [wM, PqM, List.cons_append, List.nil_append, Option.toList_some, Option.toList_none]
          rw [io]
          refine g_iconst (v := 4) X dX3_depth_57 rfl ?_
          refine g_iadd X dX3_depth_58 ?_
          refine g_iald (35 + 5 * k + 4) X dX3_depth_59 (by repeat (first | with_reducible exact Pk.here | with_reducible apply Pk.there)) (nIp4 _) (by omega) (by exact e4) ?_
          refine g_goto (tgt := 64) X dX3_depth_60 (by decide) ?_
          exact K _ (if_pos ⟨hb, hp⟩).symm
        · refine g_iload X dX3_depth_10 rfl ?_
          refine g_aload_n X dX3_depth_12 rfl rfl ?_
          refine g_getf X dX3_depth_13 fl_X3_9 (by repeat (first | with_reducible exact Pk.here | with_reducible apply Pk.there)) (by exact rfl) ?_
          refine g_iconst (v := 1) X dX3_depth_16 rfl ?_
          refine g_iald (1) X dX3_depth_17 (by repeat (first | with_reducible exact Pk.here | with_reducible apply Pk.there)) (rfl) (by decide) (by exact hO.1) ?_
          refine g_icmp_ge (tgt := 72) X dX3_depth_18 (by decide) (fun c_18 => absurd c_18 (nI_ge (by omega) (by omega))) (fun c_18 => ?_)
          refine g_iload_n X dX3_depth_21 rfl rfl ?_
          refine g_aload_n X dX3_depth_22 rfl rfl ?_
          refine g_iload X dX3_depth_23 rfl ?_
          refine g_iload_n X dX3_depth_25 rfl rfl ?_
          refine g_callV X dX3_depth_26 mv_X3_65 (c_X3_isSide hB hO ho) rfl cl_X3 (by repeat (first | with_reducible exact Rc.pt | with_reducible apply Rc.there)) (by repeat (first | with_reducible exact Pks.nil | (with_reducible refine Pks.pure (by assumption) ?_) | (with_reducible apply Pks.cons; focus ((repeat (first | with_reducible exact Pk.here | with_reducible apply Pk.there)); done)) | (refine Pks.cons Pk.here ?_))) rfl rfl (by decide) (by exact Nat.le_of_ble_eq_true rfl) (by first | decide | omega) (fun r w1 hq => ?_) (fun E q w1 hq => hq.elim)
          obtain ⟨rfl, rfl⟩ := hq
          dsimp only [wM, PqM, List.cons_append, List.nil_append, Option.toList_some, Option.toList_none]
          rw [beq_iff_eq.mpr hb]
          refine g_if_eq (tgt := 63) X dX3_depth_29 (by decide) (fun c_29 => absurd c_29 (by decide)) (fun c_29 => ?_)
          refine g_aload_n X dX3_depth_32 rfl rfl ?_
          refine g_getf X dX3_depth_33 fl_X3_9 (by repeat (first | with_reducible exact Pk.here | with_reducible apply Pk.there)) (by exact rfl) ?_
          refine g_iload X dX3_depth_36 rfl ?_
          refine g_callS X dX3_depth_38 ms_X3_61 (c_X3_orderAtPlace hB) rfl (by repeat (first | with_reducible exact Pks.nil | (with_reducible refine Pks.pure (by assumption) ?_) | (with_reducible apply Pks.cons; focus ((repeat (first | with_reducible exact Pk.here | with_reducible apply Pk.there)); done)) | (refine Pks.cons Pk.here ?_))) rfl rfl (by decide) (by exact Nat.le_of_ble_eq_true rfl) (by first | decide | omega) (fun r w1 hq => ?_) (fun E q w1 hq => hq.elim)
          obtain ⟨rfl, rfl⟩ := hq
          dsimp only [wM, PqM, List.cons_append, List.nil_append, Option.toList_some, Option.toList_none]
          rw [io]
          refine g_iconst (v := 3) X dX3_depth_41 rfl ?_
          refine g_iadd X dX3_depth_42 ?_
          refine g_iald (35 + 5 * k + 3) X dX3_depth_43 (by repeat (first | with_reducible exact Pk.here | with_reducible apply Pk.there)) (nIp3 _) (by omega) (by exact e3) ?_
          refine g_iload_n X dX3_depth_44 rfl rfl ?_
          refine g_icmp_ne (tgt := 63) X dX3_depth_45 (by decide) (fun c_45 => ?_) (fun c_45 => absurd c_45 (hp))
          refine g_iconst (v := 0) X dX3_depth_63 rfl ?_
          exact K _ (if_neg fun q => hp q.2).symm
      · refine g_iload X dX3_depth_10 rfl ?_
        refine g_aload_n X dX3_depth_12 rfl rfl ?_
        refine g_getf X dX3_depth_13 fl_X3_9 (by repeat (first | with_reducible exact Pk.here | with_reducible apply Pk.there)) (by exact rfl) ?_
        refine g_iconst (v := 1) X dX3_depth_16 rfl ?_
        refine g_iald (1) X dX3_depth_17 (by repeat (first | with_reducible exact Pk.here | with_reducible apply Pk.there)) (rfl) (by decide) (by exact hO.1) ?_
        refine g_icmp_ge (tgt := 72) X dX3_depth_18 (by decide) (fun c_18 => absurd c_18 (nI_ge (by omega) (by omega))) (fun c_18 => ?_)
        refine g_iload_n X dX3_depth_21 rfl rfl ?_
        refine g_aload_n X dX3_depth_22 rfl rfl ?_
        refine g_iload X dX3_depth_23 rfl ?_
        refine g_iload_n X dX3_depth_25 rfl rfl ?_
        refine g_callV X dX3_depth_26 mv_X3_65 (c_X3_isSide hB hO ho) rfl cl_X3 (by repeat (first | with_reducible exact Rc.pt | with_reducible apply Rc.there)) (by repeat (first | with_reducible exact Pks.nil | (with_reducible refine Pks.pure (by assumption) ?_) | (with_reducible apply Pks.cons; focus ((repeat (first | with_reducible exact Pk.here | with_reducible apply Pk.there)); done)) | (refine Pks.cons Pk.here ?_))) rfl rfl (by decide) (by exact Nat.le_of_ble_eq_true rfl) (by first | decide | omega) (fun r w1 hq => ?_) (fun E q w1 hq => hq.elim)
        obtain ⟨rfl, rfl⟩ := hq
        dsimp only [wM, PqM, List.cons_append, List.nil_append, Option.toList_some, Option.toList_none]
        rw [beq_eq_false_iff_ne.mpr hb]
        refine g_if_eq (tgt := 63) X dX3_depth_29 (by decide) (fun c_29 => ?_) (fun c_29 => absurd (rfl) c_29)
        refine g_iconst (v := 0) X dX3_depth_63 rfl ?_
        exact K _ (if_neg fun q => hb q.1).symm
  exact L (sO S).length 0 (by omega)
theorem c_X3_costToBuy (hB : Bs B) {u : Int32} (hE : Enc M S) (hP : posO (sO S)) (hR : qCost u S = R) : Tr B yX3_costToBuy (Cond.code yX3_costToBuy cX3_costToBuy 7 (some .int)) (rmd 4 0 0) [.ref m, .int u] (wM m ad sv ch ea fa th pm lm cm p0 s0 iw M) (PqM m ad sv ch ea fa pm lm cm p0 s0 iw M R) nox := by
  have hO := hE.2.2.2.1
  have hl := hO.2.1
  refine tr_of hB (by decide +kernel) rfl ?_
  intro Γ X Y
  refine g_eq (ls' := [.val (.ref m), .val (.int u), .unset, .unset, .unset, .unset, .unset]) rfl rfl ?_
  by_cases h1 : inR u 1 999
  · have hR1 := hR.symm.trans (if_pos h1)
    obtain ⟨u', hu1, hu2, rfl⟩ := inR_of (by decide) (by decide) h1
    rw [show cN (nI u') = u' from nI_clamp (by omega)] at hR1
    have L : ∀ (f l r : Nat) (c : Int32) (x5 x6 : Slot), LZ x5 → LZ x6 → l ≤ f → l ≤ u' → r < 2 ^ 30 - f → R = cbU (sO S) f l r c → G B Γ 0 0 (wM m ad sv ch ea fa 0 pm lm cm p0 s0 iw M) 30 [.val (.ref m), .val (.int (nI u')), .val (.int (nI l)), .val (.int c), .val (.int (nI r)), x5, x6] [] := by
      intro f
      induction f with
      | zero =>
        intro l r c x5 x6 h5 h6 hlf hlu hrb hr
        obtain rfl : l = 0 := by omega
        subst hr
        refine g_iload_n X dX3_costToBuy_30 rfl rfl ?_
        refine g_if_le (tgt := 102) X dX3_costToBuy_31 (by decide) (fun c_31 => ?_) (fun c_31 => absurd ((by decide : nI 0 ≤ 0)) c_31)
        refine g_iload_n X dX3_costToBuy_102 rfl rfl ?_
        exact g_iret X Y dX3_costToBuy_103 (rfl) (⟨0, rfl, rfl, rfl⟩) (Pks.tail (rest := _) (by repeat (first | with_reducible exact Pks.nil | (with_reducible refine Pks.pure (by assumption) ?_) | (with_reducible apply Pks.cons; focus ((repeat (first | with_reducible exact Pk.here | with_reducible apply Pk.there)); done)) | (refine Pks.cons Pk.here ?_))))
      | succ f ih =>
        intro l r c x5 x6 h5 h6 hlf hlu hrb hr
        by_cases hl0 : l = 0
        · rw [cbU, if_pos hl0] at hr
          subst hl0 hr
          refine g_iload_n X dX3_costToBuy_30 rfl rfl ?_
          refine g_if_le (tgt := 102) X dX3_costToBuy_31 (by decide) (fun c_31 => ?_) (fun c_31 => absurd ((by decide : nI 0 ≤ 0)) c_31)
          refine g_iload_n X dX3_costToBuy_102 rfl rfl ?_
          exact g_iret X Y dX3_costToBuy_103 (rfl) (⟨0, rfl, rfl, rfl⟩) (Pks.tail (rest := _) (by repeat (first | with_reducible exact Pks.nil | (with_reducible refine Pks.pure (by assumption) ?_) | (with_reducible apply Pks.cons; focus ((repeat (first | with_reducible exact Pk.here | with_reducible apply Pk.there)); done)) | (refine Pks.cons Pk.here ?_))))
        · cases hf : rkS false (nI r) (sO S) with
          | none =>
            simp only [cbU, if_neg hl0, hf] at hr
            subst hr
            refine g_iload_n X dX3_costToBuy_30 rfl rfl ?_
            refine g_if_le (tgt := 102) X dX3_costToBuy_31 (by decide) (fun c_31 => absurd c_31 (nI_nle (by omega) (by omega))) (fun c_31 => ?_)
            refine g_aload_n X dX3_costToBuy_34 rfl rfl ?_
            refine g_iconst (v := 0) X dX3_costToBuy_35 rfl ?_
            refine g_iload X dX3_costToBuy_36 rfl ?_
            refine g_callV X dX3_costToBuy_38 mv_X3_181 (c_X3_placeAtRank hB (b := false) hO) rfl cl_X3 (by repeat (first | with_reducible exact Rc.pt | with_reducible apply Rc.there)) (by repeat (first | with_reducible exact Pks.nil | (with_reducible refine Pks.pure (by assumption) ?_) | (with_reducible apply Pks.cons; focus ((repeat (first | with_reducible exact Pk.here | with_reducible apply Pk.there)); done)) | (refine Pks.cons Pk.here ?_))) rfl rfl (by decide) (by exact Nat.le_of_ble_eq_true rfl) (by first | decide | omega) (fun r w1 hq => ?_) (fun E q w1 hq => hq.elim)
            obtain ⟨rfl, rfl⟩ := hq
            dsimp only [wM, PqM, List.cons_append, List.nil_append, Option.toList_some, Option.toList_none]
            rw [hf]
            refine is_7_5 X dX3_costToBuy_41 (by exact st_lz [_, _, _, _, _] [_] h5 rfl) ?_
            refine g_iload X dX3_costToBuy_43 rfl ?_
            refine g_iconst (v := (-1)) X dX3_costToBuy_45 rfl ?_
            refine g_icmp_ne (tgt := 55) X dX3_costToBuy_46 (by decide) (fun c_46 => absurd c_46 (fun h => h rfl)) (fun c_46 => ?_)
            refine g_aload_n X dX3_costToBuy_49 rfl rfl ?_
            refine g_iconst (v := 2) X dX3_costToBuy_50 rfl ?_
            refine g_callV X dX3_costToBuy_51 mv_X3_75 (c_X3_throwing hB) rfl cl_X3 (by repeat (first | with_reducible exact Rc.pt | with_reducible apply Rc.there)) (by repeat (first | with_reducible exact Pks.nil | (with_reducible refine Pks.pure (by assumption) ?_) | (with_reducible apply Pks.cons; focus ((repeat (first | with_reducible exact Pk.here | with_reducible apply Pk.there)); done)) | (refine Pks.cons Pk.here ?_))) rfl rfl (by decide) (by exact Nat.le_of_ble_eq_true rfl) (by first | decide | omega) (fun r w1 hq => ?_) (fun E q w1 hq => hq.elim)
            obtain ⟨rfl, rfl⟩ := hq
            dsimp only [wM, PqM, List.cons_append, List.nil_append, Option.toList_some, Option.toList_none]
            exact g_iret X Y dX3_costToBuy_54 (rfl) (⟨2, rfl, rfl, rfl⟩) (Pks.tail (rest := _) (by repeat (first | with_reducible exact Pks.nil | (with_reducible refine Pks.pure (by assumption) ?_) | (with_reducible apply Pks.cons; focus ((repeat (first | with_reducible exact Pk.here | with_reducible apply Pk.there)); done)) | (refine Pks.cons Pk.here ?_))))
          | some k =>
            obtain ⟨hk, o, ho, -⟩ := rkU_lt hf
            simp only [cbU, if_neg hl0, hf, ho] at hr
            obtain ⟨⟨e0, e1, e2, e3, e4⟩, k1, k2, k3, k4⟩ := hO.2.2 k o ho
            have hpo : 0 < o.2.2.2.2 := hP o (List.mem_of_getElem? ho)
            have hn2 : min l o.2.2.2.2 ≤ l := Nat.min_le_left ..
            refine g_iload_n X dX3_costToBuy_30 rfl rfl ?_
            refine g_if_le (tgt := 102) X dX3_costToBuy_31 (by decide) (fun c_31 => absurd c_31 (nI_nle (by omega) (by omega))) (fun c_31 => ?_)
            refine g_aload_n X dX3_costToBuy_34 rfl rfl ?_
            refine g_iconst (v := 0) X dX3_costToBuy_35 rfl ?_
            refine g_iload X dX3_costToBuy_36 rfl ?_
            refine g_callV X dX3_costToBuy_38 mv_X3_181 (c_X3_placeAtRank hB (b := false) hO) rfl cl_X3 (by repeat (first | with_reducible exact Rc.pt | with_reducible apply Rc.there)) (by repeat (first | with_reducible exact Pks.nil | (with_reducible refine Pks.pure (by assumption) ?_) | (with_reducible apply Pks.cons; focus ((repeat (first | with_reducible exact Pk.here | with_reducible apply Pk.there)); done)) | (refine Pks.cons Pk.here ?_))) rfl rfl (by decide) (by exact Nat.le_of_ble_eq_true rfl) (by first | decide | omega) (fun r w1 hq => ?_) (fun E q w1 hq => hq.elim)
            obtain ⟨rfl, rfl⟩ := hq
            dsimp only [wM, PqM, List.cons_append, List.nil_append, Option.toList_some, Option.toList_none]
            rw [hf]
            refine is_7_5 X dX3_costToBuy_41 (by exact st_lz [_, _, _, _, _] [_] h5 rfl) ?_
            refine g_iload X dX3_costToBuy_43 rfl ?_
            refine g_iconst (v := (-1)) X dX3_costToBuy_45 rfl ?_
            refine g_icmp_ne (tgt := 55) X dX3_costToBuy_46 (by decide) (fun c_46 => ?_) (fun c_46 => absurd c_46 (fun e => nomatch (oI_none (x := some k) (fun j e => by cases e; omega)).mp e))
            refine g_iload_n X dX3_costToBuy_55 rfl rfl ?_
            refine g_aload_n X dX3_costToBuy_56 rfl rfl ?_
            refine g_getf X dX3_costToBuy_57 fl_X3_9 (by repeat (first | with_reducible exact Pk.here | with_reducible apply Pk.there)) (by exact rfl) ?_
            refine g_iload X dX3_costToBuy_60 rfl ?_
            refine g_callS X dX3_costToBuy_62 ms_X3_61 (c_X3_orderAtPlace hB) rfl (by repeat (first | with_reducible exact Pks.nil | (with_reducible refine Pks.pure (by assumption) ?_) | (with_reducible apply Pks.cons; focus ((repeat (first | with_reducible exact Pk.here | with_reducible apply Pk.there)); done)) | (refine Pks.cons Pk.here ?_))) rfl rfl (by decide) (by exact Nat.le_of_ble_eq_true rfl) (by first | decide | omega) (fun r w1 hq => ?_) (fun E q w1 hq => hq.elim)
            obtain ⟨rfl, rfl⟩ := hq
            dsimp only [wM, PqM, List.cons_append, List.nil_append, Option.toList_some, Option.toList_none]
            rw [show oI_ (some k) = nI k from rfl, io]
            refine g_iconst (v := 4) X dX3_costToBuy_65 rfl ?_
            refine g_iadd X dX3_costToBuy_66 ?_
            refine g_iald (35 + 5 * k + 4) X dX3_costToBuy_67 (by repeat (first | with_reducible exact Pk.here | with_reducible apply Pk.there)) (nIp4 _) (by omega) (by exact e4) ?_
            refine g_callS X dX3_costToBuy_68 ms_X3_111 (c_J14_min hB rfl rfl (by omega) (by omega)) rfl (by repeat (first | with_reducible exact Pks.nil | (with_reducible refine Pks.pure (by assumption) ?_) | (with_reducible apply Pks.cons; focus ((repeat (first | with_reducible exact Pk.here | with_reducible apply Pk.there)); done)) | (refine Pks.cons Pk.here ?_))) rfl rfl (by decide) (by exact Nat.le_of_ble_eq_true rfl) (by first | decide | omega) (fun r w1 hq => ?_) (fun E q w1 hq => hq.elim)
            obtain ⟨rfl, rfl⟩ := hq
            dsimp only [wM, PqM, List.cons_append, List.nil_append, Option.toList_some, Option.toList_none]
            refine is_7_6 X dX3_costToBuy_71 (by exact st_lz [_, _, _, _, _, _] [] h6 rfl) ?_
            refine g_iload_n X dX3_costToBuy_73 rfl rfl ?_
            refine g_iload X dX3_costToBuy_74 rfl ?_
            refine g_aload_n X dX3_costToBuy_76 rfl rfl ?_
            refine g_getf X dX3_costToBuy_77 fl_X3_9 (by repeat (first | with_reducible exact Pk.here | with_reducible apply Pk.there)) (by exact rfl) ?_
            refine g_iload X dX3_costToBuy_80 rfl ?_
            refine g_callS X dX3_costToBuy_82 ms_X3_61 (c_X3_orderAtPlace hB) rfl (by repeat (first | with_reducible exact Pks.nil | (with_reducible refine Pks.pure (by assumption) ?_) | (with_reducible apply Pks.cons; focus ((repeat (first | with_reducible exact Pk.here | with_reducible apply Pk.there)); done)) | (refine Pks.cons Pk.here ?_))) rfl rfl (by decide) (by exact Nat.le_of_ble_eq_true rfl) (by first | decide | omega) (fun r w1 hq => ?_) (fun E q w1 hq => hq.elim)
            obtain ⟨rfl, rfl⟩ := hq
            dsimp only [wM, PqM, List.cons_append, List.nil_append, Option.toList_some, Option.toList_none]
            rw [io]
            refine g_iconst (v := 3) X dX3_costToBuy_85 rfl ?_
            refine g_iadd X dX3_costToBuy_86 ?_
            refine g_iald (35 + 5 * k + 3) X dX3_costToBuy_87 (by repeat (first | with_reducible exact Pk.here | with_reducible apply Pk.there)) (nIp3 _) (by omega) (by exact e3) ?_
            refine g_imul X dX3_costToBuy_88 ?_
            refine g_iadd X dX3_costToBuy_89 ?_
            refine is_7_3n X dX3_costToBuy_90 rfl rfl ?_
            refine g_iload_n X dX3_costToBuy_91 rfl rfl ?_
            refine g_iload X dX3_costToBuy_92 rfl ?_
            refine g_isub X dX3_costToBuy_94 ?_
            rw [pk_sub hn2]
            refine is_7_2n X dX3_costToBuy_95 rfl rfl ?_
            refine ii_7_4 (v := nI (r + 1)) X dX3_costToBuy_96 (nI_1 r) rfl ?_
            refine g_goto (tgt := 30) X dX3_costToBuy_99 (by decide) ?_
            exact ih _ _ _ _ _ LZ.i LZ.i (by omega) (by omega) (by omega) hr
    refine g_aload_n X dX3_costToBuy_0 rfl rfl ?_
    refine g_iconst (v := 0) X dX3_costToBuy_1 rfl ?_
    refine pf_20_8 X dX3_costToBuy_2 fl_X3_45 (by repeat (first | with_reducible exact Rp.here | with_reducible apply Rp.there)) rfl rfl ?_
    refine g_iload_n X dX3_costToBuy_5 rfl rfl ?_
    refine g_i2l X dX3_costToBuy_6 rfl ?_
    refine g_lconst (v := 1) X dX3_costToBuy_7 rfl ?_
    refine g_ldc2 X dX3_costToBuy_8 q2800 ?_
    refine g_callS X dX3_costToBuy_11 ms_X3_51 (c_X3_in hB) rfl (by repeat (first | with_reducible exact Pks.nil | (with_reducible refine Pks.pure (by assumption) ?_) | (with_reducible apply Pks.cons; focus ((repeat (first | with_reducible exact Pk.here | with_reducible apply Pk.there)); done)) | (refine Pks.cons Pk.here ?_))) rfl rfl (by decide) (by exact Nat.le_of_ble_eq_true rfl) (by first | decide | omega) (fun r w1 hq => ?_) (fun E q w1 hq => hq.elim)
    obtain ⟨rfl, rfl⟩ := hq
    dsimp only [wM, PqM, List.cons_append, List.nil_append, Option.toList_some, Option.toList_none]
    rw [inL (j := 1) (k := 999) (by decide) (by decide), bP_t h1]
    refine g_if_ne (tgt := 23) X dX3_costToBuy_14 (by decide) (fun c_14 => ?_) (fun c_14 => absurd c_14 (by decide))
    refine g_iload_n X dX3_costToBuy_23 rfl rfl ?_
    refine is_7_2n X dX3_costToBuy_24 rfl rfl ?_
    refine g_iconst (v := 0) X dX3_costToBuy_25 rfl ?_
    refine is_7_3n X dX3_costToBuy_26 rfl rfl ?_
    refine g_iconst (v := 0) X dX3_costToBuy_27 rfl ?_
    refine is_7_4 X dX3_costToBuy_28 rfl ?_
    exact L u' u' 0 0 _ _ LZ.u LZ.u (Nat.le_refl _) (Nat.le_refl _) (by omega) hR1
  · obtain rfl := hR.symm.trans (if_neg h1)
    refine g_aload_n X dX3_costToBuy_0 rfl rfl ?_
    refine g_iconst (v := 0) X dX3_costToBuy_1 rfl ?_
    refine pf_20_8 X dX3_costToBuy_2 fl_X3_45 (by repeat (first | with_reducible exact Rp.here | with_reducible apply Rp.there)) rfl rfl ?_
    refine g_iload_n X dX3_costToBuy_5 rfl rfl ?_
    refine g_i2l X dX3_costToBuy_6 rfl ?_
    refine g_lconst (v := 1) X dX3_costToBuy_7 rfl ?_
    refine g_ldc2 X dX3_costToBuy_8 q2800 ?_
    refine g_callS X dX3_costToBuy_11 ms_X3_51 (c_X3_in hB) rfl (by repeat (first | with_reducible exact Pks.nil | (with_reducible refine Pks.pure (by assumption) ?_) | (with_reducible apply Pks.cons; focus ((repeat (first | with_reducible exact Pk.here | with_reducible apply Pk.there)); done)) | (refine Pks.cons Pk.here ?_))) rfl rfl (by decide) (by exact Nat.le_of_ble_eq_true rfl) (by first | decide | omega) (fun r w1 hq => ?_) (fun E q w1 hq => hq.elim)
    obtain ⟨rfl, rfl⟩ := hq
    dsimp only [wM, PqM, List.cons_append, List.nil_append, Option.toList_some, Option.toList_none]
    rw [inL (j := 1) (k := 999) (by decide) (by decide), bP_f h1]
    refine g_if_ne (tgt := 23) X dX3_costToBuy_14 (by decide) (fun c_14 => absurd c_14 (by decide)) (fun c_14 => ?_)
    refine g_aload_n X dX3_costToBuy_17 rfl rfl ?_
    refine g_iconst (v := 1) X dX3_costToBuy_18 rfl ?_
    refine g_callV X dX3_costToBuy_19 mv_X3_75 (c_X3_throwing hB) rfl cl_X3 (by repeat (first | with_reducible exact Rc.pt | with_reducible apply Rc.there)) (by repeat (first | with_reducible exact Pks.nil | (with_reducible refine Pks.pure (by assumption) ?_) | (with_reducible apply Pks.cons; focus ((repeat (first | with_reducible exact Pk.here | with_reducible apply Pk.there)); done)) | (refine Pks.cons Pk.here ?_))) rfl rfl (by decide) (by exact Nat.le_of_ble_eq_true rfl) (by first | decide | omega) (fun r w1 hq => ?_) (fun E q w1 hq => hq.elim)
    obtain ⟨rfl, rfl⟩ := hq
    dsimp only [wM, PqM, List.cons_append, List.nil_append, Option.toList_some, Option.toList_none]
    exact g_iret X Y dX3_costToBuy_22 (rfl) (⟨1, rfl, rfl, rfl⟩) (Pks.tail (rest := _) (by repeat (first | with_reducible exact Pks.nil | (with_reducible refine Pks.pure (by assumption) ?_) | (with_reducible apply Pks.cons; focus ((repeat (first | with_reducible exact Pk.here | with_reducible apply Pk.there)); done)) | (refine Pks.cons Pk.here ?_))))
theorem c_X3_costToBuyByPrices (hB : Bs B) {u : Int32} (hE : Enc M S) (hP : posO (sO S)) (hR : qCost u S = R) : Tr B yX3_costToBuyByPrices (Cond.code yX3_costToBuyByPrices cX3_costToBuyByPrices 2 (some .int)) (rmd 5 0 0) [.ref m, .int u] (wM m ad sv ch ea fa th pm lm cm p0 s0 iw M) (PqM m ad sv ch ea fa pm lm cm p0 s0 iw M R) nox := by
  refine tr_of hB (by decide +kernel) rfl ?_
  intro Γ X Y
  refine g_eq (ls' := [.val (.ref m), .val (.int u)]) rfl rfl ?_
  refine g_aload_n X dX3_costToBuyByPrices_0 rfl rfl ?_
  refine g_iload_n X dX3_costToBuyByPrices_1 rfl rfl ?_
  refine g_callV X dX3_costToBuyByPrices_2 mv_X3_184 (c_X3_costToBuy hB hE hP hR) rfl cl_X3 (by repeat (first | with_reducible exact Rc.pt | with_reducible apply Rc.there)) (by repeat (first | with_reducible exact Pks.nil | (with_reducible refine Pks.pure (by assumption) ?_) | (with_reducible apply Pks.cons; focus ((repeat (first | with_reducible exact Pk.here | with_reducible apply Pk.there)); done)) | (refine Pks.cons Pk.here ?_))) rfl rfl (by decide) (by exact Nat.le_of_ble_eq_true rfl) (by first | decide | omega) (fun r w1 hq => ?_) (fun E q w1 hq => hq.elim)
  obtain ⟨q, rfl, rfl, rfl⟩ := hq
  dsimp only [wM, PqM, List.cons_append, List.nil_append, Option.toList_some, Option.toList_none]
  exact g_iret X Y dX3_costToBuyByPrices_5 (rfl) (⟨_, rfl, rfl, rfl⟩) (Pks.tail (rest := _) (by repeat (first | with_reducible exact Pks.nil | (with_reducible refine Pks.pure (by assumption) ?_) | (with_reducible apply Pks.cons; focus ((repeat (first | with_reducible exact Pk.here | with_reducible apply Pk.there)); done)) | (refine Pks.cons Pk.here ?_))))
theorem c_X3_sideIn (hB : Bs B) {k t : Nat} {c : CC} (hE : EnC M (sC S)) (hc : (sC S)[k]? = some c) (ht : t < 2 ^ 31) : Tr B yX3_sideIn (Cond.code yX3_sideIn cX3_sideIn 4 (some .int)) (rmd 2 0 0) [.ref m, .int (nI k), .int (nI t)] (wM m ad sv ch ea fa th pm lm cm p0 s0 iw M) (fun r w => r = some (.int (sdF t c)) ∧ w = wM m ad sv ch ea fa th pm lm cm p0 s0 iw M) nox := by
  have hl := hE.2.1
  have hk := (List.getElem?_eq_some_iff.mp hc).1
  obtain ⟨⟨e0, e1, e2, e3, e4⟩, k1, k2, -⟩ := hE.2.2 k c hc
  refine tr_of hB (by decide +kernel) rfl ?_
  intro Γ X Y
  refine g_eq (ls' := [.val (.ref m), .val (.int (nI k)), .val (.int (nI t)), .unset]) rfl rfl ?_
  by_cases h1 : c.2.1 = t
  · refine g_iload_n X dX3_sideIn_0 rfl rfl ?_
    refine g_callS X dX3_sideIn_1 ms_X3_130 (c_X3_contractAt hB) rfl (by repeat (first | with_reducible exact Pks.nil | (with_reducible refine Pks.pure (by assumption) ?_) | (with_reducible apply Pks.cons; focus ((repeat (first | with_reducible exact Pk.here | with_reducible apply Pk.there)); done)) | (refine Pks.cons Pk.here ?_))) rfl rfl (by decide) (by exact Nat.le_of_ble_eq_true rfl) (by first | decide | omega) (fun r w1 hq => ?_) (fun E q w1 hq => hq.elim)
    obtain ⟨rfl, rfl⟩ := hq
    dsimp only [wM, PqM, List.cons_append, List.nil_append, Option.toList_some, Option.toList_none]
    rw [ic]
    refine is_4_3n X dX3_sideIn_4 rfl rfl ?_
    refine g_aload_n X dX3_sideIn_5 rfl rfl ?_
    refine g_getf X dX3_sideIn_6 fl_X3_9 (by repeat (first | with_reducible exact Pk.here | with_reducible apply Pk.there)) (by exact rfl) ?_
    refine g_iload_n X dX3_sideIn_9 rfl rfl ?_
    refine g_iconst (v := 1) X dX3_sideIn_10 rfl ?_
    refine g_iadd X dX3_sideIn_11 ?_
    refine g_iald (115 + 5 * k + 1) X dX3_sideIn_12 (by repeat (first | with_reducible exact Pk.here | with_reducible apply Pk.there)) (nI_1 _) (by omega) (by exact e1) ?_
    refine g_iload_n X dX3_sideIn_13 rfl rfl ?_
    refine g_icmp_ne (tgt := 21) X dX3_sideIn_14 (by decide) (fun c_14 => absurd c_14 (fun q => q (by rw [h1]))) (fun c_14 => ?_)
    refine g_iconst (v := 1) X dX3_sideIn_17 rfl ?_
    refine g_goto (tgt := 36) X dX3_sideIn_18 (by decide) ?_
    exact g_iret X Y dX3_sideIn_36 (rfl) (⟨by rw [sdF, if_pos h1], rfl⟩) (Pks.tail (rest := _) (by repeat (first | with_reducible exact Pks.nil | (with_reducible refine Pks.pure (by assumption) ?_) | (with_reducible apply Pks.cons; focus ((repeat (first | with_reducible exact Pk.here | with_reducible apply Pk.there)); done)) | (refine Pks.cons Pk.here ?_))))
  · by_cases h2 : c.1 = t
    · refine g_iload_n X dX3_sideIn_0 rfl rfl ?_
      refine g_callS X dX3_sideIn_1 ms_X3_130 (c_X3_contractAt hB) rfl (by repeat (first | with_reducible exact Pks.nil | (with_reducible refine Pks.pure (by assumption) ?_) | (with_reducible apply Pks.cons; focus ((repeat (first | with_reducible exact Pk.here | with_reducible apply Pk.there)); done)) | (refine Pks.cons Pk.here ?_))) rfl rfl (by decide) (by exact Nat.le_of_ble_eq_true rfl) (by first | decide | omega) (fun r w1 hq => ?_) (fun E q w1 hq => hq.elim)
      obtain ⟨rfl, rfl⟩ := hq
      dsimp only [wM, PqM, List.cons_append, List.nil_append, Option.toList_some, Option.toList_none]
      rw [ic]
      refine is_4_3n X dX3_sideIn_4 rfl rfl ?_
      refine g_aload_n X dX3_sideIn_5 rfl rfl ?_
      refine g_getf X dX3_sideIn_6 fl_X3_9 (by repeat (first | with_reducible exact Pk.here | with_reducible apply Pk.there)) (by exact rfl) ?_
      refine g_iload_n X dX3_sideIn_9 rfl rfl ?_
      refine g_iconst (v := 1) X dX3_sideIn_10 rfl ?_
      refine g_iadd X dX3_sideIn_11 ?_
      refine g_iald (115 + 5 * k + 1) X dX3_sideIn_12 (by repeat (first | with_reducible exact Pk.here | with_reducible apply Pk.there)) (nI_1 _) (by omega) (by exact e1) ?_
      refine g_iload_n X dX3_sideIn_13 rfl rfl ?_
      refine g_icmp_ne (tgt := 21) X dX3_sideIn_14 (by decide) (fun c_14 => ?_) (fun c_14 => absurd c_14 (fun q => h1 (nI_inj (by omega) ht q)))
      refine g_aload_n X dX3_sideIn_21 rfl rfl ?_
      refine g_getf X dX3_sideIn_22 fl_X3_9 (by repeat (first | with_reducible exact Pk.here | with_reducible apply Pk.there)) (by exact rfl) ?_
      refine g_iload_n X dX3_sideIn_25 rfl rfl ?_
      refine g_iald (115 + 5 * k) X dX3_sideIn_26 (by repeat (first | with_reducible exact Pk.here | with_reducible apply Pk.there)) (rfl) (by omega) (by exact e0) ?_
      refine g_iload_n X dX3_sideIn_27 rfl rfl ?_
      refine g_icmp_ne (tgt := 35) X dX3_sideIn_28 (by decide) (fun c_28 => absurd c_28 (fun q => q (by rw [h2]))) (fun c_28 => ?_)
      refine g_iconst (v := (-1)) X dX3_sideIn_31 rfl ?_
      refine g_goto (tgt := 36) X dX3_sideIn_32 (by decide) ?_
      exact g_iret X Y dX3_sideIn_36 (rfl) (⟨by rw [sdF, if_neg h1, if_pos h2], rfl⟩) (Pks.tail (rest := _) (by repeat (first | with_reducible exact Pks.nil | (with_reducible refine Pks.pure (by assumption) ?_) | (with_reducible apply Pks.cons; focus ((repeat (first | with_reducible exact Pk.here | with_reducible apply Pk.there)); done)) | (refine Pks.cons Pk.here ?_))))
    · refine g_iload_n X dX3_sideIn_0 rfl rfl ?_
      refine g_callS X dX3_sideIn_1 ms_X3_130 (c_X3_contractAt hB) rfl (by repeat (first | with_reducible exact Pks.nil | (with_reducible refine Pks.pure (by assumption) ?_) | (with_reducible apply Pks.cons; focus ((repeat (first | with_reducible exact Pk.here | with_reducible apply Pk.there)); done)) | (refine Pks.cons Pk.here ?_))) rfl rfl (by decide) (by exact Nat.le_of_ble_eq_true rfl) (by first | decide | omega) (fun r w1 hq => ?_) (fun E q w1 hq => hq.elim)
      obtain ⟨rfl, rfl⟩ := hq
      dsimp only [wM, PqM, List.cons_append, List.nil_append, Option.toList_some, Option.toList_none]
      rw [ic]
      refine is_4_3n X dX3_sideIn_4 rfl rfl ?_
      refine g_aload_n X dX3_sideIn_5 rfl rfl ?_
      refine g_getf X dX3_sideIn_6 fl_X3_9 (by repeat (first | with_reducible exact Pk.here | with_reducible apply Pk.there)) (by exact rfl) ?_
      refine g_iload_n X dX3_sideIn_9 rfl rfl ?_
      refine g_iconst (v := 1) X dX3_sideIn_10 rfl ?_
      refine g_iadd X dX3_sideIn_11 ?_
      refine g_iald (115 + 5 * k + 1) X dX3_sideIn_12 (by repeat (first | with_reducible exact Pk.here | with_reducible apply Pk.there)) (nI_1 _) (by omega) (by exact e1) ?_
      refine g_iload_n X dX3_sideIn_13 rfl rfl ?_
      refine g_icmp_ne (tgt := 21) X dX3_sideIn_14 (by decide) (fun c_14 => ?_) (fun c_14 => absurd c_14 (fun q => h1 (nI_inj (by omega) ht q)))
      refine g_aload_n X dX3_sideIn_21 rfl rfl ?_
      refine g_getf X dX3_sideIn_22 fl_X3_9 (by repeat (first | with_reducible exact Pk.here | with_reducible apply Pk.there)) (by exact rfl) ?_
      refine g_iload_n X dX3_sideIn_25 rfl rfl ?_
      refine g_iald (115 + 5 * k) X dX3_sideIn_26 (by repeat (first | with_reducible exact Pk.here | with_reducible apply Pk.there)) (rfl) (by omega) (by exact e0) ?_
      refine g_iload_n X dX3_sideIn_27 rfl rfl ?_
      refine g_icmp_ne (tgt := 35) X dX3_sideIn_28 (by decide) (fun c_28 => ?_) (fun c_28 => absurd c_28 (fun q => h2 (nI_inj (by omega) ht q)))
      refine g_iconst (v := 0) X dX3_sideIn_35 rfl ?_
      exact g_iret X Y dX3_sideIn_36 (rfl) (⟨by rw [sdF, if_neg h1, if_neg h2], rfl⟩) (Pks.tail (rest := _) (by repeat (first | with_reducible exact Pks.nil | (with_reducible refine Pks.pure (by assumption) ?_) | (with_reducible apply Pks.cons; focus ((repeat (first | with_reducible exact Pk.here | with_reducible apply Pk.there)); done)) | (refine Pks.cons Pk.here ?_))))
theorem c_X3_exposure (hB : Bs B) {t : Int32} (hE : Enc M S) (hR : qExposure t S = R) : Tr B yX3_exposure (Cond.code yX3_exposure cX3_exposure 4 (some .int)) (rmd 4 0 0) [.ref m, .int t] (wM m ad sv ch ea fa th pm lm cm p0 s0 iw M) (PqM m ad sv ch ea fa pm lm cm p0 s0 iw M R) nox := by
  have hT := hE.2.2.1.1
  have hl := hE.2.2.1.2.1
  have hC := hE.2.2.2.2.1
  have hl2 := hC.2.1
  refine tr_of hB (by decide +kernel) rfl ?_
  intro Γ X Y
  refine g_eq (ls' := [.val (.ref m), .val (.int t), .unset, .unset]) rfl rfl ?_
  by_cases h1 : isT (sT S).length t
  · obtain ⟨t', ht, rfl⟩ := isT_of (by omega) h1
    obtain ⟨c, hc⟩ : ∃ c, (sT S)[t']? = some c := ⟨_, List.getElem?_eq_getElem ht⟩
    have hM := hE.2.2.1.2.2 t' c hc
    have hr : R = (0, nI c.2 + rvS t' false (sO S) + smU (exF t') (sC S) (sC S).length) := by rw [← hR, qExposure, if_pos h1, show cN (nI t') = t' from nI_clamp (by omega)]; simp only [wiT, hc]
    have L : ∀ j k, k + j = (sC S).length → G B Γ 0 0 (wM m ad sv ch ea fa 0 pm lm cm p0 s0 iw M) 40 [.val (.ref m), .val (.int (nI t')), .val (.int (nI c.2 + rvS t' false (sO S) + smU (exF t') (sC S) k)), .val (.int (nI k))] [] := by
      intro j
      induction j with
      | zero =>
        intro k hk
        obtain rfl : k = (sC S).length := by omega
        refine g_iload_n X dX3_exposure_40 rfl rfl ?_
        refine g_aload_n X dX3_exposure_41 rfl rfl ?_
        refine g_getf X dX3_exposure_42 fl_X3_9 (by repeat (first | with_reducible exact Pk.here | with_reducible apply Pk.there)) (by exact rfl) ?_
        refine g_iconst (v := 3) X dX3_exposure_45 rfl ?_
        refine g_iald (3) X dX3_exposure_46 (by repeat (first | with_reducible exact Pk.here | with_reducible apply Pk.there)) (rfl) (by decide) (by exact hC.1) ?_
        refine g_icmp_ge (tgt := 77) X dX3_exposure_47 (by decide) (fun c_47 => ?_) (fun c_47 => absurd (nI_le (by omega) (by omega)) c_47)
        refine g_iload_n X dX3_exposure_77 rfl rfl ?_
        exact g_iret X Y dX3_exposure_78 (rfl) (⟨0, by rw [hr], rfl, by rw [hr]; rfl⟩) (Pks.tail (rest := _) (by repeat (first | with_reducible exact Pks.nil | (with_reducible refine Pks.pure (by assumption) ?_) | (with_reducible apply Pks.cons; focus ((repeat (first | with_reducible exact Pk.here | with_reducible apply Pk.there)); done)) | (refine Pks.cons Pk.here ?_))))
      | succ j ih =>
        intro k hk
        obtain ⟨d, hd⟩ : ∃ d, (sC S)[k]? = some d := ⟨_, List.getElem?_eq_getElem (show k < (sC S).length by omega)⟩
        obtain ⟨⟨e0, e1, e2, e3, e4⟩, -⟩ := hC.2.2 k d hd
        have hs := smU_s (f := exF t') hd
        refine g_iload_n X dX3_exposure_40 rfl rfl ?_
        refine g_aload_n X dX3_exposure_41 rfl rfl ?_
        refine g_getf X dX3_exposure_42 fl_X3_9 (by repeat (first | with_reducible exact Pk.here | with_reducible apply Pk.there)) (by exact rfl) ?_
        refine g_iconst (v := 3) X dX3_exposure_45 rfl ?_
        refine g_iald (3) X dX3_exposure_46 (by repeat (first | with_reducible exact Pk.here | with_reducible apply Pk.there)) (rfl) (by decide) (by exact hC.1) ?_
        refine g_icmp_ge (tgt := 77) X dX3_exposure_47 (by decide) (fun c_47 => absurd c_47 (nI_ge (by omega) (by omega))) (fun c_47 => ?_)
        refine g_iload_n X dX3_exposure_50 rfl rfl ?_
        refine g_aload_n X dX3_exposure_51 rfl rfl ?_
        refine g_iload_n X dX3_exposure_52 rfl rfl ?_
        refine g_iload_n X dX3_exposure_53 rfl rfl ?_
        refine g_callV X dX3_exposure_54 mv_X3_190 (c_X3_sideIn hB hC hd (by omega)) rfl cl_X3 (by repeat (first | with_reducible exact Rc.pt | with_reducible apply Rc.there)) (by repeat (first | with_reducible exact Pks.nil | (with_reducible refine Pks.pure (by assumption) ?_) | (with_reducible apply Pks.cons; focus ((repeat (first | with_reducible exact Pk.here | with_reducible apply Pk.there)); done)) | (refine Pks.cons Pk.here ?_))) rfl rfl (by decide) (by exact Nat.le_of_ble_eq_true rfl) (by first | decide | omega) (fun r w1 hq => ?_) (fun E q w1 hq => hq.elim)
        obtain ⟨rfl, rfl⟩ := hq
        dsimp only [wM, PqM, List.cons_append, List.nil_append, Option.toList_some, Option.toList_none]
        refine g_aload_n X dX3_exposure_57 rfl rfl ?_
        refine g_getf X dX3_exposure_58 fl_X3_9 (by repeat (first | with_reducible exact Pk.here | with_reducible apply Pk.there)) (by exact rfl) ?_
        refine g_iload_n X dX3_exposure_61 rfl rfl ?_
        refine g_callS X dX3_exposure_62 ms_X3_130 (c_X3_contractAt hB) rfl (by repeat (first | with_reducible exact Pks.nil | (with_reducible refine Pks.pure (by assumption) ?_) | (with_reducible apply Pks.cons; focus ((repeat (first | with_reducible exact Pk.here | with_reducible apply Pk.there)); done)) | (refine Pks.cons Pk.here ?_))) rfl rfl (by decide) (by exact Nat.le_of_ble_eq_true rfl) (by first | decide | omega) (fun r w1 hq => ?_) (fun E q w1 hq => hq.elim)
        obtain ⟨rfl, rfl⟩ := hq
        dsimp only [wM, PqM, List.cons_append, List.nil_append, Option.toList_some, Option.toList_none]
        rw [ic]
        refine g_iconst (v := 2) X dX3_exposure_65 rfl ?_
        refine g_iadd X dX3_exposure_66 ?_
        refine g_iald (115 + 5 * k + 2) X dX3_exposure_67 (by repeat (first | with_reducible exact Pk.here | with_reducible apply Pk.there)) (nIp2 _) (by omega) (by exact e2) ?_
        refine g_imul X dX3_exposure_68 ?_
        refine g_iadd X dX3_exposure_69 ?_
        rw [Int32.add_assoc (nI c.2 + rvS t' false (sO S)), ← hs]
        refine is_4_2n X dX3_exposure_70 rfl rfl ?_
        refine ii_4_3 (v := nI (k + 1)) X dX3_exposure_71 (nI_1 k) rfl ?_
        refine g_goto (tgt := 40) X dX3_exposure_74 (by decide) ?_
        exact ih (k + 1) (by omega)
    refine g_aload_n X dX3_exposure_0 rfl rfl ?_
    refine g_iconst (v := 0) X dX3_exposure_1 rfl ?_
    refine pf_20_8 X dX3_exposure_2 fl_X3_45 (by repeat (first | with_reducible exact Rp.here | with_reducible apply Rp.there)) rfl rfl ?_
    refine g_aload_n X dX3_exposure_5 rfl rfl ?_
    refine g_iload_n X dX3_exposure_6 rfl rfl ?_
    refine g_callV X dX3_exposure_7 mv_X3_95 (c_X3_isTrader hB hT (by omega)) rfl cl_X3 (by repeat (first | with_reducible exact Rc.pt | with_reducible apply Rc.there)) (by repeat (first | with_reducible exact Pks.nil | (with_reducible refine Pks.pure (by assumption) ?_) | (with_reducible apply Pks.cons; focus ((repeat (first | with_reducible exact Pk.here | with_reducible apply Pk.there)); done)) | (refine Pks.cons Pk.here ?_))) rfl rfl (by decide) (by exact Nat.le_of_ble_eq_true rfl) (by first | decide | omega) (fun r w1 hq => ?_) (fun E q w1 hq => hq.elim)
    obtain ⟨rfl, rfl⟩ := hq
    dsimp only [wM, PqM, List.cons_append, List.nil_append, Option.toList_some, Option.toList_none]
    rw [bP_t h1]
    refine g_if_ne (tgt := 19) X dX3_exposure_10 (by decide) (fun c_10 => ?_) (fun c_10 => absurd c_10 (by decide))
    refine g_aload_n X dX3_exposure_19 rfl rfl ?_
    refine g_getf X dX3_exposure_20 fl_X3_9 (by repeat (first | with_reducible exact Pk.here | with_reducible apply Pk.there)) (by exact rfl) ?_
    refine g_iload_n X dX3_exposure_23 rfl rfl ?_
    refine g_callS X dX3_exposure_24 ms_X3_78 (c_X3_traderAt hB) rfl (by repeat (first | with_reducible exact Pks.nil | (with_reducible refine Pks.pure (by assumption) ?_) | (with_reducible apply Pks.cons; focus ((repeat (first | with_reducible exact Pk.here | with_reducible apply Pk.there)); done)) | (refine Pks.cons Pk.here ?_))) rfl rfl (by decide) (by exact Nat.le_of_ble_eq_true rfl) (by first | decide | omega) (fun r w1 hq => ?_) (fun E q w1 hq => hq.elim)
    obtain ⟨rfl, rfl⟩ := hq
    dsimp only [wM, PqM, List.cons_append, List.nil_append, Option.toList_some, Option.toList_none]
    rw [it_]
    refine g_iconst (v := 1) X dX3_exposure_27 rfl ?_
    refine g_iadd X dX3_exposure_28 ?_
    refine g_iald (17 + 3 * t' + 1) X dX3_exposure_29 (by repeat (first | with_reducible exact Pk.here | with_reducible apply Pk.there)) (nI_1 _) (by omega) (by exact hM.2) ?_
    refine g_aload_n X dX3_exposure_30 rfl rfl ?_
    refine g_iload_n X dX3_exposure_31 rfl rfl ?_
    refine g_iconst (v := 0) X dX3_exposure_32 rfl ?_
    refine g_callV X dX3_exposure_33 mv_X3_174 (c_X3_reservedFor hB (b := false) hE.2.2.2.1 (by omega)) rfl cl_X3 (by repeat (first | with_reducible exact Rc.pt | with_reducible apply Rc.there)) (by repeat (first | with_reducible exact Pks.nil | (with_reducible refine Pks.pure (by assumption) ?_) | (with_reducible apply Pks.cons; focus ((repeat (first | with_reducible exact Pk.here | with_reducible apply Pk.there)); done)) | (refine Pks.cons Pk.here ?_))) rfl rfl (by decide) (by exact Nat.le_of_ble_eq_true rfl) (by first | decide | omega) (fun r w1 hq => ?_) (fun E q w1 hq => hq.elim)
    obtain ⟨rfl, rfl⟩ := hq
    dsimp only [wM, PqM, List.cons_append, List.nil_append, Option.toList_some, Option.toList_none]
    refine g_iadd X dX3_exposure_36 ?_
    refine is_4_2n X dX3_exposure_37 rfl rfl ?_
    refine g_iconst (v := 0) X dX3_exposure_38 rfl ?_
    refine is_4_3n X dX3_exposure_39 rfl rfl ?_
    have h9 := L (sC S).length 0 (by omega)
    rw [smU_0] at h9
    exact h9
  · obtain rfl := hR.symm.trans (if_neg h1)
    refine g_aload_n X dX3_exposure_0 rfl rfl ?_
    refine g_iconst (v := 0) X dX3_exposure_1 rfl ?_
    refine pf_20_8 X dX3_exposure_2 fl_X3_45 (by repeat (first | with_reducible exact Rp.here | with_reducible apply Rp.there)) rfl rfl ?_
    refine g_aload_n X dX3_exposure_5 rfl rfl ?_
    refine g_iload_n X dX3_exposure_6 rfl rfl ?_
    refine g_callV X dX3_exposure_7 mv_X3_95 (c_X3_isTrader hB hT (by omega)) rfl cl_X3 (by repeat (first | with_reducible exact Rc.pt | with_reducible apply Rc.there)) (by repeat (first | with_reducible exact Pks.nil | (with_reducible refine Pks.pure (by assumption) ?_) | (with_reducible apply Pks.cons; focus ((repeat (first | with_reducible exact Pk.here | with_reducible apply Pk.there)); done)) | (refine Pks.cons Pk.here ?_))) rfl rfl (by decide) (by exact Nat.le_of_ble_eq_true rfl) (by first | decide | omega) (fun r w1 hq => ?_) (fun E q w1 hq => hq.elim)
    obtain ⟨rfl, rfl⟩ := hq
    dsimp only [wM, PqM, List.cons_append, List.nil_append, Option.toList_some, Option.toList_none]
    rw [bP_f h1]
    refine g_if_ne (tgt := 19) X dX3_exposure_10 (by decide) (fun c_10 => absurd c_10 (by decide)) (fun c_10 => ?_)
    refine g_aload_n X dX3_exposure_13 rfl rfl ?_
    refine g_iconst (v := 1) X dX3_exposure_14 rfl ?_
    refine g_callV X dX3_exposure_15 mv_X3_75 (c_X3_throwing hB) rfl cl_X3 (by repeat (first | with_reducible exact Rc.pt | with_reducible apply Rc.there)) (by repeat (first | with_reducible exact Pks.nil | (with_reducible refine Pks.pure (by assumption) ?_) | (with_reducible apply Pks.cons; focus ((repeat (first | with_reducible exact Pk.here | with_reducible apply Pk.there)); done)) | (refine Pks.cons Pk.here ?_))) rfl rfl (by decide) (by exact Nat.le_of_ble_eq_true rfl) (by first | decide | omega) (fun r w1 hq => ?_) (fun E q w1 hq => hq.elim)
    obtain ⟨rfl, rfl⟩ := hq
    dsimp only [wM, PqM, List.cons_append, List.nil_append, Option.toList_some, Option.toList_none]
    exact g_iret X Y dX3_exposure_18 (rfl) (⟨1, rfl, rfl, rfl⟩) (Pks.tail (rest := _) (by repeat (first | with_reducible exact Pks.nil | (with_reducible refine Pks.pure (by assumption) ?_) | (with_reducible apply Pks.cons; focus ((repeat (first | with_reducible exact Pk.here | with_reducible apply Pk.there)); done)) | (refine Pks.cons Pk.here ?_))))
theorem c_X3_value (hB : Bs B) {t p : Int32} (hE : Enc M S) (hR : qValue t p S = R) : Tr B yX3_value (Cond.code yX3_value cX3_value 5 (some .int)) (rmd 4 0 0) [.ref m, .int t, .int p] (wM m ad sv ch ea fa th pm lm cm p0 s0 iw M) (PqM m ad sv ch ea fa pm lm cm p0 s0 iw M R) nox := by
  have hT := hE.2.2.1.1
  have hl := hE.2.2.1.2.1
  have hC := hE.2.2.2.2.1
  have hl2 := hC.2.1
  refine tr_of hB (by decide +kernel) rfl ?_
  intro Γ X Y
  refine g_eq (ls' := [.val (.ref m), .val (.int t), .val (.int p), .unset, .unset]) rfl rfl ?_
  by_cases h1 : isT (sT S).length t
  · by_cases h2 : inR p 0 99
    · obtain ⟨t', ht, rfl⟩ := isT_of (by omega) h1
      obtain ⟨c, hc⟩ : ∃ c, (sT S)[t']? = some c := ⟨_, List.getElem?_eq_getElem ht⟩
      have hM := hE.2.2.1.2.2 t' c hc
      have hr : R = (0, nI c.1 + rvS t' true (sO S) + p * (nI c.2 + rvS t' false (sO S)) + smU (vlF t' p) (sC S) (sC S).length) := by rw [← hR, qValue, if_pos h1, if_pos h2, show cN (nI t') = t' from nI_clamp (by omega)]; simp only [wiT, caT, hc]
      have L : ∀ j k, k + j = (sC S).length → G B Γ 0 0 (wM m ad sv ch ea fa 0 pm lm cm p0 s0 iw M) 78 [.val (.ref m), .val (.int (nI t')), .val (.int p), .val (.int (nI c.1 + rvS t' true (sO S) + p * (nI c.2 + rvS t' false (sO S)) + smU (vlF t' p) (sC S) k)), .val (.int (nI k))] [] := by
        intro j
        induction j with
        | zero =>
          intro k hk
          obtain rfl : k = (sC S).length := by omega
          refine g_iload X dX3_value_78 rfl ?_
          refine g_aload_n X dX3_value_80 rfl rfl ?_
          refine g_getf X dX3_value_81 fl_X3_9 (by repeat (first | with_reducible exact Pk.here | with_reducible apply Pk.there)) (by exact rfl) ?_
          refine g_iconst (v := 3) X dX3_value_84 rfl ?_
          refine g_iald (3) X dX3_value_85 (by repeat (first | with_reducible exact Pk.here | with_reducible apply Pk.there)) (rfl) (by decide) (by exact hC.1) ?_
          refine g_icmp_ge (tgt := 113) X dX3_value_86 (by decide) (fun c_86 => ?_) (fun c_86 => absurd (nI_le (by omega) (by omega)) c_86)
          refine g_iload_n X dX3_value_113 rfl rfl ?_
          exact g_iret X Y dX3_value_114 (rfl) (⟨0, by rw [hr], rfl, by rw [hr]; rfl⟩) (Pks.tail (rest := _) (by repeat (first | with_reducible exact Pks.nil | (with_reducible refine Pks.pure (by assumption) ?_) | (with_reducible apply Pks.cons; focus ((repeat (first | with_reducible exact Pk.here | with_reducible apply Pk.there)); done)) | (refine Pks.cons Pk.here ?_))))
        | succ j ih =>
          intro k hk
          obtain ⟨d, hd⟩ : ∃ d, (sC S)[k]? = some d := ⟨_, List.getElem?_eq_getElem (show k < (sC S).length by omega)⟩
          have hs := smU_s (f := vlF t' p) hd
          refine g_iload X dX3_value_78 rfl ?_
          refine g_aload_n X dX3_value_80 rfl rfl ?_
          refine g_getf X dX3_value_81 fl_X3_9 (by repeat (first | with_reducible exact Pk.here | with_reducible apply Pk.there)) (by exact rfl) ?_
          refine g_iconst (v := 3) X dX3_value_84 rfl ?_
          refine g_iald (3) X dX3_value_85 (by repeat (first | with_reducible exact Pk.here | with_reducible apply Pk.there)) (rfl) (by decide) (by exact hC.1) ?_
          refine g_icmp_ge (tgt := 113) X dX3_value_86 (by decide) (fun c_86 => absurd c_86 (nI_ge (by omega) (by omega))) (fun c_86 => ?_)
          refine g_iload_n X dX3_value_89 rfl rfl ?_
          refine g_aload_n X dX3_value_90 rfl rfl ?_
          refine g_iload X dX3_value_91 rfl ?_
          refine g_iload_n X dX3_value_93 rfl rfl ?_
          refine g_callV X dX3_value_94 mv_X3_190 (c_X3_sideIn hB hC hd (by omega)) rfl cl_X3 (by repeat (first | with_reducible exact Rc.pt | with_reducible apply Rc.there)) (by repeat (first | with_reducible exact Pks.nil | (with_reducible refine Pks.pure (by assumption) ?_) | (with_reducible apply Pks.cons; focus ((repeat (first | with_reducible exact Pk.here | with_reducible apply Pk.there)); done)) | (refine Pks.cons Pk.here ?_))) rfl rfl (by decide) (by exact Nat.le_of_ble_eq_true rfl) (by first | decide | omega) (fun r w1 hq => ?_) (fun E q w1 hq => hq.elim)
          obtain ⟨rfl, rfl⟩ := hq
          dsimp only [wM, PqM, List.cons_append, List.nil_append, Option.toList_some, Option.toList_none]
          refine g_aload_n X dX3_value_97 rfl rfl ?_
          refine g_iload X dX3_value_98 rfl ?_
          refine g_iload_n X dX3_value_100 rfl rfl ?_
          refine g_callV X dX3_value_101 mv_X3_137 (c_X3_gainOf hB hC hd) rfl cl_X3 (by repeat (first | with_reducible exact Rc.pt | with_reducible apply Rc.there)) (by repeat (first | with_reducible exact Pks.nil | (with_reducible refine Pks.pure (by assumption) ?_) | (with_reducible apply Pks.cons; focus ((repeat (first | with_reducible exact Pk.here | with_reducible apply Pk.there)); done)) | (refine Pks.cons Pk.here ?_))) rfl rfl (by decide) (by exact Nat.le_of_ble_eq_true rfl) (by first | decide | omega) (fun r w1 hq => ?_) (fun E q w1 hq => hq.elim)
          obtain ⟨rfl, rfl⟩ := hq
          dsimp only [wM, PqM, List.cons_append, List.nil_append, Option.toList_some, Option.toList_none]
          refine g_imul X dX3_value_104 ?_
          refine g_iadd X dX3_value_105 ?_
          rw [Int32.add_assoc (nI c.1 + rvS t' true (sO S) + p * (nI c.2 + rvS t' false (sO S))), ← hs]
          refine is_5_3n X dX3_value_106 rfl rfl ?_
          refine ii_5_4 (v := nI (k + 1)) X dX3_value_107 (nI_1 k) rfl ?_
          refine g_goto (tgt := 78) X dX3_value_110 (by decide) ?_
          exact ih (k + 1) (by omega)
      refine g_aload_n X dX3_value_0 rfl rfl ?_
      refine g_iconst (v := 0) X dX3_value_1 rfl ?_
      refine pf_20_8 X dX3_value_2 fl_X3_45 (by repeat (first | with_reducible exact Rp.here | with_reducible apply Rp.there)) rfl rfl ?_
      refine g_aload_n X dX3_value_5 rfl rfl ?_
      refine g_iload_n X dX3_value_6 rfl rfl ?_
      refine g_callV X dX3_value_7 mv_X3_95 (c_X3_isTrader hB hT (by omega)) rfl cl_X3 (by repeat (first | with_reducible exact Rc.pt | with_reducible apply Rc.there)) (by repeat (first | with_reducible exact Pks.nil | (with_reducible refine Pks.pure (by assumption) ?_) | (with_reducible apply Pks.cons; focus ((repeat (first | with_reducible exact Pk.here | with_reducible apply Pk.there)); done)) | (refine Pks.cons Pk.here ?_))) rfl rfl (by decide) (by exact Nat.le_of_ble_eq_true rfl) (by first | decide | omega) (fun r w1 hq => ?_) (fun E q w1 hq => hq.elim)
      obtain ⟨rfl, rfl⟩ := hq
      dsimp only [wM, PqM, List.cons_append, List.nil_append, Option.toList_some, Option.toList_none]
      rw [bP_t h1]
      refine g_if_ne (tgt := 19) X dX3_value_10 (by decide) (fun c_10 => ?_) (fun c_10 => absurd c_10 (by decide))
      refine g_iload_n X dX3_value_19 rfl rfl ?_
      refine g_i2l X dX3_value_20 rfl ?_
      refine g_lconst (v := 0) X dX3_value_21 rfl ?_
      refine g_ldc2 X dX3_value_22 q2804 ?_
      refine g_callS X dX3_value_25 ms_X3_51 (c_X3_in hB) rfl (by repeat (first | with_reducible exact Pks.nil | (with_reducible refine Pks.pure (by assumption) ?_) | (with_reducible apply Pks.cons; focus ((repeat (first | with_reducible exact Pk.here | with_reducible apply Pk.there)); done)) | (refine Pks.cons Pk.here ?_))) rfl rfl (by decide) (by exact Nat.le_of_ble_eq_true rfl) (by first | decide | omega) (fun r w1 hq => ?_) (fun E q w1 hq => hq.elim)
      obtain ⟨rfl, rfl⟩ := hq
      dsimp only [wM, PqM, List.cons_append, List.nil_append, Option.toList_some, Option.toList_none]
      rw [inL (j := 0) (k := 99) (by decide) (by decide), bP_t h2]
      refine g_if_ne (tgt := 37) X dX3_value_28 (by decide) (fun c_28 => ?_) (fun c_28 => absurd c_28 (by decide))
      refine g_aload_n X dX3_value_37 rfl rfl ?_
      refine g_getf X dX3_value_38 fl_X3_9 (by repeat (first | with_reducible exact Pk.here | with_reducible apply Pk.there)) (by exact rfl) ?_
      refine g_iload_n X dX3_value_41 rfl rfl ?_
      refine g_callS X dX3_value_42 ms_X3_78 (c_X3_traderAt hB) rfl (by repeat (first | with_reducible exact Pks.nil | (with_reducible refine Pks.pure (by assumption) ?_) | (with_reducible apply Pks.cons; focus ((repeat (first | with_reducible exact Pk.here | with_reducible apply Pk.there)); done)) | (refine Pks.cons Pk.here ?_))) rfl rfl (by decide) (by exact Nat.le_of_ble_eq_true rfl) (by first | decide | omega) (fun r w1 hq => ?_) (fun E q w1 hq => hq.elim)
      obtain ⟨rfl, rfl⟩ := hq
      dsimp only [wM, PqM, List.cons_append, List.nil_append, Option.toList_some, Option.toList_none]
      rw [it_]
      refine g_iald (17 + 3 * t') X dX3_value_45 (by repeat (first | with_reducible exact Pk.here | with_reducible apply Pk.there)) (rfl) (by omega) (by exact hM.1) ?_
      refine g_aload_n X dX3_value_46 rfl rfl ?_
      refine g_iload_n X dX3_value_47 rfl rfl ?_
      refine g_iconst (v := 1) X dX3_value_48 rfl ?_
      refine g_callV X dX3_value_49 mv_X3_174 (c_X3_reservedFor hB (b := true) hE.2.2.2.1 (by omega)) rfl cl_X3 (by repeat (first | with_reducible exact Rc.pt | with_reducible apply Rc.there)) (by repeat (first | with_reducible exact Pks.nil | (with_reducible refine Pks.pure (by assumption) ?_) | (with_reducible apply Pks.cons; focus ((repeat (first | with_reducible exact Pk.here | with_reducible apply Pk.there)); done)) | (refine Pks.cons Pk.here ?_))) rfl rfl (by decide) (by exact Nat.le_of_ble_eq_true rfl) (by first | decide | omega) (fun r w1 hq => ?_) (fun E q w1 hq => hq.elim)
      obtain ⟨rfl, rfl⟩ := hq
      dsimp only [wM, PqM, List.cons_append, List.nil_append, Option.toList_some, Option.toList_none]
      refine g_iadd X dX3_value_52 ?_
      refine g_iload_n X dX3_value_53 rfl rfl ?_
      refine g_aload_n X dX3_value_54 rfl rfl ?_
      refine g_getf X dX3_value_55 fl_X3_9 (by repeat (first | with_reducible exact Pk.here | with_reducible apply Pk.there)) (by exact rfl) ?_
      refine g_iload_n X dX3_value_58 rfl rfl ?_
      refine g_callS X dX3_value_59 ms_X3_78 (c_X3_traderAt hB) rfl (by repeat (first | with_reducible exact Pks.nil | (with_reducible refine Pks.pure (by assumption) ?_) | (with_reducible apply Pks.cons; focus ((repeat (first | with_reducible exact Pk.here | with_reducible apply Pk.there)); done)) | (refine Pks.cons Pk.here ?_))) rfl rfl (by decide) (by exact Nat.le_of_ble_eq_true rfl) (by first | decide | omega) (fun r w1 hq => ?_) (fun E q w1 hq => hq.elim)
      obtain ⟨rfl, rfl⟩ := hq
      dsimp only [wM, PqM, List.cons_append, List.nil_append, Option.toList_some, Option.toList_none]
      rw [it_]
      refine g_iconst (v := 1) X dX3_value_62 rfl ?_
      refine g_iadd X dX3_value_63 ?_
      refine g_iald (17 + 3 * t' + 1) X dX3_value_64 (by repeat (first | with_reducible exact Pk.here | with_reducible apply Pk.there)) (nI_1 _) (by omega) (by exact hM.2) ?_
      refine g_aload_n X dX3_value_65 rfl rfl ?_
      refine g_iload_n X dX3_value_66 rfl rfl ?_
      refine g_iconst (v := 0) X dX3_value_67 rfl ?_
      refine g_callV X dX3_value_68 mv_X3_174 (c_X3_reservedFor hB (b := false) hE.2.2.2.1 (by omega)) rfl cl_X3 (by repeat (first | with_reducible exact Rc.pt | with_reducible apply Rc.there)) (by repeat (first | with_reducible exact Pks.nil | (with_reducible refine Pks.pure (by assumption) ?_) | (with_reducible apply Pks.cons; focus ((repeat (first | with_reducible exact Pk.here | with_reducible apply Pk.there)); done)) | (refine Pks.cons Pk.here ?_))) rfl rfl (by decide) (by exact Nat.le_of_ble_eq_true rfl) (by first | decide | omega) (fun r w1 hq => ?_) (fun E q w1 hq => hq.elim)
      obtain ⟨rfl, rfl⟩ := hq
      dsimp only [wM, PqM, List.cons_append, List.nil_append, Option.toList_some, Option.toList_none]
      refine g_iadd X dX3_value_71 ?_
      refine g_imul X dX3_value_72 ?_
      refine g_iadd X dX3_value_73 ?_
      refine is_5_3n X dX3_value_74 rfl rfl ?_
      refine g_iconst (v := 0) X dX3_value_75 rfl ?_
      refine is_5_4 X dX3_value_76 rfl ?_
      have h9 := L (sC S).length 0 (by omega)
      rw [smU_0] at h9
      exact h9
    · obtain rfl : R = erQ 2 := by rw [← hR, qValue, if_pos h1, if_neg h2]
      refine g_aload_n X dX3_value_0 rfl rfl ?_
      refine g_iconst (v := 0) X dX3_value_1 rfl ?_
      refine pf_20_8 X dX3_value_2 fl_X3_45 (by repeat (first | with_reducible exact Rp.here | with_reducible apply Rp.there)) rfl rfl ?_
      refine g_aload_n X dX3_value_5 rfl rfl ?_
      refine g_iload_n X dX3_value_6 rfl rfl ?_
      refine g_callV X dX3_value_7 mv_X3_95 (c_X3_isTrader hB hT (by omega)) rfl cl_X3 (by repeat (first | with_reducible exact Rc.pt | with_reducible apply Rc.there)) (by repeat (first | with_reducible exact Pks.nil | (with_reducible refine Pks.pure (by assumption) ?_) | (with_reducible apply Pks.cons; focus ((repeat (first | with_reducible exact Pk.here | with_reducible apply Pk.there)); done)) | (refine Pks.cons Pk.here ?_))) rfl rfl (by decide) (by exact Nat.le_of_ble_eq_true rfl) (by first | decide | omega) (fun r w1 hq => ?_) (fun E q w1 hq => hq.elim)
      obtain ⟨rfl, rfl⟩ := hq
      dsimp only [wM, PqM, List.cons_append, List.nil_append, Option.toList_some, Option.toList_none]
      rw [bP_t h1]
      refine g_if_ne (tgt := 19) X dX3_value_10 (by decide) (fun c_10 => ?_) (fun c_10 => absurd c_10 (by decide))
      refine g_iload_n X dX3_value_19 rfl rfl ?_
      refine g_i2l X dX3_value_20 rfl ?_
      refine g_lconst (v := 0) X dX3_value_21 rfl ?_
      refine g_ldc2 X dX3_value_22 q2804 ?_
      refine g_callS X dX3_value_25 ms_X3_51 (c_X3_in hB) rfl (by repeat (first | with_reducible exact Pks.nil | (with_reducible refine Pks.pure (by assumption) ?_) | (with_reducible apply Pks.cons; focus ((repeat (first | with_reducible exact Pk.here | with_reducible apply Pk.there)); done)) | (refine Pks.cons Pk.here ?_))) rfl rfl (by decide) (by exact Nat.le_of_ble_eq_true rfl) (by first | decide | omega) (fun r w1 hq => ?_) (fun E q w1 hq => hq.elim)
      obtain ⟨rfl, rfl⟩ := hq
      dsimp only [wM, PqM, List.cons_append, List.nil_append, Option.toList_some, Option.toList_none]
      rw [inL (j := 0) (k := 99) (by decide) (by decide), bP_f h2]
      refine g_if_ne (tgt := 37) X dX3_value_28 (by decide) (fun c_28 => absurd c_28 (by decide)) (fun c_28 => ?_)
      refine g_aload_n X dX3_value_31 rfl rfl ?_
      refine g_iconst (v := 2) X dX3_value_32 rfl ?_
      refine g_callV X dX3_value_33 mv_X3_75 (c_X3_throwing hB) rfl cl_X3 (by repeat (first | with_reducible exact Rc.pt | with_reducible apply Rc.there)) (by repeat (first | with_reducible exact Pks.nil | (with_reducible refine Pks.pure (by assumption) ?_) | (with_reducible apply Pks.cons; focus ((repeat (first | with_reducible exact Pk.here | with_reducible apply Pk.there)); done)) | (refine Pks.cons Pk.here ?_))) rfl rfl (by decide) (by exact Nat.le_of_ble_eq_true rfl) (by first | decide | omega) (fun r w1 hq => ?_) (fun E q w1 hq => hq.elim)
      obtain ⟨rfl, rfl⟩ := hq
      dsimp only [wM, PqM, List.cons_append, List.nil_append, Option.toList_some, Option.toList_none]
      exact g_iret X Y dX3_value_36 (rfl) (⟨2, rfl, rfl, rfl⟩) (Pks.tail (rest := _) (by repeat (first | with_reducible exact Pks.nil | (with_reducible refine Pks.pure (by assumption) ?_) | (with_reducible apply Pks.cons; focus ((repeat (first | with_reducible exact Pk.here | with_reducible apply Pk.there)); done)) | (refine Pks.cons Pk.here ?_))))
  · obtain rfl := hR.symm.trans (if_neg h1)
    refine g_aload_n X dX3_value_0 rfl rfl ?_
    refine g_iconst (v := 0) X dX3_value_1 rfl ?_
    refine pf_20_8 X dX3_value_2 fl_X3_45 (by repeat (first | with_reducible exact Rp.here | with_reducible apply Rp.there)) rfl rfl ?_
    refine g_aload_n X dX3_value_5 rfl rfl ?_
    refine g_iload_n X dX3_value_6 rfl rfl ?_
    refine g_callV X dX3_value_7 mv_X3_95 (c_X3_isTrader hB hT (by omega)) rfl cl_X3 (by repeat (first | with_reducible exact Rc.pt | with_reducible apply Rc.there)) (by repeat (first | with_reducible exact Pks.nil | (with_reducible refine Pks.pure (by assumption) ?_) | (with_reducible apply Pks.cons; focus ((repeat (first | with_reducible exact Pk.here | with_reducible apply Pk.there)); done)) | (refine Pks.cons Pk.here ?_))) rfl rfl (by decide) (by exact Nat.le_of_ble_eq_true rfl) (by first | decide | omega) (fun r w1 hq => ?_) (fun E q w1 hq => hq.elim)
    obtain ⟨rfl, rfl⟩ := hq
    dsimp only [wM, PqM, List.cons_append, List.nil_append, Option.toList_some, Option.toList_none]
    rw [bP_f h1]
    refine g_if_ne (tgt := 19) X dX3_value_10 (by decide) (fun c_10 => absurd c_10 (by decide)) (fun c_10 => ?_)
    refine g_aload_n X dX3_value_13 rfl rfl ?_
    refine g_iconst (v := 1) X dX3_value_14 rfl ?_
    refine g_callV X dX3_value_15 mv_X3_75 (c_X3_throwing hB) rfl cl_X3 (by repeat (first | with_reducible exact Rc.pt | with_reducible apply Rc.there)) (by repeat (first | with_reducible exact Pks.nil | (with_reducible refine Pks.pure (by assumption) ?_) | (with_reducible apply Pks.cons; focus ((repeat (first | with_reducible exact Pk.here | with_reducible apply Pk.there)); done)) | (refine Pks.cons Pk.here ?_))) rfl rfl (by decide) (by exact Nat.le_of_ble_eq_true rfl) (by first | decide | omega) (fun r w1 hq => ?_) (fun E q w1 hq => hq.elim)
    obtain ⟨rfl, rfl⟩ := hq
    dsimp only [wM, PqM, List.cons_append, List.nil_append, Option.toList_some, Option.toList_none]
    exact g_iret X Y dX3_value_18 (rfl) (⟨1, rfl, rfl, rfl⟩) (Pks.tail (rest := _) (by repeat (first | with_reducible exact Pks.nil | (with_reducible refine Pks.pure (by assumption) ?_) | (with_reducible apply Pks.cons; focus ((repeat (first | with_reducible exact Pk.here | with_reducible apply Pk.there)); done)) | (refine Pks.cons Pk.here ?_))))
theorem c_X3_valueByExposure (hB : Bs B) {t p : Int32} (hE : Enc M S) (hR : qValue t p S = R) : Tr B yX3_valueByExposure (Cond.code yX3_valueByExposure cX3_valueByExposure 3 (some .int)) (rmd 5 0 0) [.ref m, .int t, .int p] (wM m ad sv ch ea fa th pm lm cm p0 s0 iw M) (PqM m ad sv ch ea fa pm lm cm p0 s0 iw M R) nox := by
  refine tr_of hB (by decide +kernel) rfl ?_
  intro Γ X Y
  refine g_eq (ls' := [.val (.ref m), .val (.int t), .val (.int p)]) rfl rfl ?_
  refine g_aload_n X dX3_valueByExposure_0 rfl rfl ?_
  refine g_iload_n X dX3_valueByExposure_1 rfl rfl ?_
  refine g_iload_n X dX3_valueByExposure_2 rfl rfl ?_
  refine g_callV X dX3_valueByExposure_3 mv_X3_193 (c_X3_value hB hE hR) rfl cl_X3 (by repeat (first | with_reducible exact Rc.pt | with_reducible apply Rc.there)) (by repeat (first | with_reducible exact Pks.nil | (with_reducible refine Pks.pure (by assumption) ?_) | (with_reducible apply Pks.cons; focus ((repeat (first | with_reducible exact Pk.here | with_reducible apply Pk.there)); done)) | (refine Pks.cons Pk.here ?_))) rfl rfl (by decide) (by exact Nat.le_of_ble_eq_true rfl) (by first | decide | omega) (fun r w1 hq => ?_) (fun E q w1 hq => hq.elim)
  obtain ⟨q, rfl, rfl, rfl⟩ := hq
  dsimp only [wM, PqM, List.cons_append, List.nil_append, Option.toList_some, Option.toList_none]
  exact g_iret X Y dX3_valueByExposure_6 (rfl) (⟨_, rfl, rfl, rfl⟩) (Pks.tail (rest := _) (by repeat (first | with_reducible exact Pks.nil | (with_reducible refine Pks.pure (by assumption) ?_) | (with_reducible apply Pks.cons; focus ((repeat (first | with_reducible exact Pk.here | with_reducible apply Pk.there)); done)) | (refine Pks.cons Pk.here ?_))))
theorem c_X3_hasWinner (hB : Bs B) (hE : Enc M S) (hb : boT (sT S)) : Tr B yX3_hasWinner (Cond.code yX3_hasWinner cX3_hasWinner 1 (some .boolean)) (rmd 4 0 0) [.ref m] (wM m ad sv ch ea fa th pm lm cm p0 s0 iw M) (fun r w => ∃ q, r = some (.int (bI (qHas S == 0))) ∧ w = wM m ad sv ch ea fa q pm lm cm p0 s0 iw M ∧ q = nI (qHas S)) nox := by
  have hA := hE.2.2.2.2.2.1
  have hl := hE.2.2.1.2.1
  refine tr_of hB (by decide +kernel) rfl ?_
  intro Γ X Y
  refine g_eq (ls' := [.val (.ref m)]) rfl rfl ?_
  cases ha : sA S with
  | none =>
    have hq : qHas S = 1 := by simp only [qHas, ha]
    rw [ha] at hA
    refine g_aload_n X dX3_hasWinner_0 rfl rfl ?_
    refine g_iconst (v := 0) X dX3_hasWinner_1 rfl ?_
    refine pf_20_8 X dX3_hasWinner_2 fl_X3_45 (by repeat (first | with_reducible exact Rp.here | with_reducible apply Rp.there)) rfl rfl ?_
    refine g_aload_n X dX3_hasWinner_5 rfl rfl ?_
    refine g_getf X dX3_hasWinner_6 fl_X3_9 (by repeat (first | with_reducible exact Pk.here | with_reducible apply Pk.there)) (by exact rfl) ?_
    refine g_bipush (v := 11) X dX3_hasWinner_9 rfl ?_
    refine g_iald (11) X dX3_hasWinner_11 (by repeat (first | with_reducible exact Pk.here | with_reducible apply Pk.there)) (rfl) (by decide) (by exact hA.1) ?_
    refine g_iconst (v := (-1)) X dX3_hasWinner_12 rfl ?_
    refine g_icmp_ne (tgt := 25) X dX3_hasWinner_13 (by decide) (fun c_13 => absurd c_13 (fun h => h rfl)) (fun c_13 => ?_)
    refine g_aload_n X dX3_hasWinner_16 rfl rfl ?_
    refine g_iconst (v := 1) X dX3_hasWinner_17 rfl ?_
    refine g_callV X dX3_hasWinner_18 mv_X3_75 (c_X3_throwing hB) rfl cl_X3 (by repeat (first | with_reducible exact Rc.pt | with_reducible apply Rc.there)) (by repeat (first | with_reducible exact Pks.nil | (with_reducible refine Pks.pure (by assumption) ?_) | (with_reducible apply Pks.cons; focus ((repeat (first | with_reducible exact Pk.here | with_reducible apply Pk.there)); done)) | (refine Pks.cons Pk.here ?_))) rfl rfl (by decide) (by exact Nat.le_of_ble_eq_true rfl) (by first | decide | omega) (fun r w1 hq => ?_) (fun E q w1 hq => hq.elim)
    obtain ⟨rfl, rfl⟩ := hq
    dsimp only [wM, PqM, List.cons_append, List.nil_append, Option.toList_some, Option.toList_none]
    refine g_pop X dX3_hasWinner_21 rfl ?_
    refine g_goto (tgt := 39) X dX3_hasWinner_22 (by decide) ?_
    refine g_aload_n X dX3_hasWinner_39 rfl rfl ?_
    refine g_getf X dX3_hasWinner_40 fl_X3_45 (by repeat (first | with_reducible exact Pk.here | with_reducible apply Pk.there)) (by exact rfl) ?_
    refine g_if_ne (tgt := 50) X dX3_hasWinner_43 (by decide) (fun c_43 => ?_) (fun c_43 => absurd c_43 (by decide))
    refine g_iconst (v := 0) X dX3_hasWinner_50 rfl ?_
    exact g_iret X Y dX3_hasWinner_51 (rfl) (⟨1, by rw [hq]; rfl, rfl, by rw [hq]; rfl⟩) (Pks.tail (rest := _) (by repeat (first | with_reducible exact Pks.nil | (with_reducible refine Pks.pure (by assumption) ?_) | (with_reducible apply Pks.cons; focus ((repeat (first | with_reducible exact Pk.here | with_reducible apply Pk.there)); done)) | (refine Pks.cons Pk.here ?_))))
  | some rv =>
    obtain ⟨r, v⟩ := rv
    rw [ha] at hA
    have hr4 := (hA.2 r v rfl).2.1
    have hn : ¬ oI_ (some r) = -1 := fun e => nomatch (oI_none (x := some r) (fun j e => by cases e; omega)).mp e
    cases hw : wiS v S with
    | none =>
      have hq : qHas S = 2 := by simp only [qHas, ha, hw]
      refine g_aload_n X dX3_hasWinner_0 rfl rfl ?_
      refine g_iconst (v := 0) X dX3_hasWinner_1 rfl ?_
      refine pf_20_8 X dX3_hasWinner_2 fl_X3_45 (by repeat (first | with_reducible exact Rp.here | with_reducible apply Rp.there)) rfl rfl ?_
      refine g_aload_n X dX3_hasWinner_5 rfl rfl ?_
      refine g_getf X dX3_hasWinner_6 fl_X3_9 (by repeat (first | with_reducible exact Pk.here | with_reducible apply Pk.there)) (by exact rfl) ?_
      refine g_bipush (v := 11) X dX3_hasWinner_9 rfl ?_
      refine g_iald (11) X dX3_hasWinner_11 (by repeat (first | with_reducible exact Pk.here | with_reducible apply Pk.there)) (rfl) (by decide) (by exact hA.1) ?_
      refine g_iconst (v := (-1)) X dX3_hasWinner_12 rfl ?_
      refine g_icmp_ne (tgt := 25) X dX3_hasWinner_13 (by decide) (fun c_13 => ?_) (fun c_13 => absurd c_13 (hn))
      refine g_aload_n X dX3_hasWinner_25 rfl rfl ?_
      refine g_callV X dX3_hasWinner_26 mv_X3_161 (c_X3_winnerNow hB hE ha hb) rfl cl_X3 (by repeat (first | with_reducible exact Rc.pt | with_reducible apply Rc.there)) (by repeat (first | with_reducible exact Pks.nil | (with_reducible refine Pks.pure (by assumption) ?_) | (with_reducible apply Pks.cons; focus ((repeat (first | with_reducible exact Pk.here | with_reducible apply Pk.there)); done)) | (refine Pks.cons Pk.here ?_))) rfl rfl (by decide) (by exact Nat.le_of_ble_eq_true rfl) (by first | decide | omega) (fun r w1 hq => ?_) (fun E q w1 hq => hq.elim)
      obtain ⟨rfl, rfl⟩ := hq
      dsimp only [wM, PqM, List.cons_append, List.nil_append, Option.toList_some, Option.toList_none]
      rw [hw]
      refine g_iconst (v := (-1)) X dX3_hasWinner_29 rfl ?_
      refine g_icmp_ne (tgt := 39) X dX3_hasWinner_30 (by decide) (fun c_30 => absurd c_30 (fun h => h rfl)) (fun c_30 => ?_)
      refine g_aload_n X dX3_hasWinner_33 rfl rfl ?_
      refine g_iconst (v := 2) X dX3_hasWinner_34 rfl ?_
      refine g_callV X dX3_hasWinner_35 mv_X3_75 (c_X3_throwing hB) rfl cl_X3 (by repeat (first | with_reducible exact Rc.pt | with_reducible apply Rc.there)) (by repeat (first | with_reducible exact Pks.nil | (with_reducible refine Pks.pure (by assumption) ?_) | (with_reducible apply Pks.cons; focus ((repeat (first | with_reducible exact Pk.here | with_reducible apply Pk.there)); done)) | (refine Pks.cons Pk.here ?_))) rfl rfl (by decide) (by exact Nat.le_of_ble_eq_true rfl) (by first | decide | omega) (fun r w1 hq => ?_) (fun E q w1 hq => hq.elim)
      obtain ⟨rfl, rfl⟩ := hq
      dsimp only [wM, PqM, List.cons_append, List.nil_append, Option.toList_some, Option.toList_none]
      refine g_pop X dX3_hasWinner_38 rfl ?_
      refine g_aload_n X dX3_hasWinner_39 rfl rfl ?_
      refine g_getf X dX3_hasWinner_40 fl_X3_45 (by repeat (first | with_reducible exact Pk.here | with_reducible apply Pk.there)) (by exact rfl) ?_
      refine g_if_ne (tgt := 50) X dX3_hasWinner_43 (by decide) (fun c_43 => ?_) (fun c_43 => absurd c_43 (by decide))
      refine g_iconst (v := 0) X dX3_hasWinner_50 rfl ?_
      exact g_iret X Y dX3_hasWinner_51 (rfl) (⟨2, by rw [hq]; rfl, rfl, by rw [hq]; rfl⟩) (Pks.tail (rest := _) (by repeat (first | with_reducible exact Pks.nil | (with_reducible refine Pks.pure (by assumption) ?_) | (with_reducible apply Pks.cons; focus ((repeat (first | with_reducible exact Pk.here | with_reducible apply Pk.there)); done)) | (refine Pks.cons Pk.here ?_))))
    | some t =>
      have hq : qHas S = 0 := by simp only [qHas, ha, hw]
      have ht := (wiU_lt hw).1
      refine g_aload_n X dX3_hasWinner_0 rfl rfl ?_
      refine g_iconst (v := 0) X dX3_hasWinner_1 rfl ?_
      refine pf_20_8 X dX3_hasWinner_2 fl_X3_45 (by repeat (first | with_reducible exact Rp.here | with_reducible apply Rp.there)) rfl rfl ?_
      refine g_aload_n X dX3_hasWinner_5 rfl rfl ?_
      refine g_getf X dX3_hasWinner_6 fl_X3_9 (by repeat (first | with_reducible exact Pk.here | with_reducible apply Pk.there)) (by exact rfl) ?_
      refine g_bipush (v := 11) X dX3_hasWinner_9 rfl ?_
      refine g_iald (11) X dX3_hasWinner_11 (by repeat (first | with_reducible exact Pk.here | with_reducible apply Pk.there)) (rfl) (by decide) (by exact hA.1) ?_
      refine g_iconst (v := (-1)) X dX3_hasWinner_12 rfl ?_
      refine g_icmp_ne (tgt := 25) X dX3_hasWinner_13 (by decide) (fun c_13 => ?_) (fun c_13 => absurd c_13 (hn))
      refine g_aload_n X dX3_hasWinner_25 rfl rfl ?_
      refine g_callV X dX3_hasWinner_26 mv_X3_161 (c_X3_winnerNow hB hE ha hb) rfl cl_X3 (by repeat (first | with_reducible exact Rc.pt | with_reducible apply Rc.there)) (by repeat (first | with_reducible exact Pks.nil | (with_reducible refine Pks.pure (by assumption) ?_) | (with_reducible apply Pks.cons; focus ((repeat (first | with_reducible exact Pk.here | with_reducible apply Pk.there)); done)) | (refine Pks.cons Pk.here ?_))) rfl rfl (by decide) (by exact Nat.le_of_ble_eq_true rfl) (by first | decide | omega) (fun r w1 hq => ?_) (fun E q w1 hq => hq.elim)
      obtain ⟨rfl, rfl⟩ := hq
      dsimp only [wM, PqM, List.cons_append, List.nil_append, Option.toList_some, Option.toList_none]
      rw [hw]
      refine g_iconst (v := (-1)) X dX3_hasWinner_29 rfl ?_
      refine g_icmp_ne (tgt := 39) X dX3_hasWinner_30 (by decide) (fun c_30 => ?_) (fun c_30 => absurd c_30 (fun e => nomatch (oI_none (x := some t) (fun j e => by cases e; omega)).mp e))
      refine g_aload_n X dX3_hasWinner_39 rfl rfl ?_
      refine g_getf X dX3_hasWinner_40 fl_X3_45 (by repeat (first | with_reducible exact Pk.here | with_reducible apply Pk.there)) (by exact rfl) ?_
      refine g_if_ne (tgt := 50) X dX3_hasWinner_43 (by decide) (fun c_43 => absurd c_43 (fun q => q rfl)) (fun c_43 => ?_)
      refine g_iconst (v := 1) X dX3_hasWinner_46 rfl ?_
      refine g_goto (tgt := 51) X dX3_hasWinner_47 (by decide) ?_
      exact g_iret X Y dX3_hasWinner_51 (rfl) (⟨0, by rw [hq]; rfl, rfl, by rw [hq]; rfl⟩) (Pks.tail (rest := _) (by repeat (first | with_reducible exact Pks.nil | (with_reducible refine Pks.pure (by assumption) ?_) | (with_reducible apply Pks.cons; focus ((repeat (first | with_reducible exact Pk.here | with_reducible apply Pk.there)); done)) | (refine Pks.cons Pk.here ?_))))
theorem c_X3_winner (hB : Bs B) (hE : Enc M S) (hb : boT (sT S)) : Tr B yX3_winner (Cond.code yX3_winner cX3_winner 1 (some .int)) (rmd 5 0 0) [.ref m] (wM m ad sv ch ea fa th pm lm cm p0 s0 iw M) (PqM m ad sv ch ea fa pm lm cm p0 s0 iw M (qWinner S)) nox := by
  refine tr_of hB (by decide +kernel) rfl ?_
  intro Γ X Y
  refine g_eq (ls' := [.val (.ref m)]) rfl rfl ?_
  cases ha : sA S with
  | none =>
    have hq : qHas S = 1 := by simp only [qHas, ha]
    have hq2 : qWinner S = erQ 1 := by simp only [qWinner, ha]
    refine g_aload_n X dX3_winner_0 rfl rfl ?_
    refine g_callV X dX3_winner_1 mv_X3_196 (c_X3_hasWinner hB hE hb) rfl cl_X3 (by repeat (first | with_reducible exact Rc.pt | with_reducible apply Rc.there)) (by repeat (first | with_reducible exact Pks.nil | (with_reducible refine Pks.pure (by assumption) ?_) | (with_reducible apply Pks.cons; focus ((repeat (first | with_reducible exact Pk.here | with_reducible apply Pk.there)); done)) | (refine Pks.cons Pk.here ?_))) rfl rfl (by decide) (by exact Nat.le_of_ble_eq_true rfl) (by first | decide | omega) (fun r w1 hq => ?_) (fun E q w1 hq => hq.elim)
    obtain ⟨q, rfl, rfl, rfl⟩ := hq
    dsimp only [wM, PqM, List.cons_append, List.nil_append, Option.toList_some, Option.toList_none]
    rw [hq]
    refine g_if_eq (tgt := 14) X dX3_winner_4 (by decide) (fun c_4 => ?_) (fun c_4 => absurd (rfl) c_4)
    refine g_iconst (v := (-1)) X dX3_winner_14 rfl ?_
    exact g_iret X Y dX3_winner_15 (rfl) (⟨nI 1, by rw [hq2], rfl, by rw [hq2]⟩) (Pks.tail (rest := _) (by repeat (first | with_reducible exact Pks.nil | (with_reducible refine Pks.pure (by assumption) ?_) | (with_reducible apply Pks.cons; focus ((repeat (first | with_reducible exact Pk.here | with_reducible apply Pk.there)); done)) | (refine Pks.cons Pk.here ?_))))
  | some rv =>
    obtain ⟨r, v⟩ := rv
    cases hw : wiS v S with
    | none =>
      have hq : qHas S = 2 := by simp only [qHas, ha, hw]
      have hq2 : qWinner S = erQ 2 := by simp only [qWinner, ha, hw]
      refine g_aload_n X dX3_winner_0 rfl rfl ?_
      refine g_callV X dX3_winner_1 mv_X3_196 (c_X3_hasWinner hB hE hb) rfl cl_X3 (by repeat (first | with_reducible exact Rc.pt | with_reducible apply Rc.there)) (by repeat (first | with_reducible exact Pks.nil | (with_reducible refine Pks.pure (by assumption) ?_) | (with_reducible apply Pks.cons; focus ((repeat (first | with_reducible exact Pk.here | with_reducible apply Pk.there)); done)) | (refine Pks.cons Pk.here ?_))) rfl rfl (by decide) (by exact Nat.le_of_ble_eq_true rfl) (by first | decide | omega) (fun r w1 hq => ?_) (fun E q w1 hq => hq.elim)
      obtain ⟨q, rfl, rfl, rfl⟩ := hq
      dsimp only [wM, PqM, List.cons_append, List.nil_append, Option.toList_some, Option.toList_none]
      rw [hq]
      refine g_if_eq (tgt := 14) X dX3_winner_4 (by decide) (fun c_4 => ?_) (fun c_4 => absurd (rfl) c_4)
      refine g_iconst (v := (-1)) X dX3_winner_14 rfl ?_
      exact g_iret X Y dX3_winner_15 (rfl) (⟨nI 2, by rw [hq2], rfl, by rw [hq2]⟩) (Pks.tail (rest := _) (by repeat (first | with_reducible exact Pks.nil | (with_reducible refine Pks.pure (by assumption) ?_) | (with_reducible apply Pks.cons; focus ((repeat (first | with_reducible exact Pk.here | with_reducible apply Pk.there)); done)) | (refine Pks.cons Pk.here ?_))))
    | some t =>
      have hq : qHas S = 0 := by simp only [qHas, ha, hw]
      have hq2 : qWinner S = (0, nI t) := by simp only [qWinner, ha, hw]
      refine g_aload_n X dX3_winner_0 rfl rfl ?_
      refine g_callV X dX3_winner_1 mv_X3_196 (c_X3_hasWinner hB hE hb) rfl cl_X3 (by repeat (first | with_reducible exact Rc.pt | with_reducible apply Rc.there)) (by repeat (first | with_reducible exact Pks.nil | (with_reducible refine Pks.pure (by assumption) ?_) | (with_reducible apply Pks.cons; focus ((repeat (first | with_reducible exact Pk.here | with_reducible apply Pk.there)); done)) | (refine Pks.cons Pk.here ?_))) rfl rfl (by decide) (by exact Nat.le_of_ble_eq_true rfl) (by first | decide | omega) (fun r w1 hq => ?_) (fun E q w1 hq => hq.elim)
      obtain ⟨q, rfl, rfl, rfl⟩ := hq
      dsimp only [wM, PqM, List.cons_append, List.nil_append, Option.toList_some, Option.toList_none]
      rw [hq]
      refine g_if_eq (tgt := 14) X dX3_winner_4 (by decide) (fun c_4 => absurd c_4 (by decide)) (fun c_4 => ?_)
      refine g_aload_n X dX3_winner_7 rfl rfl ?_
      refine g_callV X dX3_winner_8 mv_X3_161 (c_X3_winnerNow hB hE ha hb) rfl cl_X3 (by repeat (first | with_reducible exact Rc.pt | with_reducible apply Rc.there)) (by repeat (first | with_reducible exact Pks.nil | (with_reducible refine Pks.pure (by assumption) ?_) | (with_reducible apply Pks.cons; focus ((repeat (first | with_reducible exact Pk.here | with_reducible apply Pk.there)); done)) | (refine Pks.cons Pk.here ?_))) rfl rfl (by decide) (by exact Nat.le_of_ble_eq_true rfl) (by first | decide | omega) (fun r w1 hq => ?_) (fun E q w1 hq => hq.elim)
      obtain ⟨rfl, rfl⟩ := hq
      dsimp only [wM, PqM, List.cons_append, List.nil_append, Option.toList_some, Option.toList_none]
      rw [hw]
      refine g_goto (tgt := 15) X dX3_winner_11 (by decide) ?_
      exact g_iret X Y dX3_winner_15 (rfl) (⟨nI 0, by rw [hq2]; rfl, rfl, by rw [hq2]⟩) (Pks.tail (rest := _) (by repeat (first | with_reducible exact Pks.nil | (with_reducible refine Pks.pure (by assumption) ?_) | (with_reducible apply Pks.cons; focus ((repeat (first | with_reducible exact Pk.here | with_reducible apply Pk.there)); done)) | (refine Pks.cons Pk.here ?_))))
theorem c_X3_winnerPays (hB : Bs B) (hE : Enc M S) (hb : boT (sT S)) : Tr B yX3_winnerPays (Cond.code yX3_winnerPays cX3_winnerPays 1 (some .int)) (rmd 5 0 0) [.ref m] (wM m ad sv ch ea fa th pm lm cm p0 s0 iw M) (PqM m ad sv ch ea fa pm lm cm p0 s0 iw M (qPays S)) nox := by
  refine tr_of hB (by decide +kernel) rfl ?_
  intro Γ X Y
  refine g_eq (ls' := [.val (.ref m)]) rfl rfl ?_
  cases ha : sA S with
  | none =>
    have hq : qHas S = 1 := by simp only [qHas, ha]
    have hq2 : qPays S = erQ 1 := by simp only [qPays, ha]
    refine g_aload_n X dX3_winnerPays_0 rfl rfl ?_
    refine g_callV X dX3_winnerPays_1 mv_X3_196 (c_X3_hasWinner hB hE hb) rfl cl_X3 (by repeat (first | with_reducible exact Rc.pt | with_reducible apply Rc.there)) (by repeat (first | with_reducible exact Pks.nil | (with_reducible refine Pks.pure (by assumption) ?_) | (with_reducible apply Pks.cons; focus ((repeat (first | with_reducible exact Pk.here | with_reducible apply Pk.there)); done)) | (refine Pks.cons Pk.here ?_))) rfl rfl (by decide) (by exact Nat.le_of_ble_eq_true rfl) (by first | decide | omega) (fun r w1 hq => ?_) (fun E q w1 hq => hq.elim)
    obtain ⟨q, rfl, rfl, rfl⟩ := hq
    dsimp only [wM, PqM, List.cons_append, List.nil_append, Option.toList_some, Option.toList_none]
    rw [hq]
    refine g_if_eq (tgt := 14) X dX3_winnerPays_4 (by decide) (fun c_4 => ?_) (fun c_4 => absurd (rfl) c_4)
    refine g_iconst (v := (-1)) X dX3_winnerPays_14 rfl ?_
    exact g_iret X Y dX3_winnerPays_15 (rfl) (⟨nI 1, by rw [hq2], rfl, by rw [hq2]⟩) (Pks.tail (rest := _) (by repeat (first | with_reducible exact Pks.nil | (with_reducible refine Pks.pure (by assumption) ?_) | (with_reducible apply Pks.cons; focus ((repeat (first | with_reducible exact Pk.here | with_reducible apply Pk.there)); done)) | (refine Pks.cons Pk.here ?_))))
  | some rv =>
    obtain ⟨r, v⟩ := rv
    cases hw : wiS v S with
    | none =>
      have hq : qHas S = 2 := by simp only [qHas, ha, hw]
      have hq2 : qPays S = erQ 2 := by simp only [qPays, ha, hw]
      refine g_aload_n X dX3_winnerPays_0 rfl rfl ?_
      refine g_callV X dX3_winnerPays_1 mv_X3_196 (c_X3_hasWinner hB hE hb) rfl cl_X3 (by repeat (first | with_reducible exact Rc.pt | with_reducible apply Rc.there)) (by repeat (first | with_reducible exact Pks.nil | (with_reducible refine Pks.pure (by assumption) ?_) | (with_reducible apply Pks.cons; focus ((repeat (first | with_reducible exact Pk.here | with_reducible apply Pk.there)); done)) | (refine Pks.cons Pk.here ?_))) rfl rfl (by decide) (by exact Nat.le_of_ble_eq_true rfl) (by first | decide | omega) (fun r w1 hq => ?_) (fun E q w1 hq => hq.elim)
      obtain ⟨q, rfl, rfl, rfl⟩ := hq
      dsimp only [wM, PqM, List.cons_append, List.nil_append, Option.toList_some, Option.toList_none]
      rw [hq]
      refine g_if_eq (tgt := 14) X dX3_winnerPays_4 (by decide) (fun c_4 => ?_) (fun c_4 => absurd (rfl) c_4)
      refine g_iconst (v := (-1)) X dX3_winnerPays_14 rfl ?_
      exact g_iret X Y dX3_winnerPays_15 (rfl) (⟨nI 2, by rw [hq2], rfl, by rw [hq2]⟩) (Pks.tail (rest := _) (by repeat (first | with_reducible exact Pks.nil | (with_reducible refine Pks.pure (by assumption) ?_) | (with_reducible apply Pks.cons; focus ((repeat (first | with_reducible exact Pk.here | with_reducible apply Pk.there)); done)) | (refine Pks.cons Pk.here ?_))))
    | some t =>
      have hq : qHas S = 0 := by simp only [qHas, ha, hw]
      have hq2 : qPays S = (0, nI (wpS v S)) := by simp only [qPays, ha, hw]
      refine g_aload_n X dX3_winnerPays_0 rfl rfl ?_
      refine g_callV X dX3_winnerPays_1 mv_X3_196 (c_X3_hasWinner hB hE hb) rfl cl_X3 (by repeat (first | with_reducible exact Rc.pt | with_reducible apply Rc.there)) (by repeat (first | with_reducible exact Pks.nil | (with_reducible refine Pks.pure (by assumption) ?_) | (with_reducible apply Pks.cons; focus ((repeat (first | with_reducible exact Pk.here | with_reducible apply Pk.there)); done)) | (refine Pks.cons Pk.here ?_))) rfl rfl (by decide) (by exact Nat.le_of_ble_eq_true rfl) (by first | decide | omega) (fun r w1 hq => ?_) (fun E q w1 hq => hq.elim)
      obtain ⟨q, rfl, rfl, rfl⟩ := hq
      dsimp only [wM, PqM, List.cons_append, List.nil_append, Option.toList_some, Option.toList_none]
      rw [hq]
      refine g_if_eq (tgt := 14) X dX3_winnerPays_4 (by decide) (fun c_4 => absurd c_4 (by decide)) (fun c_4 => ?_)
      refine g_aload_n X dX3_winnerPays_7 rfl rfl ?_
      refine g_callV X dX3_winnerPays_8 mv_X3_168 (c_X3_winnersPrice hB hE ha hb) rfl cl_X3 (by repeat (first | with_reducible exact Rc.pt | with_reducible apply Rc.there)) (by repeat (first | with_reducible exact Pks.nil | (with_reducible refine Pks.pure (by assumption) ?_) | (with_reducible apply Pks.cons; focus ((repeat (first | with_reducible exact Pk.here | with_reducible apply Pk.there)); done)) | (refine Pks.cons Pk.here ?_))) rfl rfl (by decide) (by exact Nat.le_of_ble_eq_true rfl) (by first | decide | omega) (fun r w1 hq => ?_) (fun E q w1 hq => hq.elim)
      obtain ⟨rfl, rfl⟩ := hq
      dsimp only [wM, PqM, List.cons_append, List.nil_append, Option.toList_some, Option.toList_none]
      refine g_goto (tgt := 15) X dX3_winnerPays_11 (by decide) ?_
      exact g_iret X Y dX3_winnerPays_15 (rfl) (⟨nI 0, by rw [hq2], rfl, by rw [hq2]⟩) (Pks.tail (rest := _) (by repeat (first | with_reducible exact Pks.nil | (with_reducible refine Pks.pure (by assumption) ?_) | (with_reducible apply Pks.cons; focus ((repeat (first | with_reducible exact Pk.here | with_reducible apply Pk.there)); done)) | (refine Pks.cons Pk.here ?_))))
theorem c_X3_meanPrice (hB : Bs B) (hE : Enc M S) (h6 : sN S 6 < 2 ^ 31) (h7 : sN S 7 < 2 ^ 31) : Tr B yX3_meanPrice (Cond.code yX3_meanPrice cX3_meanPrice 1 (some .double)) (rmd 2 0 0) [.ref m] (wM m ad sv ch ea fa th pm lm cm p0 s0 iw M) (fun r w => ∃ q, r = some (.double (qMean S).2) ∧ w = wM m ad sv ch ea fa q pm lm cm p0 s0 iw M ∧ q = nI (qMean S).1) nox := by
  refine tr_of hB (by decide +kernel) rfl ?_
  intro Γ X Y
  refine g_eq (ls' := [.val (.ref m)]) rfl rfl ?_
  by_cases h : sN S 6 = 0
  · have hq : qMean S = (1, 0) := if_pos h
    refine g_aload_n X dX3_meanPrice_0 rfl rfl ?_
    refine g_iconst (v := 0) X dX3_meanPrice_1 rfl ?_
    refine pf_20_8 X dX3_meanPrice_2 fl_X3_45 (by repeat (first | with_reducible exact Rp.here | with_reducible apply Rp.there)) rfl rfl ?_
    refine g_aload_n X dX3_meanPrice_5 rfl rfl ?_
    refine g_getf X dX3_meanPrice_6 fl_X3_9 (by repeat (first | with_reducible exact Pk.here | with_reducible apply Pk.there)) (by exact rfl) ?_
    refine g_bipush (v := 6) X dX3_meanPrice_9 rfl ?_
    refine g_iald (6) X dX3_meanPrice_11 (by repeat (first | with_reducible exact Pk.here | with_reducible apply Pk.there)) (rfl) (by decide) (by exact hE.1 6 (by omega)) ?_
    refine g_if_ne (tgt := 23) X dX3_meanPrice_12 (by decide) (fun c_12 => absurd c_12 (fun q => q (by rw [h]; rfl))) (fun c_12 => ?_)
    refine g_aload_n X dX3_meanPrice_15 rfl rfl ?_
    refine g_iconst (v := 1) X dX3_meanPrice_16 rfl ?_
    refine g_callV X dX3_meanPrice_17 mv_X3_75 (c_X3_throwing hB) rfl cl_X3 (by repeat (first | with_reducible exact Rc.pt | with_reducible apply Rc.there)) (by repeat (first | with_reducible exact Pks.nil | (with_reducible refine Pks.pure (by assumption) ?_) | (with_reducible apply Pks.cons; focus ((repeat (first | with_reducible exact Pk.here | with_reducible apply Pk.there)); done)) | (refine Pks.cons Pk.here ?_))) rfl rfl (by decide) (by exact Nat.le_of_ble_eq_true rfl) (by first | decide | omega) (fun r w1 hq => ?_) (fun E q w1 hq => hq.elim)
    obtain ⟨rfl, rfl⟩ := hq
    dsimp only [wM, PqM, List.cons_append, List.nil_append, Option.toList_some, Option.toList_none]
    refine g_pop X dX3_meanPrice_20 rfl ?_
    refine g_dconst0 X dX3_meanPrice_21 ?_
    exact g_dret X Y dX3_meanPrice_22 (⟨1, by rw [hq], rfl, by rw [hq]; rfl⟩) (Pks.tail (rest := _) (by repeat (first | with_reducible exact Pks.nil | (with_reducible refine Pks.pure (by assumption) ?_) | (with_reducible apply Pks.cons; focus ((repeat (first | with_reducible exact Pk.here | with_reducible apply Pk.there)); done)) | (refine Pks.cons Pk.here ?_))))
  · have hq : qMean S = (0, FP.ddiv (FP.i2d (nI (sN S 7))) (FP.i2d (nI (sN S 6)))) := if_neg h
    have h0 : nI (sN S 6) ≠ 0 := fun q => h (nI_inj (b := 0) h6 (by decide) q)
    refine g_aload_n X dX3_meanPrice_0 rfl rfl ?_
    refine g_iconst (v := 0) X dX3_meanPrice_1 rfl ?_
    refine pf_20_8 X dX3_meanPrice_2 fl_X3_45 (by repeat (first | with_reducible exact Rp.here | with_reducible apply Rp.there)) rfl rfl ?_
    refine g_aload_n X dX3_meanPrice_5 rfl rfl ?_
    refine g_getf X dX3_meanPrice_6 fl_X3_9 (by repeat (first | with_reducible exact Pk.here | with_reducible apply Pk.there)) (by exact rfl) ?_
    refine g_bipush (v := 6) X dX3_meanPrice_9 rfl ?_
    refine g_iald (6) X dX3_meanPrice_11 (by repeat (first | with_reducible exact Pk.here | with_reducible apply Pk.there)) (rfl) (by decide) (by exact hE.1 6 (by omega)) ?_
    refine g_if_ne (tgt := 23) X dX3_meanPrice_12 (by decide) (fun c_12 => ?_) (fun c_12 => absurd c_12 (h0))
    refine g_aload_n X dX3_meanPrice_23 rfl rfl ?_
    refine g_getf X dX3_meanPrice_24 fl_X3_9 (by repeat (first | with_reducible exact Pk.here | with_reducible apply Pk.there)) (by exact rfl) ?_
    refine g_bipush (v := 7) X dX3_meanPrice_27 rfl ?_
    refine g_iald (7) X dX3_meanPrice_29 (by repeat (first | with_reducible exact Pk.here | with_reducible apply Pk.there)) (rfl) (by decide) (by exact hE.1 7 (by omega)) ?_
    refine g_i2d X dX3_meanPrice_30 ?_
    refine g_aload_n X dX3_meanPrice_31 rfl rfl ?_
    refine g_getf X dX3_meanPrice_32 fl_X3_9 (by repeat (first | with_reducible exact Pk.here | with_reducible apply Pk.there)) (by exact rfl) ?_
    refine g_bipush (v := 6) X dX3_meanPrice_35 rfl ?_
    refine g_iald (6) X dX3_meanPrice_37 (by repeat (first | with_reducible exact Pk.here | with_reducible apply Pk.there)) (rfl) (by decide) (by exact hE.1 6 (by omega)) ?_
    refine g_i2d X dX3_meanPrice_38 ?_
    refine g_ddiv X dX3_meanPrice_39 (ddiv_ok h7 h6 (by omega)) ?_
    exact g_dret X Y dX3_meanPrice_40 (⟨0, by rw [hq], rfl, by rw [hq]; rfl⟩) (Pks.tail (rest := _) (by repeat (first | with_reducible exact Pks.nil | (with_reducible refine Pks.pure (by assumption) ?_) | (with_reducible apply Pks.cons; focus ((repeat (first | with_reducible exact Pk.here | with_reducible apply Pk.there)); done)) | (refine Pks.cons Pk.here ?_))))
theorem c_X3_defaultRate (hB : Bs B) (hE : Enc M S) (h6 : sN S 8 < 2 ^ 24) (h7 : sN S 9 < 2 ^ 24) : Tr B yX3_defaultRate (Cond.code yX3_defaultRate cX3_defaultRate 1 (some .float)) (rmd 2 0 0) [.ref m] (wM m ad sv ch ea fa th pm lm cm p0 s0 iw M) (fun r w => ∃ q, r = some (.float (qRate S).2) ∧ w = wM m ad sv ch ea fa q pm lm cm p0 s0 iw M ∧ q = nI (qRate S).1) nox := by
  refine tr_of hB (by decide +kernel) rfl ?_
  intro Γ X Y
  refine g_eq (ls' := [.val (.ref m)]) rfl rfl ?_
  by_cases h : sN S 8 = 0
  · have hq : qRate S = (1, 0) := if_pos h
    refine g_aload_n X dX3_defaultRate_0 rfl rfl ?_
    refine g_iconst (v := 0) X dX3_defaultRate_1 rfl ?_
    refine pf_20_8 X dX3_defaultRate_2 fl_X3_45 (by repeat (first | with_reducible exact Rp.here | with_reducible apply Rp.there)) rfl rfl ?_
    refine g_aload_n X dX3_defaultRate_5 rfl rfl ?_
    refine g_getf X dX3_defaultRate_6 fl_X3_9 (by repeat (first | with_reducible exact Pk.here | with_reducible apply Pk.there)) (by exact rfl) ?_
    refine g_bipush (v := 8) X dX3_defaultRate_9 rfl ?_
    refine g_iald (8) X dX3_defaultRate_11 (by repeat (first | with_reducible exact Pk.here | with_reducible apply Pk.there)) (rfl) (by decide) (by exact hE.1 8 (by omega)) ?_
    refine g_if_ne (tgt := 23) X dX3_defaultRate_12 (by decide) (fun c_12 => absurd c_12 (fun q => q (by rw [h]; rfl))) (fun c_12 => ?_)
    refine g_aload_n X dX3_defaultRate_15 rfl rfl ?_
    refine g_iconst (v := 1) X dX3_defaultRate_16 rfl ?_
    refine g_callV X dX3_defaultRate_17 mv_X3_75 (c_X3_throwing hB) rfl cl_X3 (by repeat (first | with_reducible exact Rc.pt | with_reducible apply Rc.there)) (by repeat (first | with_reducible exact Pks.nil | (with_reducible refine Pks.pure (by assumption) ?_) | (with_reducible apply Pks.cons; focus ((repeat (first | with_reducible exact Pk.here | with_reducible apply Pk.there)); done)) | (refine Pks.cons Pk.here ?_))) rfl rfl (by decide) (by exact Nat.le_of_ble_eq_true rfl) (by first | decide | omega) (fun r w1 hq => ?_) (fun E q w1 hq => hq.elim)
    obtain ⟨rfl, rfl⟩ := hq
    dsimp only [wM, PqM, List.cons_append, List.nil_append, Option.toList_some, Option.toList_none]
    refine g_pop X dX3_defaultRate_20 rfl ?_
    refine g_fconst0 X dX3_defaultRate_21 ?_
    exact g_fret X Y dX3_defaultRate_22 (⟨1, by rw [hq], rfl, by rw [hq]; rfl⟩) (Pks.tail (rest := _) (by repeat (first | with_reducible exact Pks.nil | (with_reducible refine Pks.pure (by assumption) ?_) | (with_reducible apply Pks.cons; focus ((repeat (first | with_reducible exact Pk.here | with_reducible apply Pk.there)); done)) | (refine Pks.cons Pk.here ?_))))
  · have hq : qRate S = (0, FP.fdiv (FP.i2f (nI (sN S 9))) (FP.i2f (nI (sN S 8)))) := if_neg h
    have h0 : nI (sN S 8) ≠ 0 := fun q => h (nI_inj (b := 0) (by omega) (by decide) q)
    refine g_aload_n X dX3_defaultRate_0 rfl rfl ?_
    refine g_iconst (v := 0) X dX3_defaultRate_1 rfl ?_
    refine pf_20_8 X dX3_defaultRate_2 fl_X3_45 (by repeat (first | with_reducible exact Rp.here | with_reducible apply Rp.there)) rfl rfl ?_
    refine g_aload_n X dX3_defaultRate_5 rfl rfl ?_
    refine g_getf X dX3_defaultRate_6 fl_X3_9 (by repeat (first | with_reducible exact Pk.here | with_reducible apply Pk.there)) (by exact rfl) ?_
    refine g_bipush (v := 8) X dX3_defaultRate_9 rfl ?_
    refine g_iald (8) X dX3_defaultRate_11 (by repeat (first | with_reducible exact Pk.here | with_reducible apply Pk.there)) (rfl) (by decide) (by exact hE.1 8 (by omega)) ?_
    refine g_if_ne (tgt := 23) X dX3_defaultRate_12 (by decide) (fun c_12 => ?_) (fun c_12 => absurd c_12 (h0))
    refine g_aload_n X dX3_defaultRate_23 rfl rfl ?_
    refine g_getf X dX3_defaultRate_24 fl_X3_9 (by repeat (first | with_reducible exact Pk.here | with_reducible apply Pk.there)) (by exact rfl) ?_
    refine g_bipush (v := 9) X dX3_defaultRate_27 rfl ?_
    refine g_iald (9) X dX3_defaultRate_29 (by repeat (first | with_reducible exact Pk.here | with_reducible apply Pk.there)) (rfl) (by decide) (by exact hE.1 9 (by omega)) ?_
    refine g_i2f X dX3_defaultRate_30 ?_
    refine g_aload_n X dX3_defaultRate_31 rfl rfl ?_
    refine g_getf X dX3_defaultRate_32 fl_X3_9 (by repeat (first | with_reducible exact Pk.here | with_reducible apply Pk.there)) (by exact rfl) ?_
    refine g_bipush (v := 8) X dX3_defaultRate_35 rfl ?_
    refine g_iald (8) X dX3_defaultRate_37 (by repeat (first | with_reducible exact Pk.here | with_reducible apply Pk.there)) (rfl) (by decide) (by exact hE.1 8 (by omega)) ?_
    refine g_i2f X dX3_defaultRate_38 ?_
    refine g_fdiv X dX3_defaultRate_39 (fdiv_ok h7 h6 (by omega)) ?_
    exact g_fret X Y dX3_defaultRate_40 (⟨0, by rw [hq], rfl, by rw [hq]; rfl⟩) (Pks.tail (rest := _) (by repeat (first | with_reducible exact Pks.nil | (with_reducible refine Pks.pure (by assumption) ?_) | (with_reducible apply Pks.cons; focus ((repeat (first | with_reducible exact Pk.here | with_reducible apply Pk.there)); done)) | (refine Pks.cons Pk.here ?_))))
end MODEL
