/-! THE MODEL: days passed -/
set_option maxRecDepth 100000
theorem du_n {f k : Nat} {S : SS} (h : (sC S).length ≤ k) : duS f k S = S := by
  cases f with
  | zero => rfl
  | succ f => simp only [duS, List.getElem?_eq_none h]
theorem st_n8 {S : SS} {k : Nat} {c : CC} : sN (stS k c S) 8 = sN S 8 + 1 := by
  show up (up (sN S) 9 (sN S 9 + if pdS S c < owS (sN S 5) c then 1 else 0)) 8 (sN S 8 + 1) 8 = _
  exact up_s
theorem st_n4 {S : SS} {k : Nat} {c : CC} : sN (stS k c S) 4 = sN S 4 := by
  show up (up (sN S) 9 (sN S 9 + if pdS S c < owS (sN S 5) c then 1 else 0)) 8 (sN S 8 + 1) 4 = _
  rw [up_n (by decide), up_n (by decide)]
theorem du_ok : ∀ {f k : Nat} {S : SS}, okS S → okS (duS f k S) ∧ sN (duS f k S) 4 = sN S 4 ∧ sN S 8 ≤ sN (duS f k S) 8
  | 0, k, S, h => ⟨h, rfl, Nat.le_refl _⟩
  | f + 1, k, S, h => by
    unfold duS
    cases hc : (sC S)[k]? with
    | none => exact ⟨h, rfl, Nat.le_refl _⟩
    | some c =>
      by_cases hd : c.2.2.2.2 = sN S 4
      · simp only [if_pos hd]
        obtain ⟨h1, h2, h3⟩ := du_ok (f := f) (k := k) (S := stS k c S) (st_ok hc h)
        exact ⟨h1, h2.trans st_n4, Nat.le_trans (Nat.le_trans (Nat.le_succ _) (Nat.le_of_eq (st_n8 (S := S) (k := k) (c := c)).symm)) h3⟩
      · simp only [if_neg hd]
        exact du_ok h
theorem dy_n8 : ∀ {f : Nat} {S : SS}, okS S → sN S 8 ≤ sN (dyS f S) 8
  | 0, S, _ => Nat.le_refl _
  | f + 1, S, h => by
    have h0 : okS (wN S (up (sN S) 4 (sN S 4 + 1))) := h
    obtain ⟨h1, h2, h3⟩ := du_ok (f := (sC S).length) (k := 0) h0
    exact Nat.le_trans h3 (dy_n8 (f := f) h1)
section MODEL
variable {B : Bt} {m : Nat} {ad : Nat → Nat} {sv ch ea fa th pm lm cm p0 s0 iw : Int32} {M A : Nat → Int32} {S : SS} {R : Rs}
theorem c_X3_advanceIt (hB : Bs B) {d : Int32} (hE : Enc M S) (hS : okS S) (hD : sN S 4 < 2 ^ 29) (h8 : sN S 8 < 2 ^ 30) (hR : adS d S = R) : Tr B yX3_advanceIt (Cond.code yX3_advanceIt cX3_advanceIt 5 (some .int)) (rmd 4 0 0) [.ref m, .int d] (wM m ad sv ch ea fa 0 pm lm cm p0 s0 iw M) (PoM m ad sv ch ea fa pm lm cm p0 s0 iw R) nox := by
  have e8 := hE.1 8 (by omega)
  refine tr_of hB (by decide +kernel) rfl ?_
  intro Γ X Y
  refine g_eq (ls' := [.val (.ref m), .val (.int d), .unset, .unset, .unset]) rfl rfl ?_
  by_cases h1 : inR d 1 99
  · have hR1 := hR.symm.trans (if_neg (Classical.not_not.mpr h1))
    obtain ⟨d', hd1, hd2, rfl⟩ := inR_of (by decide) (by decide) h1
    rw [show cN (nI d') = d' from nI_clamp (by omega)] at hR1
    refine g_iload_n X dX3_advanceIt_0 rfl rfl ?_
    refine g_i2l X dX3_advanceIt_1 rfl ?_
    refine g_lconst (v := 1) X dX3_advanceIt_2 rfl ?_
    refine g_ldc2 X dX3_advanceIt_3 q2804 ?_
    refine g_callS X dX3_advanceIt_6 ms_X3_51 (c_X3_in hB) rfl (by repeat (first | with_reducible exact Pks.nil | (with_reducible refine Pks.pure (by assumption) ?_) | (with_reducible apply Pks.cons; focus ((repeat (first | with_reducible exact Pk.here | with_reducible apply Pk.there)); done)) | (refine Pks.cons Pk.here ?_))) rfl rfl (by decide) (by exact Nat.le_of_ble_eq_true rfl) (by first | decide | omega) (fun r w1 hq => ?_) (fun E q w1 hq => hq.elim)
    obtain ⟨rfl, rfl⟩ := hq
    dsimp only [wM, PoM, List.cons_append, List.nil_append, Option.toList_some, Option.toList_none]
    rw [inL (j := 1) (k := 99) (by decide) (by decide), bP_t h1]
    refine g_if_ne (tgt := 18) X dX3_advanceIt_9 (by decide) (fun c_9 => ?_) (fun c_9 => absurd c_9 (by decide))
    refine g_aload_n X dX3_advanceIt_18 rfl rfl ?_
    refine g_getf X dX3_advanceIt_19 fl_X3_9 (by repeat (first | with_reducible exact Pk.here | with_reducible apply Pk.there)) (by exact rfl) ?_
    refine g_bipush (v := 8) X dX3_advanceIt_22 rfl ?_
    refine g_iald (8) X dX3_advanceIt_24 (by repeat (first | with_reducible exact Pk.here | with_reducible apply Pk.there)) (rfl) (by decide) (by exact e8) ?_
    refine is_5_2n X dX3_advanceIt_25 rfl rfl ?_
    refine g_iconst (v := 0) X dX3_advanceIt_26 rfl ?_
    refine is_5_3n X dX3_advanceIt_27 rfl rfl ?_
    have L : ∀ (j i : Nat) (S' : SS) (M' : Nat → Int32) (x4 : Slot), LZ x4 → i + j = d' → Enc M' S' → okS S' → sN S' 4 = sN S 4 + i → sN S 8 ≤ sN S' 8 → R = (0, nI (sN (dyS j S') 8 - sN S 8), dyS j S') → G B Γ 0 0 (wM m ad sv ch ea fa 0 pm lm cm p0 s0 iw M') 28 [.val (.ref m), .val (.int (nI d')), .val (.int (nI (sN S 8))), .val (.int (nI i)), x4] [] := by
      intro j
      induction j with
      | zero =>
        intro i S' M' x4 h4 hi hE' hS' h4' h8' hr
        subst hr
        refine g_iload_n X dX3_advanceIt_28 rfl rfl ?_
        refine g_iload_n X dX3_advanceIt_29 rfl rfl ?_
        refine g_icmp_ge (tgt := 99) X dX3_advanceIt_30 (by decide) (fun c_30 => ?_) (fun c_30 => absurd (nI_le (by omega) (by omega)) c_30)
        refine g_aload_n X dX3_advanceIt_99 rfl rfl ?_
        refine g_getf X dX3_advanceIt_100 fl_X3_9 (by repeat (first | with_reducible exact Pk.here | with_reducible apply Pk.there)) (by exact rfl) ?_
        refine g_bipush (v := 8) X dX3_advanceIt_103 rfl ?_
        refine g_iald (8) X dX3_advanceIt_105 (by repeat (first | with_reducible exact Pk.here | with_reducible apply Pk.there)) (rfl) (by decide) (by exact hE'.1 8 (by omega)) ?_
        refine g_iload_n X dX3_advanceIt_106 rfl rfl ?_
        refine g_isub X dX3_advanceIt_107 ?_
        rw [pk_sub h8']
        exact g_iret X Y dX3_advanceIt_108 (rfl) (⟨_, 0, rfl, rfl, rfl, hE'⟩) (Pks.tail (rest := _) (by repeat (first | with_reducible exact Pks.nil | (with_reducible refine Pks.pure (by assumption) ?_) | (with_reducible apply Pks.cons; focus ((repeat (first | with_reducible exact Pk.here | with_reducible apply Pk.there)); done)) | (refine Pks.cons Pk.here ?_))))
      | succ j ih =>
        intro i S' M' x4 h4 hi hE' hS' h4' h8' hr
        have L2 : ∀ (f k : Nat) (S2 : SS) (M2 : Nat → Int32), (sC S2).length - k ≤ f → k ≤ 8 → Enc M2 S2 → okS S2 → sN S2 4 = sN S 4 + (i + 1) → sN S 8 ≤ sN S2 8 → R = (0, nI (sN (dyS j (duS f k S2)) 8 - sN S 8), dyS j (duS f k S2)) → G B Γ 0 0 (wM m ad sv ch ea fa 0 pm lm cm p0 s0 iw M2) 46 [.val (.ref m), .val (.int (nI d')), .val (.int (nI (sN S 8))), .val (.int (nI i)), .val (.int (nI k))] [] := by
          intro f
          induction f with
          | zero =>
            intro k S2 M2 hf hk8 hE2 hS2 h42 h82 hr2
            have hl2 := hE2.2.2.2.2.1.2.1
            refine g_iload X dX3_advanceIt_46 rfl ?_
            refine g_aload_n X dX3_advanceIt_48 rfl rfl ?_
            refine g_getf X dX3_advanceIt_49 fl_X3_9 (by repeat (first | with_reducible exact Pk.here | with_reducible apply Pk.there)) (by exact rfl) ?_
            refine g_iconst (v := 3) X dX3_advanceIt_52 rfl ?_
            refine g_iald (3) X dX3_advanceIt_53 (by repeat (first | with_reducible exact Pk.here | with_reducible apply Pk.there)) (rfl) (by decide) (by exact hE2.2.2.2.2.1.1) ?_
            refine g_icmp_ge (tgt := 93) X dX3_advanceIt_54 (by decide) (fun c_54 => ?_) (fun c_54 => absurd (nI_le (by omega) (by omega)) c_54)
            refine ii_5_3 (v := nI (i + 1)) X dX3_advanceIt_93 (nI_1 i) rfl ?_
            refine g_goto (tgt := 28) X dX3_advanceIt_96 (by decide) ?_
            exact ih (i + 1) S2 M2 _ LZ.i (by omega) hE2 hS2 h42 h82 hr2
          | succ f ih2 =>
            intro k S2 M2 hf hk8 hE2 hS2 h42 h82 hr2
            have hl2 := hE2.2.2.2.2.1.2.1
            cases hc : (sC S2)[k]? with
            | none =>
              have hlk := List.getElem?_eq_none_iff.mp hc
              rw [du_n hlk] at hr2
              refine g_iload X dX3_advanceIt_46 rfl ?_
              refine g_aload_n X dX3_advanceIt_48 rfl rfl ?_
              refine g_getf X dX3_advanceIt_49 fl_X3_9 (by repeat (first | with_reducible exact Pk.here | with_reducible apply Pk.there)) (by exact rfl) ?_
              refine g_iconst (v := 3) X dX3_advanceIt_52 rfl ?_
              refine g_iald (3) X dX3_advanceIt_53 (by repeat (first | with_reducible exact Pk.here | with_reducible apply Pk.there)) (rfl) (by decide) (by exact hE2.2.2.2.2.1.1) ?_
              refine g_icmp_ge (tgt := 93) X dX3_advanceIt_54 (by decide) (fun c_54 => ?_) (fun c_54 => absurd (nI_le (by omega) (by omega)) c_54)
              refine ii_5_3 (v := nI (i + 1)) X dX3_advanceIt_93 (nI_1 i) rfl ?_
              refine g_goto (tgt := 28) X dX3_advanceIt_96 (by decide) ?_
              exact ih (i + 1) S2 M2 _ LZ.i (by omega) hE2 hS2 h42 h82 hr2
            | some c =>
              have hlk := (List.getElem?_eq_some_iff.mp hc).1
              obtain ⟨⟨e0, e1, e2, e3, e4⟩, g0, g1, g2, g3, g4⟩ := hE2.2.2.2.2.1.2.2 k c hc
              have e5 := hE2.1 4 (by omega)
              by_cases hd : c.2.2.2.2 = sN S2 4
              · simp only [duS, hc, if_pos hd] at hr2
                have hle : (sC (stS k c S2)).length = (sC S2).length - 1 := List.length_eraseIdx_of_lt hlk
                refine g_iload X dX3_advanceIt_46 rfl ?_
                refine g_aload_n X dX3_advanceIt_48 rfl rfl ?_
                refine g_getf X dX3_advanceIt_49 fl_X3_9 (by repeat (first | with_reducible exact Pk.here | with_reducible apply Pk.there)) (by exact rfl) ?_
                refine g_iconst (v := 3) X dX3_advanceIt_52 rfl ?_
                refine g_iald (3) X dX3_advanceIt_53 (by repeat (first | with_reducible exact Pk.here | with_reducible apply Pk.there)) (rfl) (by decide) (by exact hE2.2.2.2.2.1.1) ?_
                refine g_icmp_ge (tgt := 93) X dX3_advanceIt_54 (by decide) (fun c_54 => absurd c_54 (nI_ge (by omega) (by omega))) (fun c_54 => ?_)
                refine g_aload_n X dX3_advanceIt_57 rfl rfl ?_
                refine g_getf X dX3_advanceIt_58 fl_X3_9 (by repeat (first | with_reducible exact Pk.here | with_reducible apply Pk.there)) (by exact rfl) ?_
                refine g_iload X dX3_advanceIt_61 rfl ?_
                refine g_callS X dX3_advanceIt_63 ms_X3_130 (c_X3_contractAt hB) rfl (by repeat (first | with_reducible exact Pks.nil | (with_reducible refine Pks.pure (by assumption) ?_) | (with_reducible apply Pks.cons; focus ((repeat (first | with_reducible exact Pk.here | with_reducible apply Pk.there)); done)) | (refine Pks.cons Pk.here ?_))) rfl rfl (by decide) (by exact Nat.le_of_ble_eq_true rfl) (by first | decide | omega) (fun r w1 hq => ?_) (fun E q w1 hq => hq.elim)
                obtain ⟨rfl, rfl⟩ := hq
                dsimp only [wM, PoM, List.cons_append, List.nil_append, Option.toList_some, Option.toList_none]
                rw [ic]
                refine g_iconst (v := 4) X dX3_advanceIt_66 rfl ?_
                refine g_iadd X dX3_advanceIt_67 ?_
                refine g_iald (115 + 5 * k + 4) X dX3_advanceIt_68 (by repeat (first | with_reducible exact Pk.here | with_reducible apply Pk.there)) (nIp4 _) (by omega) (by exact e4) ?_
                refine g_aload_n X dX3_advanceIt_69 rfl rfl ?_
                refine g_getf X dX3_advanceIt_70 fl_X3_9 (by repeat (first | with_reducible exact Pk.here | with_reducible apply Pk.there)) (by exact rfl) ?_
                refine g_iconst (v := 4) X dX3_advanceIt_73 rfl ?_
                refine g_iald (4) X dX3_advanceIt_74 (by repeat (first | with_reducible exact Pk.here | with_reducible apply Pk.there)) (rfl) (by decide) (by exact e5) ?_
                refine g_icmp_ne (tgt := 87) X dX3_advanceIt_75 (by decide) (fun c_75 => absurd c_75 (fun q => q (by rw [hd]))) (fun c_75 => ?_)
                refine g_aload_n X dX3_advanceIt_78 rfl rfl ?_
                refine g_iload X dX3_advanceIt_79 rfl ?_
                refine g_callV X dX3_advanceIt_81 mv_X3_143 (c_X3_settles hB hE2 hS2 hc) rfl cl_X3 (by repeat (first | with_reducible exact Rc.pt | with_reducible apply Rc.there)) (by repeat (first | with_reducible exact Pks.nil | (with_reducible refine Pks.pure (by assumption) ?_) | (with_reducible apply Pks.cons; focus ((repeat (first | with_reducible exact Pk.here | with_reducible apply Pk.there)); done)) | (refine Pks.cons Pk.here ?_))) rfl rfl (by decide) (by exact Nat.le_of_ble_eq_true rfl) (by first | decide | omega) (fun r w1 hq => ?_) (fun E q w1 hq => hq.elim)
                obtain ⟨M3, rfl, rfl, hE3⟩ := hq
                dsimp only [wM, PoM, List.cons_append, List.nil_append, Option.toList_some, Option.toList_none]
                refine g_goto (tgt := 46) X dX3_advanceIt_84 (by decide) ?_
                exact ih2 k (stS k c S2) M3 (by omega) hk8 hE3 (st_ok hc hS2) (st_n4.trans h42) (by rw [st_n8]; omega) hr2
              · simp only [duS, hc, if_neg hd] at hr2
                refine g_iload X dX3_advanceIt_46 rfl ?_
                refine g_aload_n X dX3_advanceIt_48 rfl rfl ?_
                refine g_getf X dX3_advanceIt_49 fl_X3_9 (by repeat (first | with_reducible exact Pk.here | with_reducible apply Pk.there)) (by exact rfl) ?_
                refine g_iconst (v := 3) X dX3_advanceIt_52 rfl ?_
                refine g_iald (3) X dX3_advanceIt_53 (by repeat (first | with_reducible exact Pk.here | with_reducible apply Pk.there)) (rfl) (by decide) (by exact hE2.2.2.2.2.1.1) ?_
                refine g_icmp_ge (tgt := 93) X dX3_advanceIt_54 (by decide) (fun c_54 => absurd c_54 (nI_ge (by omega) (by omega))) (fun c_54 => ?_)
                refine g_aload_n X dX3_advanceIt_57 rfl rfl ?_
                refine g_getf X dX3_advanceIt_58 fl_X3_9 (by repeat (first | with_reducible exact Pk.here | with_reducible apply Pk.there)) (by exact rfl) ?_
                refine g_iload X dX3_advanceIt_61 rfl ?_
                refine g_callS X dX3_advanceIt_63 ms_X3_130 (c_X3_contractAt hB) rfl (by repeat (first | with_reducible exact Pks.nil | (with_reducible refine Pks.pure (by assumption) ?_) | (with_reducible apply Pks.cons; focus ((repeat (first | with_reducible exact Pk.here | with_reducible apply Pk.there)); done)) | (refine Pks.cons Pk.here ?_))) rfl rfl (by decide) (by exact Nat.le_of_ble_eq_true rfl) (by first | decide | omega) (fun r w1 hq => ?_) (fun E q w1 hq => hq.elim)
                obtain ⟨rfl, rfl⟩ := hq
                dsimp only [wM, PoM, List.cons_append, List.nil_append, Option.toList_some, Option.toList_none]
                rw [ic]
                refine g_iconst (v := 4) X dX3_advanceIt_66 rfl ?_
                refine g_iadd X dX3_advanceIt_67 ?_
                refine g_iald (115 + 5 * k + 4) X dX3_advanceIt_68 (by repeat (first | with_reducible exact Pk.here | with_reducible apply Pk.there)) (nIp4 _) (by omega) (by exact e4) ?_
                refine g_aload_n X dX3_advanceIt_69 rfl rfl ?_
                refine g_getf X dX3_advanceIt_70 fl_X3_9 (by repeat (first | with_reducible exact Pk.here | with_reducible apply Pk.there)) (by exact rfl) ?_
                refine g_iconst (v := 4) X dX3_advanceIt_73 rfl ?_
                refine g_iald (4) X dX3_advanceIt_74 (by repeat (first | with_reducible exact Pk.here | with_reducible apply Pk.there)) (rfl) (by decide) (by exact e5) ?_
                refine g_icmp_ne (tgt := 87) X dX3_advanceIt_75 (by decide) (fun c_75 => ?_) (fun c_75 => absurd c_75 (fun q => hd (nI_inj (by omega) (by omega) q)))
                refine ii_5_4 (v := nI (k + 1)) X dX3_advanceIt_87 (nI_1 k) rfl ?_
                refine g_goto (tgt := 46) X dX3_advanceIt_90 (by decide) ?_
                exact ih2 (k + 1) S2 M2 (by omega) (by omega) hE2 hS2 h42 h82 hr2
        have e9 := hE'.n1 (i := 4) (by omega)
        refine g_iload_n X dX3_advanceIt_28 rfl rfl ?_
        refine g_iload_n X dX3_advanceIt_29 rfl rfl ?_
        refine g_icmp_ge (tgt := 99) X dX3_advanceIt_30 (by decide) (fun c_30 => absurd c_30 (nI_ge (by omega) (by omega))) (fun c_30 => ?_)
        refine g_aload_n X dX3_advanceIt_33 rfl rfl ?_
        refine g_getf X dX3_advanceIt_34 fl_X3_9 (by repeat (first | with_reducible exact Pk.here | with_reducible apply Pk.there)) (by exact rfl) ?_
        refine g_iconst (v := 4) X dX3_advanceIt_37 rfl ?_
        refine g_dup2 X dX3_advanceIt_38 rfl rfl ?_
        refine g_iald (4) X dX3_advanceIt_39 (by repeat (first | with_reducible exact Pk.here | with_reducible apply Pk.there)) (rfl) (by decide) (by exact rfl) ?_
        refine g_iconst (v := 1) X dX3_advanceIt_40 rfl ?_
        refine g_iadd X dX3_advanceIt_41 ?_
        refine g_iast (4) X dX3_advanceIt_42 (by repeat (first | with_reducible exact Rp.here | with_reducible apply Rp.there)) (rfl) (by decide) ?_
        refine g_iconst (v := 0) X dX3_advanceIt_43 rfl ?_
        refine is_5_4 X dX3_advanceIt_44 (by exact st_lz [_, _, _, _] [] h4 rfl) ?_
        refine L2 (sC S').length 0 (wN S' (up (sN S') 4 (sN S' 4 + 1))) _ (Nat.sub_le _ _) (by decide) e9 hS' ?_ ?_ hr
        · show up (sN S') 4 (sN S' 4 + 1) 4 = _
          rw [up_s]; omega
        · show sN S 8 ≤ up (sN S') 4 (sN S' 4 + 1) 8
          rw [up_n (by decide)]; exact h8'
    exact L d' 0 S M _ LZ.u (by omega) hE hS rfl (Nat.le_refl _) hR1
  · obtain rfl := hR.symm.trans (if_pos h1)
    refine g_iload_n X dX3_advanceIt_0 rfl rfl ?_
    refine g_i2l X dX3_advanceIt_1 rfl ?_
    refine g_lconst (v := 1) X dX3_advanceIt_2 rfl ?_
    refine g_ldc2 X dX3_advanceIt_3 q2804 ?_
    refine g_callS X dX3_advanceIt_6 ms_X3_51 (c_X3_in hB) rfl (by repeat (first | with_reducible exact Pks.nil | (with_reducible refine Pks.pure (by assumption) ?_) | (with_reducible apply Pks.cons; focus ((repeat (first | with_reducible exact Pk.here | with_reducible apply Pk.there)); done)) | (refine Pks.cons Pk.here ?_))) rfl rfl (by decide) (by exact Nat.le_of_ble_eq_true rfl) (by first | decide | omega) (fun r w1 hq => ?_) (fun E q w1 hq => hq.elim)
    obtain ⟨rfl, rfl⟩ := hq
    dsimp only [wM, PoM, List.cons_append, List.nil_append, Option.toList_some, Option.toList_none]
    rw [inL (j := 1) (k := 99) (by decide) (by decide), bP_f h1]
    refine g_if_ne (tgt := 18) X dX3_advanceIt_9 (by decide) (fun c_9 => absurd c_9 (by decide)) (fun c_9 => ?_)
    refine g_aload_n X dX3_advanceIt_12 rfl rfl ?_
    refine g_iconst (v := 1) X dX3_advanceIt_13 rfl ?_
    refine g_callV X dX3_advanceIt_14 mv_X3_75 (c_X3_throwing hB) rfl cl_X3 (by repeat (first | with_reducible exact Rc.pt | with_reducible apply Rc.there)) (by repeat (first | with_reducible exact Pks.nil | (with_reducible refine Pks.pure (by assumption) ?_) | (with_reducible apply Pks.cons; focus ((repeat (first | with_reducible exact Pk.here | with_reducible apply Pk.there)); done)) | (refine Pks.cons Pk.here ?_))) rfl rfl (by decide) (by exact Nat.le_of_ble_eq_true rfl) (by first | decide | omega) (fun r w1 hq => ?_) (fun E q w1 hq => hq.elim)
    obtain ⟨rfl, rfl⟩ := hq
    dsimp only [wM, PoM, List.cons_append, List.nil_append, Option.toList_some, Option.toList_none]
    exact g_iret X Y dX3_advanceIt_17 (rfl) (⟨_, 1, rfl, rfl, rfl, hE⟩) (Pks.tail (rest := _) (by repeat (first | with_reducible exact Pks.nil | (with_reducible refine Pks.pure (by assumption) ?_) | (with_reducible apply Pks.cons; focus ((repeat (first | with_reducible exact Pk.here | with_reducible apply Pk.there)); done)) | (refine Pks.cons Pk.here ?_))))
end MODEL
