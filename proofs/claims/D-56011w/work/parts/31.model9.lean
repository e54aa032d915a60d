/-! THE MODEL: auctions -/
set_option maxRecDepth 100000
theorem oI_at {x : Option Nat} {k : Nat} (hx : ∀ j, x = some j → j < 2 ^ 31) (hk : k < 2 ^ 31) : nI k = oI_ x ↔ x = some k := by
  cases x with
  | none =>
    refine ⟨fun e => ?_, fun e => nomatch e⟩
    have h1 := nI_toInt hk
    rw [e] at h1
    have h3 : (oI_ none).toInt = -1 := by decide
    omega
  | some j => exact ⟨fun e => congrArg some (nI_inj hk (hx j rfl) e).symm, fun e => by cases e; rfl⟩
section AUCTION
variable {v : Nat} {S : SS}
theorem wiU_lt : ∀ {k g : Nat}, wiU v S k = some g → g < k ∧ 0 < vbS v S g ∧ ∀ j, j < k → vbS v S j ≤ vbS v S g
  | 0, g, h => nomatch h
  | k + 1, g, h => by
    simp only [wiU] at h
    by_cases hc : 0 < vbS v S k ∧ (∀ g, wiU v S k = some g → vbS v S g < vbS v S k)
    · rw [if_pos hc] at h
      cases h
      refine ⟨by omega, hc.1, fun j hj => ?_⟩
      by_cases hj2 : j = k
      · rw [hj2]; exact Nat.le_refl _
      · cases hw : wiU v S k with
        | none =>
          refine Nat.le_trans (Nat.le_of_not_lt fun q => ?_) (Nat.zero_le _)
          exact wi_no (k := k) hw (by omega) q
        | some f => exact Nat.le_trans ((wiU_lt hw).2.2 j (by omega)) (Nat.le_of_lt (hc.2 f hw))
    · rw [if_neg hc] at h
      obtain ⟨h1, h2, h3⟩ := wiU_lt h
      refine ⟨by omega, h2, fun j hj => ?_⟩
      by_cases hj2 : j = k
      · subst hj2
        refine Nat.le_of_not_lt fun q => hc ⟨by omega, fun f hf => ?_⟩
        cases hf.symm.trans h
        exact q
      · exact h3 j (by omega)
where wi_no : ∀ {k j : Nat}, wiU v S k = none → j < k → ¬ 0 < vbS v S j
  | 0, j, _, hj => by omega
  | k + 1, j, h, hj => by
    simp only [wiU] at h
    by_cases hc : 0 < vbS v S k ∧ (∀ g, wiU v S k = some g → vbS v S g < vbS v S k)
    · rw [if_pos hc] at h; exact nomatch h
    · rw [if_neg hc] at h
      by_cases hj2 : j = k
      · subst hj2
        exact fun q => hc ⟨q, fun f hf => nomatch h.symm.trans hf⟩
      · exact wi_no h (by omega)
theorem vb_le {k : Nat} : vbS v S k ≤ caT (sT S) k ∧ (0 < vbS v S k → v ≤ vbS v S k) ∧ vbS v S k ≤ sB S k := by
  unfold vbS
  by_cases h : v ≤ sB S k ∧ sB S k ≤ caT (sT S) k
  · rw [if_pos h]; exact ⟨h.2, fun _ => h.1, Nat.le_refl _⟩
  · rw [if_neg h]; exact ⟨Nat.zero_le _, fun q => absurd q (by omega), Nat.zero_le _⟩
theorem wp_le {g : Nat} (h : wiS v S = some g) : ∀ k, k ≤ (sT S).length → wpU v S k ≤ vbS v S g
  | 0, _ => (vb_le (k := g)).2.1 (wiU_lt h).2.1
  | k + 1, hk => by
    have ih := wp_le h k (by omega)
    show (if wiS v S = some k then wpU v S k else max (wpU v S k) (vbS v S k)) ≤ _
    by_cases hw : wiS v S = some k
    · rw [if_pos hw]; exact ih
    · rw [if_neg hw]; exact Nat.max_le.mpr ⟨ih, (wiU_lt h).2.2 k (by omega)⟩
theorem wp_lt {g : Nat} (h : wiS v S = some g) {k : Nat} (hk : k ≤ (sT S).length) : wpU v S k ≤ caT (sT S) g ∧ wpU v S k ≤ sB S g := ⟨Nat.le_trans (wp_le h k hk) vb_le.1, Nat.le_trans (wp_le h k hk) vb_le.2.2⟩
end AUCTION
section MODEL
variable {B : Bt} {m : Nat} {ad : Nat → Nat} {sv ch ea fa th pm lm cm p0 s0 iw : Int32} {M A : Nat → Int32} {S : SS} {R : Rs}
theorem c_X3_openIt (hB : Bs B) {r v : Int32} (hE : Enc M S) (hR : opS r v S = R) : Tr B yX3_openIt (Cond.code yX3_openIt cX3_openIt 5 (some .int)) (rmd 3 0 0) [.ref m, .int r, .int v] (wM m ad sv ch ea fa 0 pm lm cm p0 s0 iw M) (PoM m ad sv ch ea fa pm lm cm p0 s0 iw R) nox := by
  refine tr_of hB (by decide +kernel) rfl ?_
  intro Γ X Y
  refine g_eq (ls' := [.val (.ref m), .val (.int r), .val (.int v), .unset, .unset]) rfl rfl ?_
  by_cases h1 : isT 4 r
  · have hR1 := hR.symm.trans (if_neg (Classical.not_not.mpr h1))
    by_cases h2 : inR v 0 99
    · have hR2 := hR1.trans (if_neg (Classical.not_not.mpr h2))
      obtain ⟨r', hr, rfl⟩ := isT_of (by omega) h1
      obtain ⟨v', -, hv, rfl⟩ := inR_of (by decide) (by decide) h2
      have hH := hE.2.1 r' hr
      have hA := hE.2.2.2.2.2.1.1
      rw [show cN (nI r') = r' from nI_clamp (by omega), show cN (nI v') = v' from nI_clamp (by omega)] at hR2
      have hAb : ∀ j, (sA S).map (·.1) = some j → j < 2 ^ 31 := by
        intro j hj
        cases ha : sA S with
        | none => rw [ha] at hj; exact nomatch hj
        | some q =>
          rw [ha] at hj
          have := (hE.2.2.2.2.2.1.2 q.1 q.2 ha).2.1
          cases hj
          show q.1 < 2 ^ 31
          omega
      have J : ¬ (sA S = none ∧ sH S r' = none) → G B Γ 0 0 (wM m ad sv ch ea fa 0 pm lm cm p0 s0 iw M) 55 [.val (.ref m), .val (.int (nI r')), .val (.int (nI v')), .unset, .unset] [] := by
        intro h3
        obtain rfl := hR2.trans (if_pos h3)
        refine g_aload_n X dX3_openIt_55 rfl rfl ?_
        refine g_iconst (v := 3) X dX3_openIt_56 rfl ?_
        refine g_callV X dX3_openIt_57 mv_X3_75 (c_X3_throwing hB) rfl cl_X3 (by repeat (first | with_reducible exact Rc.pt | with_reducible apply Rc.there)) (by repeat (first | with_reducible exact Pks.nil | (with_reducible refine Pks.pure (by assumption) ?_) | (with_reducible apply Pks.cons; focus ((repeat (first | with_reducible exact Pk.here | with_reducible apply Pk.there)); done)) | (refine Pks.cons Pk.here ?_))) rfl rfl (by decide) (by exact Nat.le_of_ble_eq_true rfl) (by first | decide | omega) (fun r w1 hq => ?_) (fun E q w1 hq => hq.elim)
        obtain ⟨rfl, rfl⟩ := hq
        dsimp only [wM, PoM, List.cons_append, List.nil_append, Option.toList_some, Option.toList_none]
        exact g_iret X Y dX3_openIt_60 (rfl) (⟨_, 3, rfl, rfl, rfl, hE⟩) (Pks.tail (rest := _) (by repeat (first | with_reducible exact Pks.nil | (with_reducible refine Pks.pure (by assumption) ?_) | (with_reducible apply Pks.cons; focus ((repeat (first | with_reducible exact Pk.here | with_reducible apply Pk.there)); done)) | (refine Pks.cons Pk.here ?_))))
      refine g_iload_n X dX3_openIt_0 rfl rfl ?_
      refine g_callS X dX3_openIt_1 ms_X3_149 (c_X3_isRoom hB) rfl (by repeat (first | with_reducible exact Pks.nil | (with_reducible refine Pks.pure (by assumption) ?_) | (with_reducible apply Pks.cons; focus ((repeat (first | with_reducible exact Pk.here | with_reducible apply Pk.there)); done)) | (refine Pks.cons Pk.here ?_))) rfl rfl (by decide) (by exact Nat.le_of_ble_eq_true rfl) (by first | decide | omega) (fun r w1 hq => ?_) (fun E q w1 hq => hq.elim)
      obtain ⟨rfl, rfl⟩ := hq
      dsimp only [wM, PoM, List.cons_append, List.nil_append, Option.toList_some, Option.toList_none]
      rw [bP_t h1]
      refine g_if_ne (tgt := 13) X dX3_openIt_4 (by decide) (fun c_4 => ?_) (fun c_4 => absurd c_4 (by decide))
      refine g_iload_n X dX3_openIt_13 rfl rfl ?_
      refine g_i2l X dX3_openIt_14 rfl ?_
      refine g_lconst (v := 0) X dX3_openIt_15 rfl ?_
      refine g_ldc2 X dX3_openIt_16 q2804 ?_
      refine g_callS X dX3_openIt_19 ms_X3_51 (c_X3_in hB) rfl (by repeat (first | with_reducible exact Pks.nil | (with_reducible refine Pks.pure (by assumption) ?_) | (with_reducible apply Pks.cons; focus ((repeat (first | with_reducible exact Pk.here | with_reducible apply Pk.there)); done)) | (refine Pks.cons Pk.here ?_))) rfl rfl (by decide) (by exact Nat.le_of_ble_eq_true rfl) (by first | decide | omega) (fun r w1 hq => ?_) (fun E q w1 hq => hq.elim)
      obtain ⟨rfl, rfl⟩ := hq
      dsimp only [wM, PoM, List.cons_append, List.nil_append, Option.toList_some, Option.toList_none]
      rw [inL (j := 0) (k := 99) (by decide) (by decide), bP_t h2]
      refine g_if_ne (tgt := 31) X dX3_openIt_22 (by decide) (fun c_22 => ?_) (fun c_22 => absurd c_22 (by decide))
      refine g_aload_n X dX3_openIt_31 rfl rfl ?_
      refine g_getf X dX3_openIt_32 fl_X3_9 (by repeat (first | with_reducible exact Pk.here | with_reducible apply Pk.there)) (by exact rfl) ?_
      refine g_bipush (v := 11) X dX3_openIt_35 rfl ?_
      refine g_iald (11) X dX3_openIt_37 (by repeat (first | with_reducible exact Pk.here | with_reducible apply Pk.there)) (rfl) (by decide) (by exact hA) ?_
      refine g_iconst (v := (-1)) X dX3_openIt_38 rfl ?_
      refine g_icmp_ne (tgt := 55) X dX3_openIt_39 (by decide) (fun c_39 => ?_) (fun c_39 => ?_)
      · exact J fun q => c_39 (by rw [q.1]; rfl)
      · have ha : sA S = none := by have := (oI_none hAb).mp c_39; cases ha : sA S <;> simp [ha] at this ⊢
        refine g_aload_n X dX3_openIt_42 rfl rfl ?_
        refine g_getf X dX3_openIt_43 fl_X3_9 (by repeat (first | with_reducible exact Pk.here | with_reducible apply Pk.there)) (by exact rfl) ?_
        refine g_bipush (v := 13) X dX3_openIt_46 rfl ?_
        refine g_iload_n X dX3_openIt_48 rfl rfl ?_
        refine g_iadd X dX3_openIt_49 ?_
        rw [show (13 : Int32) = nI 13 by decide, nI_add]
        refine g_iald (13 + r') X dX3_openIt_50 (by repeat (first | with_reducible exact Pk.here | with_reducible apply Pk.there)) (rfl) (by omega) (by exact hH.1) ?_
        refine g_iconst (v := (-1)) X dX3_openIt_51 rfl ?_
        refine g_icmp_eq (tgt := 61) X dX3_openIt_52 (by decide) (fun c_52 => ?_) (fun c_52 => ?_)
        · have hh : sH S r' = none := (oI_none fun j e => by have := hH.2 j e; omega).mp c_52
          have hR3 := hR2.trans (if_neg (Classical.not_not.mpr ⟨ha, hh⟩))
          have e1 := hE.setA (A := some (r', v')) (x := nI r') (y := nI v') rfl fun a b e => by cases e; exact ⟨rfl, hr, by omega⟩
          subst hR3
          have L : ∀ j k, k + j = 4 → G B Γ 0 0 (wM m ad sv ch ea fa 0 pm lm cm p0 s0 iw (upd (upd M 11 (nI r')) 12 (nI v'))) 82 [.val (.ref m), .val (.int (nI r')), .val (.int (nI v')), .val (.int (nI (frU (sH S) k))), .val (.int (nI k))] [] := by
            intro j
            induction j with
            | zero =>
              intro k hk
              obtain rfl : k = 4 := by omega
              refine g_iload X dX3_openIt_82 rfl ?_
              refine g_iconst (v := 4) X dX3_openIt_84 rfl ?_
              refine g_icmp_ge (tgt := 116) X dX3_openIt_85 (by decide) (fun c_85 => ?_) (fun c_85 => absurd (nI_le (a := 4) (by omega) (by omega)) c_85)
              refine g_iload_n X dX3_openIt_116 rfl rfl ?_
              exact g_iret X Y dX3_openIt_117 (rfl) (⟨_, 0, rfl, rfl, rfl, e1⟩) (Pks.tail (rest := _) (by repeat (first | with_reducible exact Pks.nil | (with_reducible refine Pks.pure (by assumption) ?_) | (with_reducible apply Pks.cons; focus ((repeat (first | with_reducible exact Pk.here | with_reducible apply Pk.there)); done)) | (refine Pks.cons Pk.here ?_))))
            | succ j ih =>
              intro k hk
              have hk2 := hE.2.1 k (by omega)
              refine g_iload X dX3_openIt_82 rfl ?_
              refine g_iconst (v := 4) X dX3_openIt_84 rfl ?_
              refine g_icmp_ge (tgt := 116) X dX3_openIt_85 (by decide) (fun c_85 => absurd c_85 (nI_ge (b := 4) (by omega) (by omega))) (fun c_85 => ?_)
              refine g_iload_n X dX3_openIt_88 rfl rfl ?_
              refine g_aload_n X dX3_openIt_89 rfl rfl ?_
              refine g_getf X dX3_openIt_90 fl_X3_9 (by repeat (first | with_reducible exact Pk.here | with_reducible apply Pk.there)) (by exact rfl) ?_
              refine g_bipush (v := 13) X dX3_openIt_93 rfl ?_
              refine g_iload X dX3_openIt_95 rfl ?_
              refine g_iadd X dX3_openIt_97 ?_
              rw [show (13 : Int32) = nI 13 by decide, nI_add]
              refine g_iald (13 + k) X dX3_openIt_98 (by repeat (first | with_reducible exact Pk.here | with_reducible apply Pk.there)) (rfl) (by omega) (by rw [upd_n (by omega), upd_n (by omega), hk2.1]) ?_
              refine g_iconst (v := (-1)) X dX3_openIt_99 rfl ?_
              refine g_icmp_ne (tgt := 107) X dX3_openIt_100 (by decide) (fun c_100 => ?_) (fun c_100 => ?_)
              · have hn : ¬ sH S k = none := fun e => c_100 (by rw [e]; rfl)
                have hf : frU (sH S) (k + 1) = frU (sH S) k := by simp [frU, hn]
                refine g_iconst (v := 0) X dX3_openIt_107 rfl ?_
                refine g_iadd X dX3_openIt_108 ?_
                rw [show (0 : Int32) = nI 0 by decide, nI_add, Nat.add_zero, ← hf]
                refine is_5_3n X dX3_openIt_109 rfl rfl ?_
                refine ii_5_4 (v := nI (k + 1)) X dX3_openIt_110 (nI_1 k) rfl ?_
                refine g_goto (tgt := 82) X dX3_openIt_113 (by decide) ?_
                exact ih (k + 1) (by omega)
              · have hn : sH S k = none := (oI_none fun j e => by have := hk2.2 j e; omega).mp c_100
                have hf : frU (sH S) (k + 1) = frU (sH S) k + 1 := by simp [frU, hn]
                refine g_iconst (v := 1) X dX3_openIt_103 rfl ?_
                refine g_goto (tgt := 108) X dX3_openIt_104 (by decide) ?_
                refine g_iadd X dX3_openIt_108 ?_
                rw [nI_1, ← hf]
                refine is_5_3n X dX3_openIt_109 rfl rfl ?_
                refine ii_5_4 (v := nI (k + 1)) X dX3_openIt_110 (nI_1 k) rfl ?_
                refine g_goto (tgt := 82) X dX3_openIt_113 (by decide) ?_
                exact ih (k + 1) (by omega)
          refine g_aload_n X dX3_openIt_61 rfl rfl ?_
          refine g_getf X dX3_openIt_62 fl_X3_9 (by repeat (first | with_reducible exact Pk.here | with_reducible apply Pk.there)) (by exact rfl) ?_
          refine g_bipush (v := 11) X dX3_openIt_65 rfl ?_
          refine g_iload_n X dX3_openIt_67 rfl rfl ?_
          refine g_iast (11) X dX3_openIt_68 (by repeat (first | with_reducible exact Rp.here | with_reducible apply Rp.there)) (rfl) (by decide) ?_
          refine g_aload_n X dX3_openIt_69 rfl rfl ?_
          refine g_getf X dX3_openIt_70 fl_X3_9 (by repeat (first | with_reducible exact Pk.here | with_reducible apply Pk.there)) (by exact rfl) ?_
          refine g_bipush (v := 12) X dX3_openIt_73 rfl ?_
          refine g_iload_n X dX3_openIt_75 rfl rfl ?_
          refine g_iast (12) X dX3_openIt_76 (by repeat (first | with_reducible exact Rp.here | with_reducible apply Rp.there)) (rfl) (by decide) ?_
          refine g_iconst (v := 0) X dX3_openIt_77 rfl ?_
          refine is_5_3n X dX3_openIt_78 rfl rfl ?_
          refine g_iconst (v := 0) X dX3_openIt_79 rfl ?_
          refine is_5_4 X dX3_openIt_80 rfl ?_
          exact L 4 0 rfl
        · exact J fun q => c_52 (by rw [q.2]; rfl)
    · obtain rfl := hR1.trans (if_pos h2)
      refine g_iload_n X dX3_openIt_0 rfl rfl ?_
      refine g_callS X dX3_openIt_1 ms_X3_149 (c_X3_isRoom hB) rfl (by repeat (first | with_reducible exact Pks.nil | (with_reducible refine Pks.pure (by assumption) ?_) | (with_reducible apply Pks.cons; focus ((repeat (first | with_reducible exact Pk.here | with_reducible apply Pk.there)); done)) | (refine Pks.cons Pk.here ?_))) rfl rfl (by decide) (by exact Nat.le_of_ble_eq_true rfl) (by first | decide | omega) (fun r w1 hq => ?_) (fun E q w1 hq => hq.elim)
      obtain ⟨rfl, rfl⟩ := hq
      dsimp only [wM, PoM, List.cons_append, List.nil_append, Option.toList_some, Option.toList_none]
      rw [bP_t h1]
      refine g_if_ne (tgt := 13) X dX3_openIt_4 (by decide) (fun c_4 => ?_) (fun c_4 => absurd c_4 (by decide))
      refine g_iload_n X dX3_openIt_13 rfl rfl ?_
      refine g_i2l X dX3_openIt_14 rfl ?_
      refine g_lconst (v := 0) X dX3_openIt_15 rfl ?_
      refine g_ldc2 X dX3_openIt_16 q2804 ?_
      refine g_callS X dX3_openIt_19 ms_X3_51 (c_X3_in hB) rfl (by repeat (first | with_reducible exact Pks.nil | (with_reducible refine Pks.pure (by assumption) ?_) | (with_reducible apply Pks.cons; focus ((repeat (first | with_reducible exact Pk.here | with_reducible apply Pk.there)); done)) | (refine Pks.cons Pk.here ?_))) rfl rfl (by decide) (by exact Nat.le_of_ble_eq_true rfl) (by first | decide | omega) (fun r w1 hq => ?_) (fun E q w1 hq => hq.elim)
      obtain ⟨rfl, rfl⟩ := hq
      dsimp only [wM, PoM, List.cons_append, List.nil_append, Option.toList_some, Option.toList_none]
      rw [inL (j := 0) (k := 99) (by decide) (by decide), bP_f h2]
      refine g_if_ne (tgt := 31) X dX3_openIt_22 (by decide) (fun c_22 => absurd c_22 (by decide)) (fun c_22 => ?_)
      refine g_aload_n X dX3_openIt_25 rfl rfl ?_
      refine g_iconst (v := 2) X dX3_openIt_26 rfl ?_
      refine g_callV X dX3_openIt_27 mv_X3_75 (c_X3_throwing hB) rfl cl_X3 (by repeat (first | with_reducible exact Rc.pt | with_reducible apply Rc.there)) (by repeat (first | with_reducible exact Pks.nil | (with_reducible refine Pks.pure (by assumption) ?_) | (with_reducible apply Pks.cons; focus ((repeat (first | with_reducible exact Pk.here | with_reducible apply Pk.there)); done)) | (refine Pks.cons Pk.here ?_))) rfl rfl (by decide) (by exact Nat.le_of_ble_eq_true rfl) (by first | decide | omega) (fun r w1 hq => ?_) (fun E q w1 hq => hq.elim)
      obtain ⟨rfl, rfl⟩ := hq
      dsimp only [wM, PoM, List.cons_append, List.nil_append, Option.toList_some, Option.toList_none]
      exact g_iret X Y dX3_openIt_30 (rfl) (⟨_, 2, rfl, rfl, rfl, hE⟩) (Pks.tail (rest := _) (by repeat (first | with_reducible exact Pks.nil | (with_reducible refine Pks.pure (by assumption) ?_) | (with_reducible apply Pks.cons; focus ((repeat (first | with_reducible exact Pk.here | with_reducible apply Pk.there)); done)) | (refine Pks.cons Pk.here ?_))))
  · obtain rfl := hR.symm.trans (if_pos h1)
    refine g_iload_n X dX3_openIt_0 rfl rfl ?_
    refine g_callS X dX3_openIt_1 ms_X3_149 (c_X3_isRoom hB) rfl (by repeat (first | with_reducible exact Pks.nil | (with_reducible refine Pks.pure (by assumption) ?_) | (with_reducible apply Pks.cons; focus ((repeat (first | with_reducible exact Pk.here | with_reducible apply Pk.there)); done)) | (refine Pks.cons Pk.here ?_))) rfl rfl (by decide) (by exact Nat.le_of_ble_eq_true rfl) (by first | decide | omega) (fun r w1 hq => ?_) (fun E q w1 hq => hq.elim)
    obtain ⟨rfl, rfl⟩ := hq
    dsimp only [wM, PoM, List.cons_append, List.nil_append, Option.toList_some, Option.toList_none]
    rw [bP_f h1]
    refine g_if_ne (tgt := 13) X dX3_openIt_4 (by decide) (fun c_4 => absurd c_4 (by decide)) (fun c_4 => ?_)
    refine g_aload_n X dX3_openIt_7 rfl rfl ?_
    refine g_iconst (v := 1) X dX3_openIt_8 rfl ?_
    refine g_callV X dX3_openIt_9 mv_X3_75 (c_X3_throwing hB) rfl cl_X3 (by repeat (first | with_reducible exact Rc.pt | with_reducible apply Rc.there)) (by repeat (first | with_reducible exact Pks.nil | (with_reducible refine Pks.pure (by assumption) ?_) | (with_reducible apply Pks.cons; focus ((repeat (first | with_reducible exact Pk.here | with_reducible apply Pk.there)); done)) | (refine Pks.cons Pk.here ?_))) rfl rfl (by decide) (by exact Nat.le_of_ble_eq_true rfl) (by first | decide | omega) (fun r w1 hq => ?_) (fun E q w1 hq => hq.elim)
    obtain ⟨rfl, rfl⟩ := hq
    dsimp only [wM, PoM, List.cons_append, List.nil_append, Option.toList_some, Option.toList_none]
    exact g_iret X Y dX3_openIt_12 (rfl) (⟨_, 1, rfl, rfl, rfl, hE⟩) (Pks.tail (rest := _) (by repeat (first | with_reducible exact Pks.nil | (with_reducible refine Pks.pure (by assumption) ?_) | (with_reducible apply Pks.cons; focus ((repeat (first | with_reducible exact Pk.here | with_reducible apply Pk.there)); done)) | (refine Pks.cons Pk.here ?_))))
theorem c_X3_sealIt (hB : Bs B) {t a : Int32} (hE : Enc M S) (hR : seS t a S = R) : Tr B yX3_sealIt (Cond.code yX3_sealIt cX3_sealIt 5 (some .int)) (rmd 3 0 0) [.ref m, .int t, .int a] (wM m ad sv ch ea fa 0 pm lm cm p0 s0 iw M) (PoM m ad sv ch ea fa pm lm cm p0 s0 iw R) nox := by
  have hT := hE.2.2.1.1
  have hl := hE.2.2.1.2.1
  have hA := hE.2.2.2.2.2.1.1
  refine tr_of hB (by decide +kernel) rfl ?_
  intro Γ X Y
  refine g_eq (ls' := [.val (.ref m), .val (.int t), .val (.int a), .unset, .unset]) rfl rfl ?_
  by_cases h1 : isT (sT S).length t
  · have hR1 := hR.symm.trans (if_neg (Classical.not_not.mpr h1))
    by_cases h2 : inR a 1 999
    · have hR2 := hR1.trans (if_neg (Classical.not_not.mpr h2))
      obtain ⟨t', ht, rfl⟩ := isT_of (by omega) h1
      obtain ⟨a', ha1, ha, rfl⟩ := inR_of (by decide) (by decide) h2
      rw [show cN (nI t') = t' from nI_clamp (by omega), show cN (nI a') = a' from nI_clamp (by omega)] at hR2
      have hAb : ∀ j, (sA S).map (·.1) = some j → j < 2 ^ 31 := by
        intro j hj
        cases ha : sA S with
        | none => rw [ha] at hj; exact nomatch hj
        | some q =>
          rw [ha] at hj
          have := (hE.2.2.2.2.2.1.2 q.1 q.2 ha).2.1
          cases hj
          show q.1 < 2 ^ 31
          omega
      refine g_aload_n X dX3_sealIt_0 rfl rfl ?_
      refine g_iload_n X dX3_sealIt_1 rfl rfl ?_
      refine g_callV X dX3_sealIt_2 mv_X3_95 (c_X3_isTrader hB hT (by omega)) rfl cl_X3 (by repeat (first | with_reducible exact Rc.pt | with_reducible apply Rc.there)) (by repeat (first | with_reducible exact Pks.nil | (with_reducible refine Pks.pure (by assumption) ?_) | (with_reducible apply Pks.cons; focus ((repeat (first | with_reducible exact Pk.here | with_reducible apply Pk.there)); done)) | (refine Pks.cons Pk.here ?_))) rfl rfl (by decide) (by exact Nat.le_of_ble_eq_true rfl) (by first | decide | omega) (fun r w1 hq => ?_) (fun E q w1 hq => hq.elim)
      obtain ⟨rfl, rfl⟩ := hq
      dsimp only [wM, PoM, List.cons_append, List.nil_append, Option.toList_some, Option.toList_none]
      rw [bP_t h1]
      refine g_if_ne (tgt := 14) X dX3_sealIt_5 (by decide) (fun c_5 => ?_) (fun c_5 => absurd c_5 (by decide))
      refine g_iload_n X dX3_sealIt_14 rfl rfl ?_
      refine g_i2l X dX3_sealIt_15 rfl ?_
      refine g_lconst (v := 1) X dX3_sealIt_16 rfl ?_
      refine g_ldc2 X dX3_sealIt_17 q2800 ?_
      refine g_callS X dX3_sealIt_20 ms_X3_51 (c_X3_in hB) rfl (by repeat (first | with_reducible exact Pks.nil | (with_reducible refine Pks.pure (by assumption) ?_) | (with_reducible apply Pks.cons; focus ((repeat (first | with_reducible exact Pk.here | with_reducible apply Pk.there)); done)) | (refine Pks.cons Pk.here ?_))) rfl rfl (by decide) (by exact Nat.le_of_ble_eq_true rfl) (by first | decide | omega) (fun r w1 hq => ?_) (fun E q w1 hq => hq.elim)
      obtain ⟨rfl, rfl⟩ := hq
      dsimp only [wM, PoM, List.cons_append, List.nil_append, Option.toList_some, Option.toList_none]
      rw [inL (j := 1) (k := 999) (by decide) (by decide), bP_t h2]
      refine g_if_ne (tgt := 32) X dX3_sealIt_23 (by decide) (fun c_23 => ?_) (fun c_23 => absurd c_23 (by decide))
      refine g_aload_n X dX3_sealIt_32 rfl rfl ?_
      refine g_getf X dX3_sealIt_33 fl_X3_9 (by repeat (first | with_reducible exact Pk.here | with_reducible apply Pk.there)) (by exact rfl) ?_
      refine g_bipush (v := 11) X dX3_sealIt_36 rfl ?_
      refine g_iald (11) X dX3_sealIt_38 (by repeat (first | with_reducible exact Pk.here | with_reducible apply Pk.there)) (rfl) (by decide) (by exact hA) ?_
      refine g_iconst (v := (-1)) X dX3_sealIt_39 rfl ?_
      refine g_icmp_ne (tgt := 49) X dX3_sealIt_40 (by decide) (fun c_40 => ?_) (fun c_40 => ?_)
      · have h3 : ¬ sA S = none := fun e => c_40 (by rw [e]; rfl)
        have hR3 := hR2.trans (if_neg h3)
        have e1 := hE.setB (t := t') (v := a') (x := nI a') (by omega) rfl (by omega)
        subst hR3
        have L : ∀ j k, k + j = (sT S).length → G B Γ 0 0 (wM m ad sv ch ea fa 0 pm lm cm p0 s0 iw (upd M (17 + 3 * t' + 2) (nI a'))) 66 [.val (.ref m), .val (.int (nI t')), .val (.int (nI a')), .val (.int (nI (sbU (up (sB S) t' a') k))), .val (.int (nI k))] [] := by
          intro j
          induction j with
          | zero =>
            intro k hk
            obtain rfl : k = (sT S).length := by omega
            refine g_iload X dX3_sealIt_66 rfl ?_
            refine g_aload_n X dX3_sealIt_68 rfl rfl ?_
            refine g_getf X dX3_sealIt_69 fl_X3_9 (by repeat (first | with_reducible exact Pk.here | with_reducible apply Pk.there)) (by exact rfl) ?_
            refine g_iconst (v := 0) X dX3_sealIt_72 rfl ?_
            refine g_iald (0) X dX3_sealIt_73 (by repeat (first | with_reducible exact Pk.here | with_reducible apply Pk.there)) (rfl) (by decide) (by rw [upd_n (by omega), hT]) ?_
            refine g_icmp_ge (tgt := 106) X dX3_sealIt_74 (by decide) (fun c_74 => ?_) (fun c_74 => absurd (nI_le (by omega) (by omega)) c_74)
            refine g_iload_n X dX3_sealIt_106 rfl rfl ?_
            exact g_iret X Y dX3_sealIt_107 (rfl) (⟨_, 0, rfl, rfl, rfl, e1⟩) (Pks.tail (rest := _) (by repeat (first | with_reducible exact Pks.nil | (with_reducible refine Pks.pure (by assumption) ?_) | (with_reducible apply Pks.cons; focus ((repeat (first | with_reducible exact Pk.here | with_reducible apply Pk.there)); done)) | (refine Pks.cons Pk.here ?_))))
          | succ j ih =>
            intro k hk
            have hk2 : _ = nI (up (sB S) t' a' k) ∧ up (sB S) t' a' k < 1000 := e1.2.2.2.2.2.2 k (by omega)
            refine g_iload X dX3_sealIt_66 rfl ?_
            refine g_aload_n X dX3_sealIt_68 rfl rfl ?_
            refine g_getf X dX3_sealIt_69 fl_X3_9 (by repeat (first | with_reducible exact Pk.here | with_reducible apply Pk.there)) (by exact rfl) ?_
            refine g_iconst (v := 0) X dX3_sealIt_72 rfl ?_
            refine g_iald (0) X dX3_sealIt_73 (by repeat (first | with_reducible exact Pk.here | with_reducible apply Pk.there)) (rfl) (by decide) (by rw [upd_n (by omega), hT]) ?_
            refine g_icmp_ge (tgt := 106) X dX3_sealIt_74 (by decide) (fun c_74 => absurd c_74 (nI_ge (by omega) (by omega))) (fun c_74 => ?_)
            refine g_iload_n X dX3_sealIt_77 rfl rfl ?_
            refine g_aload_n X dX3_sealIt_78 rfl rfl ?_
            refine g_getf X dX3_sealIt_79 fl_X3_9 (by repeat (first | with_reducible exact Pk.here | with_reducible apply Pk.there)) (by exact rfl) ?_
            refine g_iload X dX3_sealIt_82 rfl ?_
            refine g_callS X dX3_sealIt_84 ms_X3_78 (c_X3_traderAt hB) rfl (by repeat (first | with_reducible exact Pks.nil | (with_reducible refine Pks.pure (by assumption) ?_) | (with_reducible apply Pks.cons; focus ((repeat (first | with_reducible exact Pk.here | with_reducible apply Pk.there)); done)) | (refine Pks.cons Pk.here ?_))) rfl rfl (by decide) (by exact Nat.le_of_ble_eq_true rfl) (by first | decide | omega) (fun r w1 hq => ?_) (fun E q w1 hq => hq.elim)
            obtain ⟨rfl, rfl⟩ := hq
            dsimp only [wM, PoM, List.cons_append, List.nil_append, Option.toList_some, Option.toList_none]
            rw [it_]
            refine g_iconst (v := 2) X dX3_sealIt_87 rfl ?_
            refine g_iadd X dX3_sealIt_88 ?_
            rw [nIp2]
            refine g_iald (17 + 3 * k + 2) X dX3_sealIt_89 (by repeat (first | with_reducible exact Pk.here | with_reducible apply Pk.there)) (rfl) (by omega) (by exact hk2.1) ?_
            refine g_if_le (tgt := 97) X dX3_sealIt_90 (by decide) (fun c_90 => ?_) (fun c_90 => ?_)
            · have hn : up (sB S) t' a' k = 0 := Nat.eq_zero_of_not_pos fun q => nI_nle q (by have := hk2.2; exact Nat.lt_trans this (by decide)) c_90
              have hf : sbU (up (sB S) t' a') (k + 1) = sbU (up (sB S) t' a') k := by simp [sbU, hn]
              refine g_iconst (v := 0) X dX3_sealIt_97 rfl ?_
              refine g_iadd X dX3_sealIt_98 ?_
              rw [show (0 : Int32) = nI 0 by decide, nI_add, Nat.add_zero, ← hf]
              refine is_5_3n X dX3_sealIt_99 rfl rfl ?_
              refine ii_5_4 (v := nI (k + 1)) X dX3_sealIt_100 (nI_1 k) rfl ?_
              refine g_goto (tgt := 66) X dX3_sealIt_103 (by decide) ?_
              exact ih (k + 1) (by omega)
            · have hn : 0 < up (sB S) t' a' k := Nat.pos_of_ne_zero fun e => c_90 (by rw [e]; decide)
              have hf : sbU (up (sB S) t' a') (k + 1) = sbU (up (sB S) t' a') k + 1 := by simp [sbU, hn]
              refine g_iconst (v := 1) X dX3_sealIt_93 rfl ?_
              refine g_goto (tgt := 98) X dX3_sealIt_94 (by decide) ?_
              refine g_iadd X dX3_sealIt_98 ?_
              rw [nI_1, ← hf]
              refine is_5_3n X dX3_sealIt_99 rfl rfl ?_
              refine ii_5_4 (v := nI (k + 1)) X dX3_sealIt_100 (nI_1 k) rfl ?_
              refine g_goto (tgt := 66) X dX3_sealIt_103 (by decide) ?_
              exact ih (k + 1) (by omega)
        refine g_aload_n X dX3_sealIt_49 rfl rfl ?_
        refine g_getf X dX3_sealIt_50 fl_X3_9 (by repeat (first | with_reducible exact Pk.here | with_reducible apply Pk.there)) (by exact rfl) ?_
        refine g_iload_n X dX3_sealIt_53 rfl rfl ?_
        refine g_callS X dX3_sealIt_54 ms_X3_78 (c_X3_traderAt hB) rfl (by repeat (first | with_reducible exact Pks.nil | (with_reducible refine Pks.pure (by assumption) ?_) | (with_reducible apply Pks.cons; focus ((repeat (first | with_reducible exact Pk.here | with_reducible apply Pk.there)); done)) | (refine Pks.cons Pk.here ?_))) rfl rfl (by decide) (by exact Nat.le_of_ble_eq_true rfl) (by first | decide | omega) (fun r w1 hq => ?_) (fun E q w1 hq => hq.elim)
        obtain ⟨rfl, rfl⟩ := hq
        dsimp only [wM, PoM, List.cons_append, List.nil_append, Option.toList_some, Option.toList_none]
        rw [it_]
        refine g_iconst (v := 2) X dX3_sealIt_57 rfl ?_
        refine g_iadd X dX3_sealIt_58 ?_
        refine g_iload_n X dX3_sealIt_59 rfl rfl ?_
        refine g_iast (17 + 3 * t' + 2) X dX3_sealIt_60 (by repeat (first | with_reducible exact Rp.here | with_reducible apply Rp.there)) (nIp2 _) (by omega) ?_
        refine g_iconst (v := 0) X dX3_sealIt_61 rfl ?_
        refine is_5_3n X dX3_sealIt_62 rfl rfl ?_
        refine g_iconst (v := 0) X dX3_sealIt_63 rfl ?_
        refine is_5_4 X dX3_sealIt_64 rfl ?_
        exact L (sT S).length 0 (by omega)
      · have h3 : sA S = none := by have := (oI_none hAb).mp c_40; cases ha : sA S <;> simp [ha] at this ⊢
        obtain rfl := hR2.trans (if_pos h3)
        refine g_aload_n X dX3_sealIt_43 rfl rfl ?_
        refine g_iconst (v := 3) X dX3_sealIt_44 rfl ?_
        refine g_callV X dX3_sealIt_45 mv_X3_75 (c_X3_throwing hB) rfl cl_X3 (by repeat (first | with_reducible exact Rc.pt | with_reducible apply Rc.there)) (by repeat (first | with_reducible exact Pks.nil | (with_reducible refine Pks.pure (by assumption) ?_) | (with_reducible apply Pks.cons; focus ((repeat (first | with_reducible exact Pk.here | with_reducible apply Pk.there)); done)) | (refine Pks.cons Pk.here ?_))) rfl rfl (by decide) (by exact Nat.le_of_ble_eq_true rfl) (by first | decide | omega) (fun r w1 hq => ?_) (fun E q w1 hq => hq.elim)
        obtain ⟨rfl, rfl⟩ := hq
        dsimp only [wM, PoM, List.cons_append, List.nil_append, Option.toList_some, Option.toList_none]
        exact g_iret X Y dX3_sealIt_48 (rfl) (⟨_, 3, rfl, rfl, rfl, hE⟩) (Pks.tail (rest := _) (by repeat (first | with_reducible exact Pks.nil | (with_reducible refine Pks.pure (by assumption) ?_) | (with_reducible apply Pks.cons; focus ((repeat (first | with_reducible exact Pk.here | with_reducible apply Pk.there)); done)) | (refine Pks.cons Pk.here ?_))))
    · obtain rfl := hR1.trans (if_pos h2)
      refine g_aload_n X dX3_sealIt_0 rfl rfl ?_
      refine g_iload_n X dX3_sealIt_1 rfl rfl ?_
      refine g_callV X dX3_sealIt_2 mv_X3_95 (c_X3_isTrader hB hT (by omega)) rfl cl_X3 (by repeat (first | with_reducible exact Rc.pt | with_reducible apply Rc.there)) (by repeat (first | with_reducible exact Pks.nil | (with_reducible refine Pks.pure (by assumption) ?_) | (with_reducible apply Pks.cons; focus ((repeat (first | with_reducible exact Pk.here | with_reducible apply Pk.there)); done)) | (refine Pks.cons Pk.here ?_))) rfl rfl (by decide) (by exact Nat.le_of_ble_eq_true rfl) (by first | decide | omega) (fun r w1 hq => ?_) (fun E q w1 hq => hq.elim)
      obtain ⟨rfl, rfl⟩ := hq
      dsimp only [wM, PoM, List.cons_append, List.nil_append, Option.toList_some, Option.toList_none]
      rw [bP_t h1]
      refine g_if_ne (tgt := 14) X dX3_sealIt_5 (by decide) (fun c_5 => ?_) (fun c_5 => absurd c_5 (by decide))
      refine g_iload_n X dX3_sealIt_14 rfl rfl ?_
      refine g_i2l X dX3_sealIt_15 rfl ?_
      refine g_lconst (v := 1) X dX3_sealIt_16 rfl ?_
      refine g_ldc2 X dX3_sealIt_17 q2800 ?_
      refine g_callS X dX3_sealIt_20 ms_X3_51 (c_X3_in hB) rfl (by repeat (first | with_reducible exact Pks.nil | (with_reducible refine Pks.pure (by assumption) ?_) | (with_reducible apply Pks.cons; focus ((repeat (first | with_reducible exact Pk.here | with_reducible apply Pk.there)); done)) | (refine Pks.cons Pk.here ?_))) rfl rfl (by decide) (by exact Nat.le_of_ble_eq_true rfl) (by first | decide | omega) (fun r w1 hq => ?_) (fun E q w1 hq => hq.elim)
      obtain ⟨rfl, rfl⟩ := hq
      dsimp only [wM, PoM, List.cons_append, List.nil_append, Option.toList_some, Option.toList_none]
      rw [inL (j := 1) (k := 999) (by decide) (by decide), bP_f h2]
      refine g_if_ne (tgt := 32) X dX3_sealIt_23 (by decide) (fun c_23 => absurd c_23 (by decide)) (fun c_23 => ?_)
      refine g_aload_n X dX3_sealIt_26 rfl rfl ?_
      refine g_iconst (v := 2) X dX3_sealIt_27 rfl ?_
      refine g_callV X dX3_sealIt_28 mv_X3_75 (c_X3_throwing hB) rfl cl_X3 (by repeat (first | with_reducible exact Rc.pt | with_reducible apply Rc.there)) (by repeat (first | with_reducible exact Pks.nil | (with_reducible refine Pks.pure (by assumption) ?_) | (with_reducible apply Pks.cons; focus ((repeat (first | with_reducible exact Pk.here | with_reducible apply Pk.there)); done)) | (refine Pks.cons Pk.here ?_))) rfl rfl (by decide) (by exact Nat.le_of_ble_eq_true rfl) (by first | decide | omega) (fun r w1 hq => ?_) (fun E q w1 hq => hq.elim)
      obtain ⟨rfl, rfl⟩ := hq
      dsimp only [wM, PoM, List.cons_append, List.nil_append, Option.toList_some, Option.toList_none]
      exact g_iret X Y dX3_sealIt_31 (rfl) (⟨_, 2, rfl, rfl, rfl, hE⟩) (Pks.tail (rest := _) (by repeat (first | with_reducible exact Pks.nil | (with_reducible refine Pks.pure (by assumption) ?_) | (with_reducible apply Pks.cons; focus ((repeat (first | with_reducible exact Pk.here | with_reducible apply Pk.there)); done)) | (refine Pks.cons Pk.here ?_))))
  · obtain rfl := hR.symm.trans (if_pos h1)
    refine g_aload_n X dX3_sealIt_0 rfl rfl ?_
    refine g_iload_n X dX3_sealIt_1 rfl rfl ?_
    refine g_callV X dX3_sealIt_2 mv_X3_95 (c_X3_isTrader hB hT (by omega)) rfl cl_X3 (by repeat (first | with_reducible exact Rc.pt | with_reducible apply Rc.there)) (by repeat (first | with_reducible exact Pks.nil | (with_reducible refine Pks.pure (by assumption) ?_) | (with_reducible apply Pks.cons; focus ((repeat (first | with_reducible exact Pk.here | with_reducible apply Pk.there)); done)) | (refine Pks.cons Pk.here ?_))) rfl rfl (by decide) (by exact Nat.le_of_ble_eq_true rfl) (by first | decide | omega) (fun r w1 hq => ?_) (fun E q w1 hq => hq.elim)
    obtain ⟨rfl, rfl⟩ := hq
    dsimp only [wM, PoM, List.cons_append, List.nil_append, Option.toList_some, Option.toList_none]
    rw [bP_f h1]
    refine g_if_ne (tgt := 14) X dX3_sealIt_5 (by decide) (fun c_5 => absurd c_5 (by decide)) (fun c_5 => ?_)
    refine g_aload_n X dX3_sealIt_8 rfl rfl ?_
    refine g_iconst (v := 1) X dX3_sealIt_9 rfl ?_
    refine g_callV X dX3_sealIt_10 mv_X3_75 (c_X3_throwing hB) rfl cl_X3 (by repeat (first | with_reducible exact Rc.pt | with_reducible apply Rc.there)) (by repeat (first | with_reducible exact Pks.nil | (with_reducible refine Pks.pure (by assumption) ?_) | (with_reducible apply Pks.cons; focus ((repeat (first | with_reducible exact Pk.here | with_reducible apply Pk.there)); done)) | (refine Pks.cons Pk.here ?_))) rfl rfl (by decide) (by exact Nat.le_of_ble_eq_true rfl) (by first | decide | omega) (fun r w1 hq => ?_) (fun E q w1 hq => hq.elim)
    obtain ⟨rfl, rfl⟩ := hq
    dsimp only [wM, PoM, List.cons_append, List.nil_append, Option.toList_some, Option.toList_none]
    exact g_iret X Y dX3_sealIt_13 (rfl) (⟨_, 1, rfl, rfl, rfl, hE⟩) (Pks.tail (rest := _) (by repeat (first | with_reducible exact Pks.nil | (with_reducible refine Pks.pure (by assumption) ?_) | (with_reducible apply Pks.cons; focus ((repeat (first | with_reducible exact Pk.here | with_reducible apply Pk.there)); done)) | (refine Pks.cons Pk.here ?_))))
end MODEL
