/-! THE MODEL: changes with what can be undone -/
set_option maxRecDepth 100000
/-- the states that an undoing comes back to, the last one last -/
def EnP (P : Nat → Int32) (L : List SS) : Prop := L.length ≤ 8 ∧ ∀ k S, L[k]? = some S → Enc (fun q => P (155 * k + q)) S
def pushP (L : List SS) (S : SS) : List SS := (if L.length = 8 then L.tail else L) ++ [S]
abbrev mutP (R : Rs) (L : List SS) (S : SS) : List SS := if R.1 = 0 then pushP L S else L
section MODEL
variable {B : Bt} {m : Nat} {ad : Nat → Nat} {sv ch ea fa th pm lm cm p0 s0 iw : Int32} {M A P : Nat → Int32} {S : SS} {L : List SS} {R : Rs}
abbrev w4 (m : Nat) (ad : Nat → Nat) (sv ch ea fa th pm lm cm p0 s0 iw : Int32) (M A P : Nat → Int32) : List An := [pt m (mO ad sv ch ea fa th pm lm cm p0 s0 iw), pt (ad 0) (oA .int 155 M), pt (ad 1) (oA .int 155 A), pt (ad 3) (oA .int 1240 P)]
theorem c_X3_starts (hB : Bs B) : Tr B yX3_starts (Cond.code yX3_starts cX3_starts 2 none) (rmd 1 0 0) [.ref m] (w4 m ad sv ch ea fa th pm lm cm p0 s0 iw M A P) (fun r w => r = none ∧ w = w4 m ad sv ch ea fa 0 pm lm cm p0 s0 iw M (cpu A M 0 155) P) nox := by
  refine tr_of hB (by decide +kernel) rfl ?_
  intro Γ X Y
  refine g_eq (ls' := [.val (.ref m), .unset]) rfl rfl ?_
  have L : ∀ j k, k + j = 155 → G B Γ 0 0 (w4 m ad sv ch ea fa 0 pm lm cm p0 s0 iw M (cpu A M 0 k) P) 7 [.val (.ref m), .val (.int (nI k))] [] := by
    intro j
    induction j with
    | zero =>
      intro k hk
      obtain rfl : k = 155 := by omega
      refine g_iload_n X dX3_starts_7 rfl rfl ?_
      refine g_sipush (v := 155) X dX3_starts_8 rfl ?_
      refine g_icmp_ge (tgt := 32) X dX3_starts_11 (by decide) (fun c_11 => ?_) (fun c_11 => absurd (nI_le (a := 155) (by omega) (by omega)) c_11)
      exact g_vret X Y dX3_starts_32 (⟨rfl, rfl⟩) (Pks.tail (rest := _) (by repeat (first | with_reducible exact Pks.nil | (with_reducible refine Pks.pure (by assumption) ?_) | (with_reducible apply Pks.cons; focus ((repeat (first | with_reducible exact Pk.here | with_reducible apply Pk.there)); done)) | (refine Pks.cons Pk.here ?_))))
    | succ j ih =>
      intro k hk
      refine g_iload_n X dX3_starts_7 rfl rfl ?_
      refine g_sipush (v := 155) X dX3_starts_8 rfl ?_
      refine g_icmp_ge (tgt := 32) X dX3_starts_11 (by decide) (fun c_11 => absurd c_11 (nI_ge (b := 155) (by omega) (by omega))) (fun c_11 => ?_)
      refine g_aload_n X dX3_starts_14 rfl rfl ?_
      refine g_getf X dX3_starts_15 fl_X3_13 (by repeat (first | with_reducible exact Pk.here | with_reducible apply Pk.there)) (by exact rfl) ?_
      refine g_iload_n X dX3_starts_18 rfl rfl ?_
      refine g_aload_n X dX3_starts_19 rfl rfl ?_
      refine g_getf X dX3_starts_20 fl_X3_9 (by repeat (first | with_reducible exact Pk.here | with_reducible apply Pk.there)) (by exact rfl) ?_
      refine g_iload_n X dX3_starts_23 rfl rfl ?_
      refine g_iald (k) X dX3_starts_24 (by repeat (first | with_reducible exact Pk.here | with_reducible apply Pk.there)) (rfl) (by omega) (by exact rfl) ?_
      refine g_iast (k) X dX3_starts_25 (by repeat (first | with_reducible exact Rp.here | with_reducible apply Rp.there)) (rfl) (by omega) ?_
      refine ii_2_1 (v := nI (k + 1)) X dX3_starts_26 (nI_1 k) rfl ?_
      refine g_goto (tgt := 7) X dX3_starts_29 (by decide) ?_
      rw [cpu_st (Nat.zero_le k) rfl]
      exact ih (k + 1) (by omega)
  refine g_aload_n X dX3_starts_0 rfl rfl ?_
  refine g_iconst (v := 0) X dX3_starts_1 rfl ?_
  refine pf_20_8 X dX3_starts_2 fl_X3_45 (by repeat (first | with_reducible exact Rp.here | with_reducible apply Rp.there)) rfl rfl ?_
  refine g_iconst (v := 0) X dX3_starts_5 rfl ?_
  refine is_2_1n X dX3_starts_6 rfl rfl ?_
  have h := L 155 0 rfl
  rw [cpu_0] at h
  exact h
theorem EnP.push {P P' : Nat → Int32} {L : List SS} {S : SS} {A : Nat → Int32} (h : EnP P L) (hl : L.length < 8) (hA : Enc A S) (e1 : ∀ q, q < 155 * L.length → P' q = P q) (e2 : ∀ q, q < 155 → P' (155 * L.length + q) = A q) : EnP P' (L ++ [S]) := by
  have hl2 : (L ++ [S]).length = L.length + 1 := by simp
  refine ⟨by omega, fun k S' hk => ?_⟩
  have hk2 := (List.getElem?_eq_some_iff.mp hk).1
  by_cases he : k = L.length
  · subst he
    simp only [List.getElem?_concat_length, Option.some.injEq] at hk
    subst hk
    exact hA.cg fun i hi => e2 i hi
  · rw [List.getElem?_append_left (by omega)] at hk
    exact (h.2 k S' hk).cg fun i hi => e1 _ (by omega)
theorem EnP.tail {P P' : Nat → Int32} {L : List SS} (h : EnP P L) (e1 : ∀ q, q < 1085 → P' q = P (q + 155)) : EnP P' L.tail := by
  have hl2 : L.tail.length = L.length - 1 := List.length_tail
  have h8 := h.1
  refine ⟨by omega, fun k S' hk => ?_⟩
  have hk2 := (List.getElem?_eq_some_iff.mp hk).1
  rw [List.getElem?_tail] at hk
  refine (h.2 _ S' hk).cg fun i hi => ?_
  rw [e1 _ (by omega)]
  exact congrArg P (by omega)
theorem c_X3_changed (hB : Bs B) {So : SS} (hA : Enc A So) (hP : EnP P L) (hc : ch = nI L.length) (hth : th = nI R.1) (hR : R.1 < 2 ^ 31) : Tr B yX3_changed (Cond.code yX3_changed cX3_changed 3 (some .int)) (rmd 1 0 0) [.ref m, .int R.2.1] (w4 m ad sv ch ea fa th pm lm cm p0 s0 iw M A P) (fun r w => ∃ ch' P', r = some (.int R.2.1) ∧ w = w4 m ad sv ch' ea fa th pm lm cm p0 s0 iw M A P' ∧ ch' = nI (mutP R L So).length ∧ EnP P' (mutP R L So)) nox := by
  subst hc hth
  have hl := hP.1
  refine tr_of hB (by decide +kernel) rfl ?_
  intro Γ X Y
  refine g_eq (ls' := [.val (.ref m), .val (.int R.2.1), .unset]) rfl rfl ?_
  by_cases h0 : R.1 = 0
  · have hm : mutP R L So = pushP L So := if_pos h0
    have Z : ∀ (L1 : List SS) (P1 : Nat → Int32) (x2 : Slot), LZ x2 → EnP P1 L1 → L1.length < 8 → pushP L So = L1 ++ [So] → G B Γ 0 0 (w4 m ad sv (nI L1.length) ea fa (nI R.1) pm lm cm p0 s0 iw M A P1) 59 [.val (.ref m), .val (.int R.2.1), x2] [] := by
      intro L1 P1 x2 h2 hP1 hl1 he
      rw [he] at hm
      have hlen : (L1 ++ [So]).length = L1.length + 1 := by simp
      have K : ∀ j k, k + j = 155 → G B Γ 0 0 (w4 m ad sv (nI L1.length) ea fa (nI R.1) pm lm cm p0 s0 iw M A (cpu P1 (fun q => A (q - 155 * L1.length)) (155 * L1.length) (155 * L1.length + k))) 61 [.val (.ref m), .val (.int R.2.1), .val (.int (nI k))] [] := by
        intro j
        induction j with
        | zero =>
          intro k hk
          obtain rfl : k = 155 := by omega
          have f1 := hP1.push (P' := cpu P1 (fun q => A (q - 155 * L1.length)) (155 * L1.length) (155 * L1.length + 155)) (A := A) (S := So) hl1 hA (fun q hq => cpu_lo hq) (fun q hq => (cpu_in (by omega) (by omega)).trans (congrArg A (by omega)))
          refine g_iload_n X dX3_changed_61 rfl rfl ?_
          refine g_sipush (v := 155) X dX3_changed_62 rfl ?_
          refine g_icmp_ge (tgt := 95) X dX3_changed_65 (by decide) (fun c_65 => ?_) (fun c_65 => absurd (nI_le (a := 155) (by omega) (by omega)) c_65)
          refine g_aload_n X dX3_changed_95 rfl rfl ?_
          refine g_dup X dX3_changed_96 rfl ?_
          refine g_getf X dX3_changed_97 fl_X3_48 (by repeat (first | with_reducible exact Pk.here | with_reducible apply Pk.there)) (by exact rfl) ?_
          refine g_iconst (v := 1) X dX3_changed_100 rfl ?_
          refine g_iadd X dX3_changed_101 ?_
          rw [nI_1]
          refine pf_20_5 X dX3_changed_102 fl_X3_48 (by repeat (first | with_reducible exact Rp.here | with_reducible apply Rp.there)) rfl rfl ?_
          refine g_iload_n X dX3_changed_105 rfl rfl ?_
          exact g_iret X Y dX3_changed_106 (rfl) (⟨_, _, rfl, rfl, by rw [hm, hlen], by rw [hm]; exact f1⟩) (Pks.tail (rest := _) (by repeat (first | with_reducible exact Pks.nil | (with_reducible refine Pks.pure (by assumption) ?_) | (with_reducible apply Pks.cons; focus ((repeat (first | with_reducible exact Pk.here | with_reducible apply Pk.there)); done)) | (refine Pks.cons Pk.here ?_))))
        | succ j ih =>
          intro k hk
          refine g_iload_n X dX3_changed_61 rfl rfl ?_
          refine g_sipush (v := 155) X dX3_changed_62 rfl ?_
          refine g_icmp_ge (tgt := 95) X dX3_changed_65 (by decide) (fun c_65 => absurd c_65 (nI_ge (b := 155) (by omega) (by omega))) (fun c_65 => ?_)
          refine g_aload_n X dX3_changed_68 rfl rfl ?_
          refine g_getf X dX3_changed_69 fl_X3_19 (by repeat (first | with_reducible exact Pk.here | with_reducible apply Pk.there)) (by exact rfl) ?_
          refine g_sipush (v := 155) X dX3_changed_72 rfl ?_
          refine g_aload_n X dX3_changed_75 rfl rfl ?_
          refine g_getf X dX3_changed_76 fl_X3_48 (by repeat (first | with_reducible exact Pk.here | with_reducible apply Pk.there)) (by exact rfl) ?_
          refine g_imul X dX3_changed_79 ?_
          rw [show (155 : Int32) = nI 155 by decide, pk_mul]
          refine g_iload_n X dX3_changed_80 rfl rfl ?_
          refine g_iadd X dX3_changed_81 ?_
          rw [nI_add]
          refine g_aload_n X dX3_changed_82 rfl rfl ?_
          refine g_getf X dX3_changed_83 fl_X3_13 (by repeat (first | with_reducible exact Pk.here | with_reducible apply Pk.there)) (by exact rfl) ?_
          refine g_iload_n X dX3_changed_86 rfl rfl ?_
          refine g_iald (k) X dX3_changed_87 (by repeat (first | with_reducible exact Pk.here | with_reducible apply Pk.there)) (rfl) (by omega) (by exact rfl) ?_
          refine g_iast (155 * L1.length + k) X dX3_changed_88 (by repeat (first | with_reducible exact Rp.here | with_reducible apply Rp.there)) (rfl) (by omega) ?_
          refine ii_3_2 (v := nI (k + 1)) X dX3_changed_89 (nI_1 k) rfl ?_
          refine g_goto (tgt := 61) X dX3_changed_92 (by decide) ?_
          rw [cpu_st (Nat.le_add_right _ _) (by rw [Nat.add_sub_cancel_left])]
          exact ih (k + 1) (by omega)
      refine g_iconst (v := 0) X dX3_changed_59 rfl ?_
      refine is_3_2n X dX3_changed_60 rfl (by exact st_lz [_, _] [] h2 rfl) ?_
      have h9 := K 155 0 rfl
      rw [Nat.add_zero, cpu_0] at h9
      exact h9
    by_cases h8 : L.length = 8
    · have hp : pushP L So = L.tail ++ [So] := by unfold pushP; rw [if_pos h8]
      have ht : L.tail.length = L.length - 1 := List.length_tail
      have K : ∀ j k, k + j = 1085 → G B Γ 0 0 (w4 m ad sv (nI L.length) ea fa (nI R.1) pm lm cm p0 s0 iw M A (cpu P (fun q => P (q + 155)) 0 k)) 20 [.val (.ref m), .val (.int R.2.1), .val (.int (nI k))] [] := by
        intro j
        induction j with
        | zero =>
          intro k hk
          obtain rfl : k = 1085 := by omega
          have f1 := hP.tail (P' := cpu P (fun q => P (q + 155)) 0 1085) fun q hq => cpu_in (Nat.zero_le _) hq
          refine g_iload_n X dX3_changed_20 rfl rfl ?_
          refine g_sipush (v := 1085) X dX3_changed_21 rfl ?_
          refine g_icmp_ge (tgt := 49) X dX3_changed_24 (by decide) (fun c_24 => ?_) (fun c_24 => absurd (nI_le (a := 1085) (by omega) (by omega)) c_24)
          refine g_aload_n X dX3_changed_49 rfl rfl ?_
          refine g_dup X dX3_changed_50 rfl ?_
          refine g_getf X dX3_changed_51 fl_X3_48 (by repeat (first | with_reducible exact Pk.here | with_reducible apply Pk.there)) (by exact rfl) ?_
          refine g_iconst (v := 1) X dX3_changed_54 rfl ?_
          refine g_isub X dX3_changed_55 ?_
          rw [nI_dec (by omega), ← ht]
          refine pf_20_5 X dX3_changed_56 fl_X3_48 (by repeat (first | with_reducible exact Rp.here | with_reducible apply Rp.there)) rfl rfl ?_
          exact Z L.tail _ _ LZ.i f1 (by omega) hp
        | succ j ih =>
          intro k hk
          refine g_iload_n X dX3_changed_20 rfl rfl ?_
          refine g_sipush (v := 1085) X dX3_changed_21 rfl ?_
          refine g_icmp_ge (tgt := 49) X dX3_changed_24 (by decide) (fun c_24 => absurd c_24 (nI_ge (b := 1085) (by omega) (by omega))) (fun c_24 => ?_)
          refine g_aload_n X dX3_changed_27 rfl rfl ?_
          refine g_getf X dX3_changed_28 fl_X3_19 (by repeat (first | with_reducible exact Pk.here | with_reducible apply Pk.there)) (by exact rfl) ?_
          refine g_iload_n X dX3_changed_31 rfl rfl ?_
          refine g_aload_n X dX3_changed_32 rfl rfl ?_
          refine g_getf X dX3_changed_33 fl_X3_19 (by repeat (first | with_reducible exact Pk.here | with_reducible apply Pk.there)) (by exact rfl) ?_
          refine g_iload_n X dX3_changed_36 rfl rfl ?_
          refine g_sipush (v := 155) X dX3_changed_37 rfl ?_
          refine g_iadd X dX3_changed_40 ?_
          rw [show (155 : Int32) = nI 155 by decide, nI_add]
          refine g_iald (k + 155) X dX3_changed_41 (by repeat (first | with_reducible exact Pk.here | with_reducible apply Pk.there)) (rfl) (by omega) (by exact cpu_hi (by omega)) ?_
          refine g_iast (k) X dX3_changed_42 (by repeat (first | with_reducible exact Rp.here | with_reducible apply Rp.there)) (rfl) (by omega) ?_
          refine ii_3_2 (v := nI (k + 1)) X dX3_changed_43 (nI_1 k) rfl ?_
          refine g_goto (tgt := 20) X dX3_changed_46 (by decide) ?_
          rw [cpu_st (Nat.zero_le _) rfl]
          exact ih (k + 1) (by omega)
      refine g_aload_n X dX3_changed_0 rfl rfl ?_
      refine g_getf X dX3_changed_1 fl_X3_45 (by repeat (first | with_reducible exact Pk.here | with_reducible apply Pk.there)) (by exact rfl) ?_
      refine g_if_le (tgt := 9) X dX3_changed_4 (by decide) (fun c_4 => ?_) (fun c_4 => absurd ((by rw [h0]; decide : nI R.1 ≤ 0)) c_4)
      refine g_aload_n X dX3_changed_9 rfl rfl ?_
      refine g_getf X dX3_changed_10 fl_X3_48 (by repeat (first | with_reducible exact Pk.here | with_reducible apply Pk.there)) (by exact rfl) ?_
      refine g_bipush (v := 8) X dX3_changed_13 rfl ?_
      refine g_icmp_ne (tgt := 59) X dX3_changed_15 (by decide) (fun c_15 => absurd c_15 (fun q => q (by rw [h8]; rfl))) (fun c_15 => ?_)
      refine g_iconst (v := 0) X dX3_changed_18 rfl ?_
      refine is_3_2n X dX3_changed_19 rfl rfl ?_
      have h9 := K 1085 0 rfl
      rw [cpu_0] at h9
      exact h9
    · have hp : pushP L So = L ++ [So] := by unfold pushP; rw [if_neg h8]
      refine g_aload_n X dX3_changed_0 rfl rfl ?_
      refine g_getf X dX3_changed_1 fl_X3_45 (by repeat (first | with_reducible exact Pk.here | with_reducible apply Pk.there)) (by exact rfl) ?_
      refine g_if_le (tgt := 9) X dX3_changed_4 (by decide) (fun c_4 => ?_) (fun c_4 => absurd ((by rw [h0]; decide : nI R.1 ≤ 0)) c_4)
      refine g_aload_n X dX3_changed_9 rfl rfl ?_
      refine g_getf X dX3_changed_10 fl_X3_48 (by repeat (first | with_reducible exact Pk.here | with_reducible apply Pk.there)) (by exact rfl) ?_
      refine g_bipush (v := 8) X dX3_changed_13 rfl ?_
      refine g_icmp_ne (tgt := 59) X dX3_changed_15 (by decide) (fun c_15 => ?_) (fun c_15 => absurd c_15 (fun q => h8 (nI_inj (b := 8) (by omega) (by decide) q)))
      exact Z L P _ LZ.u hP (by omega) hp
  · have hm : mutP R L So = L := if_neg h0
    refine g_aload_n X dX3_changed_0 rfl rfl ?_
    refine g_getf X dX3_changed_1 fl_X3_45 (by repeat (first | with_reducible exact Pk.here | with_reducible apply Pk.there)) (by exact rfl) ?_
    refine g_if_le (tgt := 9) X dX3_changed_4 (by decide) (fun c_4 => absurd c_4 (nI_nle (by omega) hR)) (fun c_4 => ?_)
    refine g_iload_n X dX3_changed_7 rfl rfl ?_
    exact g_iret X Y dX3_changed_8 (rfl) (⟨_, _, rfl, rfl, by rw [hm], by rw [hm]; exact hP⟩) (Pks.tail (rest := _) (by repeat (first | with_reducible exact Pks.nil | (with_reducible refine Pks.pure (by assumption) ?_) | (with_reducible apply Pks.cons; focus ((repeat (first | with_reducible exact Pk.here | with_reducible apply Pk.there)); done)) | (refine Pks.cons Pk.here ?_))))
/-- the model behind a change with the outcome R -/
abbrev PfM (m : Nat) (ad : Nat → Nat) (sv ea fa pm lm cm p0 s0 iw : Int32) (S : SS) (L : List SS) (R : Rs) : Option Value → List An → Prop := fun r w => ∃ ch' q M' A' P', r = some (.int R.2.1) ∧ w = w4 m ad sv ch' ea fa q pm lm cm p0 s0 iw M' A' P' ∧ q = nI R.1 ∧ Enc M' R.2.2 ∧ ch' = nI (mutP R L S).length ∧ EnP P' (mutP R L S)
theorem Enc.aside {M A : Nat → Int32} {S : SS} (h : Enc M S) : Enc (cpu A M 0 155) S := h.cg fun i hi => cpu_in (Nat.zero_le _) hi
theorem code_lt : ∀ (R : Rs), R.1 < 5 → R.1 < 2 ^ 31 := fun R h => Nat.lt_trans h (by decide)
theorem add_c {c w : Int32} {S : SS} : (addS c w S).1 < 5 := by
  unfold addS
  repeat' split
  all_goals first | exact (by decide : 0 < 5) | exact (by decide : 1 < 5) | exact (by decide : 2 < 5) | exact (by decide : 3 < 5) | exact (by decide : 4 < 5)
theorem pl_c {t u p : Int32} {b : Bool} {S : SS} : (plS t b u p S).1 < 5 := by
  unfold plS
  repeat' split
  all_goals first | exact (by decide : 0 < 5) | exact (by decide : 1 < 5) | exact (by decide : 2 < 5) | exact (by decide : 3 < 5) | exact (by decide : 4 < 5)
theorem ca_c {x : Int32} {S : SS} : (caS x S).1 < 5 := by
  unfold caS
  repeat' split
  all_goals first | exact (by decide : 0 < 5) | exact (by decide : 1 < 5) | exact (by decide : 2 < 5) | exact (by decide : 3 < 5) | exact (by decide : 4 < 5)
theorem ag_c {s y u p d : Int32} {S : SS} : (agS s y u p d S).1 < 5 := by
  unfold agS
  repeat' split
  all_goals first | exact (by decide : 0 < 5) | exact (by decide : 1 < 5) | exact (by decide : 2 < 5) | exact (by decide : 3 < 5) | exact (by decide : 4 < 5)
theorem ad_c {d : Int32} {S : SS} : (adS d S).1 < 5 := by
  unfold adS
  repeat' split
  all_goals first | exact (by decide : 0 < 5) | exact (by decide : 1 < 5) | exact (by decide : 2 < 5) | exact (by decide : 3 < 5) | exact (by decide : 4 < 5)
theorem op_c {r v : Int32} {S : SS} : (opS r v S).1 < 5 := by
  unfold opS
  repeat' split
  all_goals first | exact (by decide : 0 < 5) | exact (by decide : 1 < 5) | exact (by decide : 2 < 5) | exact (by decide : 3 < 5) | exact (by decide : 4 < 5)
theorem se_c {t a : Int32} {S : SS} : (seS t a S).1 < 5 := by
  unfold seS
  repeat' split
  all_goals first | exact (by decide : 0 < 5) | exact (by decide : 1 < 5) | exact (by decide : 2 < 5) | exact (by decide : 3 < 5) | exact (by decide : 4 < 5)
theorem cl_c {S : SS} : (clS S).1 < 5 := by
  unfold clS
  repeat' split
  all_goals first | exact (by decide : 0 < 5) | exact (by decide : 1 < 5) | exact (by decide : 2 < 5) | exact (by decide : 3 < 5) | exact (by decide : 4 < 5)
theorem c_X3_addTrader (hB : Bs B) {c w : Int32} (hE : Enc M S) (hL : EnP P L) (hc : ch = nI L.length)  : Tr B yX3_addTrader (Cond.code yX3_addTrader cX3_addTrader 3 (some .int)) (rmd 6 0 0) [.ref m, .int c, .int w] (w4 m ad sv ch ea fa th pm lm cm p0 s0 iw M A P) (PfM m ad sv ea fa pm lm cm p0 s0 iw S L (addS c w S)) nox := by
  refine tr_of hB (by decide +kernel) rfl ?_
  intro Γ X Y
  refine g_eq (ls' := [.val (.ref m), .val (.int c), .val (.int w)]) rfl rfl ?_
  refine g_aload_n X dX3_addTrader_0 rfl rfl ?_
  refine g_callV X dX3_addTrader_1 mv_X3_81 (c_X3_starts hB) rfl cl_X3 (by repeat (first | with_reducible exact Rc.pt | with_reducible apply Rc.there)) (by repeat (first | with_reducible exact Pks.nil | (with_reducible refine Pks.pure (by assumption) ?_) | (with_reducible apply Pks.cons; focus ((repeat (first | with_reducible exact Pk.here | with_reducible apply Pk.there)); done)) | (refine Pks.cons Pk.here ?_))) rfl rfl (by decide) (by exact Nat.le_of_ble_eq_true rfl) (by first | decide | omega) (fun r w1 hq => ?_) (fun E q w1 hq => hq.elim)
  obtain ⟨rfl, rfl⟩ := hq
  dsimp only [wM, w4, PoM, PfM, List.cons_append, List.nil_append, Option.toList_some, Option.toList_none]
  refine g_aload_n X dX3_addTrader_4 rfl rfl ?_
  refine g_aload_n X dX3_addTrader_5 rfl rfl ?_
  refine g_iload_n X dX3_addTrader_6 rfl rfl ?_
  refine g_iload_n X dX3_addTrader_7 rfl rfl ?_
  refine g_callV X dX3_addTrader_8 mv_X3_84 (c_X3_traderIt hB hE rfl) rfl cl_X3 (by repeat (first | with_reducible exact Rc.pt | with_reducible apply Rc.there)) (by repeat (first | with_reducible exact Pks.nil | (with_reducible refine Pks.pure (by assumption) ?_) | (with_reducible apply Pks.cons; focus ((repeat (first | with_reducible exact Pk.here | with_reducible apply Pk.there)); done)) | (refine Pks.cons Pk.here ?_))) rfl rfl (by decide) (by exact Nat.le_of_ble_eq_true rfl) (by first | decide | omega) (fun r w1 hq => ?_) (fun E q w1 hq => hq.elim)
  obtain ⟨M', q, rfl, rfl, hq, hE'⟩ := hq
  dsimp only [wM, w4, PoM, PfM, List.cons_append, List.nil_append, Option.toList_some, Option.toList_none]
  refine g_callV X dX3_addTrader_11 mv_X3_88 (c_X3_changed hB (R := addS c w S) hE.aside hL hc hq (code_lt _ add_c)) rfl cl_X3 (by repeat (first | with_reducible exact Rc.pt | with_reducible apply Rc.there)) (by repeat (first | with_reducible exact Pks.nil | (with_reducible refine Pks.pure (by assumption) ?_) | (with_reducible apply Pks.cons; focus ((repeat (first | with_reducible exact Pk.here | with_reducible apply Pk.there)); done)) | (refine Pks.cons Pk.here ?_))) rfl rfl (by decide) (by exact Nat.le_of_ble_eq_true rfl) (by first | decide | omega) (fun r w1 hq => ?_) (fun E q w1 hq => hq.elim)
  obtain ⟨ch', P', rfl, rfl, hc', hP'⟩ := hq
  dsimp only [wM, w4, PoM, PfM, List.cons_append, List.nil_append, Option.toList_some, Option.toList_none]
  exact g_iret X Y dX3_addTrader_14 (rfl) (⟨_, _, _, _, _, rfl, rfl, hq, hE', hc', hP'⟩) (Pks.tail (rest := _) (by repeat (first | with_reducible exact Pks.nil | (with_reducible refine Pks.pure (by assumption) ?_) | (with_reducible apply Pks.cons; focus ((repeat (first | with_reducible exact Pk.here | with_reducible apply Pk.there)); done)) | (refine Pks.cons Pk.here ?_))))
theorem c_X3_placeBid (hB : Bs B) {t u p : Int32} (hE : Enc M S) (hL : EnP P L) (hc : ch = nI L.length) (hP : posO (sO S)) (hN : sN S 2 < 2 ^ 30) (hb : boT (sT S)) : Tr B yX3_placeBid (Cond.code yX3_placeBid cX3_placeBid 4 (some .int)) (rmd 6 0 0) [.ref m, .int t, .int u, .int p] (w4 m ad sv ch ea fa th pm lm cm p0 s0 iw M A P) (PfM m ad sv ea fa pm lm cm p0 s0 iw S L (plS t true u p S)) nox := by
  refine tr_of hB (by decide +kernel) rfl ?_
  intro Γ X Y
  refine g_eq (ls' := [.val (.ref m), .val (.int t), .val (.int u), .val (.int p)]) rfl rfl ?_
  refine g_aload_n X dX3_placeBid_0 rfl rfl ?_
  refine g_callV X dX3_placeBid_1 mv_X3_81 (c_X3_starts hB) rfl cl_X3 (by repeat (first | with_reducible exact Rc.pt | with_reducible apply Rc.there)) (by repeat (first | with_reducible exact Pks.nil | (with_reducible refine Pks.pure (by assumption) ?_) | (with_reducible apply Pks.cons; focus ((repeat (first | with_reducible exact Pk.here | with_reducible apply Pk.there)); done)) | (refine Pks.cons Pk.here ?_))) rfl rfl (by decide) (by exact Nat.le_of_ble_eq_true rfl) (by first | decide | omega) (fun r w1 hq => ?_) (fun E q w1 hq => hq.elim)
  obtain ⟨rfl, rfl⟩ := hq
  dsimp only [wM, w4, PoM, PfM, List.cons_append, List.nil_append, Option.toList_some, Option.toList_none]
  refine g_aload_n X dX3_placeBid_4 rfl rfl ?_
  refine g_aload_n X dX3_placeBid_5 rfl rfl ?_
  refine g_iload_n X dX3_placeBid_6 rfl rfl ?_
  refine g_iconst (v := 1) X dX3_placeBid_7 rfl ?_
  refine g_iload_n X dX3_placeBid_8 rfl rfl ?_
  refine g_iload_n X dX3_placeBid_9 rfl rfl ?_
  refine g_callV X dX3_placeBid_10 mv_X3_120 (c_X3_placesIt hB (b := true) hE hP hN hb rfl) rfl cl_X3 (by repeat (first | with_reducible exact Rc.pt | with_reducible apply Rc.there)) (by repeat (first | with_reducible exact Pks.nil | (with_reducible refine Pks.pure (by assumption) ?_) | (with_reducible apply Pks.cons; focus ((repeat (first | with_reducible exact Pk.here | with_reducible apply Pk.there)); done)) | (refine Pks.cons Pk.here ?_))) rfl rfl (by decide) (by exact Nat.le_of_ble_eq_true rfl) (by first | decide | omega) (fun r w1 hq => ?_) (fun E q w1 hq => hq.elim)
  obtain ⟨M', q, rfl, rfl, hq, hE'⟩ := hq
  dsimp only [wM, w4, PoM, PfM, List.cons_append, List.nil_append, Option.toList_some, Option.toList_none]
  refine g_callV X dX3_placeBid_13 mv_X3_88 (c_X3_changed hB (R := plS t true u p S) hE.aside hL hc hq (code_lt _ pl_c)) rfl cl_X3 (by repeat (first | with_reducible exact Rc.pt | with_reducible apply Rc.there)) (by repeat (first | with_reducible exact Pks.nil | (with_reducible refine Pks.pure (by assumption) ?_) | (with_reducible apply Pks.cons; focus ((repeat (first | with_reducible exact Pk.here | with_reducible apply Pk.there)); done)) | (refine Pks.cons Pk.here ?_))) rfl rfl (by decide) (by exact Nat.le_of_ble_eq_true rfl) (by first | decide | omega) (fun r w1 hq => ?_) (fun E q w1 hq => hq.elim)
  obtain ⟨ch', P', rfl, rfl, hc', hP'⟩ := hq
  dsimp only [wM, w4, PoM, PfM, List.cons_append, List.nil_append, Option.toList_some, Option.toList_none]
  exact g_iret X Y dX3_placeBid_16 (rfl) (⟨_, _, _, _, _, rfl, rfl, hq, hE', hc', hP'⟩) (Pks.tail (rest := _) (by repeat (first | with_reducible exact Pks.nil | (with_reducible refine Pks.pure (by assumption) ?_) | (with_reducible apply Pks.cons; focus ((repeat (first | with_reducible exact Pk.here | with_reducible apply Pk.there)); done)) | (refine Pks.cons Pk.here ?_))))
theorem c_X3_placeAsk (hB : Bs B) {t u p : Int32} (hE : Enc M S) (hL : EnP P L) (hc : ch = nI L.length) (hP : posO (sO S)) (hN : sN S 2 < 2 ^ 30) (hb : boT (sT S)) : Tr B yX3_placeAsk (Cond.code yX3_placeAsk cX3_placeAsk 4 (some .int)) (rmd 6 0 0) [.ref m, .int t, .int u, .int p] (w4 m ad sv ch ea fa th pm lm cm p0 s0 iw M A P) (PfM m ad sv ea fa pm lm cm p0 s0 iw S L (plS t false u p S)) nox := by
  refine tr_of hB (by decide +kernel) rfl ?_
  intro Γ X Y
  refine g_eq (ls' := [.val (.ref m), .val (.int t), .val (.int u), .val (.int p)]) rfl rfl ?_
  refine g_aload_n X dX3_placeAsk_0 rfl rfl ?_
  refine g_callV X dX3_placeAsk_1 mv_X3_81 (c_X3_starts hB) rfl cl_X3 (by repeat (first | with_reducible exact Rc.pt | with_reducible apply Rc.there)) (by repeat (first | with_reducible exact Pks.nil | (with_reducible refine Pks.pure (by assumption) ?_) | (with_reducible apply Pks.cons; focus ((repeat (first | with_reducible exact Pk.here | with_reducible apply Pk.there)); done)) | (refine Pks.cons Pk.here ?_))) rfl rfl (by decide) (by exact Nat.le_of_ble_eq_true rfl) (by first | decide | omega) (fun r w1 hq => ?_) (fun E q w1 hq => hq.elim)
  obtain ⟨rfl, rfl⟩ := hq
  dsimp only [wM, w4, PoM, PfM, List.cons_append, List.nil_append, Option.toList_some, Option.toList_none]
  refine g_aload_n X dX3_placeAsk_4 rfl rfl ?_
  refine g_aload_n X dX3_placeAsk_5 rfl rfl ?_
  refine g_iload_n X dX3_placeAsk_6 rfl rfl ?_
  refine g_iconst (v := 0) X dX3_placeAsk_7 rfl ?_
  refine g_iload_n X dX3_placeAsk_8 rfl rfl ?_
  refine g_iload_n X dX3_placeAsk_9 rfl rfl ?_
  refine g_callV X dX3_placeAsk_10 mv_X3_120 (c_X3_placesIt hB (b := false) hE hP hN hb rfl) rfl cl_X3 (by repeat (first | with_reducible exact Rc.pt | with_reducible apply Rc.there)) (by repeat (first | with_reducible exact Pks.nil | (with_reducible refine Pks.pure (by assumption) ?_) | (with_reducible apply Pks.cons; focus ((repeat (first | with_reducible exact Pk.here | with_reducible apply Pk.there)); done)) | (refine Pks.cons Pk.here ?_))) rfl rfl (by decide) (by exact Nat.le_of_ble_eq_true rfl) (by first | decide | omega) (fun r w1 hq => ?_) (fun E q w1 hq => hq.elim)
  obtain ⟨M', q, rfl, rfl, hq, hE'⟩ := hq
  dsimp only [wM, w4, PoM, PfM, List.cons_append, List.nil_append, Option.toList_some, Option.toList_none]
  refine g_callV X dX3_placeAsk_13 mv_X3_88 (c_X3_changed hB (R := plS t false u p S) hE.aside hL hc hq (code_lt _ pl_c)) rfl cl_X3 (by repeat (first | with_reducible exact Rc.pt | with_reducible apply Rc.there)) (by repeat (first | with_reducible exact Pks.nil | (with_reducible refine Pks.pure (by assumption) ?_) | (with_reducible apply Pks.cons; focus ((repeat (first | with_reducible exact Pk.here | with_reducible apply Pk.there)); done)) | (refine Pks.cons Pk.here ?_))) rfl rfl (by decide) (by exact Nat.le_of_ble_eq_true rfl) (by first | decide | omega) (fun r w1 hq => ?_) (fun E q w1 hq => hq.elim)
  obtain ⟨ch', P', rfl, rfl, hc', hP'⟩ := hq
  dsimp only [wM, w4, PoM, PfM, List.cons_append, List.nil_append, Option.toList_some, Option.toList_none]
  exact g_iret X Y dX3_placeAsk_16 (rfl) (⟨_, _, _, _, _, rfl, rfl, hq, hE', hc', hP'⟩) (Pks.tail (rest := _) (by repeat (first | with_reducible exact Pks.nil | (with_reducible refine Pks.pure (by assumption) ?_) | (with_reducible apply Pks.cons; focus ((repeat (first | with_reducible exact Pk.here | with_reducible apply Pk.there)); done)) | (refine Pks.cons Pk.here ?_))))
theorem c_X3_cancelOrder (hB : Bs B) {x : Int32} (hE : Enc M S) (hL : EnP P L) (hc : ch = nI L.length)  : Tr B yX3_cancelOrder (Cond.code yX3_cancelOrder cX3_cancelOrder 2 (some .int)) (rmd 6 0 0) [.ref m, .int x] (w4 m ad sv ch ea fa th pm lm cm p0 s0 iw M A P) (PfM m ad sv ea fa pm lm cm p0 s0 iw S L (caS x S)) nox := by
  refine tr_of hB (by decide +kernel) rfl ?_
  intro Γ X Y
  refine g_eq (ls' := [.val (.ref m), .val (.int x)]) rfl rfl ?_
  refine g_aload_n X dX3_cancelOrder_0 rfl rfl ?_
  refine g_callV X dX3_cancelOrder_1 mv_X3_81 (c_X3_starts hB) rfl cl_X3 (by repeat (first | with_reducible exact Rc.pt | with_reducible apply Rc.there)) (by repeat (first | with_reducible exact Pks.nil | (with_reducible refine Pks.pure (by assumption) ?_) | (with_reducible apply Pks.cons; focus ((repeat (first | with_reducible exact Pk.here | with_reducible apply Pk.there)); done)) | (refine Pks.cons Pk.here ?_))) rfl rfl (by decide) (by exact Nat.le_of_ble_eq_true rfl) (by first | decide | omega) (fun r w1 hq => ?_) (fun E q w1 hq => hq.elim)
  obtain ⟨rfl, rfl⟩ := hq
  dsimp only [wM, w4, PoM, PfM, List.cons_append, List.nil_append, Option.toList_some, Option.toList_none]
  refine g_aload_n X dX3_cancelOrder_4 rfl rfl ?_
  refine g_aload_n X dX3_cancelOrder_5 rfl rfl ?_
  refine g_iload_n X dX3_cancelOrder_6 rfl rfl ?_
  refine g_callV X dX3_cancelOrder_7 mv_X3_127 (c_X3_cancelIt hB hE rfl) rfl cl_X3 (by repeat (first | with_reducible exact Rc.pt | with_reducible apply Rc.there)) (by repeat (first | with_reducible exact Pks.nil | (with_reducible refine Pks.pure (by assumption) ?_) | (with_reducible apply Pks.cons; focus ((repeat (first | with_reducible exact Pk.here | with_reducible apply Pk.there)); done)) | (refine Pks.cons Pk.here ?_))) rfl rfl (by decide) (by exact Nat.le_of_ble_eq_true rfl) (by first | decide | omega) (fun r w1 hq => ?_) (fun E q w1 hq => hq.elim)
  obtain ⟨M', q, rfl, rfl, hq, hE'⟩ := hq
  dsimp only [wM, w4, PoM, PfM, List.cons_append, List.nil_append, Option.toList_some, Option.toList_none]
  refine g_callV X dX3_cancelOrder_10 mv_X3_88 (c_X3_changed hB (R := caS x S) hE.aside hL hc hq (code_lt _ ca_c)) rfl cl_X3 (by repeat (first | with_reducible exact Rc.pt | with_reducible apply Rc.there)) (by repeat (first | with_reducible exact Pks.nil | (with_reducible refine Pks.pure (by assumption) ?_) | (with_reducible apply Pks.cons; focus ((repeat (first | with_reducible exact Pk.here | with_reducible apply Pk.there)); done)) | (refine Pks.cons Pk.here ?_))) rfl rfl (by decide) (by exact Nat.le_of_ble_eq_true rfl) (by first | decide | omega) (fun r w1 hq => ?_) (fun E q w1 hq => hq.elim)
  obtain ⟨ch', P', rfl, rfl, hc', hP'⟩ := hq
  dsimp only [wM, w4, PoM, PfM, List.cons_append, List.nil_append, Option.toList_some, Option.toList_none]
  exact g_iret X Y dX3_cancelOrder_13 (rfl) (⟨_, _, _, _, _, rfl, rfl, hq, hE', hc', hP'⟩) (Pks.tail (rest := _) (by repeat (first | with_reducible exact Pks.nil | (with_reducible refine Pks.pure (by assumption) ?_) | (with_reducible apply Pks.cons; focus ((repeat (first | with_reducible exact Pk.here | with_reducible apply Pk.there)); done)) | (refine Pks.cons Pk.here ?_))))
theorem c_X3_agree (hB : Bs B) {s y u p d : Int32} (hE : Enc M S) (hL : EnP P L) (hc : ch = nI L.length) (hD : sN S 4 < 2 ^ 29) : Tr B yX3_agree (Cond.code yX3_agree cX3_agree 6 (some .int)) (rmd 6 0 0) [.ref m, .int s, .int y, .int u, .int p, .int d] (w4 m ad sv ch ea fa th pm lm cm p0 s0 iw M A P) (PfM m ad sv ea fa pm lm cm p0 s0 iw S L (agS s y u p d S)) nox := by
  refine tr_of hB (by decide +kernel) rfl ?_
  intro Γ X Y
  refine g_eq (ls' := [.val (.ref m), .val (.int s), .val (.int y), .val (.int u), .val (.int p), .val (.int d)]) rfl rfl ?_
  refine g_aload_n X dX3_agree_0 rfl rfl ?_
  refine g_callV X dX3_agree_1 mv_X3_81 (c_X3_starts hB) rfl cl_X3 (by repeat (first | with_reducible exact Rc.pt | with_reducible apply Rc.there)) (by repeat (first | with_reducible exact Pks.nil | (with_reducible refine Pks.pure (by assumption) ?_) | (with_reducible apply Pks.cons; focus ((repeat (first | with_reducible exact Pk.here | with_reducible apply Pk.there)); done)) | (refine Pks.cons Pk.here ?_))) rfl rfl (by decide) (by exact Nat.le_of_ble_eq_true rfl) (by first | decide | omega) (fun r w1 hq => ?_) (fun E q w1 hq => hq.elim)
  obtain ⟨rfl, rfl⟩ := hq
  dsimp only [wM, w4, PoM, PfM, List.cons_append, List.nil_append, Option.toList_some, Option.toList_none]
  refine g_aload_n X dX3_agree_4 rfl rfl ?_
  refine g_aload_n X dX3_agree_5 rfl rfl ?_
  refine g_iload_n X dX3_agree_6 rfl rfl ?_
  refine g_iload_n X dX3_agree_7 rfl rfl ?_
  refine g_iload_n X dX3_agree_8 rfl rfl ?_
  refine g_iload X dX3_agree_9 rfl ?_
  refine g_iload X dX3_agree_11 rfl ?_
  refine g_callV X dX3_agree_13 mv_X3_133 (c_X3_agreeIt hB hE hD rfl) rfl cl_X3 (by repeat (first | with_reducible exact Rc.pt | with_reducible apply Rc.there)) (by repeat (first | with_reducible exact Pks.nil | (with_reducible refine Pks.pure (by assumption) ?_) | (with_reducible apply Pks.cons; focus ((repeat (first | with_reducible exact Pk.here | with_reducible apply Pk.there)); done)) | (refine Pks.cons Pk.here ?_))) rfl rfl (by decide) (by exact Nat.le_of_ble_eq_true rfl) (by first | decide | omega) (fun r w1 hq => ?_) (fun E q w1 hq => hq.elim)
  obtain ⟨M', q, rfl, rfl, hq, hE'⟩ := hq
  dsimp only [wM, w4, PoM, PfM, List.cons_append, List.nil_append, Option.toList_some, Option.toList_none]
  refine g_callV X dX3_agree_16 mv_X3_88 (c_X3_changed hB (R := agS s y u p d S) hE.aside hL hc hq (code_lt _ ag_c)) rfl cl_X3 (by repeat (first | with_reducible exact Rc.pt | with_reducible apply Rc.there)) (by repeat (first | with_reducible exact Pks.nil | (with_reducible refine Pks.pure (by assumption) ?_) | (with_reducible apply Pks.cons; focus ((repeat (first | with_reducible exact Pk.here | with_reducible apply Pk.there)); done)) | (refine Pks.cons Pk.here ?_))) rfl rfl (by decide) (by exact Nat.le_of_ble_eq_true rfl) (by first | decide | omega) (fun r w1 hq => ?_) (fun E q w1 hq => hq.elim)
  obtain ⟨ch', P', rfl, rfl, hc', hP'⟩ := hq
  dsimp only [wM, w4, PoM, PfM, List.cons_append, List.nil_append, Option.toList_some, Option.toList_none]
  exact g_iret X Y dX3_agree_19 (rfl) (⟨_, _, _, _, _, rfl, rfl, hq, hE', hc', hP'⟩) (Pks.tail (rest := _) (by repeat (first | with_reducible exact Pks.nil | (with_reducible refine Pks.pure (by assumption) ?_) | (with_reducible apply Pks.cons; focus ((repeat (first | with_reducible exact Pk.here | with_reducible apply Pk.there)); done)) | (refine Pks.cons Pk.here ?_))))
theorem c_X3_advance (hB : Bs B) {d : Int32} (hE : Enc M S) (hL : EnP P L) (hc : ch = nI L.length) (hS : okS S) (hD : sN S 4 < 2 ^ 29) (h8 : sN S 8 < 2 ^ 30) : Tr B yX3_advance (Cond.code yX3_advance cX3_advance 2 (some .int)) (rmd 6 0 0) [.ref m, .int d] (w4 m ad sv ch ea fa th pm lm cm p0 s0 iw M A P) (PfM m ad sv ea fa pm lm cm p0 s0 iw S L (adS d S)) nox := by
  refine tr_of hB (by decide +kernel) rfl ?_
  intro Γ X Y
  refine g_eq (ls' := [.val (.ref m), .val (.int d)]) rfl rfl ?_
  refine g_aload_n X dX3_advance_0 rfl rfl ?_
  refine g_callV X dX3_advance_1 mv_X3_81 (c_X3_starts hB) rfl cl_X3 (by repeat (first | with_reducible exact Rc.pt | with_reducible apply Rc.there)) (by repeat (first | with_reducible exact Pks.nil | (with_reducible refine Pks.pure (by assumption) ?_) | (with_reducible apply Pks.cons; focus ((repeat (first | with_reducible exact Pk.here | with_reducible apply Pk.there)); done)) | (refine Pks.cons Pk.here ?_))) rfl rfl (by decide) (by exact Nat.le_of_ble_eq_true rfl) (by first | decide | omega) (fun r w1 hq => ?_) (fun E q w1 hq => hq.elim)
  obtain ⟨rfl, rfl⟩ := hq
  dsimp only [wM, w4, PoM, PfM, List.cons_append, List.nil_append, Option.toList_some, Option.toList_none]
  refine g_aload_n X dX3_advance_4 rfl rfl ?_
  refine g_aload_n X dX3_advance_5 rfl rfl ?_
  refine g_iload_n X dX3_advance_6 rfl rfl ?_
  refine g_callV X dX3_advance_7 mv_X3_146 (c_X3_advanceIt hB hE hS hD h8 rfl) rfl cl_X3 (by repeat (first | with_reducible exact Rc.pt | with_reducible apply Rc.there)) (by repeat (first | with_reducible exact Pks.nil | (with_reducible refine Pks.pure (by assumption) ?_) | (with_reducible apply Pks.cons; focus ((repeat (first | with_reducible exact Pk.here | with_reducible apply Pk.there)); done)) | (refine Pks.cons Pk.here ?_))) rfl rfl (by decide) (by exact Nat.le_of_ble_eq_true rfl) (by first | decide | omega) (fun r w1 hq => ?_) (fun E q w1 hq => hq.elim)
  obtain ⟨M', q, rfl, rfl, hq, hE'⟩ := hq
  dsimp only [wM, w4, PoM, PfM, List.cons_append, List.nil_append, Option.toList_some, Option.toList_none]
  refine g_callV X dX3_advance_10 mv_X3_88 (c_X3_changed hB (R := adS d S) hE.aside hL hc hq (code_lt _ ad_c)) rfl cl_X3 (by repeat (first | with_reducible exact Rc.pt | with_reducible apply Rc.there)) (by repeat (first | with_reducible exact Pks.nil | (with_reducible refine Pks.pure (by assumption) ?_) | (with_reducible apply Pks.cons; focus ((repeat (first | with_reducible exact Pk.here | with_reducible apply Pk.there)); done)) | (refine Pks.cons Pk.here ?_))) rfl rfl (by decide) (by exact Nat.le_of_ble_eq_true rfl) (by first | decide | omega) (fun r w1 hq => ?_) (fun E q w1 hq => hq.elim)
  obtain ⟨ch', P', rfl, rfl, hc', hP'⟩ := hq
  dsimp only [wM, w4, PoM, PfM, List.cons_append, List.nil_append, Option.toList_some, Option.toList_none]
  exact g_iret X Y dX3_advance_13 (rfl) (⟨_, _, _, _, _, rfl, rfl, hq, hE', hc', hP'⟩) (Pks.tail (rest := _) (by repeat (first | with_reducible exact Pks.nil | (with_reducible refine Pks.pure (by assumption) ?_) | (with_reducible apply Pks.cons; focus ((repeat (first | with_reducible exact Pk.here | with_reducible apply Pk.there)); done)) | (refine Pks.cons Pk.here ?_))))
theorem c_X3_openAuction (hB : Bs B) {r v : Int32} (hE : Enc M S) (hL : EnP P L) (hc : ch = nI L.length)  : Tr B yX3_openAuction (Cond.code yX3_openAuction cX3_openAuction 3 (some .int)) (rmd 6 0 0) [.ref m, .int r, .int v] (w4 m ad sv ch ea fa th pm lm cm p0 s0 iw M A P) (PfM m ad sv ea fa pm lm cm p0 s0 iw S L (opS r v S)) nox := by
  refine tr_of hB (by decide +kernel) rfl ?_
  intro Γ X Y
  refine g_eq (ls' := [.val (.ref m), .val (.int r), .val (.int v)]) rfl rfl ?_
  refine g_aload_n X dX3_openAuction_0 rfl rfl ?_
  refine g_callV X dX3_openAuction_1 mv_X3_81 (c_X3_starts hB) rfl cl_X3 (by repeat (first | with_reducible exact Rc.pt | with_reducible apply Rc.there)) (by repeat (first | with_reducible exact Pks.nil | (with_reducible refine Pks.pure (by assumption) ?_) | (with_reducible apply Pks.cons; focus ((repeat (first | with_reducible exact Pk.here | with_reducible apply Pk.there)); done)) | (refine Pks.cons Pk.here ?_))) rfl rfl (by decide) (by exact Nat.le_of_ble_eq_true rfl) (by first | decide | omega) (fun r w1 hq => ?_) (fun E q w1 hq => hq.elim)
  obtain ⟨rfl, rfl⟩ := hq
  dsimp only [wM, w4, PoM, PfM, List.cons_append, List.nil_append, Option.toList_some, Option.toList_none]
  refine g_aload_n X dX3_openAuction_4 rfl rfl ?_
  refine g_aload_n X dX3_openAuction_5 rfl rfl ?_
  refine g_iload_n X dX3_openAuction_6 rfl rfl ?_
  refine g_iload_n X dX3_openAuction_7 rfl rfl ?_
  refine g_callV X dX3_openAuction_8 mv_X3_152 (c_X3_openIt hB hE rfl) rfl cl_X3 (by repeat (first | with_reducible exact Rc.pt | with_reducible apply Rc.there)) (by repeat (first | with_reducible exact Pks.nil | (with_reducible refine Pks.pure (by assumption) ?_) | (with_reducible apply Pks.cons; focus ((repeat (first | with_reducible exact Pk.here | with_reducible apply Pk.there)); done)) | (refine Pks.cons Pk.here ?_))) rfl rfl (by decide) (by exact Nat.le_of_ble_eq_true rfl) (by first | decide | omega) (fun r w1 hq => ?_) (fun E q w1 hq => hq.elim)
  obtain ⟨M', q, rfl, rfl, hq, hE'⟩ := hq
  dsimp only [wM, w4, PoM, PfM, List.cons_append, List.nil_append, Option.toList_some, Option.toList_none]
  refine g_callV X dX3_openAuction_11 mv_X3_88 (c_X3_changed hB (R := opS r v S) hE.aside hL hc hq (code_lt _ op_c)) rfl cl_X3 (by repeat (first | with_reducible exact Rc.pt | with_reducible apply Rc.there)) (by repeat (first | with_reducible exact Pks.nil | (with_reducible refine Pks.pure (by assumption) ?_) | (with_reducible apply Pks.cons; focus ((repeat (first | with_reducible exact Pk.here | with_reducible apply Pk.there)); done)) | (refine Pks.cons Pk.here ?_))) rfl rfl (by decide) (by exact Nat.le_of_ble_eq_true rfl) (by first | decide | omega) (fun r w1 hq => ?_) (fun E q w1 hq => hq.elim)
  obtain ⟨ch', P', rfl, rfl, hc', hP'⟩ := hq
  dsimp only [wM, w4, PoM, PfM, List.cons_append, List.nil_append, Option.toList_some, Option.toList_none]
  exact g_iret X Y dX3_openAuction_14 (rfl) (⟨_, _, _, _, _, rfl, rfl, hq, hE', hc', hP'⟩) (Pks.tail (rest := _) (by repeat (first | with_reducible exact Pks.nil | (with_reducible refine Pks.pure (by assumption) ?_) | (with_reducible apply Pks.cons; focus ((repeat (first | with_reducible exact Pk.here | with_reducible apply Pk.there)); done)) | (refine Pks.cons Pk.here ?_))))
theorem c_X3_sealBid (hB : Bs B) {t a : Int32} (hE : Enc M S) (hL : EnP P L) (hc : ch = nI L.length)  : Tr B yX3_sealBid (Cond.code yX3_sealBid cX3_sealBid 3 (some .int)) (rmd 6 0 0) [.ref m, .int t, .int a] (w4 m ad sv ch ea fa th pm lm cm p0 s0 iw M A P) (PfM m ad sv ea fa pm lm cm p0 s0 iw S L (seS t a S)) nox := by
  refine tr_of hB (by decide +kernel) rfl ?_
  intro Γ X Y
  refine g_eq (ls' := [.val (.ref m), .val (.int t), .val (.int a)]) rfl rfl ?_
  refine g_aload_n X dX3_sealBid_0 rfl rfl ?_
  refine g_callV X dX3_sealBid_1 mv_X3_81 (c_X3_starts hB) rfl cl_X3 (by repeat (first | with_reducible exact Rc.pt | with_reducible apply Rc.there)) (by repeat (first | with_reducible exact Pks.nil | (with_reducible refine Pks.pure (by assumption) ?_) | (with_reducible apply Pks.cons; focus ((repeat (first | with_reducible exact Pk.here | with_reducible apply Pk.there)); done)) | (refine Pks.cons Pk.here ?_))) rfl rfl (by decide) (by exact Nat.le_of_ble_eq_true rfl) (by first | decide | omega) (fun r w1 hq => ?_) (fun E q w1 hq => hq.elim)
  obtain ⟨rfl, rfl⟩ := hq
  dsimp only [wM, w4, PoM, PfM, List.cons_append, List.nil_append, Option.toList_some, Option.toList_none]
  refine g_aload_n X dX3_sealBid_4 rfl rfl ?_
  refine g_aload_n X dX3_sealBid_5 rfl rfl ?_
  refine g_iload_n X dX3_sealBid_6 rfl rfl ?_
  refine g_iload_n X dX3_sealBid_7 rfl rfl ?_
  refine g_callV X dX3_sealBid_8 mv_X3_155 (c_X3_sealIt hB hE rfl) rfl cl_X3 (by repeat (first | with_reducible exact Rc.pt | with_reducible apply Rc.there)) (by repeat (first | with_reducible exact Pks.nil | (with_reducible refine Pks.pure (by assumption) ?_) | (with_reducible apply Pks.cons; focus ((repeat (first | with_reducible exact Pk.here | with_reducible apply Pk.there)); done)) | (refine Pks.cons Pk.here ?_))) rfl rfl (by decide) (by exact Nat.le_of_ble_eq_true rfl) (by first | decide | omega) (fun r w1 hq => ?_) (fun E q w1 hq => hq.elim)
  obtain ⟨M', q, rfl, rfl, hq, hE'⟩ := hq
  dsimp only [wM, w4, PoM, PfM, List.cons_append, List.nil_append, Option.toList_some, Option.toList_none]
  refine g_callV X dX3_sealBid_11 mv_X3_88 (c_X3_changed hB (R := seS t a S) hE.aside hL hc hq (code_lt _ se_c)) rfl cl_X3 (by repeat (first | with_reducible exact Rc.pt | with_reducible apply Rc.there)) (by repeat (first | with_reducible exact Pks.nil | (with_reducible refine Pks.pure (by assumption) ?_) | (with_reducible apply Pks.cons; focus ((repeat (first | with_reducible exact Pk.here | with_reducible apply Pk.there)); done)) | (refine Pks.cons Pk.here ?_))) rfl rfl (by decide) (by exact Nat.le_of_ble_eq_true rfl) (by first | decide | omega) (fun r w1 hq => ?_) (fun E q w1 hq => hq.elim)
  obtain ⟨ch', P', rfl, rfl, hc', hP'⟩ := hq
  dsimp only [wM, w4, PoM, PfM, List.cons_append, List.nil_append, Option.toList_some, Option.toList_none]
  exact g_iret X Y dX3_sealBid_14 (rfl) (⟨_, _, _, _, _, rfl, rfl, hq, hE', hc', hP'⟩) (Pks.tail (rest := _) (by repeat (first | with_reducible exact Pks.nil | (with_reducible refine Pks.pure (by assumption) ?_) | (with_reducible apply Pks.cons; focus ((repeat (first | with_reducible exact Pk.here | with_reducible apply Pk.there)); done)) | (refine Pks.cons Pk.here ?_))))
theorem c_X3_closeAuction (hB : Bs B)  (hE : Enc M S) (hL : EnP P L) (hc : ch = nI L.length) (hb : boT (sT S)) : Tr B yX3_closeAuction (Cond.code yX3_closeAuction cX3_closeAuction 1 (some .int)) (rmd 6 0 0) [.ref m] (w4 m ad sv ch ea fa th pm lm cm p0 s0 iw M A P) (PfM m ad sv ea fa pm lm cm p0 s0 iw S L (clS S)) nox := by
  refine tr_of hB (by decide +kernel) rfl ?_
  intro Γ X Y
  refine g_eq (ls' := [.val (.ref m)]) rfl rfl ?_
  refine g_aload_n X dX3_closeAuction_0 rfl rfl ?_
  refine g_callV X dX3_closeAuction_1 mv_X3_81 (c_X3_starts hB) rfl cl_X3 (by repeat (first | with_reducible exact Rc.pt | with_reducible apply Rc.there)) (by repeat (first | with_reducible exact Pks.nil | (with_reducible refine Pks.pure (by assumption) ?_) | (with_reducible apply Pks.cons; focus ((repeat (first | with_reducible exact Pk.here | with_reducible apply Pk.there)); done)) | (refine Pks.cons Pk.here ?_))) rfl rfl (by decide) (by exact Nat.le_of_ble_eq_true rfl) (by first | decide | omega) (fun r w1 hq => ?_) (fun E q w1 hq => hq.elim)
  obtain ⟨rfl, rfl⟩ := hq
  dsimp only [wM, w4, PoM, PfM, List.cons_append, List.nil_append, Option.toList_some, Option.toList_none]
  refine g_aload_n X dX3_closeAuction_4 rfl rfl ?_
  refine g_aload_n X dX3_closeAuction_5 rfl rfl ?_
  refine g_callV X dX3_closeAuction_6 mv_X3_171 (c_X3_closeIt hB hE hb rfl) rfl cl_X3 (by repeat (first | with_reducible exact Rc.pt | with_reducible apply Rc.there)) (by repeat (first | with_reducible exact Pks.nil | (with_reducible refine Pks.pure (by assumption) ?_) | (with_reducible apply Pks.cons; focus ((repeat (first | with_reducible exact Pk.here | with_reducible apply Pk.there)); done)) | (refine Pks.cons Pk.here ?_))) rfl rfl (by decide) (by exact Nat.le_of_ble_eq_true rfl) (by first | decide | omega) (fun r w1 hq => ?_) (fun E q w1 hq => hq.elim)
  obtain ⟨M', q, rfl, rfl, hq, hE'⟩ := hq
  dsimp only [wM, w4, PoM, PfM, List.cons_append, List.nil_append, Option.toList_some, Option.toList_none]
  refine g_callV X dX3_closeAuction_9 mv_X3_88 (c_X3_changed hB (R := clS S) hE.aside hL hc hq (code_lt _ cl_c)) rfl cl_X3 (by repeat (first | with_reducible exact Rc.pt | with_reducible apply Rc.there)) (by repeat (first | with_reducible exact Pks.nil | (with_reducible refine Pks.pure (by assumption) ?_) | (with_reducible apply Pks.cons; focus ((repeat (first | with_reducible exact Pk.here | with_reducible apply Pk.there)); done)) | (refine Pks.cons Pk.here ?_))) rfl rfl (by decide) (by exact Nat.le_of_ble_eq_true rfl) (by first | decide | omega) (fun r w1 hq => ?_) (fun E q w1 hq => hq.elim)
  obtain ⟨ch', P', rfl, rfl, hc', hP'⟩ := hq
  dsimp only [wM, w4, PoM, PfM, List.cons_append, List.nil_append, Option.toList_some, Option.toList_none]
  exact g_iret X Y dX3_closeAuction_12 (rfl) (⟨_, _, _, _, _, rfl, rfl, hq, hE', hc', hP'⟩) (Pks.tail (rest := _) (by repeat (first | with_reducible exact Pks.nil | (with_reducible refine Pks.pure (by assumption) ?_) | (with_reducible apply Pks.cons; focus ((repeat (first | with_reducible exact Pk.here | with_reducible apply Pk.there)); done)) | (refine Pks.cons Pk.here ?_))))
end MODEL
