/-! THE MODEL: the order that a new one is traded with first -/
set_option maxRecDepth 100000
section MODEL
variable {B : Bt} {m : Nat} {ad : Nat → Nat} {sv ch ea fa th pm lm cm p0 s0 iw : Int32} {M A : Nat → Int32} {O : List OO}
theorem fmU_f {b : Bool} {p k : Nat} {O : List OO} {o : OO} (ho : O[k]? = some o) (h : matB b p o = false) : fmU b p O (k + 1) = fmU b p O k := by simp [fmU, fmS, ho, h]
theorem fmU_n {b : Bool} {p k : Nat} {O : List OO} {o : OO} (ho : O[k]? = some o) (h : matB b p o = true) (hn : fmU b p O k = none) : fmU b p O (k + 1) = some k := by simp [fmU, fmS, ho, h, hn]
theorem fmU_s {b : Bool} {p k g : Nat} {O : List OO} {o u : OO} (ho : O[k]? = some o) (h : matB b p o = true) (hn : fmU b p O k = some g) (hu : O[g]? = some u) : fmU b p O (k + 1) = if btr b o.2.2.2.1 u.2.2.2.1 then some k else some g := by simp [fmU, fmS, ho, h, hn, hu]
theorem c_X3_firstMatch (hB : Bs B) {p : Nat} {b : Bool} (hE : EnO M O) (hp : p < 100) : Tr B yX3_firstMatch (Cond.code yX3_firstMatch cX3_firstMatch 7 (some .int)) (rmd 4 0 0) [.ref m, .int (bI b), .int (nI p)] (wM m ad sv ch ea fa th pm lm cm p0 s0 iw M) (fun r w => r = some (.int (oI_ (fm b p O))) ∧ w = wM m ad sv ch ea fa th pm lm cm p0 s0 iw M) nox := by
  have hlen := hE.2.1
  refine tr_of hB (by decide +kernel) rfl ?_
  intro Γ X Y
  refine g_eq (ls' := [.val (.ref m), .val (.int (bI b)), .val (.int (nI p)), .unset, .unset, .unset, .unset]) rfl rfl ?_
  refine g_iconst (v := (-1)) X dX3_firstMatch_0 rfl ?_
  refine is_7_3n X dX3_firstMatch_1 rfl rfl ?_
  refine g_iconst (v := 0) X dX3_firstMatch_2 rfl ?_
  refine is_7_4 X dX3_firstMatch_3 rfl ?_
  have L : ∀ j k, k + j = O.length → ∀ (f : Int32) (a5 a6 : Slot), f = oI_ (fmU b p O k) → LZ a5 → LZ a6 → G B Γ 0 0 (wM m ad sv ch ea fa th pm lm cm p0 s0 iw M) 5 [.val (.ref m), .val (.int (bI b)), .val (.int (nI p)), .val (.int f), .val (.int (nI k)), a5, a6] [] := by
    intro j
    induction j with
    | zero =>
      intro k hk f a5 a6 hf h5 h6
      refine g_iload X dX3_firstMatch_5 rfl ?_
      refine g_aload_n X dX3_firstMatch_7 rfl rfl ?_
      refine g_getf X dX3_firstMatch_8 fl_X3_9 (by repeat (first | with_reducible exact Pk.here | with_reducible apply Pk.there)) (by exact rfl) ?_
      refine g_iconst (v := 1) X dX3_firstMatch_11 rfl ?_
      refine g_iald (1) X dX3_firstMatch_12 (by repeat (first | with_reducible exact Pk.here | with_reducible apply Pk.there)) (by decide) (by decide) (by exact hE.1) ?_
      refine g_icmp_ge (tgt := 110) X dX3_firstMatch_13 (by decide) (fun c_13 => ?_) (fun c_13 => absurd (nI_le (by omega) (by omega)) c_13)
      refine g_iload_n X dX3_firstMatch_110 rfl rfl ?_
      exact g_iret X Y dX3_firstMatch_111 (rfl) (⟨by rw [hf, show k = O.length by omega]; rfl, rfl⟩) (Pks.tail (rest := _) (by repeat (first | with_reducible exact Pks.nil | (with_reducible refine Pks.pure (by assumption) ?_) | (with_reducible apply Pks.cons; focus ((repeat (first | with_reducible exact Pk.here | with_reducible apply Pk.there)); done)))))
    | succ j ih =>
      intro k hk f a5 a6 hf h5 h6
      obtain ⟨o, ho⟩ : ∃ o, O[k]? = some o := ⟨_, List.getElem?_eq_getElem (by omega)⟩
      obtain ⟨⟨e0, e1, e2, e3, e4⟩, k1, k2, k3, k4⟩ := hE.2.2 k o ho
      refine g_iload X dX3_firstMatch_5 rfl ?_
      refine g_aload_n X dX3_firstMatch_7 rfl rfl ?_
      refine g_getf X dX3_firstMatch_8 fl_X3_9 (by repeat (first | with_reducible exact Pk.here | with_reducible apply Pk.there)) (by exact rfl) ?_
      refine g_iconst (v := 1) X dX3_firstMatch_11 rfl ?_
      refine g_iald (1) X dX3_firstMatch_12 (by repeat (first | with_reducible exact Pk.here | with_reducible apply Pk.there)) (by decide) (by decide) (by exact hE.1) ?_
      refine g_icmp_ge (tgt := 110) X dX3_firstMatch_13 (by decide) (fun c_13 => absurd c_13 (nI_ge (by omega) (by omega))) (fun c_13 => ?_)
      refine g_aload_n X dX3_firstMatch_16 rfl rfl ?_
      refine g_iload_n X dX3_firstMatch_17 rfl rfl ?_
      refine g_iload_n X dX3_firstMatch_18 rfl rfl ?_
      refine g_iload X dX3_firstMatch_19 rfl ?_
      refine g_callV X dX3_firstMatch_21 mv_X3_69 (c_X3_matches hB hE ho hp) rfl cl_X3 (by repeat (first | with_reducible exact Rc.pt | with_reducible apply Rc.there)) (by repeat (first | with_reducible exact Pks.nil | (with_reducible refine Pks.pure (by assumption) ?_) | (with_reducible apply Pks.cons; focus ((repeat (first | with_reducible exact Pk.here | with_reducible apply Pk.there)); done)))) rfl rfl (by decide) (by exact Nat.le_of_ble_eq_true rfl) (by first | decide | omega) (fun r w1 hq => ?_) (fun E q w1 hq => hq.elim)
      obtain ⟨rfl, rfl⟩ := hq
      dsimp only [wM, List.cons_append, List.nil_append, Option.toList_some, Option.toList_none]
      refine g_if_eq (tgt := 104) X dX3_firstMatch_24 (by decide) (fun c_24 => ?_) (fun c_24 => ?_)
      · refine ii_7_4 (v := nI (k + 1)) X dX3_firstMatch_104 (nI_1 k) rfl ?_
        refine g_goto (tgt := 5) X dX3_firstMatch_107 (by decide) ?_
        exact ih (k + 1) (by omega) _ _ _ (by rw [hf, fmU_f ho (bI_0.mp c_24)]) h5 h6
      · have hm := bI_n0.mp c_24
        cases hg : fmU b p O k with
        | none =>
          refine g_aload_n X dX3_firstMatch_27 rfl rfl ?_
          refine g_getf X dX3_firstMatch_28 fl_X3_9 (by repeat (first | with_reducible exact Pk.here | with_reducible apply Pk.there)) (by exact rfl) ?_
          refine g_iload X dX3_firstMatch_31 rfl ?_
          refine g_callS X dX3_firstMatch_33 ms_X3_61 (c_X3_orderAtPlace hB) rfl (by repeat (first | with_reducible exact Pks.nil | (with_reducible refine Pks.pure (by assumption) ?_) | (with_reducible apply Pks.cons; focus ((repeat (first | with_reducible exact Pk.here | with_reducible apply Pk.there)); done)))) rfl rfl (by decide) (by exact Nat.le_of_ble_eq_true rfl) (by first | decide | omega) (fun r w1 hq => ?_) (fun E q w1 hq => hq.elim)
          obtain ⟨rfl, rfl⟩ := hq
          dsimp only [wM, List.cons_append, List.nil_append, Option.toList_some, Option.toList_none]
          refine g_iconst (v := 3) X dX3_firstMatch_36 rfl ?_
          refine g_iadd X dX3_firstMatch_37 ?_
          refine g_iald (35+5*k+3) X dX3_firstMatch_38 (by repeat (first | with_reducible exact Pk.here | with_reducible apply Pk.there)) (by rw [io, nIp3]) (by omega) (by exact e3) ?_
          refine is_7_5 X dX3_firstMatch_39 (by exact st_lz [_, _, _, _, _] [_] h5 rfl) ?_
          refine g_iload_n X dX3_firstMatch_41 rfl rfl ?_
          refine g_iconst (v := (-1)) X dX3_firstMatch_42 rfl ?_
          refine g_icmp_eq (tgt := 85) X dX3_firstMatch_43 (by decide) (fun c_43 => ?_) (fun c_43 => absurd (by rw [hf, hg]; rfl) c_43)
          refine g_iconst (v := 1) X dX3_firstMatch_85 rfl ?_
          refine g_goto (tgt := 90) X dX3_firstMatch_86 (by decide) ?_
          refine is_7_6 X dX3_firstMatch_90 (by exact st_lz [_, _, _, _, _, _] [] h6 rfl) ?_
          refine g_iload X dX3_firstMatch_92 rfl ?_
          refine g_if_eq (tgt := 102) X dX3_firstMatch_94 (by decide) (fun c_94 => absurd c_94 (by decide)) (fun c_94 => ?_)
          refine g_iload X dX3_firstMatch_97 rfl ?_
          refine g_goto (tgt := 103) X dX3_firstMatch_99 (by decide) ?_
          refine is_7_3n X dX3_firstMatch_103 rfl rfl ?_
          refine ii_7_4 (v := nI (k + 1)) X dX3_firstMatch_104 (nI_1 k) rfl ?_
          refine g_goto (tgt := 5) X dX3_firstMatch_107 (by decide) ?_
          exact ih (k + 1) (by omega) _ _ _ (by rw [fmU_n ho hm hg]; rfl) LZ.i LZ.i
        | some g =>
          obtain ⟨hgl, u, hu, -⟩ := fmU_lt _ _ hg
          obtain ⟨⟨u0, u1, u2, u3, u4⟩, v1, v2, v3, v4⟩ := hE.2.2 g u hu
          rw [hg] at hf
          have hf : f = nI g := hf
          have hs := fmU_s ho hm hg hu
          subst hf
          cases b with
          | true =>
            have hb : btr true o.2.2.2.1 u.2.2.2.1 = decide (o.2.2.2.1 < u.2.2.2.1) := rfl
            rw [hb] at hs
            refine g_aload_n X dX3_firstMatch_27 rfl rfl ?_
            refine g_getf X dX3_firstMatch_28 fl_X3_9 (by repeat (first | with_reducible exact Pk.here | with_reducible apply Pk.there)) (by exact rfl) ?_
            refine g_iload X dX3_firstMatch_31 rfl ?_
            refine g_callS X dX3_firstMatch_33 ms_X3_61 (c_X3_orderAtPlace hB) rfl (by repeat (first | with_reducible exact Pks.nil | (with_reducible refine Pks.pure (by assumption) ?_) | (with_reducible apply Pks.cons; focus ((repeat (first | with_reducible exact Pk.here | with_reducible apply Pk.there)); done)))) rfl rfl (by decide) (by exact Nat.le_of_ble_eq_true rfl) (by first | decide | omega) (fun r w1 hq => ?_) (fun E q w1 hq => hq.elim)
            obtain ⟨rfl, rfl⟩ := hq
            dsimp only [wM, List.cons_append, List.nil_append, Option.toList_some, Option.toList_none]
            refine g_iconst (v := 3) X dX3_firstMatch_36 rfl ?_
            refine g_iadd X dX3_firstMatch_37 ?_
            refine g_iald (35+5*k+3) X dX3_firstMatch_38 (by repeat (first | with_reducible exact Pk.here | with_reducible apply Pk.there)) (by rw [io, nIp3]) (by omega) (by exact e3) ?_
            refine is_7_5 X dX3_firstMatch_39 (by exact st_lz [_, _, _, _, _] [_] h5 rfl) ?_
            refine g_iload_n X dX3_firstMatch_41 rfl rfl ?_
            refine g_iconst (v := (-1)) X dX3_firstMatch_42 rfl ?_
            refine g_icmp_eq (tgt := 85) X dX3_firstMatch_43 (by decide) (fun c_43 => absurd c_43 (fun e => absurd ((oI_none (x := some g) (fun k h => by cases h; omega)).mp e) (by simp))) (fun c_43 => ?_)
            refine g_iload_n X dX3_firstMatch_46 rfl rfl ?_
            refine g_if_eq (tgt := 69) X dX3_firstMatch_47 (by decide) (fun c_47 => absurd c_47 (by decide)) (fun c_47 => ?_)
            refine g_iload X dX3_firstMatch_50 rfl ?_
            refine g_aload_n X dX3_firstMatch_52 rfl rfl ?_
            refine g_getf X dX3_firstMatch_53 fl_X3_9 (by repeat (first | with_reducible exact Pk.here | with_reducible apply Pk.there)) (by exact rfl) ?_
            refine g_iload_n X dX3_firstMatch_56 rfl rfl ?_
            refine g_callS X dX3_firstMatch_57 ms_X3_61 (c_X3_orderAtPlace hB) rfl (by repeat (first | with_reducible exact Pks.nil | (with_reducible refine Pks.pure (by assumption) ?_) | (with_reducible apply Pks.cons; focus ((repeat (first | with_reducible exact Pk.here | with_reducible apply Pk.there)); done)))) rfl rfl (by decide) (by exact Nat.le_of_ble_eq_true rfl) (by first | decide | omega) (fun r w1 hq => ?_) (fun E q w1 hq => hq.elim)
            obtain ⟨rfl, rfl⟩ := hq
            dsimp only [wM, List.cons_append, List.nil_append, Option.toList_some, Option.toList_none]
            refine g_iconst (v := 3) X dX3_firstMatch_60 rfl ?_
            refine g_iadd X dX3_firstMatch_61 ?_
            refine g_iald (35+5*g+3) X dX3_firstMatch_62 (by repeat (first | with_reducible exact Pk.here | with_reducible apply Pk.there)) (by rw [io, nIp3]) (by omega) (by exact u3) ?_
            refine g_icmp_ge (tgt := 89) X dX3_firstMatch_63 (by decide) (fun c_63 => ?_) (fun c_63 => ?_)
            · rw [nI_leI (by omega) (by omega)] at c_63
              rw [decide_eq_false (by omega), if_neg (by decide)] at hs
              refine g_iconst (v := 0) X dX3_firstMatch_89 rfl ?_
              refine is_7_6 X dX3_firstMatch_90 (by exact st_lz [_, _, _, _, _, _] [] h6 rfl) ?_
              refine g_iload X dX3_firstMatch_92 rfl ?_
              refine g_if_eq (tgt := 102) X dX3_firstMatch_94 (by decide) (fun c_94 => ?_) (fun c_94 => absurd (by decide) c_94)
              refine g_iload_n X dX3_firstMatch_102 rfl rfl ?_
              refine is_7_3n X dX3_firstMatch_103 rfl rfl ?_
              refine ii_7_4 (v := nI (k + 1)) X dX3_firstMatch_104 (nI_1 k) rfl ?_
              refine g_goto (tgt := 5) X dX3_firstMatch_107 (by decide) ?_
              exact ih (k + 1) (by omega) _ _ _ (by rw [hs]; rfl) LZ.i LZ.i
            · rw [nI_leI (by omega) (by omega)] at c_63
              rw [decide_eq_true (by omega), if_pos rfl] at hs
              refine g_goto (tgt := 85) X dX3_firstMatch_66 (by decide) ?_
              refine g_iconst (v := 1) X dX3_firstMatch_85 rfl ?_
              refine g_goto (tgt := 90) X dX3_firstMatch_86 (by decide) ?_
              refine is_7_6 X dX3_firstMatch_90 (by exact st_lz [_, _, _, _, _, _] [] h6 rfl) ?_
              refine g_iload X dX3_firstMatch_92 rfl ?_
              refine g_if_eq (tgt := 102) X dX3_firstMatch_94 (by decide) (fun c_94 => absurd c_94 (by decide)) (fun c_94 => ?_)
              refine g_iload X dX3_firstMatch_97 rfl ?_
              refine g_goto (tgt := 103) X dX3_firstMatch_99 (by decide) ?_
              refine is_7_3n X dX3_firstMatch_103 rfl rfl ?_
              refine ii_7_4 (v := nI (k + 1)) X dX3_firstMatch_104 (nI_1 k) rfl ?_
              refine g_goto (tgt := 5) X dX3_firstMatch_107 (by decide) ?_
              exact ih (k + 1) (by omega) _ _ _ (by rw [hs]; rfl) LZ.i LZ.i
          | false =>
            have hb : btr false o.2.2.2.1 u.2.2.2.1 = decide (u.2.2.2.1 < o.2.2.2.1) := rfl
            rw [hb] at hs
            refine g_aload_n X dX3_firstMatch_27 rfl rfl ?_
            refine g_getf X dX3_firstMatch_28 fl_X3_9 (by repeat (first | with_reducible exact Pk.here | with_reducible apply Pk.there)) (by exact rfl) ?_
            refine g_iload X dX3_firstMatch_31 rfl ?_
            refine g_callS X dX3_firstMatch_33 ms_X3_61 (c_X3_orderAtPlace hB) rfl (by repeat (first | with_reducible exact Pks.nil | (with_reducible refine Pks.pure (by assumption) ?_) | (with_reducible apply Pks.cons; focus ((repeat (first | with_reducible exact Pk.here | with_reducible apply Pk.there)); done)))) rfl rfl (by decide) (by exact Nat.le_of_ble_eq_true rfl) (by first | decide | omega) (fun r w1 hq => ?_) (fun E q w1 hq => hq.elim)
            obtain ⟨rfl, rfl⟩ := hq
            dsimp only [wM, List.cons_append, List.nil_append, Option.toList_some, Option.toList_none]
            refine g_iconst (v := 3) X dX3_firstMatch_36 rfl ?_
            refine g_iadd X dX3_firstMatch_37 ?_
            refine g_iald (35+5*k+3) X dX3_firstMatch_38 (by repeat (first | with_reducible exact Pk.here | with_reducible apply Pk.there)) (by rw [io, nIp3]) (by omega) (by exact e3) ?_
            refine is_7_5 X dX3_firstMatch_39 (by exact st_lz [_, _, _, _, _] [_] h5 rfl) ?_
            refine g_iload_n X dX3_firstMatch_41 rfl rfl ?_
            refine g_iconst (v := (-1)) X dX3_firstMatch_42 rfl ?_
            refine g_icmp_eq (tgt := 85) X dX3_firstMatch_43 (by decide) (fun c_43 => absurd c_43 (fun e => absurd ((oI_none (x := some g) (fun k h => by cases h; omega)).mp e) (by simp))) (fun c_43 => ?_)
            refine g_iload_n X dX3_firstMatch_46 rfl rfl ?_
            refine g_if_eq (tgt := 69) X dX3_firstMatch_47 (by decide) (fun c_47 => ?_) (fun c_47 => absurd (by decide) c_47)
            refine g_iload X dX3_firstMatch_69 rfl ?_
            refine g_aload_n X dX3_firstMatch_71 rfl rfl ?_
            refine g_getf X dX3_firstMatch_72 fl_X3_9 (by repeat (first | with_reducible exact Pk.here | with_reducible apply Pk.there)) (by exact rfl) ?_
            refine g_iload_n X dX3_firstMatch_75 rfl rfl ?_
            refine g_callS X dX3_firstMatch_76 ms_X3_61 (c_X3_orderAtPlace hB) rfl (by repeat (first | with_reducible exact Pks.nil | (with_reducible refine Pks.pure (by assumption) ?_) | (with_reducible apply Pks.cons; focus ((repeat (first | with_reducible exact Pk.here | with_reducible apply Pk.there)); done)))) rfl rfl (by decide) (by exact Nat.le_of_ble_eq_true rfl) (by first | decide | omega) (fun r w1 hq => ?_) (fun E q w1 hq => hq.elim)
            obtain ⟨rfl, rfl⟩ := hq
            dsimp only [wM, List.cons_append, List.nil_append, Option.toList_some, Option.toList_none]
            refine g_iconst (v := 3) X dX3_firstMatch_79 rfl ?_
            refine g_iadd X dX3_firstMatch_80 ?_
            refine g_iald (35+5*g+3) X dX3_firstMatch_81 (by repeat (first | with_reducible exact Pk.here | with_reducible apply Pk.there)) (by rw [io, nIp3]) (by omega) (by exact u3) ?_
            refine g_icmp_le (tgt := 89) X dX3_firstMatch_82 (by decide) (fun c_82 => ?_) (fun c_82 => ?_)
            · rw [nI_leI (by omega) (by omega)] at c_82
              rw [decide_eq_false (by omega), if_neg (by decide)] at hs
              refine g_iconst (v := 0) X dX3_firstMatch_89 rfl ?_
              refine is_7_6 X dX3_firstMatch_90 (by exact st_lz [_, _, _, _, _, _] [] h6 rfl) ?_
              refine g_iload X dX3_firstMatch_92 rfl ?_
              refine g_if_eq (tgt := 102) X dX3_firstMatch_94 (by decide) (fun c_94 => ?_) (fun c_94 => absurd (by decide) c_94)
              refine g_iload_n X dX3_firstMatch_102 rfl rfl ?_
              refine is_7_3n X dX3_firstMatch_103 rfl rfl ?_
              refine ii_7_4 (v := nI (k + 1)) X dX3_firstMatch_104 (nI_1 k) rfl ?_
              refine g_goto (tgt := 5) X dX3_firstMatch_107 (by decide) ?_
              exact ih (k + 1) (by omega) _ _ _ (by rw [hs]; rfl) LZ.i LZ.i
            · rw [nI_leI (by omega) (by omega)] at c_82
              rw [decide_eq_true (by omega), if_pos rfl] at hs
              refine g_iconst (v := 1) X dX3_firstMatch_85 rfl ?_
              refine g_goto (tgt := 90) X dX3_firstMatch_86 (by decide) ?_
              refine is_7_6 X dX3_firstMatch_90 (by exact st_lz [_, _, _, _, _, _] [] h6 rfl) ?_
              refine g_iload X dX3_firstMatch_92 rfl ?_
              refine g_if_eq (tgt := 102) X dX3_firstMatch_94 (by decide) (fun c_94 => absurd c_94 (by decide)) (fun c_94 => ?_)
              refine g_iload X dX3_firstMatch_97 rfl ?_
              refine g_goto (tgt := 103) X dX3_firstMatch_99 (by decide) ?_
              refine is_7_3n X dX3_firstMatch_103 rfl rfl ?_
              refine ii_7_4 (v := nI (k + 1)) X dX3_firstMatch_104 (nI_1 k) rfl ?_
              refine g_goto (tgt := 5) X dX3_firstMatch_107 (by decide) ?_
              exact ih (k + 1) (by omega) _ _ _ (by rw [hs]; rfl) LZ.i LZ.i
  exact L O.length 0 (by omega) _ _ _ rfl LZ.u LZ.u
/-- whether a trader's own order would match -/
def moU (t : Nat) (b : Bool) (p : Nat) (O : List OO) : Nat → Bool
  | 0 => false
  | k + 1 => moU t b p O k || match O[k]? with
    | none => false
    | some o => matB b p o && decide (o.2.1 = t)
theorem c_X3_matchesOwn (hB : Bs B) {t p : Nat} {b : Bool} (hE : EnO M O) (hp : p < 100) (ht : t < 6) : Tr B yX3_matchesOwn (Cond.code yX3_matchesOwn cX3_matchesOwn 6 (some .boolean)) (rmd 4 0 0) [.ref m, .int (nI t), .int (bI b), .int (nI p)] (wM m ad sv ch ea fa th pm lm cm p0 s0 iw M) (fun r w => r = some (.int (bI (moU t b p O O.length))) ∧ w = wM m ad sv ch ea fa th pm lm cm p0 s0 iw M) nox := by
  have hlen := hE.2.1
  refine tr_of hB (by decide +kernel) rfl ?_
  intro Γ X Y
  refine g_eq (ls' := [.val (.ref m), .val (.int (nI t)), .val (.int (bI b)), .val (.int (nI p)), .unset, .unset]) rfl rfl ?_
  refine g_iconst (v := 0) X dX3_matchesOwn_0 rfl ?_
  refine is_6_4 X dX3_matchesOwn_1 rfl ?_
  refine g_iconst (v := 0) X dX3_matchesOwn_3 rfl ?_
  refine is_6_5 X dX3_matchesOwn_4 rfl ?_
  have L : ∀ j k, k + j = O.length → ∀ (f : Int32), f = bI (moU t b p O k) → G B Γ 0 0 (wM m ad sv ch ea fa th pm lm cm p0 s0 iw M) 6 [.val (.ref m), .val (.int (nI t)), .val (.int (bI b)), .val (.int (nI p)), .val (.int f), .val (.int (nI k))] [] := by
    intro j
    induction j with
    | zero =>
      intro k hk f hf
      refine g_iload X dX3_matchesOwn_6 rfl ?_
      refine g_aload_n X dX3_matchesOwn_8 rfl rfl ?_
      refine g_getf X dX3_matchesOwn_9 fl_X3_9 (by repeat (first | with_reducible exact Pk.here | with_reducible apply Pk.there)) (by exact rfl) ?_
      refine g_iconst (v := 1) X dX3_matchesOwn_12 rfl ?_
      refine g_iald (1) X dX3_matchesOwn_13 (by repeat (first | with_reducible exact Pk.here | with_reducible apply Pk.there)) (by decide) (by decide) (by exact hE.1) ?_
      refine g_icmp_ge (tgt := 62) X dX3_matchesOwn_14 (by decide) (fun c_14 => ?_) (fun c_14 => absurd (nI_le (by omega) (by omega)) c_14)
      refine g_iload X dX3_matchesOwn_62 rfl ?_
      exact g_iret X Y dX3_matchesOwn_64 (by rw [hf]; exact bI_nz) (⟨by rw [hf, show k = O.length by omega], rfl⟩) (Pks.tail (rest := _) (by repeat (first | with_reducible exact Pks.nil | (with_reducible refine Pks.pure (by assumption) ?_) | (with_reducible apply Pks.cons; focus ((repeat (first | with_reducible exact Pk.here | with_reducible apply Pk.there)); done)))))
    | succ j ih =>
      intro k hk f hf
      obtain ⟨o, ho⟩ : ∃ o, O[k]? = some o := ⟨_, List.getElem?_eq_getElem (by omega)⟩
      obtain ⟨⟨e0, e1, e2, e3, e4⟩, k1, k2, k3, k4⟩ := hE.2.2 k o ho
      have hs : moU t b p O (k + 1) = (moU t b p O k || (matB b p o && decide (o.2.1 = t))) := by simp [moU, ho]
      refine g_iload X dX3_matchesOwn_6 rfl ?_
      refine g_aload_n X dX3_matchesOwn_8 rfl rfl ?_
      refine g_getf X dX3_matchesOwn_9 fl_X3_9 (by repeat (first | with_reducible exact Pk.here | with_reducible apply Pk.there)) (by exact rfl) ?_
      refine g_iconst (v := 1) X dX3_matchesOwn_12 rfl ?_
      refine g_iald (1) X dX3_matchesOwn_13 (by repeat (first | with_reducible exact Pk.here | with_reducible apply Pk.there)) (by decide) (by decide) (by exact hE.1) ?_
      refine g_icmp_ge (tgt := 62) X dX3_matchesOwn_14 (by decide) (fun c_14 => absurd c_14 (nI_ge (by omega) (by omega))) (fun c_14 => ?_)
      refine g_iload X dX3_matchesOwn_17 rfl ?_
      refine g_if_ne (tgt := 49) X dX3_matchesOwn_19 (by decide) (fun c_19 => ?_) (fun c_19 => ?_)
      · refine g_iconst (v := 1) X dX3_matchesOwn_49 rfl ?_
        refine g_goto (tgt := 54) X dX3_matchesOwn_50 (by decide) ?_
        refine is_6_4 X dX3_matchesOwn_54 rfl ?_
        refine ii_6_5 (v := nI (k + 1)) X dX3_matchesOwn_56 (nI_1 k) rfl ?_
        refine g_goto (tgt := 6) X dX3_matchesOwn_59 (by decide) ?_
        exact ih (k + 1) (by omega) _ (by rw [hs]; simp only [hf, bI_0, bI_n0, bI_1, nI_eq (show o.2.1 < 2 ^ 31 by omega) (show t < 2 ^ 31 by omega)] at *; simp_all [bI] <;> exact fun e => ‹¬ nI _ = nI _› (congrArg nI e))
      · refine g_aload_n X dX3_matchesOwn_22 rfl rfl ?_
        refine g_iload_n X dX3_matchesOwn_23 rfl rfl ?_
        refine g_iload_n X dX3_matchesOwn_24 rfl rfl ?_
        refine g_iload X dX3_matchesOwn_25 rfl ?_
        refine g_callV X dX3_matchesOwn_27 mv_X3_69 (c_X3_matches hB hE ho hp) rfl cl_X3 (by repeat (first | with_reducible exact Rc.pt | with_reducible apply Rc.there)) (by repeat (first | with_reducible exact Pks.nil | (with_reducible refine Pks.pure (by assumption) ?_) | (with_reducible apply Pks.cons; focus ((repeat (first | with_reducible exact Pk.here | with_reducible apply Pk.there)); done)))) rfl rfl (by decide) (by exact Nat.le_of_ble_eq_true rfl) (by first | decide | omega) (fun r w1 hq => ?_) (fun E q w1 hq => hq.elim)
        obtain ⟨rfl, rfl⟩ := hq
        dsimp only [wM, List.cons_append, List.nil_append, Option.toList_some, Option.toList_none]
        refine g_if_eq (tgt := 53) X dX3_matchesOwn_30 (by decide) (fun c_30 => ?_) (fun c_30 => ?_)
        · refine g_iconst (v := 0) X dX3_matchesOwn_53 rfl ?_
          refine is_6_4 X dX3_matchesOwn_54 rfl ?_
          refine ii_6_5 (v := nI (k + 1)) X dX3_matchesOwn_56 (nI_1 k) rfl ?_
          refine g_goto (tgt := 6) X dX3_matchesOwn_59 (by decide) ?_
          exact ih (k + 1) (by omega) _ (by rw [hs]; simp only [hf, bI_0, bI_n0, bI_1, nI_eq (show o.2.1 < 2 ^ 31 by omega) (show t < 2 ^ 31 by omega)] at *; simp_all [bI] <;> exact fun e => ‹¬ nI _ = nI _› (congrArg nI e))
        · refine g_aload_n X dX3_matchesOwn_33 rfl rfl ?_
          refine g_getf X dX3_matchesOwn_34 fl_X3_9 (by repeat (first | with_reducible exact Pk.here | with_reducible apply Pk.there)) (by exact rfl) ?_
          refine g_iload X dX3_matchesOwn_37 rfl ?_
          refine g_callS X dX3_matchesOwn_39 ms_X3_61 (c_X3_orderAtPlace hB) rfl (by repeat (first | with_reducible exact Pks.nil | (with_reducible refine Pks.pure (by assumption) ?_) | (with_reducible apply Pks.cons; focus ((repeat (first | with_reducible exact Pk.here | with_reducible apply Pk.there)); done)))) rfl rfl (by decide) (by exact Nat.le_of_ble_eq_true rfl) (by first | decide | omega) (fun r w1 hq => ?_) (fun E q w1 hq => hq.elim)
          obtain ⟨rfl, rfl⟩ := hq
          dsimp only [wM, List.cons_append, List.nil_append, Option.toList_some, Option.toList_none]
          refine g_iconst (v := 1) X dX3_matchesOwn_42 rfl ?_
          refine g_iadd X dX3_matchesOwn_43 ?_
          refine g_iald (35+5*k+1) X dX3_matchesOwn_44 (by repeat (first | with_reducible exact Pk.here | with_reducible apply Pk.there)) (by rw [io, nI_1]) (by omega) (by exact e1) ?_
          refine g_iload_n X dX3_matchesOwn_45 rfl rfl ?_
          refine g_icmp_ne (tgt := 53) X dX3_matchesOwn_46 (by decide) (fun c_46 => ?_) (fun c_46 => ?_)
          · refine g_iconst (v := 0) X dX3_matchesOwn_53 rfl ?_
            refine is_6_4 X dX3_matchesOwn_54 rfl ?_
            refine ii_6_5 (v := nI (k + 1)) X dX3_matchesOwn_56 (nI_1 k) rfl ?_
            refine g_goto (tgt := 6) X dX3_matchesOwn_59 (by decide) ?_
            exact ih (k + 1) (by omega) _ (by rw [hs]; simp only [hf, bI_0, bI_n0, bI_1, nI_eq (show o.2.1 < 2 ^ 31 by omega) (show t < 2 ^ 31 by omega)] at *; simp_all [bI] <;> exact fun e => ‹¬ nI _ = nI _› (congrArg nI e))
          · refine g_iconst (v := 1) X dX3_matchesOwn_49 rfl ?_
            refine g_goto (tgt := 54) X dX3_matchesOwn_50 (by decide) ?_
            refine is_6_4 X dX3_matchesOwn_54 rfl ?_
            refine ii_6_5 (v := nI (k + 1)) X dX3_matchesOwn_56 (nI_1 k) rfl ?_
            refine g_goto (tgt := 6) X dX3_matchesOwn_59 (by decide) ?_
            exact ih (k + 1) (by omega) _ (by rw [hs]; simp only [hf, bI_0, bI_n0, bI_1, nI_eq (show o.2.1 < 2 ^ 31 by omega) (show t < 2 ^ 31 by omega)] at *; simp_all [bI] <;> exact fun e => ‹¬ nI _ = nI _› (congrArg nI e))
  exact L O.length 0 (by omega) _ rfl
end MODEL
