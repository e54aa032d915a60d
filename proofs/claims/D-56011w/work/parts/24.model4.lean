/-! THE MODEL: an order closed, a trade -/
set_option maxRecDepth 100000
section MODEL
variable {B : Bt} {m : Nat} {ad : Nat → Nat} {sv ch ea fa th pm lm cm p0 s0 iw : Int32} {M A : Nat → Int32} {O : List OO}
/-- the array with the order at k closed -/
abbrev clM (M : Nat → Int32) (k : Nat) : Nat → Int32 := upd (cpu (cpu M (fun q => M (q + 5)) (35 + 5 * k) 110) (fun _ => 0) 110 115) 1 (M 1 - 1)
theorem c_X3_closesOrder (hB : Bs B) {k : Nat} (hk : k < 16) : Tr B yX3_closesOrder (Cond.code yX3_closesOrder cX3_closesOrder 3 none) (rmd 2 0 0) [.ref m, .int (nI k)] (wM m ad sv ch ea fa th pm lm cm p0 s0 iw M) (fun r w => r = none ∧ w = wM m ad sv ch ea fa th pm lm cm p0 s0 iw (clM M k)) nox := by
  refine tr_of hB (by decide +kernel) rfl ?_
  intro Γ X Y
  refine g_eq (ls' := [.val (.ref m), .val (.int (nI k)), .unset]) rfl rfl ?_
  refine g_iload_n X dX3_closesOrder_0 rfl rfl ?_
  refine g_callS X dX3_closesOrder_1 ms_X3_61 (c_X3_orderAtPlace hB) rfl (by repeat (first | with_reducible exact Pks.nil | (with_reducible refine Pks.pure (by assumption) ?_) | (with_reducible apply Pks.cons; focus ((repeat (first | with_reducible exact Pk.here | with_reducible apply Pk.there)); done)))) rfl rfl (by decide) (by exact Nat.le_of_ble_eq_true rfl) (by first | decide | omega) (fun r w1 hq => ?_) (fun E q w1 hq => hq.elim)
  obtain ⟨rfl, rfl⟩ := hq
  dsimp only [wM, List.cons_append, List.nil_append, Option.toList_some, Option.toList_none]
  rw [io]
  refine is_3_2n X dX3_closesOrder_4 rfl rfl ?_
  have L2 : ∀ j i, i + j = 115 → 110 ≤ i → G B Γ 0 0 (wM m ad sv ch ea fa th pm lm cm p0 s0 iw (cpu (cpu M (fun q => M (q + 5)) (35 + 5 * k) 110) (fun _ => 0) 110 i)) 34 [.val (.ref m), .val (.int (nI k)), .val (.int (nI i))] [] := by
    intro j
    induction j with
    | zero =>
      intro i hi h1
      obtain rfl : i = 115 := by omega
      refine g_iload_n X dX3_closesOrder_34 rfl rfl ?_
      refine g_bipush (v := 115) X dX3_closesOrder_35 rfl ?_
      refine g_icmp_ge (tgt := 53) X dX3_closesOrder_37 (by decide) (fun c_37 => ?_) (fun c_37 => absurd (nI_le (a := 115) (by omega) (by omega)) c_37)
      refine g_aload_n X dX3_closesOrder_53 rfl rfl ?_
      refine g_getf X dX3_closesOrder_54 fl_X3_9 (by repeat (first | with_reducible exact Pk.here | with_reducible apply Pk.there)) (by exact rfl) ?_
      refine g_iconst (v := 1) X dX3_closesOrder_57 rfl ?_
      refine g_dup2 X dX3_closesOrder_58 rfl rfl ?_
      refine g_iald (1) X dX3_closesOrder_59 (by repeat (first | with_reducible exact Pk.here | with_reducible apply Pk.there)) (rfl) (by decide) (by rw [cpu_lo (by decide), cpu_lo (by omega)]) ?_
      refine g_iconst (v := 1) X dX3_closesOrder_60 rfl ?_
      refine g_isub X dX3_closesOrder_61 ?_
      refine g_iast (1) X dX3_closesOrder_62 (by repeat (first | with_reducible exact Rp.here | with_reducible apply Rp.there)) (by decide) (by decide) ?_
      exact g_vret X Y dX3_closesOrder_63 (⟨rfl, rfl⟩) (Pks.tail (rest := _) (by repeat (first | with_reducible exact Pks.nil | (with_reducible refine Pks.pure (by assumption) ?_) | (with_reducible apply Pks.cons; focus ((repeat (first | with_reducible exact Pk.here | with_reducible apply Pk.there)); done)))))
    | succ j ih =>
      intro i hi h1
      refine g_iload_n X dX3_closesOrder_34 rfl rfl ?_
      refine g_bipush (v := 115) X dX3_closesOrder_35 rfl ?_
      refine g_icmp_ge (tgt := 53) X dX3_closesOrder_37 (by decide) (fun c_37 => absurd c_37 (nI_ge (b := 115) (by omega) (by decide))) (fun c_37 => ?_)
      refine g_aload_n X dX3_closesOrder_40 rfl rfl ?_
      refine g_getf X dX3_closesOrder_41 fl_X3_9 (by repeat (first | with_reducible exact Pk.here | with_reducible apply Pk.there)) (by exact rfl) ?_
      refine g_iload_n X dX3_closesOrder_44 rfl rfl ?_
      refine g_iconst (v := 0) X dX3_closesOrder_45 rfl ?_
      refine g_iast (i) X dX3_closesOrder_46 (by repeat (first | with_reducible exact Rp.here | with_reducible apply Rp.there)) (rfl) (by omega) ?_
      refine ii_3_2 (v := nI (i + 1)) X dX3_closesOrder_47 (nI_1 i) rfl ?_
      refine g_goto (tgt := 34) X dX3_closesOrder_50 (by decide) ?_
      rw [cpu_st h1 rfl]
      exact ih (i + 1) (by omega) (by omega)
  have L1 : ∀ j i, i + j = 110 → 35 + 5 * k ≤ i → G B Γ 0 0 (wM m ad sv ch ea fa th pm lm cm p0 s0 iw (cpu M (fun q => M (q + 5)) (35 + 5 * k) i)) 5 [.val (.ref m), .val (.int (nI k)), .val (.int (nI i))] [] := by
    intro j
    induction j with
    | zero =>
      intro i hi h1
      obtain rfl : i = 110 := by omega
      refine g_iload_n X dX3_closesOrder_5 rfl rfl ?_
      refine g_bipush (v := 110) X dX3_closesOrder_6 rfl ?_
      refine g_icmp_ge (tgt := 31) X dX3_closesOrder_8 (by decide) (fun c_8 => ?_) (fun c_8 => absurd (nI_le (a := 110) (by omega) (by omega)) c_8)
      refine g_bipush (v := 110) X dX3_closesOrder_31 rfl ?_
      refine is_3_2n X dX3_closesOrder_33 rfl rfl ?_
      have h2 := L2 5 110 rfl (by omega)
      rw [cpu_0] at h2
      exact h2
    | succ j ih =>
      intro i hi h1
      refine g_iload_n X dX3_closesOrder_5 rfl rfl ?_
      refine g_bipush (v := 110) X dX3_closesOrder_6 rfl ?_
      refine g_icmp_ge (tgt := 31) X dX3_closesOrder_8 (by decide) (fun c_8 => absurd c_8 (nI_ge (b := 110) (by omega) (by decide))) (fun c_8 => ?_)
      refine g_aload_n X dX3_closesOrder_11 rfl rfl ?_
      refine g_getf X dX3_closesOrder_12 fl_X3_9 (by repeat (first | with_reducible exact Pk.here | with_reducible apply Pk.there)) (by exact rfl) ?_
      refine g_iload_n X dX3_closesOrder_15 rfl rfl ?_
      refine g_aload_n X dX3_closesOrder_16 rfl rfl ?_
      refine g_getf X dX3_closesOrder_17 fl_X3_9 (by repeat (first | with_reducible exact Pk.here | with_reducible apply Pk.there)) (by exact rfl) ?_
      refine g_iload_n X dX3_closesOrder_20 rfl rfl ?_
      refine g_iconst (v := 5) X dX3_closesOrder_21 rfl ?_
      refine g_iadd X dX3_closesOrder_22 ?_
      refine g_iald (i+5) X dX3_closesOrder_23 (by repeat (first | with_reducible exact Pk.here | with_reducible apply Pk.there)) (nIp5 i) (by omega) (by exact cpu_hi (by omega)) ?_
      refine g_iast (i) X dX3_closesOrder_24 (by repeat (first | with_reducible exact Rp.here | with_reducible apply Rp.there)) (rfl) (by omega) ?_
      refine ii_3_2 (v := nI (i + 1)) X dX3_closesOrder_25 (nI_1 i) rfl ?_
      refine g_goto (tgt := 5) X dX3_closesOrder_28 (by decide) ?_
      rw [cpu_st h1 rfl]
      exact ih (i + 1) (by omega) (by omega)
  have h3 := L1 (110 - (35 + 5 * k)) (35 + 5 * k) (by omega) (by omega)
  rw [cpu_0] at h3
  exact h3
theorem nI_inj {a b : Nat} (ha : a < 2 ^ 31) (hb : b < 2 ^ 31) (h : nI a = nI b) : a = b := (nI_eq ha hb).mp h
/-- the array behind a trade of n units with the order o at k: what both sides have in common -/
abbrev trE (M1 M : Nat → Int32) (k : Nat) (o : OO) (n : Nat) : Nat → Int32 := upd (upd (upd (upd M1 5 (nI o.2.2.2.1)) 6 (M 6 + nI n)) 7 (M 7 + nI (n * o.2.2.2.1))) (35 + 5 * k + 4) (nI o.2.2.2.2 - nI n)
/-- of a bid of the trader t -/
abbrev trT (M : Nat → Int32) (t : Nat) (k : Nat) (o : OO) (n : Nat) : Nat → Int32 :=
  trE (upd (upd (upd M (17 + 3 * t) (M (17 + 3 * t) - nI (n * o.2.2.2.1))) (17 + 3 * t + 1) (M (17 + 3 * t + 1) + nI n)) (17 + 3 * o.2.1) ((upd (upd M (17 + 3 * t) (M (17 + 3 * t) - nI (n * o.2.2.2.1))) (17 + 3 * t + 1) (M (17 + 3 * t + 1) + nI n)) (17 + 3 * o.2.1) + nI (n * o.2.2.2.1))) M k o n
/-- of an ask -/
abbrev trF (M : Nat → Int32) (t : Nat) (k : Nat) (o : OO) (n : Nat) : Nat → Int32 :=
  trE (upd (upd (upd M (17 + 3 * t) (M (17 + 3 * t) + nI (n * o.2.2.2.1))) (17 + 3 * t + 1) (M (17 + 3 * t + 1) - nI n)) (17 + 3 * o.2.1 + 1) ((upd (upd M (17 + 3 * t) (M (17 + 3 * t) + nI (n * o.2.2.2.1))) (17 + 3 * t + 1) (M (17 + 3 * t + 1) - nI n)) (17 + 3 * o.2.1 + 1) + nI n)) M k o n
theorem c_X3_tradesT (hB : Bs B) {t k n : Nat} {o : OO} (hE : EnO M O) (ho : O[k]? = some o) (ht : t < 6) (hn : n ≤ o.2.2.2.2) : Tr B yX3_trades (Cond.code yX3_trades cX3_trades 8 none) (rmd 3 0 0) [.ref m, .int (nI t), .int (bI true), .int (nI k), .int (nI n)] (wM m ad sv ch ea fa th pm lm cm p0 s0 iw M) (fun r w => r = none ∧ w = wM m ad sv ch ea fa th pm lm cm p0 s0 iw (if n = o.2.2.2.2 then clM (trT M t k o n) k else trT M t k o n)) nox := by
  have hl := (List.getElem?_eq_some_iff.mp ho).1
  have hl2 := hE.2.1
  obtain ⟨⟨e0, e1, e2, e3, e4⟩, k1, k2, k3, k4⟩ := hE.2.2 k o ho
  refine tr_of hB (by decide +kernel) rfl ?_
  intro Γ X Y
  refine g_eq (ls' := [.val (.ref m), .val (.int (nI t)), .val (.int (bI true)), .val (.int (nI k)), .val (.int (nI n)), .unset, .unset, .unset]) rfl rfl ?_
  refine g_iload_n X dX3_trades_0 rfl rfl ?_
  refine g_callS X dX3_trades_1 ms_X3_61 (c_X3_orderAtPlace hB) rfl (by repeat (first | with_reducible exact Pks.nil | (with_reducible refine Pks.pure (by assumption) ?_) | (with_reducible apply Pks.cons; focus ((repeat (first | with_reducible exact Pk.here | with_reducible apply Pk.there)); done)))) rfl rfl (by decide) (by exact Nat.le_of_ble_eq_true rfl) (by first | decide | omega) (fun r w1 hq => ?_) (fun E q w1 hq => hq.elim)
  obtain ⟨rfl, rfl⟩ := hq
  dsimp only [wM, List.cons_append, List.nil_append, Option.toList_some, Option.toList_none]
  rw [io]
  refine is_8_5 X dX3_trades_4 rfl ?_
  refine g_aload_n X dX3_trades_6 rfl rfl ?_
  refine g_getf X dX3_trades_7 fl_X3_9 (by repeat (first | with_reducible exact Pk.here | with_reducible apply Pk.there)) (by exact rfl) ?_
  refine g_iload X dX3_trades_10 rfl ?_
  refine g_iconst (v := 1) X dX3_trades_12 rfl ?_
  refine g_iadd X dX3_trades_13 ?_
  refine g_iald (35+5*k+1) X dX3_trades_14 (by repeat (first | with_reducible exact Pk.here | with_reducible apply Pk.there)) (nI_1 _) (by omega) (by exact e1) ?_
  refine is_8_6 X dX3_trades_15 rfl ?_
  refine g_iload X dX3_trades_17 rfl ?_
  refine g_aload_n X dX3_trades_19 rfl rfl ?_
  refine g_getf X dX3_trades_20 fl_X3_9 (by repeat (first | with_reducible exact Pk.here | with_reducible apply Pk.there)) (by exact rfl) ?_
  refine g_iload X dX3_trades_23 rfl ?_
  refine g_iconst (v := 3) X dX3_trades_25 rfl ?_
  refine g_iadd X dX3_trades_26 ?_
  refine g_iald (35+5*k+3) X dX3_trades_27 (by repeat (first | with_reducible exact Pk.here | with_reducible apply Pk.there)) (nIp3 _) (by omega) (by exact e3) ?_
  refine g_imul X dX3_trades_28 ?_
  rw [pk_mul]
  refine is_8_7 X dX3_trades_29 rfl ?_
  refine g_iload_n X dX3_trades_31 rfl rfl ?_
  refine g_if_eq (tgt := 83) X dX3_trades_32 (by decide) (fun c_32 => absurd c_32 (by decide)) (fun c_32 => ?_)
  refine g_aload_n X dX3_trades_35 rfl rfl ?_
  refine g_getf X dX3_trades_36 fl_X3_9 (by repeat (first | with_reducible exact Pk.here | with_reducible apply Pk.there)) (by exact rfl) ?_
  refine g_iload_n X dX3_trades_39 rfl rfl ?_
  refine g_callS X dX3_trades_40 ms_X3_78 (c_X3_traderAt hB) rfl (by repeat (first | with_reducible exact Pks.nil | (with_reducible refine Pks.pure (by assumption) ?_) | (with_reducible apply Pks.cons; focus ((repeat (first | with_reducible exact Pk.here | with_reducible apply Pk.there)); done)))) rfl rfl (by decide) (by exact Nat.le_of_ble_eq_true rfl) (by first | decide | omega) (fun r w1 hq => ?_) (fun E q w1 hq => hq.elim)
  obtain ⟨rfl, rfl⟩ := hq
  dsimp only [wM, List.cons_append, List.nil_append, Option.toList_some, Option.toList_none]
  rw [it_]
  refine g_dup2 X dX3_trades_43 rfl rfl ?_
  refine g_iald (17+3*t) X dX3_trades_44 (by repeat (first | with_reducible exact Pk.here | with_reducible apply Pk.there)) (rfl) (by omega) (by exact rfl) ?_
  refine g_iload X dX3_trades_45 rfl ?_
  refine g_isub X dX3_trades_47 ?_
  refine g_iast (17+3*t) X dX3_trades_48 (by repeat (first | with_reducible exact Rp.here | with_reducible apply Rp.there)) (rfl) (by omega) ?_
  refine g_aload_n X dX3_trades_49 rfl rfl ?_
  refine g_getf X dX3_trades_50 fl_X3_9 (by repeat (first | with_reducible exact Pk.here | with_reducible apply Pk.there)) (by exact rfl) ?_
  refine g_iload_n X dX3_trades_53 rfl rfl ?_
  refine g_callS X dX3_trades_54 ms_X3_78 (c_X3_traderAt hB) rfl (by repeat (first | with_reducible exact Pks.nil | (with_reducible refine Pks.pure (by assumption) ?_) | (with_reducible apply Pks.cons; focus ((repeat (first | with_reducible exact Pk.here | with_reducible apply Pk.there)); done)))) rfl rfl (by decide) (by exact Nat.le_of_ble_eq_true rfl) (by first | decide | omega) (fun r w1 hq => ?_) (fun E q w1 hq => hq.elim)
  obtain ⟨rfl, rfl⟩ := hq
  dsimp only [wM, List.cons_append, List.nil_append, Option.toList_some, Option.toList_none]
  rw [it_]
  refine g_iconst (v := 1) X dX3_trades_57 rfl ?_
  refine g_iadd X dX3_trades_58 ?_
  rw [nI_1]
  refine g_dup2 X dX3_trades_59 rfl rfl ?_
  refine g_iald (17+3*t+1) X dX3_trades_60 (by repeat (first | with_reducible exact Pk.here | with_reducible apply Pk.there)) (rfl) (by omega) (by exact upd_n (by omega)) ?_
  refine g_iload X dX3_trades_61 rfl ?_
  refine g_iadd X dX3_trades_63 ?_
  refine g_iast (17+3*t+1) X dX3_trades_64 (by repeat (first | with_reducible exact Rp.here | with_reducible apply Rp.there)) (rfl) (by omega) ?_
  refine g_aload_n X dX3_trades_65 rfl rfl ?_
  refine g_getf X dX3_trades_66 fl_X3_9 (by repeat (first | with_reducible exact Pk.here | with_reducible apply Pk.there)) (by exact rfl) ?_
  refine g_iload X dX3_trades_69 rfl ?_
  refine g_callS X dX3_trades_71 ms_X3_78 (c_X3_traderAt hB) rfl (by repeat (first | with_reducible exact Pks.nil | (with_reducible refine Pks.pure (by assumption) ?_) | (with_reducible apply Pks.cons; focus ((repeat (first | with_reducible exact Pk.here | with_reducible apply Pk.there)); done)))) rfl rfl (by decide) (by exact Nat.le_of_ble_eq_true rfl) (by first | decide | omega) (fun r w1 hq => ?_) (fun E q w1 hq => hq.elim)
  obtain ⟨rfl, rfl⟩ := hq
  dsimp only [wM, List.cons_append, List.nil_append, Option.toList_some, Option.toList_none]
  rw [it_]
  refine g_dup2 X dX3_trades_74 rfl rfl ?_
  refine g_iald (17+3*o.2.1) X dX3_trades_75 (by repeat (first | with_reducible exact Pk.here | with_reducible apply Pk.there)) (rfl) (by omega) (by exact rfl) ?_
  refine g_iload X dX3_trades_76 rfl ?_
  refine g_iadd X dX3_trades_78 ?_
  refine g_iast (17+3*o.2.1) X dX3_trades_79 (by repeat (first | with_reducible exact Rp.here | with_reducible apply Rp.there)) (rfl) (by omega) ?_
  refine g_goto (tgt := 130) X dX3_trades_80 (by decide) ?_
  refine g_aload_n X dX3_trades_130 rfl rfl ?_
  refine g_getf X dX3_trades_131 fl_X3_9 (by repeat (first | with_reducible exact Pk.here | with_reducible apply Pk.there)) (by exact rfl) ?_
  refine g_iconst (v := 5) X dX3_trades_134 rfl ?_
  refine g_aload_n X dX3_trades_135 rfl rfl ?_
  refine g_getf X dX3_trades_136 fl_X3_9 (by repeat (first | with_reducible exact Pk.here | with_reducible apply Pk.there)) (by exact rfl) ?_
  refine g_iload X dX3_trades_139 rfl ?_
  refine g_iconst (v := 3) X dX3_trades_141 rfl ?_
  refine g_iadd X dX3_trades_142 ?_
  refine g_iald (35+5*k+3) X dX3_trades_143 (by repeat (first | with_reducible exact Pk.here | with_reducible apply Pk.there)) (nIp3 _) (by omega) (by rw [upd_n (by omega), upd_n (by omega), upd_n (by omega), e3]) ?_
  refine g_iast (5) X dX3_trades_144 (by repeat (first | with_reducible exact Rp.here | with_reducible apply Rp.there)) (by decide) (by decide) ?_
  refine g_aload_n X dX3_trades_145 rfl rfl ?_
  refine g_getf X dX3_trades_146 fl_X3_9 (by repeat (first | with_reducible exact Pk.here | with_reducible apply Pk.there)) (by exact rfl) ?_
  refine g_bipush (v := 6) X dX3_trades_149 rfl ?_
  refine g_dup2 X dX3_trades_151 rfl rfl ?_
  refine g_iald (6) X dX3_trades_152 (by repeat (first | with_reducible exact Pk.here | with_reducible apply Pk.there)) (rfl) (by decide) (by rw [upd_n (by decide), upd_n (by omega), upd_n (by omega), upd_n (by omega)]) ?_
  refine g_iload X dX3_trades_153 rfl ?_
  refine g_iadd X dX3_trades_155 ?_
  refine g_iast (6) X dX3_trades_156 (by repeat (first | with_reducible exact Rp.here | with_reducible apply Rp.there)) (by decide) (by decide) ?_
  refine g_aload_n X dX3_trades_157 rfl rfl ?_
  refine g_getf X dX3_trades_158 fl_X3_9 (by repeat (first | with_reducible exact Pk.here | with_reducible apply Pk.there)) (by exact rfl) ?_
  refine g_bipush (v := 7) X dX3_trades_161 rfl ?_
  refine g_dup2 X dX3_trades_163 rfl rfl ?_
  refine g_iald (7) X dX3_trades_164 (by repeat (first | with_reducible exact Pk.here | with_reducible apply Pk.there)) (rfl) (by decide) (by rw [upd_n (by decide), upd_n (by decide), upd_n (by omega), upd_n (by omega), upd_n (by omega)]) ?_
  refine g_iload X dX3_trades_165 rfl ?_
  refine g_iadd X dX3_trades_167 ?_
  refine g_iast (7) X dX3_trades_168 (by repeat (first | with_reducible exact Rp.here | with_reducible apply Rp.there)) (by decide) (by decide) ?_
  refine g_aload_n X dX3_trades_169 rfl rfl ?_
  refine g_getf X dX3_trades_170 fl_X3_9 (by repeat (first | with_reducible exact Pk.here | with_reducible apply Pk.there)) (by exact rfl) ?_
  refine g_iload X dX3_trades_173 rfl ?_
  refine g_iconst (v := 4) X dX3_trades_175 rfl ?_
  refine g_iadd X dX3_trades_176 ?_
  rw [nIp4]
  refine g_dup2 X dX3_trades_177 rfl rfl ?_
  refine g_iald (35+5*k+4) X dX3_trades_178 (by repeat (first | with_reducible exact Pk.here | with_reducible apply Pk.there)) (rfl) (by omega) (by rw [upd_n (by omega), upd_n (by omega), upd_n (by omega), upd_n (by omega), upd_n (by omega), upd_n (by omega), e4]) ?_
  refine g_iload X dX3_trades_179 rfl ?_
  refine g_isub X dX3_trades_181 ?_
  refine g_iast (35+5*k+4) X dX3_trades_182 (by repeat (first | with_reducible exact Rp.here | with_reducible apply Rp.there)) (rfl) (by omega) ?_
  refine g_aload_n X dX3_trades_183 rfl rfl ?_
  refine g_getf X dX3_trades_184 fl_X3_9 (by repeat (first | with_reducible exact Pk.here | with_reducible apply Pk.there)) (by exact rfl) ?_
  refine g_iload X dX3_trades_187 rfl ?_
  refine g_iconst (v := 4) X dX3_trades_189 rfl ?_
  refine g_iadd X dX3_trades_190 ?_
  refine g_iald (35+5*k+4) X dX3_trades_191 (by repeat (first | with_reducible exact Pk.here | with_reducible apply Pk.there)) (nIp4 _) (by omega) (by exact upd_s) ?_
  refine g_if_ne (tgt := 200) X dX3_trades_192 (by decide) (fun c_192 => ?_) (fun c_192 => ?_)
  · have h9 : ¬ n = o.2.2.2.2 := fun e => c_192 (by rw [e, pk_sub (Nat.le_refl _), Nat.sub_self]; rfl)
    exact g_vret X Y dX3_trades_200 (⟨rfl, by rw [if_neg h9]⟩) (Pks.tail (rest := _) (by repeat (first | with_reducible exact Pks.nil | (with_reducible refine Pks.pure (by assumption) ?_) | (with_reducible apply Pks.cons; focus ((repeat (first | with_reducible exact Pk.here | with_reducible apply Pk.there)); done)))))
  · have h9 : n = o.2.2.2.2 := by
      rw [pk_sub hn] at c_192
      have := nI_inj (b := 0) (show o.2.2.2.2 - n < 2 ^ 31 by omega) (by decide) c_192
      omega
    refine g_aload_n X dX3_trades_195 rfl rfl ?_
    refine g_iload_n X dX3_trades_196 rfl rfl ?_
    refine g_callV X dX3_trades_197 mv_X3_91 (c_X3_closesOrder hB (by omega)) rfl cl_X3 (by repeat (first | with_reducible exact Rc.pt | with_reducible apply Rc.there)) (by repeat (first | with_reducible exact Pks.nil | (with_reducible refine Pks.pure (by assumption) ?_) | (with_reducible apply Pks.cons; focus ((repeat (first | with_reducible exact Pk.here | with_reducible apply Pk.there)); done)))) rfl rfl (by decide) (by exact Nat.le_of_ble_eq_true rfl) (by first | decide | omega) (fun r w1 hq => ?_) (fun E q w1 hq => hq.elim)
    obtain ⟨rfl, rfl⟩ := hq
    dsimp only [wM, List.cons_append, List.nil_append, Option.toList_some, Option.toList_none]
    exact g_vret X Y dX3_trades_200 (⟨rfl, by rw [if_pos h9]⟩) (Pks.tail (rest := _) (by repeat (first | with_reducible exact Pks.nil | (with_reducible refine Pks.pure (by assumption) ?_) | (with_reducible apply Pks.cons; focus ((repeat (first | with_reducible exact Pk.here | with_reducible apply Pk.there)); done)))))
theorem c_X3_tradesF (hB : Bs B) {t k n : Nat} {o : OO} (hE : EnO M O) (ho : O[k]? = some o) (ht : t < 6) (hn : n ≤ o.2.2.2.2) : Tr B yX3_trades (Cond.code yX3_trades cX3_trades 8 none) (rmd 3 0 0) [.ref m, .int (nI t), .int (bI false), .int (nI k), .int (nI n)] (wM m ad sv ch ea fa th pm lm cm p0 s0 iw M) (fun r w => r = none ∧ w = wM m ad sv ch ea fa th pm lm cm p0 s0 iw (if n = o.2.2.2.2 then clM (trF M t k o n) k else trF M t k o n)) nox := by
  have hl := (List.getElem?_eq_some_iff.mp ho).1
  have hl2 := hE.2.1
  obtain ⟨⟨e0, e1, e2, e3, e4⟩, k1, k2, k3, k4⟩ := hE.2.2 k o ho
  refine tr_of hB (by decide +kernel) rfl ?_
  intro Γ X Y
  refine g_eq (ls' := [.val (.ref m), .val (.int (nI t)), .val (.int (bI false)), .val (.int (nI k)), .val (.int (nI n)), .unset, .unset, .unset]) rfl rfl ?_
  refine g_iload_n X dX3_trades_0 rfl rfl ?_
  refine g_callS X dX3_trades_1 ms_X3_61 (c_X3_orderAtPlace hB) rfl (by repeat (first | with_reducible exact Pks.nil | (with_reducible refine Pks.pure (by assumption) ?_) | (with_reducible apply Pks.cons; focus ((repeat (first | with_reducible exact Pk.here | with_reducible apply Pk.there)); done)))) rfl rfl (by decide) (by exact Nat.le_of_ble_eq_true rfl) (by first | decide | omega) (fun r w1 hq => ?_) (fun E q w1 hq => hq.elim)
  obtain ⟨rfl, rfl⟩ := hq
  dsimp only [wM, List.cons_append, List.nil_append, Option.toList_some, Option.toList_none]
  rw [io]
  refine is_8_5 X dX3_trades_4 rfl ?_
  refine g_aload_n X dX3_trades_6 rfl rfl ?_
  refine g_getf X dX3_trades_7 fl_X3_9 (by repeat (first | with_reducible exact Pk.here | with_reducible apply Pk.there)) (by exact rfl) ?_
  refine g_iload X dX3_trades_10 rfl ?_
  refine g_iconst (v := 1) X dX3_trades_12 rfl ?_
  refine g_iadd X dX3_trades_13 ?_
  refine g_iald (35+5*k+1) X dX3_trades_14 (by repeat (first | with_reducible exact Pk.here | with_reducible apply Pk.there)) (nI_1 _) (by omega) (by exact e1) ?_
  refine is_8_6 X dX3_trades_15 rfl ?_
  refine g_iload X dX3_trades_17 rfl ?_
  refine g_aload_n X dX3_trades_19 rfl rfl ?_
  refine g_getf X dX3_trades_20 fl_X3_9 (by repeat (first | with_reducible exact Pk.here | with_reducible apply Pk.there)) (by exact rfl) ?_
  refine g_iload X dX3_trades_23 rfl ?_
  refine g_iconst (v := 3) X dX3_trades_25 rfl ?_
  refine g_iadd X dX3_trades_26 ?_
  refine g_iald (35+5*k+3) X dX3_trades_27 (by repeat (first | with_reducible exact Pk.here | with_reducible apply Pk.there)) (nIp3 _) (by omega) (by exact e3) ?_
  refine g_imul X dX3_trades_28 ?_
  rw [pk_mul]
  refine is_8_7 X dX3_trades_29 rfl ?_
  refine g_iload_n X dX3_trades_31 rfl rfl ?_
  refine g_if_eq (tgt := 83) X dX3_trades_32 (by decide) (fun c_32 => ?_) (fun c_32 => absurd (rfl) c_32)
  refine g_aload_n X dX3_trades_83 rfl rfl ?_
  refine g_getf X dX3_trades_84 fl_X3_9 (by repeat (first | with_reducible exact Pk.here | with_reducible apply Pk.there)) (by exact rfl) ?_
  refine g_iload_n X dX3_trades_87 rfl rfl ?_
  refine g_callS X dX3_trades_88 ms_X3_78 (c_X3_traderAt hB) rfl (by repeat (first | with_reducible exact Pks.nil | (with_reducible refine Pks.pure (by assumption) ?_) | (with_reducible apply Pks.cons; focus ((repeat (first | with_reducible exact Pk.here | with_reducible apply Pk.there)); done)))) rfl rfl (by decide) (by exact Nat.le_of_ble_eq_true rfl) (by first | decide | omega) (fun r w1 hq => ?_) (fun E q w1 hq => hq.elim)
  obtain ⟨rfl, rfl⟩ := hq
  dsimp only [wM, List.cons_append, List.nil_append, Option.toList_some, Option.toList_none]
  rw [it_]
  refine g_dup2 X dX3_trades_91 rfl rfl ?_
  refine g_iald (17+3*t) X dX3_trades_92 (by repeat (first | with_reducible exact Pk.here | with_reducible apply Pk.there)) (rfl) (by omega) (by exact rfl) ?_
  refine g_iload X dX3_trades_93 rfl ?_
  refine g_iadd X dX3_trades_95 ?_
  refine g_iast (17+3*t) X dX3_trades_96 (by repeat (first | with_reducible exact Rp.here | with_reducible apply Rp.there)) (rfl) (by omega) ?_
  refine g_aload_n X dX3_trades_97 rfl rfl ?_
  refine g_getf X dX3_trades_98 fl_X3_9 (by repeat (first | with_reducible exact Pk.here | with_reducible apply Pk.there)) (by exact rfl) ?_
  refine g_iload_n X dX3_trades_101 rfl rfl ?_
  refine g_callS X dX3_trades_102 ms_X3_78 (c_X3_traderAt hB) rfl (by repeat (first | with_reducible exact Pks.nil | (with_reducible refine Pks.pure (by assumption) ?_) | (with_reducible apply Pks.cons; focus ((repeat (first | with_reducible exact Pk.here | with_reducible apply Pk.there)); done)))) rfl rfl (by decide) (by exact Nat.le_of_ble_eq_true rfl) (by first | decide | omega) (fun r w1 hq => ?_) (fun E q w1 hq => hq.elim)
  obtain ⟨rfl, rfl⟩ := hq
  dsimp only [wM, List.cons_append, List.nil_append, Option.toList_some, Option.toList_none]
  rw [it_]
  refine g_iconst (v := 1) X dX3_trades_105 rfl ?_
  refine g_iadd X dX3_trades_106 ?_
  rw [nI_1]
  refine g_dup2 X dX3_trades_107 rfl rfl ?_
  refine g_iald (17+3*t+1) X dX3_trades_108 (by repeat (first | with_reducible exact Pk.here | with_reducible apply Pk.there)) (rfl) (by omega) (by exact upd_n (by omega)) ?_
  refine g_iload X dX3_trades_109 rfl ?_
  refine g_isub X dX3_trades_111 ?_
  refine g_iast (17+3*t+1) X dX3_trades_112 (by repeat (first | with_reducible exact Rp.here | with_reducible apply Rp.there)) (rfl) (by omega) ?_
  refine g_aload_n X dX3_trades_113 rfl rfl ?_
  refine g_getf X dX3_trades_114 fl_X3_9 (by repeat (first | with_reducible exact Pk.here | with_reducible apply Pk.there)) (by exact rfl) ?_
  refine g_iload X dX3_trades_117 rfl ?_
  refine g_callS X dX3_trades_119 ms_X3_78 (c_X3_traderAt hB) rfl (by repeat (first | with_reducible exact Pks.nil | (with_reducible refine Pks.pure (by assumption) ?_) | (with_reducible apply Pks.cons; focus ((repeat (first | with_reducible exact Pk.here | with_reducible apply Pk.there)); done)))) rfl rfl (by decide) (by exact Nat.le_of_ble_eq_true rfl) (by first | decide | omega) (fun r w1 hq => ?_) (fun E q w1 hq => hq.elim)
  obtain ⟨rfl, rfl⟩ := hq
  dsimp only [wM, List.cons_append, List.nil_append, Option.toList_some, Option.toList_none]
  rw [it_]
  refine g_iconst (v := 1) X dX3_trades_122 rfl ?_
  refine g_iadd X dX3_trades_123 ?_
  rw [nI_1]
  refine g_dup2 X dX3_trades_124 rfl rfl ?_
  refine g_iald (17+3*o.2.1+1) X dX3_trades_125 (by repeat (first | with_reducible exact Pk.here | with_reducible apply Pk.there)) (rfl) (by omega) (by exact rfl) ?_
  refine g_iload X dX3_trades_126 rfl ?_
  refine g_iadd X dX3_trades_128 ?_
  refine g_iast (17+3*o.2.1+1) X dX3_trades_129 (by repeat (first | with_reducible exact Rp.here | with_reducible apply Rp.there)) (rfl) (by omega) ?_
  refine g_aload_n X dX3_trades_130 rfl rfl ?_
  refine g_getf X dX3_trades_131 fl_X3_9 (by repeat (first | with_reducible exact Pk.here | with_reducible apply Pk.there)) (by exact rfl) ?_
  refine g_iconst (v := 5) X dX3_trades_134 rfl ?_
  refine g_aload_n X dX3_trades_135 rfl rfl ?_
  refine g_getf X dX3_trades_136 fl_X3_9 (by repeat (first | with_reducible exact Pk.here | with_reducible apply Pk.there)) (by exact rfl) ?_
  refine g_iload X dX3_trades_139 rfl ?_
  refine g_iconst (v := 3) X dX3_trades_141 rfl ?_
  refine g_iadd X dX3_trades_142 ?_
  refine g_iald (35+5*k+3) X dX3_trades_143 (by repeat (first | with_reducible exact Pk.here | with_reducible apply Pk.there)) (nIp3 _) (by omega) (by rw [upd_n (by omega), upd_n (by omega), upd_n (by omega), e3]) ?_
  refine g_iast (5) X dX3_trades_144 (by repeat (first | with_reducible exact Rp.here | with_reducible apply Rp.there)) (by decide) (by decide) ?_
  refine g_aload_n X dX3_trades_145 rfl rfl ?_
  refine g_getf X dX3_trades_146 fl_X3_9 (by repeat (first | with_reducible exact Pk.here | with_reducible apply Pk.there)) (by exact rfl) ?_
  refine g_bipush (v := 6) X dX3_trades_149 rfl ?_
  refine g_dup2 X dX3_trades_151 rfl rfl ?_
  refine g_iald (6) X dX3_trades_152 (by repeat (first | with_reducible exact Pk.here | with_reducible apply Pk.there)) (rfl) (by decide) (by rw [upd_n (by decide), upd_n (by omega), upd_n (by omega), upd_n (by omega)]) ?_
  refine g_iload X dX3_trades_153 rfl ?_
  refine g_iadd X dX3_trades_155 ?_
  refine g_iast (6) X dX3_trades_156 (by repeat (first | with_reducible exact Rp.here | with_reducible apply Rp.there)) (by decide) (by decide) ?_
  refine g_aload_n X dX3_trades_157 rfl rfl ?_
  refine g_getf X dX3_trades_158 fl_X3_9 (by repeat (first | with_reducible exact Pk.here | with_reducible apply Pk.there)) (by exact rfl) ?_
  refine g_bipush (v := 7) X dX3_trades_161 rfl ?_
  refine g_dup2 X dX3_trades_163 rfl rfl ?_
  refine g_iald (7) X dX3_trades_164 (by repeat (first | with_reducible exact Pk.here | with_reducible apply Pk.there)) (rfl) (by decide) (by rw [upd_n (by decide), upd_n (by decide), upd_n (by omega), upd_n (by omega), upd_n (by omega)]) ?_
  refine g_iload X dX3_trades_165 rfl ?_
  refine g_iadd X dX3_trades_167 ?_
  refine g_iast (7) X dX3_trades_168 (by repeat (first | with_reducible exact Rp.here | with_reducible apply Rp.there)) (by decide) (by decide) ?_
  refine g_aload_n X dX3_trades_169 rfl rfl ?_
  refine g_getf X dX3_trades_170 fl_X3_9 (by repeat (first | with_reducible exact Pk.here | with_reducible apply Pk.there)) (by exact rfl) ?_
  refine g_iload X dX3_trades_173 rfl ?_
  refine g_iconst (v := 4) X dX3_trades_175 rfl ?_
  refine g_iadd X dX3_trades_176 ?_
  rw [nIp4]
  refine g_dup2 X dX3_trades_177 rfl rfl ?_
  refine g_iald (35+5*k+4) X dX3_trades_178 (by repeat (first | with_reducible exact Pk.here | with_reducible apply Pk.there)) (rfl) (by omega) (by rw [upd_n (by omega), upd_n (by omega), upd_n (by omega), upd_n (by omega), upd_n (by omega), upd_n (by omega), e4]) ?_
  refine g_iload X dX3_trades_179 rfl ?_
  refine g_isub X dX3_trades_181 ?_
  refine g_iast (35+5*k+4) X dX3_trades_182 (by repeat (first | with_reducible exact Rp.here | with_reducible apply Rp.there)) (rfl) (by omega) ?_
  refine g_aload_n X dX3_trades_183 rfl rfl ?_
  refine g_getf X dX3_trades_184 fl_X3_9 (by repeat (first | with_reducible exact Pk.here | with_reducible apply Pk.there)) (by exact rfl) ?_
  refine g_iload X dX3_trades_187 rfl ?_
  refine g_iconst (v := 4) X dX3_trades_189 rfl ?_
  refine g_iadd X dX3_trades_190 ?_
  refine g_iald (35+5*k+4) X dX3_trades_191 (by repeat (first | with_reducible exact Pk.here | with_reducible apply Pk.there)) (nIp4 _) (by omega) (by exact upd_s) ?_
  refine g_if_ne (tgt := 200) X dX3_trades_192 (by decide) (fun c_192 => ?_) (fun c_192 => ?_)
  · have h9 : ¬ n = o.2.2.2.2 := fun e => c_192 (by rw [e, pk_sub (Nat.le_refl _), Nat.sub_self]; rfl)
    exact g_vret X Y dX3_trades_200 (⟨rfl, by rw [if_neg h9]⟩) (Pks.tail (rest := _) (by repeat (first | with_reducible exact Pks.nil | (with_reducible refine Pks.pure (by assumption) ?_) | (with_reducible apply Pks.cons; focus ((repeat (first | with_reducible exact Pk.here | with_reducible apply Pk.there)); done)))))
  · have h9 : n = o.2.2.2.2 := by
      rw [pk_sub hn] at c_192
      have := nI_inj (b := 0) (show o.2.2.2.2 - n < 2 ^ 31 by omega) (by decide) c_192
      omega
    refine g_aload_n X dX3_trades_195 rfl rfl ?_
    refine g_iload_n X dX3_trades_196 rfl rfl ?_
    refine g_callV X dX3_trades_197 mv_X3_91 (c_X3_closesOrder hB (by omega)) rfl cl_X3 (by repeat (first | with_reducible exact Rc.pt | with_reducible apply Rc.there)) (by repeat (first | with_reducible exact Pks.nil | (with_reducible refine Pks.pure (by assumption) ?_) | (with_reducible apply Pks.cons; focus ((repeat (first | with_reducible exact Pk.here | with_reducible apply Pk.there)); done)))) rfl rfl (by decide) (by exact Nat.le_of_ble_eq_true rfl) (by first | decide | omega) (fun r w1 hq => ?_) (fun E q w1 hq => hq.elim)
    obtain ⟨rfl, rfl⟩ := hq
    dsimp only [wM, List.cons_append, List.nil_append, Option.toList_some, Option.toList_none]
    exact g_vret X Y dX3_trades_200 (⟨rfl, by rw [if_pos h9]⟩) (Pks.tail (rest := _) (by repeat (first | with_reducible exact Pks.nil | (with_reducible refine Pks.pure (by assumption) ?_) | (with_reducible apply Pks.cons; focus ((repeat (first | with_reducible exact Pk.here | with_reducible apply Pk.there)); done)))))
end MODEL
