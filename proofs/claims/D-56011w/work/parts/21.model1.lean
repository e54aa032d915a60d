/-! THE MODEL: its world, its small methods -/
set_option maxRecDepth 100000
/-- the model's object: ad its arrays' addresses; then isSaved, changes, errorAt, failed, thrown, programMany, lineMany, commandMany, place0, size0, isWrong -/
abbrev mO (ad : Nat → Nat) (sv ch ea fa th pm lm cm p0 s0 iw : Int32) : Ob := oI 2 [.ref (ad 0), .ref (ad 1), .ref (ad 2), .int sv, .ref (ad 3), .int ch, .int ea, .int fa, .int th, .ref (ad 4), .int pm, .ref (ad 5), .int lm, .ref (ad 6), .ref (ad 7), .ref (ad 8), .int cm, .int p0, .int s0, .int iw]
section MODEL
variable {B : Bt} {m : Nat} {ad : Nat → Nat} {sv ch ea fa th pm lm cm p0 s0 iw : Int32} {M A : Nat → Int32}
theorem c_X3_thrown (hB : Bs B) : Tr B yX3_thrown (Cond.code yX3_thrown cX3_thrown 1 (some .int)) (rmd 1 0 0) [.ref m] [pt m (mO ad sv ch ea fa th pm lm cm p0 s0 iw)] (fun r w => r = some (.int th) ∧ w = [pt m (mO ad sv ch ea fa th pm lm cm p0 s0 iw)]) nox := by
  refine tr_of hB (by decide +kernel) rfl ?_
  intro Γ X Y
  refine g_eq (ls' := [.val (.ref m)]) rfl rfl ?_
  refine g_aload_n X dX3_thrown_0 rfl rfl ?_
  refine g_getf X dX3_thrown_1 fl_X3_45 (by repeat (first | with_reducible exact Pk.here | with_reducible apply Pk.there)) (by exact rfl) ?_
  exact g_iret X Y dX3_thrown_4 (rfl) (⟨rfl, rfl⟩) (Pks.tail (rest := _) (by repeat (first | with_reducible exact Pks.nil | (with_reducible refine Pks.pure (by assumption) ?_) | (with_reducible apply Pks.cons; focus ((repeat (first | with_reducible exact Pk.here | with_reducible apply Pk.there)); done)))))
abbrev wM (m : Nat) (ad : Nat → Nat) (sv ch ea fa th pm lm cm p0 s0 iw : Int32) (M : Nat → Int32) : List An := [pt m (mO ad sv ch ea fa th pm lm cm p0 s0 iw), pt (ad 0) (oA .int 155 M)]
theorem c_X3_throwing (hB : Bs B) {k : Int32} : Tr B yX3_throwing (Cond.code yX3_throwing cX3_throwing 2 (some .int)) (rmd 1 0 0) [.ref m, .int k] [pt m (mO ad sv ch ea fa th pm lm cm p0 s0 iw)] (fun r w => r = some (.int (-1)) ∧ w = [pt m (mO ad sv ch ea fa k pm lm cm p0 s0 iw)]) nox := by
  refine tr_of hB (by decide +kernel) rfl ?_
  intro Γ X Y
  refine g_eq (ls' := [.val (.ref m), .val (.int k)]) rfl rfl ?_
  refine g_aload_n X dX3_throwing_0 rfl rfl ?_
  refine g_iload_n X dX3_throwing_1 rfl rfl ?_
  refine pf_20_8 X dX3_throwing_2 fl_X3_45 (by repeat (first | with_reducible exact Rp.here | with_reducible apply Rp.there)) rfl rfl ?_
  refine g_iconst (v := (-1)) X dX3_throwing_5 rfl ?_
  exact g_iret X Y dX3_throwing_6 (rfl) (⟨rfl, rfl⟩) (Pks.tail (rest := _) (by repeat (first | with_reducible exact Pks.nil | (with_reducible refine Pks.pure (by assumption) ?_) | (with_reducible apply Pks.cons; focus ((repeat (first | with_reducible exact Pk.here | with_reducible apply Pk.there)); done)))))
theorem c_X3_in (hB : Bs B) {v a b : Int64} : Tr B yX3_in (Cond.code yX3_in cX3_in 6 (some .boolean)) (rmd 1 0 0) [.long v, .long a, .long b] [] (fun r w => r = some (.int (bP (a ≤ v ∧ v ≤ b))) ∧ w = []) nox := by
  refine tr_of hB (by decide +kernel) rfl ?_
  intro Γ X Y
  refine g_eq (ls' := [.val (.long v), .second, .val (.long a), .second, .val (.long b), .second]) rfl rfl ?_
  refine g_lload_n X dX3_in_0 rfl rfl ?_
  refine g_lload_n X dX3_in_1 rfl rfl ?_
  refine g_lcmp X dX3_in_2 rfl ?_
  refine g_if_lt (tgt := 17) X dX3_in_3 (by decide) (fun c_3 => ?_) (fun c_3 => ?_)
  · refine g_iconst (v := 0) X dX3_in_17 rfl ?_
    exact g_iret X Y dX3_in_18 (rfl) (⟨by congr 2; symm; simp only [lc_lt, lc_gt, bP_0, bP_1, Int64.lt_iff_toInt_lt, Int64.le_iff_toInt_le] at *; omega, rfl⟩) (Pks.tail (rest := _) (by repeat (first | with_reducible exact Pks.nil | (with_reducible refine Pks.pure (by assumption) ?_) | (with_reducible apply Pks.cons; focus ((repeat (first | with_reducible exact Pk.here | with_reducible apply Pk.there)); done)))))
  · refine g_lload_n X dX3_in_6 rfl rfl ?_
    refine g_lload X dX3_in_7 rfl ?_
    refine g_lcmp X dX3_in_9 rfl ?_
    refine g_if_gt (tgt := 17) X dX3_in_10 (by decide) (fun c_10 => ?_) (fun c_10 => ?_)
    · refine g_iconst (v := 0) X dX3_in_17 rfl ?_
      exact g_iret X Y dX3_in_18 (rfl) (⟨by congr 2; symm; simp only [lc_lt, lc_gt, bP_0, bP_1, Int64.lt_iff_toInt_lt, Int64.le_iff_toInt_le] at *; omega, rfl⟩) (Pks.tail (rest := _) (by repeat (first | with_reducible exact Pks.nil | (with_reducible refine Pks.pure (by assumption) ?_) | (with_reducible apply Pks.cons; focus ((repeat (first | with_reducible exact Pk.here | with_reducible apply Pk.there)); done)))))
    · refine g_iconst (v := 1) X dX3_in_13 rfl ?_
      refine g_goto (tgt := 18) X dX3_in_14 (by decide) ?_
      exact g_iret X Y dX3_in_18 (rfl) (⟨by congr 2; symm; simp only [lc_lt, lc_gt, bP_0, bP_1, Int64.lt_iff_toInt_lt, Int64.le_iff_toInt_le] at *; omega, rfl⟩) (Pks.tail (rest := _) (by repeat (first | with_reducible exact Pks.nil | (with_reducible refine Pks.pure (by assumption) ?_) | (with_reducible apply Pks.cons; focus ((repeat (first | with_reducible exact Pk.here | with_reducible apply Pk.there)); done)))))
theorem c_X3_traderAt (hB : Bs B) {k : Int32} : Tr B yX3_traderAt (Cond.code yX3_traderAt cX3_traderAt 1 (some .int)) (rmd 1 0 0) [.int k] [] (fun r w => r = some (.int (17 + 3 * k)) ∧ w = []) nox := by
  refine tr_of hB (by decide +kernel) rfl ?_
  intro Γ X Y
  refine g_eq (ls' := [.val (.int k)]) rfl rfl ?_
  refine g_bipush (v := 17) X dX3_traderAt_0 rfl ?_
  refine g_iconst (v := 3) X dX3_traderAt_2 rfl ?_
  refine g_iload_n X dX3_traderAt_3 rfl rfl ?_
  refine g_imul X dX3_traderAt_4 ?_
  refine g_iadd X dX3_traderAt_5 ?_
  exact g_iret X Y dX3_traderAt_6 (rfl) (⟨rfl, rfl⟩) (Pks.tail (rest := _) (by repeat (first | with_reducible exact Pks.nil | (with_reducible refine Pks.pure (by assumption) ?_) | (with_reducible apply Pks.cons; focus ((repeat (first | with_reducible exact Pk.here | with_reducible apply Pk.there)); done)))))
theorem c_X3_orderAtPlace (hB : Bs B) {k : Int32} : Tr B yX3_orderAtPlace (Cond.code yX3_orderAtPlace cX3_orderAtPlace 1 (some .int)) (rmd 1 0 0) [.int k] [] (fun r w => r = some (.int (35 + 5 * k)) ∧ w = []) nox := by
  refine tr_of hB (by decide +kernel) rfl ?_
  intro Γ X Y
  refine g_eq (ls' := [.val (.int k)]) rfl rfl ?_
  refine g_bipush (v := 35) X dX3_orderAtPlace_0 rfl ?_
  refine g_iconst (v := 5) X dX3_orderAtPlace_2 rfl ?_
  refine g_iload_n X dX3_orderAtPlace_3 rfl rfl ?_
  refine g_imul X dX3_orderAtPlace_4 ?_
  refine g_iadd X dX3_orderAtPlace_5 ?_
  exact g_iret X Y dX3_orderAtPlace_6 (rfl) (⟨rfl, rfl⟩) (Pks.tail (rest := _) (by repeat (first | with_reducible exact Pks.nil | (with_reducible refine Pks.pure (by assumption) ?_) | (with_reducible apply Pks.cons; focus ((repeat (first | with_reducible exact Pk.here | with_reducible apply Pk.there)); done)))))
theorem c_X3_contractAt (hB : Bs B) {k : Int32} : Tr B yX3_contractAt (Cond.code yX3_contractAt cX3_contractAt 1 (some .int)) (rmd 1 0 0) [.int k] [] (fun r w => r = some (.int (115 + 5 * k)) ∧ w = []) nox := by
  refine tr_of hB (by decide +kernel) rfl ?_
  intro Γ X Y
  refine g_eq (ls' := [.val (.int k)]) rfl rfl ?_
  refine g_bipush (v := 115) X dX3_contractAt_0 rfl ?_
  refine g_iconst (v := 5) X dX3_contractAt_2 rfl ?_
  refine g_iload_n X dX3_contractAt_3 rfl rfl ?_
  refine g_imul X dX3_contractAt_4 ?_
  refine g_iadd X dX3_contractAt_5 ?_
  exact g_iret X Y dX3_contractAt_6 (rfl) (⟨rfl, rfl⟩) (Pks.tail (rest := _) (by repeat (first | with_reducible exact Pks.nil | (with_reducible refine Pks.pure (by assumption) ?_) | (with_reducible apply Pks.cons; focus ((repeat (first | with_reducible exact Pk.here | with_reducible apply Pk.there)); done)))))
/-- t is the number of one of n things -/
abbrev isT (n : Nat) (t : Int32) : Prop := 0 ≤ t ∧ t < nI n
theorem isT_iff {n : Nat} (hn : n < 1000) {t : Int32} : (0 ≤ t.toInt64 ∧ t.toInt64 ≤ (nI n - 1).toInt64) ↔ isT n t := by
  have h0 : (0 : Int64) = (0 : Int32).toInt64 := by decide
  rw [h0, i2l_le, i2l_le]
  unfold isT
  have hz : (nI n - 1).toInt = (n : Int) - 1 := pk_sub_toInt (a := n) (b := 1) (by omega) (by decide)
  have h2 : (nI n).toInt = n := nI_toInt (by omega)
  simp only [Int32.le_iff_toInt_le, Int32.lt_iff_toInt_lt, hz, h2]
  omega
theorem isT_of {n : Nat} (hn : n < 1000) {t : Int32} (h : isT n t) : ∃ j, j < n ∧ t = nI j := by
  obtain ⟨h1, h2⟩ := h
  have h3 : (nI n).toInt = n := nI_toInt (by omega)
  rw [Int32.lt_iff_toInt_lt, h3] at h2
  rw [Int32.le_iff_toInt_le] at h1
  obtain ⟨j, hj, hjt⟩ := nI_of (x := t) (by rw [Int32.lt_iff_toInt_lt]; exact Int.not_lt.mpr h1)
  subst hjt
  rw [nI_toInt hj] at h2
  exact ⟨j, by omega, rfl⟩
theorem isT_nI {n j : Nat} (hn : n < 1000) (h : j < n) : isT n (nI j) := ⟨nI_pos' (by omega), nI_lt h (by omega)⟩
theorem c_X3_isTrader (hB : Bs B) {t : Int32} {n : Nat} (hM : M 0 = nI n) (hn : n < 1000) : Tr B yX3_isTrader (Cond.code yX3_isTrader cX3_isTrader 2 (some .boolean)) (rmd 2 0 0) [.ref m, .int t] [pt m (mO ad sv ch ea fa th pm lm cm p0 s0 iw), pt (ad 0) (oA .int 155 M)] (fun r w => r = some (.int (bP (isT n t))) ∧ w = [pt m (mO ad sv ch ea fa th pm lm cm p0 s0 iw), pt (ad 0) (oA .int 155 M)]) nox := by
  refine tr_of hB (by decide +kernel) rfl ?_
  intro Γ X Y
  refine g_eq (ls' := [.val (.ref m), .val (.int t)]) rfl rfl ?_
  refine g_iload_n X dX3_isTrader_0 rfl rfl ?_
  refine g_i2l X dX3_isTrader_1 rfl ?_
  refine g_lconst (v := 0) X dX3_isTrader_2 rfl ?_
  refine g_aload_n X dX3_isTrader_3 rfl rfl ?_
  refine g_getf X dX3_isTrader_4 fl_X3_9 (by repeat (first | with_reducible exact Pk.here | with_reducible apply Pk.there)) (by exact rfl) ?_
  refine g_iconst (v := 0) X dX3_isTrader_7 rfl ?_
  refine g_iald (0) X dX3_isTrader_8 (by repeat (first | with_reducible exact Pk.here | with_reducible apply Pk.there)) (by decide) (by decide) (by exact rfl) ?_
  refine g_iconst (v := 1) X dX3_isTrader_9 rfl ?_
  refine g_isub X dX3_isTrader_10 ?_
  refine g_i2l X dX3_isTrader_11 rfl ?_
  refine g_callS X dX3_isTrader_12 ms_X3_51 (c_X3_in hB) rfl (by repeat (first | with_reducible exact Pks.nil | (with_reducible refine Pks.pure (by assumption) ?_) | (with_reducible apply Pks.cons; focus ((repeat (first | with_reducible exact Pk.here | with_reducible apply Pk.there)); done)))) rfl rfl (by decide) (by exact Nat.le_of_ble_eq_true rfl) (by first | decide | omega) (fun r w1 hq => ?_) (fun E q w1 hq => hq.elim)
  obtain ⟨rfl, rfl⟩ := hq
  dsimp only [List.cons_append, List.nil_append, Option.toList_some, Option.toList_none]
  rw [hM, bP_c (isT_iff hn)]
  exact g_iret X Y dX3_isTrader_15 (bP_nz) (⟨rfl, rfl⟩) (Pks.tail (rest := _) (by repeat (first | with_reducible exact Pks.nil | (with_reducible refine Pks.pure (by assumption) ?_) | (with_reducible apply Pks.cons; focus ((repeat (first | with_reducible exact Pk.here | with_reducible apply Pk.there)); done)))))
theorem c_X3_isContract (hB : Bs B) {t : Int32} {n : Nat} (hM : M 3 = nI n) (hn : n < 1000) : Tr B yX3_isContract (Cond.code yX3_isContract cX3_isContract 2 (some .boolean)) (rmd 2 0 0) [.ref m, .int t] [pt m (mO ad sv ch ea fa th pm lm cm p0 s0 iw), pt (ad 0) (oA .int 155 M)] (fun r w => r = some (.int (bP (isT n t))) ∧ w = [pt m (mO ad sv ch ea fa th pm lm cm p0 s0 iw), pt (ad 0) (oA .int 155 M)]) nox := by
  refine tr_of hB (by decide +kernel) rfl ?_
  intro Γ X Y
  refine g_eq (ls' := [.val (.ref m), .val (.int t)]) rfl rfl ?_
  refine g_iload_n X dX3_isContract_0 rfl rfl ?_
  refine g_i2l X dX3_isContract_1 rfl ?_
  refine g_lconst (v := 0) X dX3_isContract_2 rfl ?_
  refine g_aload_n X dX3_isContract_3 rfl rfl ?_
  refine g_getf X dX3_isContract_4 fl_X3_9 (by repeat (first | with_reducible exact Pk.here | with_reducible apply Pk.there)) (by exact rfl) ?_
  refine g_iconst (v := 3) X dX3_isContract_7 rfl ?_
  refine g_iald (3) X dX3_isContract_8 (by repeat (first | with_reducible exact Pk.here | with_reducible apply Pk.there)) (by decide) (by decide) (by exact rfl) ?_
  refine g_iconst (v := 1) X dX3_isContract_9 rfl ?_
  refine g_isub X dX3_isContract_10 ?_
  refine g_i2l X dX3_isContract_11 rfl ?_
  refine g_callS X dX3_isContract_12 ms_X3_51 (c_X3_in hB) rfl (by repeat (first | with_reducible exact Pks.nil | (with_reducible refine Pks.pure (by assumption) ?_) | (with_reducible apply Pks.cons; focus ((repeat (first | with_reducible exact Pk.here | with_reducible apply Pk.there)); done)))) rfl rfl (by decide) (by exact Nat.le_of_ble_eq_true rfl) (by first | decide | omega) (fun r w1 hq => ?_) (fun E q w1 hq => hq.elim)
  obtain ⟨rfl, rfl⟩ := hq
  dsimp only [List.cons_append, List.nil_append, Option.toList_some, Option.toList_none]
  rw [hM, bP_c (isT_iff hn)]
  exact g_iret X Y dX3_isContract_15 (bP_nz) (⟨rfl, rfl⟩) (Pks.tail (rest := _) (by repeat (first | with_reducible exact Pks.nil | (with_reducible refine Pks.pure (by assumption) ?_) | (with_reducible apply Pks.cons; focus ((repeat (first | with_reducible exact Pk.here | with_reducible apply Pk.there)); done)))))
theorem i2l_in {x a b : Int32} : ((a.toInt64 ≤ x.toInt64 ∧ x.toInt64 ≤ b.toInt64) ↔ (a ≤ x ∧ x ≤ b)) := by rw [i2l_le, i2l_le]
theorem c_X3_isRoom (hB : Bs B) {t : Int32} : Tr B yX3_isRoom (Cond.code yX3_isRoom cX3_isRoom 1 (some .boolean)) (rmd 2 0 0) [.int t] [] (fun r w => r = some (.int (bP (isT 4 t))) ∧ w = []) nox := by
  refine tr_of hB (by decide +kernel) rfl ?_
  intro Γ X Y
  refine g_eq (ls' := [.val (.int t)]) rfl rfl ?_
  refine g_iload_n X dX3_isRoom_0 rfl rfl ?_
  refine g_i2l X dX3_isRoom_1 rfl ?_
  refine g_lconst (v := 0) X dX3_isRoom_2 rfl ?_
  refine g_ldc2 X dX3_isRoom_3 q2915 ?_
  refine g_callS X dX3_isRoom_6 ms_X3_51 (c_X3_in hB) rfl (by repeat (first | with_reducible exact Pks.nil | (with_reducible refine Pks.pure (by assumption) ?_) | (with_reducible apply Pks.cons; focus ((repeat (first | with_reducible exact Pk.here | with_reducible apply Pk.there)); done)))) rfl rfl (by decide) (by exact Nat.le_of_ble_eq_true rfl) (by first | decide | omega) (fun r w1 hq => ?_) (fun E q w1 hq => hq.elim)
  obtain ⟨rfl, rfl⟩ := hq
  dsimp only [List.cons_append, List.nil_append, Option.toList_some, Option.toList_none]
  rw [show ((0 : Int64) ≤ t.toInt64 ∧ t.toInt64 ≤ 3) = (0 ≤ t.toInt64 ∧ t.toInt64 ≤ (nI 4 - 1).toInt64) from rfl, bP_c (isT_iff (by decide))]
  exact g_iret X Y dX3_isRoom_9 (bP_nz) (⟨rfl, rfl⟩) (Pks.tail (rest := _) (by repeat (first | with_reducible exact Pks.nil | (with_reducible refine Pks.pure (by assumption) ?_) | (with_reducible apply Pks.cons; focus ((repeat (first | with_reducible exact Pk.here | with_reducible apply Pk.there)); done)))))
/-- units and price of a deal -/
abbrev isDl (u p : Int32) : Prop := (1 ≤ u ∧ u ≤ 50) ∧ (1 ≤ p ∧ p ≤ 99)
theorem c_X3_isDeal (hB : Bs B) {u v : Int32} : Tr B yX3_isDeal (Cond.code yX3_isDeal cX3_isDeal 2 (some .boolean)) (rmd 2 0 0) [.int u, .int v] [] (fun r w => r = some (.int (bP (isDl u v))) ∧ w = []) nox := by
  refine tr_of hB (by decide +kernel) rfl ?_
  intro Γ X Y
  refine g_eq (ls' := [.val (.int u), .val (.int v)]) rfl rfl ?_
  refine g_iload_n X dX3_isDeal_0 rfl rfl ?_
  refine g_i2l X dX3_isDeal_1 rfl ?_
  refine g_lconst (v := 1) X dX3_isDeal_2 rfl ?_
  refine g_ldc2 X dX3_isDeal_3 q2831 ?_
  refine g_callS X dX3_isDeal_6 ms_X3_51 (c_X3_in hB) rfl (by repeat (first | with_reducible exact Pks.nil | (with_reducible refine Pks.pure (by assumption) ?_) | (with_reducible apply Pks.cons; focus ((repeat (first | with_reducible exact Pk.here | with_reducible apply Pk.there)); done)))) rfl rfl (by decide) (by exact Nat.le_of_ble_eq_true rfl) (by first | decide | omega) (fun r w1 hq => ?_) (fun E q w1 hq => hq.elim)
  obtain ⟨rfl, rfl⟩ := hq
  dsimp only [List.cons_append, List.nil_append, Option.toList_some, Option.toList_none]
  rw [show ((1 : Int64) ≤ u.toInt64 ∧ u.toInt64 ≤ 50) = ((1 : Int32).toInt64 ≤ u.toInt64 ∧ u.toInt64 ≤ (50 : Int32).toInt64) from rfl, bP_c i2l_in]
  refine g_if_eq (tgt := 28) X dX3_isDeal_9 (by decide) (fun c_9 => ?_) (fun c_9 => ?_)
  · refine g_iconst (v := 0) X dX3_isDeal_28 rfl ?_
    exact g_iret X Y dX3_isDeal_29 (rfl) (⟨by congr 2; symm; simp only [bP_0, bP_1, bP_n0, Classical.not_not, isDl] at *; first | exact ⟨by assumption, by assumption⟩ | (intro h; first | exact absurd h.1 (by assumption) | exact absurd h.2 (by assumption)), rfl⟩) (Pks.tail (rest := _) (by repeat (first | with_reducible exact Pks.nil | (with_reducible refine Pks.pure (by assumption) ?_) | (with_reducible apply Pks.cons; focus ((repeat (first | with_reducible exact Pk.here | with_reducible apply Pk.there)); done)))))
  · refine g_iload_n X dX3_isDeal_12 rfl rfl ?_
    refine g_i2l X dX3_isDeal_13 rfl ?_
    refine g_lconst (v := 1) X dX3_isDeal_14 rfl ?_
    refine g_ldc2 X dX3_isDeal_15 q2804 ?_
    refine g_callS X dX3_isDeal_18 ms_X3_51 (c_X3_in hB) rfl (by repeat (first | with_reducible exact Pks.nil | (with_reducible refine Pks.pure (by assumption) ?_) | (with_reducible apply Pks.cons; focus ((repeat (first | with_reducible exact Pk.here | with_reducible apply Pk.there)); done)))) rfl rfl (by decide) (by exact Nat.le_of_ble_eq_true rfl) (by first | decide | omega) (fun r w1 hq => ?_) (fun E q w1 hq => hq.elim)
    obtain ⟨rfl, rfl⟩ := hq
    dsimp only [List.cons_append, List.nil_append, Option.toList_some, Option.toList_none]
    rw [show ((1 : Int64) ≤ v.toInt64 ∧ v.toInt64 ≤ 99) = ((1 : Int32).toInt64 ≤ v.toInt64 ∧ v.toInt64 ≤ (99 : Int32).toInt64) from rfl, bP_c i2l_in]
    refine g_if_eq (tgt := 28) X dX3_isDeal_21 (by decide) (fun c_21 => ?_) (fun c_21 => ?_)
    · refine g_iconst (v := 0) X dX3_isDeal_28 rfl ?_
      exact g_iret X Y dX3_isDeal_29 (rfl) (⟨by congr 2; symm; simp only [bP_0, bP_1, bP_n0, Classical.not_not, isDl] at *; first | exact ⟨by assumption, by assumption⟩ | (intro h; first | exact absurd h.1 (by assumption) | exact absurd h.2 (by assumption)), rfl⟩) (Pks.tail (rest := _) (by repeat (first | with_reducible exact Pks.nil | (with_reducible refine Pks.pure (by assumption) ?_) | (with_reducible apply Pks.cons; focus ((repeat (first | with_reducible exact Pk.here | with_reducible apply Pk.there)); done)))))
    · refine g_iconst (v := 1) X dX3_isDeal_24 rfl ?_
      refine g_goto (tgt := 29) X dX3_isDeal_25 (by decide) ?_
      exact g_iret X Y dX3_isDeal_29 (rfl) (⟨by congr 2; symm; simp only [bP_0, bP_1, bP_n0, Classical.not_not, isDl] at *; first | exact ⟨by assumption, by assumption⟩ | (intro h; first | exact absurd h.1 (by assumption) | exact absurd h.2 (by assumption)), rfl⟩) (Pks.tail (rest := _) (by repeat (first | with_reducible exact Pks.nil | (with_reducible refine Pks.pure (by assumption) ?_) | (with_reducible apply Pks.cons; focus ((repeat (first | with_reducible exact Pk.here | with_reducible apply Pk.there)); done)))))
end MODEL
