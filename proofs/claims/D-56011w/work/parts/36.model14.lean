/-! THE MODEL: plain questions -/
set_option maxRecDepth 100000
def wiT (T : List (Nat × Nat)) (t : Nat) : Nat := match T[t]? with
  | none => 0
  | some c => c.2
def qCash (t : Int32) (S : SS) : Rq := if isT (sT S).length t then (0, nI (caT (sT S) (cN t))) else erQ 1
def qWindows (t : Int32) (S : SS) : Rq := if isT (sT S).length t then (0, nI (wiT (sT S) (cN t))) else erQ 1
def qRes (b : Bool) (t : Int32) (S : SS) : Rq := if isT (sT S).length t then (0, rvS (cN t) b (sO S)) else erQ 1
def qOf (f : OO → Int32) (x : Int32) (S : SS) : Rq := match plU x (sO S) (sO S).length with
  | none => erQ 1
  | some k => match (sO S)[k]? with
    | none => erQ 1
    | some o => (0, f o)
def qAt (f : OO → Int32) (b : Bool) (r : Int32) (S : SS) : Rq := match rkS b r (sO S) with
  | none => erQ 1
  | some k => match (sO S)[k]? with
    | none => erQ 1
    | some o => (0, f o)
def qLast (S : SS) : Rq := if sN S 5 = 0 then erQ 1 else (0, nI (sN S 5))
def qDays (k : Int32) (S : SS) : Rq := if isT (sC S).length k then (match (sC S)[cN k]? with
    | none => erQ 1
    | some c => (0, nI c.2.2.2.2 - nI (sN S 4))) else erQ 1
def qGain (k p : Int32) (S : SS) : Rq := if isT (sC S).length k then (if inR p 0 99 then (match (sC S)[cN k]? with
    | none => erQ 1
    | some c => (0, (p - nI c.2.2.2.1) * nI c.2.2.1)) else erQ 2) else erQ 1
def qHolder (r : Int32) (S : SS) : Rq := if isT 4 r then (match sH S (cN r) with
    | none => erQ 2
    | some t => (0, nI t)) else erQ 1
section MODEL
variable {B : Bt} {m : Nat} {ad : Nat → Nat} {sv ch ea fa th pm lm cm p0 s0 iw : Int32} {M A : Nat → Int32} {S : SS} {O : List OO} {R : Rq}
theorem c_X3_traders (hB : Bs B)  (hE : Enc M S) : Tr B yX3_traders (Cond.code yX3_traders cX3_traders 1 (some .int)) (rmd 4 0 0) [.ref m] (wM m ad sv ch ea fa th pm lm cm p0 s0 iw M) (PqM m ad sv ch ea fa pm lm cm p0 s0 iw M (0, nI (sT S).length)) nox := by
  refine tr_of hB (by decide +kernel) rfl ?_
  intro Γ X Y
  refine g_eq (ls' := [.val (.ref m)]) rfl rfl ?_
  refine g_aload_n X dX3_traders_0 rfl rfl ?_
  refine g_iconst (v := 0) X dX3_traders_1 rfl ?_
  refine pf_20_8 X dX3_traders_2 fl_X3_45 (by repeat (first | with_reducible exact Rp.here | with_reducible apply Rp.there)) rfl rfl ?_
  refine g_aload_n X dX3_traders_5 rfl rfl ?_
  refine g_getf X dX3_traders_6 fl_X3_9 (by repeat (first | with_reducible exact Pk.here | with_reducible apply Pk.there)) (by exact rfl) ?_
  refine g_iconst (v := 0) X dX3_traders_9 rfl ?_
  refine g_iald (0) X dX3_traders_10 (by repeat (first | with_reducible exact Pk.here | with_reducible apply Pk.there)) (rfl) (by decide) (by exact hE.2.2.1.1) ?_
  exact g_iret X Y dX3_traders_11 (rfl) (⟨0, rfl, rfl, rfl⟩) (Pks.tail (rest := _) (by repeat (first | with_reducible exact Pks.nil | (with_reducible refine Pks.pure (by assumption) ?_) | (with_reducible apply Pks.cons; focus ((repeat (first | with_reducible exact Pk.here | with_reducible apply Pk.there)); done)) | (refine Pks.cons Pk.here ?_))))
theorem c_X3_openOrders (hB : Bs B)  (hE : Enc M S) : Tr B yX3_openOrders (Cond.code yX3_openOrders cX3_openOrders 1 (some .int)) (rmd 4 0 0) [.ref m] (wM m ad sv ch ea fa th pm lm cm p0 s0 iw M) (PqM m ad sv ch ea fa pm lm cm p0 s0 iw M (0, nI (sO S).length)) nox := by
  refine tr_of hB (by decide +kernel) rfl ?_
  intro Γ X Y
  refine g_eq (ls' := [.val (.ref m)]) rfl rfl ?_
  refine g_aload_n X dX3_openOrders_0 rfl rfl ?_
  refine g_iconst (v := 0) X dX3_openOrders_1 rfl ?_
  refine pf_20_8 X dX3_openOrders_2 fl_X3_45 (by repeat (first | with_reducible exact Rp.here | with_reducible apply Rp.there)) rfl rfl ?_
  refine g_aload_n X dX3_openOrders_5 rfl rfl ?_
  refine g_getf X dX3_openOrders_6 fl_X3_9 (by repeat (first | with_reducible exact Pk.here | with_reducible apply Pk.there)) (by exact rfl) ?_
  refine g_iconst (v := 1) X dX3_openOrders_9 rfl ?_
  refine g_iald (1) X dX3_openOrders_10 (by repeat (first | with_reducible exact Pk.here | with_reducible apply Pk.there)) (rfl) (by decide) (by exact hE.2.2.2.1.1) ?_
  exact g_iret X Y dX3_openOrders_11 (rfl) (⟨0, rfl, rfl, rfl⟩) (Pks.tail (rest := _) (by repeat (first | with_reducible exact Pks.nil | (with_reducible refine Pks.pure (by assumption) ?_) | (with_reducible apply Pks.cons; focus ((repeat (first | with_reducible exact Pk.here | with_reducible apply Pk.there)); done)) | (refine Pks.cons Pk.here ?_))))
theorem c_X3_contracts (hB : Bs B)  (hE : Enc M S) : Tr B yX3_contracts (Cond.code yX3_contracts cX3_contracts 1 (some .int)) (rmd 4 0 0) [.ref m] (wM m ad sv ch ea fa th pm lm cm p0 s0 iw M) (PqM m ad sv ch ea fa pm lm cm p0 s0 iw M (0, nI (sC S).length)) nox := by
  refine tr_of hB (by decide +kernel) rfl ?_
  intro Γ X Y
  refine g_eq (ls' := [.val (.ref m)]) rfl rfl ?_
  refine g_aload_n X dX3_contracts_0 rfl rfl ?_
  refine g_iconst (v := 0) X dX3_contracts_1 rfl ?_
  refine pf_20_8 X dX3_contracts_2 fl_X3_45 (by repeat (first | with_reducible exact Rp.here | with_reducible apply Rp.there)) rfl rfl ?_
  refine g_aload_n X dX3_contracts_5 rfl rfl ?_
  refine g_getf X dX3_contracts_6 fl_X3_9 (by repeat (first | with_reducible exact Pk.here | with_reducible apply Pk.there)) (by exact rfl) ?_
  refine g_iconst (v := 3) X dX3_contracts_9 rfl ?_
  refine g_iald (3) X dX3_contracts_10 (by repeat (first | with_reducible exact Pk.here | with_reducible apply Pk.there)) (rfl) (by decide) (by exact hE.2.2.2.2.1.1) ?_
  exact g_iret X Y dX3_contracts_11 (rfl) (⟨0, rfl, rfl, rfl⟩) (Pks.tail (rest := _) (by repeat (first | with_reducible exact Pks.nil | (with_reducible refine Pks.pure (by assumption) ?_) | (with_reducible apply Pks.cons; focus ((repeat (first | with_reducible exact Pk.here | with_reducible apply Pk.there)); done)) | (refine Pks.cons Pk.here ?_))))
theorem c_X3_day (hB : Bs B)  (hE : Enc M S) : Tr B yX3_day (Cond.code yX3_day cX3_day 1 (some .int)) (rmd 4 0 0) [.ref m] (wM m ad sv ch ea fa th pm lm cm p0 s0 iw M) (PqM m ad sv ch ea fa pm lm cm p0 s0 iw M (0, nI (sN S 4))) nox := by
  refine tr_of hB (by decide +kernel) rfl ?_
  intro Γ X Y
  refine g_eq (ls' := [.val (.ref m)]) rfl rfl ?_
  refine g_aload_n X dX3_day_0 rfl rfl ?_
  refine g_iconst (v := 0) X dX3_day_1 rfl ?_
  refine pf_20_8 X dX3_day_2 fl_X3_45 (by repeat (first | with_reducible exact Rp.here | with_reducible apply Rp.there)) rfl rfl ?_
  refine g_aload_n X dX3_day_5 rfl rfl ?_
  refine g_getf X dX3_day_6 fl_X3_9 (by repeat (first | with_reducible exact Pk.here | with_reducible apply Pk.there)) (by exact rfl) ?_
  refine g_iconst (v := 4) X dX3_day_9 rfl ?_
  refine g_iald (4) X dX3_day_10 (by repeat (first | with_reducible exact Pk.here | with_reducible apply Pk.there)) (rfl) (by decide) (by exact hE.1 4 (by omega)) ?_
  exact g_iret X Y dX3_day_11 (rfl) (⟨0, rfl, rfl, rfl⟩) (Pks.tail (rest := _) (by repeat (first | with_reducible exact Pks.nil | (with_reducible refine Pks.pure (by assumption) ?_) | (with_reducible apply Pks.cons; focus ((repeat (first | with_reducible exact Pk.here | with_reducible apply Pk.there)); done)) | (refine Pks.cons Pk.here ?_))))
theorem c_X3_tradedUnits (hB : Bs B)  (hE : Enc M S) : Tr B yX3_tradedUnits (Cond.code yX3_tradedUnits cX3_tradedUnits 1 (some .int)) (rmd 4 0 0) [.ref m] (wM m ad sv ch ea fa th pm lm cm p0 s0 iw M) (PqM m ad sv ch ea fa pm lm cm p0 s0 iw M (0, nI (sN S 6))) nox := by
  refine tr_of hB (by decide +kernel) rfl ?_
  intro Γ X Y
  refine g_eq (ls' := [.val (.ref m)]) rfl rfl ?_
  refine g_aload_n X dX3_tradedUnits_0 rfl rfl ?_
  refine g_iconst (v := 0) X dX3_tradedUnits_1 rfl ?_
  refine pf_20_8 X dX3_tradedUnits_2 fl_X3_45 (by repeat (first | with_reducible exact Rp.here | with_reducible apply Rp.there)) rfl rfl ?_
  refine g_aload_n X dX3_tradedUnits_5 rfl rfl ?_
  refine g_getf X dX3_tradedUnits_6 fl_X3_9 (by repeat (first | with_reducible exact Pk.here | with_reducible apply Pk.there)) (by exact rfl) ?_
  refine g_bipush (v := 6) X dX3_tradedUnits_9 rfl ?_
  refine g_iald (6) X dX3_tradedUnits_11 (by repeat (first | with_reducible exact Pk.here | with_reducible apply Pk.there)) (rfl) (by decide) (by exact hE.1 6 (by omega)) ?_
  exact g_iret X Y dX3_tradedUnits_12 (rfl) (⟨0, rfl, rfl, rfl⟩) (Pks.tail (rest := _) (by repeat (first | with_reducible exact Pks.nil | (with_reducible refine Pks.pure (by assumption) ?_) | (with_reducible apply Pks.cons; focus ((repeat (first | with_reducible exact Pk.here | with_reducible apply Pk.there)); done)) | (refine Pks.cons Pk.here ?_))))
theorem c_X3_defaults (hB : Bs B)  (hE : Enc M S) : Tr B yX3_defaults (Cond.code yX3_defaults cX3_defaults 1 (some .int)) (rmd 4 0 0) [.ref m] (wM m ad sv ch ea fa th pm lm cm p0 s0 iw M) (PqM m ad sv ch ea fa pm lm cm p0 s0 iw M (0, nI (sN S 9))) nox := by
  refine tr_of hB (by decide +kernel) rfl ?_
  intro Γ X Y
  refine g_eq (ls' := [.val (.ref m)]) rfl rfl ?_
  refine g_aload_n X dX3_defaults_0 rfl rfl ?_
  refine g_iconst (v := 0) X dX3_defaults_1 rfl ?_
  refine pf_20_8 X dX3_defaults_2 fl_X3_45 (by repeat (first | with_reducible exact Rp.here | with_reducible apply Rp.there)) rfl rfl ?_
  refine g_aload_n X dX3_defaults_5 rfl rfl ?_
  refine g_getf X dX3_defaults_6 fl_X3_9 (by repeat (first | with_reducible exact Pk.here | with_reducible apply Pk.there)) (by exact rfl) ?_
  refine g_bipush (v := 9) X dX3_defaults_9 rfl ?_
  refine g_iald (9) X dX3_defaults_11 (by repeat (first | with_reducible exact Pk.here | with_reducible apply Pk.there)) (rfl) (by decide) (by exact hE.1 9 (by omega)) ?_
  exact g_iret X Y dX3_defaults_12 (rfl) (⟨0, rfl, rfl, rfl⟩) (Pks.tail (rest := _) (by repeat (first | with_reducible exact Pks.nil | (with_reducible refine Pks.pure (by assumption) ?_) | (with_reducible apply Pks.cons; focus ((repeat (first | with_reducible exact Pk.here | with_reducible apply Pk.there)); done)) | (refine Pks.cons Pk.here ?_))))
theorem c_X3_till (hB : Bs B)  (hE : Enc M S) : Tr B yX3_till (Cond.code yX3_till cX3_till 1 (some .int)) (rmd 4 0 0) [.ref m] (wM m ad sv ch ea fa th pm lm cm p0 s0 iw M) (PqM m ad sv ch ea fa pm lm cm p0 s0 iw M (0, nI (sN S 10))) nox := by
  refine tr_of hB (by decide +kernel) rfl ?_
  intro Γ X Y
  refine g_eq (ls' := [.val (.ref m)]) rfl rfl ?_
  refine g_aload_n X dX3_till_0 rfl rfl ?_
  refine g_iconst (v := 0) X dX3_till_1 rfl ?_
  refine pf_20_8 X dX3_till_2 fl_X3_45 (by repeat (first | with_reducible exact Rp.here | with_reducible apply Rp.there)) rfl rfl ?_
  refine g_aload_n X dX3_till_5 rfl rfl ?_
  refine g_getf X dX3_till_6 fl_X3_9 (by repeat (first | with_reducible exact Pk.here | with_reducible apply Pk.there)) (by exact rfl) ?_
  refine g_bipush (v := 10) X dX3_till_9 rfl ?_
  refine g_iald (10) X dX3_till_11 (by repeat (first | with_reducible exact Pk.here | with_reducible apply Pk.there)) (rfl) (by decide) (by exact hE.1 10 (by omega)) ?_
  exact g_iret X Y dX3_till_12 (rfl) (⟨0, rfl, rfl, rfl⟩) (Pks.tail (rest := _) (by repeat (first | with_reducible exact Pks.nil | (with_reducible refine Pks.pure (by assumption) ?_) | (with_reducible apply Pks.cons; focus ((repeat (first | with_reducible exact Pk.here | with_reducible apply Pk.there)); done)) | (refine Pks.cons Pk.here ?_))))
theorem c_X3_cash (hB : Bs B) {t : Int32} (hE : Enc M S) : Tr B yX3_cash (Cond.code yX3_cash cX3_cash 2 (some .int)) (rmd 4 0 0) [.ref m, .int t] (wM m ad sv ch ea fa th pm lm cm p0 s0 iw M) (PqM m ad sv ch ea fa pm lm cm p0 s0 iw M (qCash t S)) nox := by
  refine tr_of hB (by decide +kernel) rfl ?_
  intro Γ X Y
  refine g_eq (ls' := [.val (.ref m), .val (.int t)]) rfl rfl ?_
  have hT := hE.2.2.1.1
  have hl := hE.2.2.1.2.1
  by_cases h1 : isT (sT S).length t
  · obtain ⟨t', ht, rfl⟩ := isT_of (by omega) h1
    obtain ⟨c, hc⟩ : ∃ c, (sT S)[t']? = some c := ⟨_, List.getElem?_eq_getElem ht⟩
    have hM := hE.2.2.1.2.2 t' c hc
    have hr : qCash (nI t') S = (0, nI c.1) := by rw [qCash, if_pos h1, show cN (nI t') = t' from nI_clamp (by omega)]; simp only [caT, hc]
    refine g_aload_n X dX3_cash_0 rfl rfl ?_
    refine g_iconst (v := 0) X dX3_cash_1 rfl ?_
    refine pf_20_8 X dX3_cash_2 fl_X3_45 (by repeat (first | with_reducible exact Rp.here | with_reducible apply Rp.there)) rfl rfl ?_
    refine g_aload_n X dX3_cash_5 rfl rfl ?_
    refine g_iload_n X dX3_cash_6 rfl rfl ?_
    refine g_callV X dX3_cash_7 mv_X3_95 (c_X3_isTrader hB hT (by omega)) rfl cl_X3 (by repeat (first | with_reducible exact Rc.pt | with_reducible apply Rc.there)) (by repeat (first | with_reducible exact Pks.nil | (with_reducible refine Pks.pure (by assumption) ?_) | (with_reducible apply Pks.cons; focus ((repeat (first | with_reducible exact Pk.here | with_reducible apply Pk.there)); done)) | (refine Pks.cons Pk.here ?_))) rfl rfl (by decide) (by exact Nat.le_of_ble_eq_true rfl) (by first | decide | omega) (fun r w1 hq => ?_) (fun E q w1 hq => hq.elim)
    obtain ⟨rfl, rfl⟩ := hq
    dsimp only [wM, PqM, List.cons_append, List.nil_append, Option.toList_some, Option.toList_none]
    rw [bP_t h1]
    refine g_if_eq (tgt := 25) X dX3_cash_10 (by decide) (fun c_10 => absurd c_10 (by decide)) (fun c_10 => ?_)
    refine g_aload_n X dX3_cash_13 rfl rfl ?_
    refine g_getf X dX3_cash_14 fl_X3_9 (by repeat (first | with_reducible exact Pk.here | with_reducible apply Pk.there)) (by exact rfl) ?_
    refine g_iload_n X dX3_cash_17 rfl rfl ?_
    refine g_callS X dX3_cash_18 ms_X3_78 (c_X3_traderAt hB) rfl (by repeat (first | with_reducible exact Pks.nil | (with_reducible refine Pks.pure (by assumption) ?_) | (with_reducible apply Pks.cons; focus ((repeat (first | with_reducible exact Pk.here | with_reducible apply Pk.there)); done)) | (refine Pks.cons Pk.here ?_))) rfl rfl (by decide) (by exact Nat.le_of_ble_eq_true rfl) (by first | decide | omega) (fun r w1 hq => ?_) (fun E q w1 hq => hq.elim)
    obtain ⟨rfl, rfl⟩ := hq
    dsimp only [wM, PqM, List.cons_append, List.nil_append, Option.toList_some, Option.toList_none]
    rw [it_]
    refine g_iald (17 + 3 * t') X dX3_cash_21 (by repeat (first | with_reducible exact Pk.here | with_reducible apply Pk.there)) (rfl) (by omega) (by exact hM.1) ?_
    refine g_goto (tgt := 30) X dX3_cash_22 (by decide) ?_
    exact g_iret X Y dX3_cash_30 (rfl) (⟨0, by rw [hr], rfl, by rw [hr]; rfl⟩) (Pks.tail (rest := _) (by repeat (first | with_reducible exact Pks.nil | (with_reducible refine Pks.pure (by assumption) ?_) | (with_reducible apply Pks.cons; focus ((repeat (first | with_reducible exact Pk.here | with_reducible apply Pk.there)); done)) | (refine Pks.cons Pk.here ?_))))
  · have hr : qCash t S = erQ 1 := if_neg h1
    refine g_aload_n X dX3_cash_0 rfl rfl ?_
    refine g_iconst (v := 0) X dX3_cash_1 rfl ?_
    refine pf_20_8 X dX3_cash_2 fl_X3_45 (by repeat (first | with_reducible exact Rp.here | with_reducible apply Rp.there)) rfl rfl ?_
    refine g_aload_n X dX3_cash_5 rfl rfl ?_
    refine g_iload_n X dX3_cash_6 rfl rfl ?_
    refine g_callV X dX3_cash_7 mv_X3_95 (c_X3_isTrader hB hT (by omega)) rfl cl_X3 (by repeat (first | with_reducible exact Rc.pt | with_reducible apply Rc.there)) (by repeat (first | with_reducible exact Pks.nil | (with_reducible refine Pks.pure (by assumption) ?_) | (with_reducible apply Pks.cons; focus ((repeat (first | with_reducible exact Pk.here | with_reducible apply Pk.there)); done)) | (refine Pks.cons Pk.here ?_))) rfl rfl (by decide) (by exact Nat.le_of_ble_eq_true rfl) (by first | decide | omega) (fun r w1 hq => ?_) (fun E q w1 hq => hq.elim)
    obtain ⟨rfl, rfl⟩ := hq
    dsimp only [wM, PqM, List.cons_append, List.nil_append, Option.toList_some, Option.toList_none]
    rw [bP_f h1]
    refine g_if_eq (tgt := 25) X dX3_cash_10 (by decide) (fun c_10 => ?_) (fun c_10 => absurd (rfl) c_10)
    refine g_aload_n X dX3_cash_25 rfl rfl ?_
    refine g_iconst (v := 1) X dX3_cash_26 rfl ?_
    refine g_callV X dX3_cash_27 mv_X3_75 (c_X3_throwing hB) rfl cl_X3 (by repeat (first | with_reducible exact Rc.pt | with_reducible apply Rc.there)) (by repeat (first | with_reducible exact Pks.nil | (with_reducible refine Pks.pure (by assumption) ?_) | (with_reducible apply Pks.cons; focus ((repeat (first | with_reducible exact Pk.here | with_reducible apply Pk.there)); done)) | (refine Pks.cons Pk.here ?_))) rfl rfl (by decide) (by exact Nat.le_of_ble_eq_true rfl) (by first | decide | omega) (fun r w1 hq => ?_) (fun E q w1 hq => hq.elim)
    obtain ⟨rfl, rfl⟩ := hq
    dsimp only [wM, PqM, List.cons_append, List.nil_append, Option.toList_some, Option.toList_none]
    exact g_iret X Y dX3_cash_30 (rfl) (⟨1, by rw [hr], rfl, by rw [hr]; rfl⟩) (Pks.tail (rest := _) (by repeat (first | with_reducible exact Pks.nil | (with_reducible refine Pks.pure (by assumption) ?_) | (with_reducible apply Pks.cons; focus ((repeat (first | with_reducible exact Pk.here | with_reducible apply Pk.there)); done)) | (refine Pks.cons Pk.here ?_))))
theorem c_X3_windows (hB : Bs B) {t : Int32} (hE : Enc M S) : Tr B yX3_windows (Cond.code yX3_windows cX3_windows 2 (some .int)) (rmd 4 0 0) [.ref m, .int t] (wM m ad sv ch ea fa th pm lm cm p0 s0 iw M) (PqM m ad sv ch ea fa pm lm cm p0 s0 iw M (qWindows t S)) nox := by
  refine tr_of hB (by decide +kernel) rfl ?_
  intro Γ X Y
  refine g_eq (ls' := [.val (.ref m), .val (.int t)]) rfl rfl ?_
  have hT := hE.2.2.1.1
  have hl := hE.2.2.1.2.1
  by_cases h1 : isT (sT S).length t
  · obtain ⟨t', ht, rfl⟩ := isT_of (by omega) h1
    obtain ⟨c, hc⟩ : ∃ c, (sT S)[t']? = some c := ⟨_, List.getElem?_eq_getElem ht⟩
    have hM := hE.2.2.1.2.2 t' c hc
    have hr : qWindows (nI t') S = (0, nI c.2) := by rw [qWindows, if_pos h1, show cN (nI t') = t' from nI_clamp (by omega)]; simp only [wiT, hc]
    refine g_aload_n X dX3_windows_0 rfl rfl ?_
    refine g_iconst (v := 0) X dX3_windows_1 rfl ?_
    refine pf_20_8 X dX3_windows_2 fl_X3_45 (by repeat (first | with_reducible exact Rp.here | with_reducible apply Rp.there)) rfl rfl ?_
    refine g_aload_n X dX3_windows_5 rfl rfl ?_
    refine g_iload_n X dX3_windows_6 rfl rfl ?_
    refine g_callV X dX3_windows_7 mv_X3_95 (c_X3_isTrader hB hT (by omega)) rfl cl_X3 (by repeat (first | with_reducible exact Rc.pt | with_reducible apply Rc.there)) (by repeat (first | with_reducible exact Pks.nil | (with_reducible refine Pks.pure (by assumption) ?_) | (with_reducible apply Pks.cons; focus ((repeat (first | with_reducible exact Pk.here | with_reducible apply Pk.there)); done)) | (refine Pks.cons Pk.here ?_))) rfl rfl (by decide) (by exact Nat.le_of_ble_eq_true rfl) (by first | decide | omega) (fun r w1 hq => ?_) (fun E q w1 hq => hq.elim)
    obtain ⟨rfl, rfl⟩ := hq
    dsimp only [wM, PqM, List.cons_append, List.nil_append, Option.toList_some, Option.toList_none]
    rw [bP_t h1]
    refine g_if_eq (tgt := 27) X dX3_windows_10 (by decide) (fun c_10 => absurd c_10 (by decide)) (fun c_10 => ?_)
    refine g_aload_n X dX3_windows_13 rfl rfl ?_
    refine g_getf X dX3_windows_14 fl_X3_9 (by repeat (first | with_reducible exact Pk.here | with_reducible apply Pk.there)) (by exact rfl) ?_
    refine g_iload_n X dX3_windows_17 rfl rfl ?_
    refine g_callS X dX3_windows_18 ms_X3_78 (c_X3_traderAt hB) rfl (by repeat (first | with_reducible exact Pks.nil | (with_reducible refine Pks.pure (by assumption) ?_) | (with_reducible apply Pks.cons; focus ((repeat (first | with_reducible exact Pk.here | with_reducible apply Pk.there)); done)) | (refine Pks.cons Pk.here ?_))) rfl rfl (by decide) (by exact Nat.le_of_ble_eq_true rfl) (by first | decide | omega) (fun r w1 hq => ?_) (fun E q w1 hq => hq.elim)
    obtain ⟨rfl, rfl⟩ := hq
    dsimp only [wM, PqM, List.cons_append, List.nil_append, Option.toList_some, Option.toList_none]
    rw [it_]
    refine g_iconst (v := 1) X dX3_windows_21 rfl ?_
    refine g_iadd X dX3_windows_22 ?_
    refine g_iald (17 + 3 * t' + 1) X dX3_windows_23 (by repeat (first | with_reducible exact Pk.here | with_reducible apply Pk.there)) (nI_1 _) (by omega) (by exact hM.2) ?_
    refine g_goto (tgt := 32) X dX3_windows_24 (by decide) ?_
    exact g_iret X Y dX3_windows_32 (rfl) (⟨0, by rw [hr], rfl, by rw [hr]; rfl⟩) (Pks.tail (rest := _) (by repeat (first | with_reducible exact Pks.nil | (with_reducible refine Pks.pure (by assumption) ?_) | (with_reducible apply Pks.cons; focus ((repeat (first | with_reducible exact Pk.here | with_reducible apply Pk.there)); done)) | (refine Pks.cons Pk.here ?_))))
  · have hr : qWindows t S = erQ 1 := if_neg h1
    refine g_aload_n X dX3_windows_0 rfl rfl ?_
    refine g_iconst (v := 0) X dX3_windows_1 rfl ?_
    refine pf_20_8 X dX3_windows_2 fl_X3_45 (by repeat (first | with_reducible exact Rp.here | with_reducible apply Rp.there)) rfl rfl ?_
    refine g_aload_n X dX3_windows_5 rfl rfl ?_
    refine g_iload_n X dX3_windows_6 rfl rfl ?_
    refine g_callV X dX3_windows_7 mv_X3_95 (c_X3_isTrader hB hT (by omega)) rfl cl_X3 (by repeat (first | with_reducible exact Rc.pt | with_reducible apply Rc.there)) (by repeat (first | with_reducible exact Pks.nil | (with_reducible refine Pks.pure (by assumption) ?_) | (with_reducible apply Pks.cons; focus ((repeat (first | with_reducible exact Pk.here | with_reducible apply Pk.there)); done)) | (refine Pks.cons Pk.here ?_))) rfl rfl (by decide) (by exact Nat.le_of_ble_eq_true rfl) (by first | decide | omega) (fun r w1 hq => ?_) (fun E q w1 hq => hq.elim)
    obtain ⟨rfl, rfl⟩ := hq
    dsimp only [wM, PqM, List.cons_append, List.nil_append, Option.toList_some, Option.toList_none]
    rw [bP_f h1]
    refine g_if_eq (tgt := 27) X dX3_windows_10 (by decide) (fun c_10 => ?_) (fun c_10 => absurd (rfl) c_10)
    refine g_aload_n X dX3_windows_27 rfl rfl ?_
    refine g_iconst (v := 1) X dX3_windows_28 rfl ?_
    refine g_callV X dX3_windows_29 mv_X3_75 (c_X3_throwing hB) rfl cl_X3 (by repeat (first | with_reducible exact Rc.pt | with_reducible apply Rc.there)) (by repeat (first | with_reducible exact Pks.nil | (with_reducible refine Pks.pure (by assumption) ?_) | (with_reducible apply Pks.cons; focus ((repeat (first | with_reducible exact Pk.here | with_reducible apply Pk.there)); done)) | (refine Pks.cons Pk.here ?_))) rfl rfl (by decide) (by exact Nat.le_of_ble_eq_true rfl) (by first | decide | omega) (fun r w1 hq => ?_) (fun E q w1 hq => hq.elim)
    obtain ⟨rfl, rfl⟩ := hq
    dsimp only [wM, PqM, List.cons_append, List.nil_append, Option.toList_some, Option.toList_none]
    exact g_iret X Y dX3_windows_32 (rfl) (⟨1, by rw [hr], rfl, by rw [hr]; rfl⟩) (Pks.tail (rest := _) (by repeat (first | with_reducible exact Pks.nil | (with_reducible refine Pks.pure (by assumption) ?_) | (with_reducible apply Pks.cons; focus ((repeat (first | with_reducible exact Pk.here | with_reducible apply Pk.there)); done)) | (refine Pks.cons Pk.here ?_))))
theorem c_X3_reservedCash (hB : Bs B) {t : Int32} (hE : Enc M S) : Tr B yX3_reservedCash (Cond.code yX3_reservedCash cX3_reservedCash 2 (some .int)) (rmd 4 0 0) [.ref m, .int t] (wM m ad sv ch ea fa th pm lm cm p0 s0 iw M) (PqM m ad sv ch ea fa pm lm cm p0 s0 iw M (qRes true t S)) nox := by
  refine tr_of hB (by decide +kernel) rfl ?_
  intro Γ X Y
  refine g_eq (ls' := [.val (.ref m), .val (.int t)]) rfl rfl ?_
  have hT := hE.2.2.1.1
  have hl := hE.2.2.1.2.1
  by_cases h1 : isT (sT S).length t
  · obtain ⟨t', ht, rfl⟩ := isT_of (by omega) h1
    have hr : qRes true (nI t') S = (0, rvS t' true (sO S)) := by rw [qRes, if_pos h1, show cN (nI t') = t' from nI_clamp (by omega)]
    refine g_aload_n X dX3_reservedCash_0 rfl rfl ?_
    refine g_iconst (v := 0) X dX3_reservedCash_1 rfl ?_
    refine pf_20_8 X dX3_reservedCash_2 fl_X3_45 (by repeat (first | with_reducible exact Rp.here | with_reducible apply Rp.there)) rfl rfl ?_
    refine g_aload_n X dX3_reservedCash_5 rfl rfl ?_
    refine g_iload_n X dX3_reservedCash_6 rfl rfl ?_
    refine g_callV X dX3_reservedCash_7 mv_X3_95 (c_X3_isTrader hB hT (by omega)) rfl cl_X3 (by repeat (first | with_reducible exact Rc.pt | with_reducible apply Rc.there)) (by repeat (first | with_reducible exact Pks.nil | (with_reducible refine Pks.pure (by assumption) ?_) | (with_reducible apply Pks.cons; focus ((repeat (first | with_reducible exact Pk.here | with_reducible apply Pk.there)); done)) | (refine Pks.cons Pk.here ?_))) rfl rfl (by decide) (by exact Nat.le_of_ble_eq_true rfl) (by first | decide | omega) (fun r w1 hq => ?_) (fun E q w1 hq => hq.elim)
    obtain ⟨rfl, rfl⟩ := hq
    dsimp only [wM, PqM, List.cons_append, List.nil_append, Option.toList_some, Option.toList_none]
    rw [bP_t h1]
    refine g_if_eq (tgt := 22) X dX3_reservedCash_10 (by decide) (fun c_10 => absurd c_10 (by decide)) (fun c_10 => ?_)
    refine g_aload_n X dX3_reservedCash_13 rfl rfl ?_
    refine g_iload_n X dX3_reservedCash_14 rfl rfl ?_
    refine g_iconst (v := 1) X dX3_reservedCash_15 rfl ?_
    refine g_callV X dX3_reservedCash_16 mv_X3_174 (c_X3_reservedFor hB (b := true) hE.2.2.2.1 (by omega)) rfl cl_X3 (by repeat (first | with_reducible exact Rc.pt | with_reducible apply Rc.there)) (by repeat (first | with_reducible exact Pks.nil | (with_reducible refine Pks.pure (by assumption) ?_) | (with_reducible apply Pks.cons; focus ((repeat (first | with_reducible exact Pk.here | with_reducible apply Pk.there)); done)) | (refine Pks.cons Pk.here ?_))) rfl rfl (by decide) (by exact Nat.le_of_ble_eq_true rfl) (by first | decide | omega) (fun r w1 hq => ?_) (fun E q w1 hq => hq.elim)
    obtain ⟨rfl, rfl⟩ := hq
    dsimp only [wM, PqM, List.cons_append, List.nil_append, Option.toList_some, Option.toList_none]
    refine g_goto (tgt := 27) X dX3_reservedCash_19 (by decide) ?_
    exact g_iret X Y dX3_reservedCash_27 (rfl) (⟨0, by rw [hr], rfl, by rw [hr]; rfl⟩) (Pks.tail (rest := _) (by repeat (first | with_reducible exact Pks.nil | (with_reducible refine Pks.pure (by assumption) ?_) | (with_reducible apply Pks.cons; focus ((repeat (first | with_reducible exact Pk.here | with_reducible apply Pk.there)); done)) | (refine Pks.cons Pk.here ?_))))
  · have hr : qRes true t S = erQ 1 := if_neg h1
    refine g_aload_n X dX3_reservedCash_0 rfl rfl ?_
    refine g_iconst (v := 0) X dX3_reservedCash_1 rfl ?_
    refine pf_20_8 X dX3_reservedCash_2 fl_X3_45 (by repeat (first | with_reducible exact Rp.here | with_reducible apply Rp.there)) rfl rfl ?_
    refine g_aload_n X dX3_reservedCash_5 rfl rfl ?_
    refine g_iload_n X dX3_reservedCash_6 rfl rfl ?_
    refine g_callV X dX3_reservedCash_7 mv_X3_95 (c_X3_isTrader hB hT (by omega)) rfl cl_X3 (by repeat (first | with_reducible exact Rc.pt | with_reducible apply Rc.there)) (by repeat (first | with_reducible exact Pks.nil | (with_reducible refine Pks.pure (by assumption) ?_) | (with_reducible apply Pks.cons; focus ((repeat (first | with_reducible exact Pk.here | with_reducible apply Pk.there)); done)) | (refine Pks.cons Pk.here ?_))) rfl rfl (by decide) (by exact Nat.le_of_ble_eq_true rfl) (by first | decide | omega) (fun r w1 hq => ?_) (fun E q w1 hq => hq.elim)
    obtain ⟨rfl, rfl⟩ := hq
    dsimp only [wM, PqM, List.cons_append, List.nil_append, Option.toList_some, Option.toList_none]
    rw [bP_f h1]
    refine g_if_eq (tgt := 22) X dX3_reservedCash_10 (by decide) (fun c_10 => ?_) (fun c_10 => absurd (rfl) c_10)
    refine g_aload_n X dX3_reservedCash_22 rfl rfl ?_
    refine g_iconst (v := 1) X dX3_reservedCash_23 rfl ?_
    refine g_callV X dX3_reservedCash_24 mv_X3_75 (c_X3_throwing hB) rfl cl_X3 (by repeat (first | with_reducible exact Rc.pt | with_reducible apply Rc.there)) (by repeat (first | with_reducible exact Pks.nil | (with_reducible refine Pks.pure (by assumption) ?_) | (with_reducible apply Pks.cons; focus ((repeat (first | with_reducible exact Pk.here | with_reducible apply Pk.there)); done)) | (refine Pks.cons Pk.here ?_))) rfl rfl (by decide) (by exact Nat.le_of_ble_eq_true rfl) (by first | decide | omega) (fun r w1 hq => ?_) (fun E q w1 hq => hq.elim)
    obtain ⟨rfl, rfl⟩ := hq
    dsimp only [wM, PqM, List.cons_append, List.nil_append, Option.toList_some, Option.toList_none]
    exact g_iret X Y dX3_reservedCash_27 (rfl) (⟨1, by rw [hr], rfl, by rw [hr]; rfl⟩) (Pks.tail (rest := _) (by repeat (first | with_reducible exact Pks.nil | (with_reducible refine Pks.pure (by assumption) ?_) | (with_reducible apply Pks.cons; focus ((repeat (first | with_reducible exact Pk.here | with_reducible apply Pk.there)); done)) | (refine Pks.cons Pk.here ?_))))
theorem c_X3_reservedWindows (hB : Bs B) {t : Int32} (hE : Enc M S) : Tr B yX3_reservedWindows (Cond.code yX3_reservedWindows cX3_reservedWindows 2 (some .int)) (rmd 4 0 0) [.ref m, .int t] (wM m ad sv ch ea fa th pm lm cm p0 s0 iw M) (PqM m ad sv ch ea fa pm lm cm p0 s0 iw M (qRes false t S)) nox := by
  refine tr_of hB (by decide +kernel) rfl ?_
  intro Γ X Y
  refine g_eq (ls' := [.val (.ref m), .val (.int t)]) rfl rfl ?_
  have hT := hE.2.2.1.1
  have hl := hE.2.2.1.2.1
  by_cases h1 : isT (sT S).length t
  · obtain ⟨t', ht, rfl⟩ := isT_of (by omega) h1
    have hr : qRes false (nI t') S = (0, rvS t' false (sO S)) := by rw [qRes, if_pos h1, show cN (nI t') = t' from nI_clamp (by omega)]
    refine g_aload_n X dX3_reservedWindows_0 rfl rfl ?_
    refine g_iconst (v := 0) X dX3_reservedWindows_1 rfl ?_
    refine pf_20_8 X dX3_reservedWindows_2 fl_X3_45 (by repeat (first | with_reducible exact Rp.here | with_reducible apply Rp.there)) rfl rfl ?_
    refine g_aload_n X dX3_reservedWindows_5 rfl rfl ?_
    refine g_iload_n X dX3_reservedWindows_6 rfl rfl ?_
    refine g_callV X dX3_reservedWindows_7 mv_X3_95 (c_X3_isTrader hB hT (by omega)) rfl cl_X3 (by repeat (first | with_reducible exact Rc.pt | with_reducible apply Rc.there)) (by repeat (first | with_reducible exact Pks.nil | (with_reducible refine Pks.pure (by assumption) ?_) | (with_reducible apply Pks.cons; focus ((repeat (first | with_reducible exact Pk.here | with_reducible apply Pk.there)); done)) | (refine Pks.cons Pk.here ?_))) rfl rfl (by decide) (by exact Nat.le_of_ble_eq_true rfl) (by first | decide | omega) (fun r w1 hq => ?_) (fun E q w1 hq => hq.elim)
    obtain ⟨rfl, rfl⟩ := hq
    dsimp only [wM, PqM, List.cons_append, List.nil_append, Option.toList_some, Option.toList_none]
    rw [bP_t h1]
    refine g_if_eq (tgt := 22) X dX3_reservedWindows_10 (by decide) (fun c_10 => absurd c_10 (by decide)) (fun c_10 => ?_)
    refine g_aload_n X dX3_reservedWindows_13 rfl rfl ?_
    refine g_iload_n X dX3_reservedWindows_14 rfl rfl ?_
    refine g_iconst (v := 0) X dX3_reservedWindows_15 rfl ?_
    refine g_callV X dX3_reservedWindows_16 mv_X3_174 (c_X3_reservedFor hB (b := false) hE.2.2.2.1 (by omega)) rfl cl_X3 (by repeat (first | with_reducible exact Rc.pt | with_reducible apply Rc.there)) (by repeat (first | with_reducible exact Pks.nil | (with_reducible refine Pks.pure (by assumption) ?_) | (with_reducible apply Pks.cons; focus ((repeat (first | with_reducible exact Pk.here | with_reducible apply Pk.there)); done)) | (refine Pks.cons Pk.here ?_))) rfl rfl (by decide) (by exact Nat.le_of_ble_eq_true rfl) (by first | decide | omega) (fun r w1 hq => ?_) (fun E q w1 hq => hq.elim)
    obtain ⟨rfl, rfl⟩ := hq
    dsimp only [wM, PqM, List.cons_append, List.nil_append, Option.toList_some, Option.toList_none]
    refine g_goto (tgt := 27) X dX3_reservedWindows_19 (by decide) ?_
    exact g_iret X Y dX3_reservedWindows_27 (rfl) (⟨0, by rw [hr], rfl, by rw [hr]; rfl⟩) (Pks.tail (rest := _) (by repeat (first | with_reducible exact Pks.nil | (with_reducible refine Pks.pure (by assumption) ?_) | (with_reducible apply Pks.cons; focus ((repeat (first | with_reducible exact Pk.here | with_reducible apply Pk.there)); done)) | (refine Pks.cons Pk.here ?_))))
  · have hr : qRes false t S = erQ 1 := if_neg h1
    refine g_aload_n X dX3_reservedWindows_0 rfl rfl ?_
    refine g_iconst (v := 0) X dX3_reservedWindows_1 rfl ?_
    refine pf_20_8 X dX3_reservedWindows_2 fl_X3_45 (by repeat (first | with_reducible exact Rp.here | with_reducible apply Rp.there)) rfl rfl ?_
    refine g_aload_n X dX3_reservedWindows_5 rfl rfl ?_
    refine g_iload_n X dX3_reservedWindows_6 rfl rfl ?_
    refine g_callV X dX3_reservedWindows_7 mv_X3_95 (c_X3_isTrader hB hT (by omega)) rfl cl_X3 (by repeat (first | with_reducible exact Rc.pt | with_reducible apply Rc.there)) (by repeat (first | with_reducible exact Pks.nil | (with_reducible refine Pks.pure (by assumption) ?_) | (with_reducible apply Pks.cons; focus ((repeat (first | with_reducible exact Pk.here | with_reducible apply Pk.there)); done)) | (refine Pks.cons Pk.here ?_))) rfl rfl (by decide) (by exact Nat.le_of_ble_eq_true rfl) (by first | decide | omega) (fun r w1 hq => ?_) (fun E q w1 hq => hq.elim)
    obtain ⟨rfl, rfl⟩ := hq
    dsimp only [wM, PqM, List.cons_append, List.nil_append, Option.toList_some, Option.toList_none]
    rw [bP_f h1]
    refine g_if_eq (tgt := 22) X dX3_reservedWindows_10 (by decide) (fun c_10 => ?_) (fun c_10 => absurd (rfl) c_10)
    refine g_aload_n X dX3_reservedWindows_22 rfl rfl ?_
    refine g_iconst (v := 1) X dX3_reservedWindows_23 rfl ?_
    refine g_callV X dX3_reservedWindows_24 mv_X3_75 (c_X3_throwing hB) rfl cl_X3 (by repeat (first | with_reducible exact Rc.pt | with_reducible apply Rc.there)) (by repeat (first | with_reducible exact Pks.nil | (with_reducible refine Pks.pure (by assumption) ?_) | (with_reducible apply Pks.cons; focus ((repeat (first | with_reducible exact Pk.here | with_reducible apply Pk.there)); done)) | (refine Pks.cons Pk.here ?_))) rfl rfl (by decide) (by exact Nat.le_of_ble_eq_true rfl) (by first | decide | omega) (fun r w1 hq => ?_) (fun E q w1 hq => hq.elim)
    obtain ⟨rfl, rfl⟩ := hq
    dsimp only [wM, PqM, List.cons_append, List.nil_append, Option.toList_some, Option.toList_none]
    exact g_iret X Y dX3_reservedWindows_27 (rfl) (⟨1, by rw [hr], rfl, by rw [hr]; rfl⟩) (Pks.tail (rest := _) (by repeat (first | with_reducible exact Pks.nil | (with_reducible refine Pks.pure (by assumption) ?_) | (with_reducible apply Pks.cons; focus ((repeat (first | with_reducible exact Pk.here | with_reducible apply Pk.there)); done)) | (refine Pks.cons Pk.here ?_))))
theorem c_X3_ofOrder (hB : Bs B) {x : Int32} {d : Nat} {f : OO → Int32} (hE : Enc M S) (hd : d < 5) (hf : ∀ a o, EncO M a o → M (a + d) = f o) : Tr B yX3_ofOrder (Cond.code yX3_ofOrder cX3_ofOrder 4 (some .int)) (rmd 3 0 0) [.ref m, .int x, .int (nI d)] (wM m ad sv ch ea fa th pm lm cm p0 s0 iw M) (PqM m ad sv ch ea fa pm lm cm p0 s0 iw M (qOf f x S)) nox := by
  have hl := hE.2.2.2.1.2.1
  refine tr_of hB (by decide +kernel) rfl ?_
  intro Γ X Y
  refine g_eq (ls' := [.val (.ref m), .val (.int x), .val (.int (nI d)), .unset]) rfl rfl ?_
  cases hp : plU x (sO S) (sO S).length with
  | none =>
    have hr : qOf f x S = erQ 1 := by rw [qOf, hp]
    refine g_aload_n X dX3_ofOrder_0 rfl rfl ?_
    refine g_iconst (v := 0) X dX3_ofOrder_1 rfl ?_
    refine pf_20_8 X dX3_ofOrder_2 fl_X3_45 (by repeat (first | with_reducible exact Rp.here | with_reducible apply Rp.there)) rfl rfl ?_
    refine g_aload_n X dX3_ofOrder_5 rfl rfl ?_
    refine g_iload_n X dX3_ofOrder_6 rfl rfl ?_
    refine g_callV X dX3_ofOrder_7 mv_X3_124 (c_X3_placeOf hB hE.2.2.2.1) rfl cl_X3 (by repeat (first | with_reducible exact Rc.pt | with_reducible apply Rc.there)) (by repeat (first | with_reducible exact Pks.nil | (with_reducible refine Pks.pure (by assumption) ?_) | (with_reducible apply Pks.cons; focus ((repeat (first | with_reducible exact Pk.here | with_reducible apply Pk.there)); done)) | (refine Pks.cons Pk.here ?_))) rfl rfl (by decide) (by exact Nat.le_of_ble_eq_true rfl) (by first | decide | omega) (fun r w1 hq => ?_) (fun E q w1 hq => hq.elim)
    obtain ⟨rfl, rfl⟩ := hq
    dsimp only [wM, PqM, List.cons_append, List.nil_append, Option.toList_some, Option.toList_none]
    rw [hp]
    refine is_4_3n X dX3_ofOrder_10 rfl rfl ?_
    refine g_iload_n X dX3_ofOrder_11 rfl rfl ?_
    refine g_iconst (v := (-1)) X dX3_ofOrder_12 rfl ?_
    refine g_icmp_ne (tgt := 24) X dX3_ofOrder_13 (by decide) (fun c_13 => absurd c_13 (fun h => h rfl)) (fun c_13 => ?_)
    refine g_aload_n X dX3_ofOrder_16 rfl rfl ?_
    refine g_iconst (v := 1) X dX3_ofOrder_17 rfl ?_
    refine g_callV X dX3_ofOrder_18 mv_X3_75 (c_X3_throwing hB) rfl cl_X3 (by repeat (first | with_reducible exact Rc.pt | with_reducible apply Rc.there)) (by repeat (first | with_reducible exact Pks.nil | (with_reducible refine Pks.pure (by assumption) ?_) | (with_reducible apply Pks.cons; focus ((repeat (first | with_reducible exact Pk.here | with_reducible apply Pk.there)); done)) | (refine Pks.cons Pk.here ?_))) rfl rfl (by decide) (by exact Nat.le_of_ble_eq_true rfl) (by first | decide | omega) (fun r w1 hq => ?_) (fun E q w1 hq => hq.elim)
    obtain ⟨rfl, rfl⟩ := hq
    dsimp only [wM, PqM, List.cons_append, List.nil_append, Option.toList_some, Option.toList_none]
    refine g_goto (tgt := 35) X dX3_ofOrder_21 (by decide) ?_
    exact g_iret X Y dX3_ofOrder_35 (rfl) (⟨1, by rw [hr], rfl, by rw [hr]; rfl⟩) (Pks.tail (rest := _) (by repeat (first | with_reducible exact Pks.nil | (with_reducible refine Pks.pure (by assumption) ?_) | (with_reducible apply Pks.cons; focus ((repeat (first | with_reducible exact Pk.here | with_reducible apply Pk.there)); done)) | (refine Pks.cons Pk.here ?_))))
  | some k =>
    obtain ⟨hk, o, ho, -⟩ := plU_lt _ _ hp
    have hr : qOf f x S = (0, f o) := by simp only [qOf, hp, ho]
    have hv := hf _ _ (hE.2.2.2.1.2.2 k o ho).1
    refine g_aload_n X dX3_ofOrder_0 rfl rfl ?_
    refine g_iconst (v := 0) X dX3_ofOrder_1 rfl ?_
    refine pf_20_8 X dX3_ofOrder_2 fl_X3_45 (by repeat (first | with_reducible exact Rp.here | with_reducible apply Rp.there)) rfl rfl ?_
    refine g_aload_n X dX3_ofOrder_5 rfl rfl ?_
    refine g_iload_n X dX3_ofOrder_6 rfl rfl ?_
    refine g_callV X dX3_ofOrder_7 mv_X3_124 (c_X3_placeOf hB hE.2.2.2.1) rfl cl_X3 (by repeat (first | with_reducible exact Rc.pt | with_reducible apply Rc.there)) (by repeat (first | with_reducible exact Pks.nil | (with_reducible refine Pks.pure (by assumption) ?_) | (with_reducible apply Pks.cons; focus ((repeat (first | with_reducible exact Pk.here | with_reducible apply Pk.there)); done)) | (refine Pks.cons Pk.here ?_))) rfl rfl (by decide) (by exact Nat.le_of_ble_eq_true rfl) (by first | decide | omega) (fun r w1 hq => ?_) (fun E q w1 hq => hq.elim)
    obtain ⟨rfl, rfl⟩ := hq
    dsimp only [wM, PqM, List.cons_append, List.nil_append, Option.toList_some, Option.toList_none]
    rw [hp]
    refine is_4_3n X dX3_ofOrder_10 rfl rfl ?_
    refine g_iload_n X dX3_ofOrder_11 rfl rfl ?_
    refine g_iconst (v := (-1)) X dX3_ofOrder_12 rfl ?_
    refine g_icmp_ne (tgt := 24) X dX3_ofOrder_13 (by decide) (fun c_13 => ?_) (fun c_13 => absurd c_13 (fun e => nomatch (oI_none (x := some k) (fun j e => by cases e; omega)).mp e))
    refine g_aload_n X dX3_ofOrder_24 rfl rfl ?_
    refine g_getf X dX3_ofOrder_25 fl_X3_9 (by repeat (first | with_reducible exact Pk.here | with_reducible apply Pk.there)) (by exact rfl) ?_
    refine g_iload_n X dX3_ofOrder_28 rfl rfl ?_
    refine g_callS X dX3_ofOrder_29 ms_X3_61 (c_X3_orderAtPlace hB) rfl (by repeat (first | with_reducible exact Pks.nil | (with_reducible refine Pks.pure (by assumption) ?_) | (with_reducible apply Pks.cons; focus ((repeat (first | with_reducible exact Pk.here | with_reducible apply Pk.there)); done)) | (refine Pks.cons Pk.here ?_))) rfl rfl (by decide) (by exact Nat.le_of_ble_eq_true rfl) (by first | decide | omega) (fun r w1 hq => ?_) (fun E q w1 hq => hq.elim)
    obtain ⟨rfl, rfl⟩ := hq
    dsimp only [wM, PqM, List.cons_append, List.nil_append, Option.toList_some, Option.toList_none]
    rw [show oI_ (some k) = nI k from rfl, io]
    refine g_iload_n X dX3_ofOrder_32 rfl rfl ?_
    refine g_iadd X dX3_ofOrder_33 ?_
    rw [nI_add]
    refine g_iald (35 + 5 * k + d) X dX3_ofOrder_34 (by repeat (first | with_reducible exact Pk.here | with_reducible apply Pk.there)) (rfl) (by omega) (by exact hv) ?_
    exact g_iret X Y dX3_ofOrder_35 (rfl) (⟨0, by rw [hr], rfl, by rw [hr]; rfl⟩) (Pks.tail (rest := _) (by repeat (first | with_reducible exact Pks.nil | (with_reducible refine Pks.pure (by assumption) ?_) | (with_reducible apply Pks.cons; focus ((repeat (first | with_reducible exact Pk.here | with_reducible apply Pk.there)); done)) | (refine Pks.cons Pk.here ?_))))
theorem c_X3_traderOf (hB : Bs B) {x : Int32} (hE : Enc M S) : Tr B yX3_traderOf (Cond.code yX3_traderOf cX3_traderOf 2 (some .int)) (rmd 4 0 0) [.ref m, .int x] (wM m ad sv ch ea fa th pm lm cm p0 s0 iw M) (PqM m ad sv ch ea fa pm lm cm p0 s0 iw M (qOf (fun o => nI o.2.1) x S)) nox := by
  refine tr_of hB (by decide +kernel) rfl ?_
  intro Γ X Y
  refine g_eq (ls' := [.val (.ref m), .val (.int x)]) rfl rfl ?_
  refine g_aload_n X dX3_traderOf_0 rfl rfl ?_
  refine g_iload_n X dX3_traderOf_1 rfl rfl ?_
  refine g_iconst (v := 1) X dX3_traderOf_2 rfl ?_
  rw [show (1 : Int32) = nI 1 by decide]
  refine g_callV X dX3_traderOf_3 mv_X3_178 (c_X3_ofOrder hB (f := fun o => nI o.2.1) hE (by decide) (fun _ _ h => h.2.1)) rfl cl_X3 (by repeat (first | with_reducible exact Rc.pt | with_reducible apply Rc.there)) (by repeat (first | with_reducible exact Pks.nil | (with_reducible refine Pks.pure (by assumption) ?_) | (with_reducible apply Pks.cons; focus ((repeat (first | with_reducible exact Pk.here | with_reducible apply Pk.there)); done)) | (refine Pks.cons Pk.here ?_))) rfl rfl (by decide) (by exact Nat.le_of_ble_eq_true rfl) (by first | decide | omega) (fun r w1 hq => ?_) (fun E q w1 hq => hq.elim)
  obtain ⟨q, rfl, rfl, rfl⟩ := hq
  dsimp only [wM, PqM, List.cons_append, List.nil_append, Option.toList_some, Option.toList_none]
  exact g_iret X Y dX3_traderOf_6 (rfl) (⟨_, rfl, rfl, rfl⟩) (Pks.tail (rest := _) (by repeat (first | with_reducible exact Pks.nil | (with_reducible refine Pks.pure (by assumption) ?_) | (with_reducible apply Pks.cons; focus ((repeat (first | with_reducible exact Pk.here | with_reducible apply Pk.there)); done)) | (refine Pks.cons Pk.here ?_))))
theorem c_X3_priceOf (hB : Bs B) {x : Int32} (hE : Enc M S) : Tr B yX3_priceOf (Cond.code yX3_priceOf cX3_priceOf 2 (some .int)) (rmd 4 0 0) [.ref m, .int x] (wM m ad sv ch ea fa th pm lm cm p0 s0 iw M) (PqM m ad sv ch ea fa pm lm cm p0 s0 iw M (qOf (fun o => nI o.2.2.2.1) x S)) nox := by
  refine tr_of hB (by decide +kernel) rfl ?_
  intro Γ X Y
  refine g_eq (ls' := [.val (.ref m), .val (.int x)]) rfl rfl ?_
  refine g_aload_n X dX3_priceOf_0 rfl rfl ?_
  refine g_iload_n X dX3_priceOf_1 rfl rfl ?_
  refine g_iconst (v := 3) X dX3_priceOf_2 rfl ?_
  rw [show (3 : Int32) = nI 3 by decide]
  refine g_callV X dX3_priceOf_3 mv_X3_178 (c_X3_ofOrder hB (f := fun o => nI o.2.2.2.1) hE (by decide) (fun _ _ h => h.2.2.2.1)) rfl cl_X3 (by repeat (first | with_reducible exact Rc.pt | with_reducible apply Rc.there)) (by repeat (first | with_reducible exact Pks.nil | (with_reducible refine Pks.pure (by assumption) ?_) | (with_reducible apply Pks.cons; focus ((repeat (first | with_reducible exact Pk.here | with_reducible apply Pk.there)); done)) | (refine Pks.cons Pk.here ?_))) rfl rfl (by decide) (by exact Nat.le_of_ble_eq_true rfl) (by first | decide | omega) (fun r w1 hq => ?_) (fun E q w1 hq => hq.elim)
  obtain ⟨q, rfl, rfl, rfl⟩ := hq
  dsimp only [wM, PqM, List.cons_append, List.nil_append, Option.toList_some, Option.toList_none]
  exact g_iret X Y dX3_priceOf_6 (rfl) (⟨_, rfl, rfl, rfl⟩) (Pks.tail (rest := _) (by repeat (first | with_reducible exact Pks.nil | (with_reducible refine Pks.pure (by assumption) ?_) | (with_reducible apply Pks.cons; focus ((repeat (first | with_reducible exact Pk.here | with_reducible apply Pk.there)); done)) | (refine Pks.cons Pk.here ?_))))
theorem c_X3_unitsOf (hB : Bs B) {x : Int32} (hE : Enc M S) : Tr B yX3_unitsOf (Cond.code yX3_unitsOf cX3_unitsOf 2 (some .int)) (rmd 4 0 0) [.ref m, .int x] (wM m ad sv ch ea fa th pm lm cm p0 s0 iw M) (PqM m ad sv ch ea fa pm lm cm p0 s0 iw M (qOf (fun o => nI o.2.2.2.2) x S)) nox := by
  refine tr_of hB (by decide +kernel) rfl ?_
  intro Γ X Y
  refine g_eq (ls' := [.val (.ref m), .val (.int x)]) rfl rfl ?_
  refine g_aload_n X dX3_unitsOf_0 rfl rfl ?_
  refine g_iload_n X dX3_unitsOf_1 rfl rfl ?_
  refine g_iconst (v := 4) X dX3_unitsOf_2 rfl ?_
  rw [show (4 : Int32) = nI 4 by decide]
  refine g_callV X dX3_unitsOf_3 mv_X3_178 (c_X3_ofOrder hB (f := fun o => nI o.2.2.2.2) hE (by decide) (fun _ _ h => h.2.2.2.2)) rfl cl_X3 (by repeat (first | with_reducible exact Rc.pt | with_reducible apply Rc.there)) (by repeat (first | with_reducible exact Pks.nil | (with_reducible refine Pks.pure (by assumption) ?_) | (with_reducible apply Pks.cons; focus ((repeat (first | with_reducible exact Pk.here | with_reducible apply Pk.there)); done)) | (refine Pks.cons Pk.here ?_))) rfl rfl (by decide) (by exact Nat.le_of_ble_eq_true rfl) (by first | decide | omega) (fun r w1 hq => ?_) (fun E q w1 hq => hq.elim)
  obtain ⟨q, rfl, rfl, rfl⟩ := hq
  dsimp only [wM, PqM, List.cons_append, List.nil_append, Option.toList_some, Option.toList_none]
  exact g_iret X Y dX3_unitsOf_6 (rfl) (⟨_, rfl, rfl, rfl⟩) (Pks.tail (rest := _) (by repeat (first | with_reducible exact Pks.nil | (with_reducible refine Pks.pure (by assumption) ?_) | (with_reducible apply Pks.cons; focus ((repeat (first | with_reducible exact Pk.here | with_reducible apply Pk.there)); done)) | (refine Pks.cons Pk.here ?_))))
/-- whether an order is a bid -/
abbrev qIsBid (x : Int32) (S : SS) : Nat × Bool := ((qOf (fun o => bI o.2.2.1) x S).1, (qOf (fun o => bI o.2.2.1) x S).2 == 1)
theorem c_X3_isBid (hB : Bs B) {x : Int32} (hE : Enc M S) : Tr B yX3_isBid (Cond.code yX3_isBid cX3_isBid 2 (some .boolean)) (rmd 4 0 0) [.ref m, .int x] (wM m ad sv ch ea fa th pm lm cm p0 s0 iw M) (fun r w => ∃ q, r = some (.int (bI (qIsBid x S).2)) ∧ w = wM m ad sv ch ea fa q pm lm cm p0 s0 iw M ∧ q = nI (qIsBid x S).1) nox := by
  refine tr_of hB (by decide +kernel) rfl ?_
  intro Γ X Y
  refine g_eq (ls' := [.val (.ref m), .val (.int x)]) rfl rfl ?_
  refine g_aload_n X dX3_isBid_0 rfl rfl ?_
  refine g_iload_n X dX3_isBid_1 rfl rfl ?_
  refine g_iconst (v := 2) X dX3_isBid_2 rfl ?_
  rw [show (2 : Int32) = nI 2 by decide]
  refine g_callV X dX3_isBid_3 mv_X3_178 (c_X3_ofOrder hB (f := fun o => bI o.2.2.1) hE (by decide) (fun _ _ h => h.2.2.1)) rfl cl_X3 (by repeat (first | with_reducible exact Rc.pt | with_reducible apply Rc.there)) (by repeat (first | with_reducible exact Pks.nil | (with_reducible refine Pks.pure (by assumption) ?_) | (with_reducible apply Pks.cons; focus ((repeat (first | with_reducible exact Pk.here | with_reducible apply Pk.there)); done)) | (refine Pks.cons Pk.here ?_))) rfl rfl (by decide) (by exact Nat.le_of_ble_eq_true rfl) (by first | decide | omega) (fun r w1 hq => ?_) (fun E q w1 hq => hq.elim)
  obtain ⟨q, rfl, rfl, rfl⟩ := hq
  dsimp only [wM, PqM, List.cons_append, List.nil_append, Option.toList_some, Option.toList_none]
  refine g_iconst (v := 1) X dX3_isBid_6 rfl ?_
  refine g_icmp_ne (tgt := 14) X dX3_isBid_7 (by decide) (fun c_7 => ?_) (fun c_7 => ?_)
  · refine g_iconst (v := 0) X dX3_isBid_14 rfl ?_
    exact g_iret X Y dX3_isBid_15 (rfl) (⟨_, by show some (Value.int 0) = some (Value.int (bI ((qOf (fun o => bI o.2.2.1) x S).2 == 1))); rw [show ((qOf (fun o => bI o.2.2.1) x S).2 == 1) = false from beq_eq_false_iff_ne.mpr c_7]; rfl, rfl, rfl⟩) (Pks.tail (rest := _) (by repeat (first | with_reducible exact Pks.nil | (with_reducible refine Pks.pure (by assumption) ?_) | (with_reducible apply Pks.cons; focus ((repeat (first | with_reducible exact Pk.here | with_reducible apply Pk.there)); done)) | (refine Pks.cons Pk.here ?_))))
  · refine g_iconst (v := 1) X dX3_isBid_10 rfl ?_
    refine g_goto (tgt := 15) X dX3_isBid_11 (by decide) ?_
    exact g_iret X Y dX3_isBid_15 (rfl) (⟨_, by show some (Value.int 1) = some (Value.int (bI ((qOf (fun o => bI o.2.2.1) x S).2 == 1))); rw [show ((qOf (fun o => bI o.2.2.1) x S).2 == 1) = true from beq_iff_eq.mpr c_7]; rfl, rfl, rfl⟩) (Pks.tail (rest := _) (by repeat (first | with_reducible exact Pks.nil | (with_reducible refine Pks.pure (by assumption) ?_) | (with_reducible apply Pks.cons; focus ((repeat (first | with_reducible exact Pk.here | with_reducible apply Pk.there)); done)) | (refine Pks.cons Pk.here ?_))))
theorem c_X3_orderAt (hB : Bs B) {b : Bool} {r : Int32} (hE : Enc M S) : Tr B yX3_orderAt (Cond.code yX3_orderAt cX3_orderAt 4 (some .int)) (rmd 4 0 0) [.ref m, .int (bI b), .int r] (wM m ad sv ch ea fa th pm lm cm p0 s0 iw M) (PqM m ad sv ch ea fa pm lm cm p0 s0 iw M (qAt (fun o => nI o.1) b r S)) nox := by
  refine tr_of hB (by decide +kernel) rfl ?_
  intro Γ X Y
  refine g_eq (ls' := [.val (.ref m), .val (.int (bI b)), .val (.int r), .unset]) rfl rfl ?_
  have hl := hE.2.2.2.1.2.1
  cases hp : rkS b r (sO S) with
  | none =>
    have hr : qAt (fun o => nI o.1) b r S = erQ 1 := by simp only [qAt, hp]
    refine g_aload_n X dX3_orderAt_0 rfl rfl ?_
    refine g_iconst (v := 0) X dX3_orderAt_1 rfl ?_
    refine pf_20_8 X dX3_orderAt_2 fl_X3_45 (by repeat (first | with_reducible exact Rp.here | with_reducible apply Rp.there)) rfl rfl ?_
    refine g_aload_n X dX3_orderAt_5 rfl rfl ?_
    refine g_iload_n X dX3_orderAt_6 rfl rfl ?_
    refine g_iload_n X dX3_orderAt_7 rfl rfl ?_
    refine g_callV X dX3_orderAt_8 mv_X3_181 (c_X3_placeAtRank hB (b := b) hE.2.2.2.1) rfl cl_X3 (by repeat (first | with_reducible exact Rc.pt | with_reducible apply Rc.there)) (by repeat (first | with_reducible exact Pks.nil | (with_reducible refine Pks.pure (by assumption) ?_) | (with_reducible apply Pks.cons; focus ((repeat (first | with_reducible exact Pk.here | with_reducible apply Pk.there)); done)) | (refine Pks.cons Pk.here ?_))) rfl rfl (by decide) (by exact Nat.le_of_ble_eq_true rfl) (by first | decide | omega) (fun r w1 hq => ?_) (fun E q w1 hq => hq.elim)
    obtain ⟨rfl, rfl⟩ := hq
    dsimp only [wM, PqM, List.cons_append, List.nil_append, Option.toList_some, Option.toList_none]
    rw [hp]
    refine is_4_3n X dX3_orderAt_11 rfl rfl ?_
    refine g_iload_n X dX3_orderAt_12 rfl rfl ?_
    refine g_iconst (v := (-1)) X dX3_orderAt_13 rfl ?_
    refine g_icmp_ne (tgt := 25) X dX3_orderAt_14 (by decide) (fun c_14 => absurd c_14 (fun h => h rfl)) (fun c_14 => ?_)
    refine g_aload_n X dX3_orderAt_17 rfl rfl ?_
    refine g_iconst (v := 1) X dX3_orderAt_18 rfl ?_
    refine g_callV X dX3_orderAt_19 mv_X3_75 (c_X3_throwing hB) rfl cl_X3 (by repeat (first | with_reducible exact Rc.pt | with_reducible apply Rc.there)) (by repeat (first | with_reducible exact Pks.nil | (with_reducible refine Pks.pure (by assumption) ?_) | (with_reducible apply Pks.cons; focus ((repeat (first | with_reducible exact Pk.here | with_reducible apply Pk.there)); done)) | (refine Pks.cons Pk.here ?_))) rfl rfl (by decide) (by exact Nat.le_of_ble_eq_true rfl) (by first | decide | omega) (fun r w1 hq => ?_) (fun E q w1 hq => hq.elim)
    obtain ⟨rfl, rfl⟩ := hq
    dsimp only [wM, PqM, List.cons_append, List.nil_append, Option.toList_some, Option.toList_none]
    refine g_goto (tgt := 34) X dX3_orderAt_22 (by decide) ?_
    exact g_iret X Y dX3_orderAt_34 (rfl) (⟨1, by rw [hr], rfl, by rw [hr]; rfl⟩) (Pks.tail (rest := _) (by repeat (first | with_reducible exact Pks.nil | (with_reducible refine Pks.pure (by assumption) ?_) | (with_reducible apply Pks.cons; focus ((repeat (first | with_reducible exact Pk.here | with_reducible apply Pk.there)); done)) | (refine Pks.cons Pk.here ?_))))
  | some k =>
    obtain ⟨hk, o, ho, -⟩ := rkU_lt hp
    have hr : qAt (fun o => nI o.1) b r S = (0, (fun o => nI o.1) o) := by simp only [qAt, hp, ho]
    obtain ⟨⟨e0, e1, e2, e3, e4⟩, -⟩ := hE.2.2.2.1.2.2 k o ho
    refine g_aload_n X dX3_orderAt_0 rfl rfl ?_
    refine g_iconst (v := 0) X dX3_orderAt_1 rfl ?_
    refine pf_20_8 X dX3_orderAt_2 fl_X3_45 (by repeat (first | with_reducible exact Rp.here | with_reducible apply Rp.there)) rfl rfl ?_
    refine g_aload_n X dX3_orderAt_5 rfl rfl ?_
    refine g_iload_n X dX3_orderAt_6 rfl rfl ?_
    refine g_iload_n X dX3_orderAt_7 rfl rfl ?_
    refine g_callV X dX3_orderAt_8 mv_X3_181 (c_X3_placeAtRank hB (b := b) hE.2.2.2.1) rfl cl_X3 (by repeat (first | with_reducible exact Rc.pt | with_reducible apply Rc.there)) (by repeat (first | with_reducible exact Pks.nil | (with_reducible refine Pks.pure (by assumption) ?_) | (with_reducible apply Pks.cons; focus ((repeat (first | with_reducible exact Pk.here | with_reducible apply Pk.there)); done)) | (refine Pks.cons Pk.here ?_))) rfl rfl (by decide) (by exact Nat.le_of_ble_eq_true rfl) (by first | decide | omega) (fun r w1 hq => ?_) (fun E q w1 hq => hq.elim)
    obtain ⟨rfl, rfl⟩ := hq
    dsimp only [wM, PqM, List.cons_append, List.nil_append, Option.toList_some, Option.toList_none]
    rw [hp]
    refine is_4_3n X dX3_orderAt_11 rfl rfl ?_
    refine g_iload_n X dX3_orderAt_12 rfl rfl ?_
    refine g_iconst (v := (-1)) X dX3_orderAt_13 rfl ?_
    refine g_icmp_ne (tgt := 25) X dX3_orderAt_14 (by decide) (fun c_14 => ?_) (fun c_14 => absurd c_14 (fun e => nomatch (oI_none (x := some k) (fun j e => by cases e; omega)).mp e))
    refine g_aload_n X dX3_orderAt_25 rfl rfl ?_
    refine g_getf X dX3_orderAt_26 fl_X3_9 (by repeat (first | with_reducible exact Pk.here | with_reducible apply Pk.there)) (by exact rfl) ?_
    refine g_iload_n X dX3_orderAt_29 rfl rfl ?_
    refine g_callS X dX3_orderAt_30 ms_X3_61 (c_X3_orderAtPlace hB) rfl (by repeat (first | with_reducible exact Pks.nil | (with_reducible refine Pks.pure (by assumption) ?_) | (with_reducible apply Pks.cons; focus ((repeat (first | with_reducible exact Pk.here | with_reducible apply Pk.there)); done)) | (refine Pks.cons Pk.here ?_))) rfl rfl (by decide) (by exact Nat.le_of_ble_eq_true rfl) (by first | decide | omega) (fun r w1 hq => ?_) (fun E q w1 hq => hq.elim)
    obtain ⟨rfl, rfl⟩ := hq
    dsimp only [wM, PqM, List.cons_append, List.nil_append, Option.toList_some, Option.toList_none]
    rw [show oI_ (some k) = nI k from rfl, io]
    refine g_iald (35 + 5 * k) X dX3_orderAt_33 (by repeat (first | with_reducible exact Pk.here | with_reducible apply Pk.there)) (rfl) (by omega) (by exact e0) ?_
    exact g_iret X Y dX3_orderAt_34 (rfl) (⟨0, by rw [hr], rfl, by rw [hr]; rfl⟩) (Pks.tail (rest := _) (by repeat (first | with_reducible exact Pks.nil | (with_reducible refine Pks.pure (by assumption) ?_) | (with_reducible apply Pks.cons; focus ((repeat (first | with_reducible exact Pk.here | with_reducible apply Pk.there)); done)) | (refine Pks.cons Pk.here ?_))))
theorem c_X3_bestBid (hB : Bs B)  (hE : Enc M S) : Tr B yX3_bestBid (Cond.code yX3_bestBid cX3_bestBid 2 (some .int)) (rmd 4 0 0) [.ref m] (wM m ad sv ch ea fa th pm lm cm p0 s0 iw M) (PqM m ad sv ch ea fa pm lm cm p0 s0 iw M (qAt (fun o => nI o.2.2.2.1) true 0 S)) nox := by
  refine tr_of hB (by decide +kernel) rfl ?_
  intro Γ X Y
  refine g_eq (ls' := [.val (.ref m), .unset]) rfl rfl ?_
  have hl := hE.2.2.2.1.2.1
  cases hp : rkS true 0 (sO S) with
  | none =>
    have hr : qAt (fun o => nI o.2.2.2.1) true 0 S = erQ 1 := by simp only [qAt, hp]
    refine g_aload_n X dX3_bestBid_0 rfl rfl ?_
    refine g_iconst (v := 0) X dX3_bestBid_1 rfl ?_
    refine pf_20_8 X dX3_bestBid_2 fl_X3_45 (by repeat (first | with_reducible exact Rp.here | with_reducible apply Rp.there)) rfl rfl ?_
    refine g_aload_n X dX3_bestBid_5 rfl rfl ?_
    refine g_iconst (v := 1) X dX3_bestBid_6 rfl ?_
    refine g_iconst (v := 0) X dX3_bestBid_7 rfl ?_
    refine g_callV X dX3_bestBid_8 mv_X3_181 (c_X3_placeAtRank hB (b := true) hE.2.2.2.1) rfl cl_X3 (by repeat (first | with_reducible exact Rc.pt | with_reducible apply Rc.there)) (by repeat (first | with_reducible exact Pks.nil | (with_reducible refine Pks.pure (by assumption) ?_) | (with_reducible apply Pks.cons; focus ((repeat (first | with_reducible exact Pk.here | with_reducible apply Pk.there)); done)) | (refine Pks.cons Pk.here ?_))) rfl rfl (by decide) (by exact Nat.le_of_ble_eq_true rfl) (by first | decide | omega) (fun r w1 hq => ?_) (fun E q w1 hq => hq.elim)
    obtain ⟨rfl, rfl⟩ := hq
    dsimp only [wM, PqM, List.cons_append, List.nil_append, Option.toList_some, Option.toList_none]
    rw [hp]
    refine is_2_1n X dX3_bestBid_11 rfl rfl ?_
    refine g_iload_n X dX3_bestBid_12 rfl rfl ?_
    refine g_iconst (v := (-1)) X dX3_bestBid_13 rfl ?_
    refine g_icmp_ne (tgt := 25) X dX3_bestBid_14 (by decide) (fun c_14 => absurd c_14 (fun h => h rfl)) (fun c_14 => ?_)
    refine g_aload_n X dX3_bestBid_17 rfl rfl ?_
    refine g_iconst (v := 1) X dX3_bestBid_18 rfl ?_
    refine g_callV X dX3_bestBid_19 mv_X3_75 (c_X3_throwing hB) rfl cl_X3 (by repeat (first | with_reducible exact Rc.pt | with_reducible apply Rc.there)) (by repeat (first | with_reducible exact Pks.nil | (with_reducible refine Pks.pure (by assumption) ?_) | (with_reducible apply Pks.cons; focus ((repeat (first | with_reducible exact Pk.here | with_reducible apply Pk.there)); done)) | (refine Pks.cons Pk.here ?_))) rfl rfl (by decide) (by exact Nat.le_of_ble_eq_true rfl) (by first | decide | omega) (fun r w1 hq => ?_) (fun E q w1 hq => hq.elim)
    obtain ⟨rfl, rfl⟩ := hq
    dsimp only [wM, PqM, List.cons_append, List.nil_append, Option.toList_some, Option.toList_none]
    refine g_goto (tgt := 36) X dX3_bestBid_22 (by decide) ?_
    exact g_iret X Y dX3_bestBid_36 (rfl) (⟨1, by rw [hr], rfl, by rw [hr]; rfl⟩) (Pks.tail (rest := _) (by repeat (first | with_reducible exact Pks.nil | (with_reducible refine Pks.pure (by assumption) ?_) | (with_reducible apply Pks.cons; focus ((repeat (first | with_reducible exact Pk.here | with_reducible apply Pk.there)); done)) | (refine Pks.cons Pk.here ?_))))
  | some k =>
    obtain ⟨hk, o, ho, -⟩ := rkU_lt hp
    have hr : qAt (fun o => nI o.2.2.2.1) true 0 S = (0, (fun o => nI o.2.2.2.1) o) := by simp only [qAt, hp, ho]
    obtain ⟨⟨e0, e1, e2, e3, e4⟩, -⟩ := hE.2.2.2.1.2.2 k o ho
    refine g_aload_n X dX3_bestBid_0 rfl rfl ?_
    refine g_iconst (v := 0) X dX3_bestBid_1 rfl ?_
    refine pf_20_8 X dX3_bestBid_2 fl_X3_45 (by repeat (first | with_reducible exact Rp.here | with_reducible apply Rp.there)) rfl rfl ?_
    refine g_aload_n X dX3_bestBid_5 rfl rfl ?_
    refine g_iconst (v := 1) X dX3_bestBid_6 rfl ?_
    refine g_iconst (v := 0) X dX3_bestBid_7 rfl ?_
    refine g_callV X dX3_bestBid_8 mv_X3_181 (c_X3_placeAtRank hB (b := true) hE.2.2.2.1) rfl cl_X3 (by repeat (first | with_reducible exact Rc.pt | with_reducible apply Rc.there)) (by repeat (first | with_reducible exact Pks.nil | (with_reducible refine Pks.pure (by assumption) ?_) | (with_reducible apply Pks.cons; focus ((repeat (first | with_reducible exact Pk.here | with_reducible apply Pk.there)); done)) | (refine Pks.cons Pk.here ?_))) rfl rfl (by decide) (by exact Nat.le_of_ble_eq_true rfl) (by first | decide | omega) (fun r w1 hq => ?_) (fun E q w1 hq => hq.elim)
    obtain ⟨rfl, rfl⟩ := hq
    dsimp only [wM, PqM, List.cons_append, List.nil_append, Option.toList_some, Option.toList_none]
    rw [hp]
    refine is_2_1n X dX3_bestBid_11 rfl rfl ?_
    refine g_iload_n X dX3_bestBid_12 rfl rfl ?_
    refine g_iconst (v := (-1)) X dX3_bestBid_13 rfl ?_
    refine g_icmp_ne (tgt := 25) X dX3_bestBid_14 (by decide) (fun c_14 => ?_) (fun c_14 => absurd c_14 (fun e => nomatch (oI_none (x := some k) (fun j e => by cases e; omega)).mp e))
    refine g_aload_n X dX3_bestBid_25 rfl rfl ?_
    refine g_getf X dX3_bestBid_26 fl_X3_9 (by repeat (first | with_reducible exact Pk.here | with_reducible apply Pk.there)) (by exact rfl) ?_
    refine g_iload_n X dX3_bestBid_29 rfl rfl ?_
    refine g_callS X dX3_bestBid_30 ms_X3_61 (c_X3_orderAtPlace hB) rfl (by repeat (first | with_reducible exact Pks.nil | (with_reducible refine Pks.pure (by assumption) ?_) | (with_reducible apply Pks.cons; focus ((repeat (first | with_reducible exact Pk.here | with_reducible apply Pk.there)); done)) | (refine Pks.cons Pk.here ?_))) rfl rfl (by decide) (by exact Nat.le_of_ble_eq_true rfl) (by first | decide | omega) (fun r w1 hq => ?_) (fun E q w1 hq => hq.elim)
    obtain ⟨rfl, rfl⟩ := hq
    dsimp only [wM, PqM, List.cons_append, List.nil_append, Option.toList_some, Option.toList_none]
    rw [show oI_ (some k) = nI k from rfl, io]
    refine g_iconst (v := 3) X dX3_bestBid_33 rfl ?_
    refine g_iadd X dX3_bestBid_34 ?_
    refine g_iald (35 + 5 * k + 3) X dX3_bestBid_35 (by repeat (first | with_reducible exact Pk.here | with_reducible apply Pk.there)) (nIp3 _) (by omega) (by exact e3) ?_
    exact g_iret X Y dX3_bestBid_36 (rfl) (⟨0, by rw [hr], rfl, by rw [hr]; rfl⟩) (Pks.tail (rest := _) (by repeat (first | with_reducible exact Pks.nil | (with_reducible refine Pks.pure (by assumption) ?_) | (with_reducible apply Pks.cons; focus ((repeat (first | with_reducible exact Pk.here | with_reducible apply Pk.there)); done)) | (refine Pks.cons Pk.here ?_))))
theorem c_X3_bestAsk (hB : Bs B)  (hE : Enc M S) : Tr B yX3_bestAsk (Cond.code yX3_bestAsk cX3_bestAsk 2 (some .int)) (rmd 4 0 0) [.ref m] (wM m ad sv ch ea fa th pm lm cm p0 s0 iw M) (PqM m ad sv ch ea fa pm lm cm p0 s0 iw M (qAt (fun o => nI o.2.2.2.1) false 0 S)) nox := by
  refine tr_of hB (by decide +kernel) rfl ?_
  intro Γ X Y
  refine g_eq (ls' := [.val (.ref m), .unset]) rfl rfl ?_
  have hl := hE.2.2.2.1.2.1
  cases hp : rkS false 0 (sO S) with
  | none =>
    have hr : qAt (fun o => nI o.2.2.2.1) false 0 S = erQ 1 := by simp only [qAt, hp]
    refine g_aload_n X dX3_bestAsk_0 rfl rfl ?_
    refine g_iconst (v := 0) X dX3_bestAsk_1 rfl ?_
    refine pf_20_8 X dX3_bestAsk_2 fl_X3_45 (by repeat (first | with_reducible exact Rp.here | with_reducible apply Rp.there)) rfl rfl ?_
    refine g_aload_n X dX3_bestAsk_5 rfl rfl ?_
    refine g_iconst (v := 0) X dX3_bestAsk_6 rfl ?_
    refine g_iconst (v := 0) X dX3_bestAsk_7 rfl ?_
    refine g_callV X dX3_bestAsk_8 mv_X3_181 (c_X3_placeAtRank hB (b := false) hE.2.2.2.1) rfl cl_X3 (by repeat (first | with_reducible exact Rc.pt | with_reducible apply Rc.there)) (by repeat (first | with_reducible exact Pks.nil | (with_reducible refine Pks.pure (by assumption) ?_) | (with_reducible apply Pks.cons; focus ((repeat (first | with_reducible exact Pk.here | with_reducible apply Pk.there)); done)) | (refine Pks.cons Pk.here ?_))) rfl rfl (by decide) (by exact Nat.le_of_ble_eq_true rfl) (by first | decide | omega) (fun r w1 hq => ?_) (fun E q w1 hq => hq.elim)
    obtain ⟨rfl, rfl⟩ := hq
    dsimp only [wM, PqM, List.cons_append, List.nil_append, Option.toList_some, Option.toList_none]
    rw [hp]
    refine is_2_1n X dX3_bestAsk_11 rfl rfl ?_
    refine g_iload_n X dX3_bestAsk_12 rfl rfl ?_
    refine g_iconst (v := (-1)) X dX3_bestAsk_13 rfl ?_
    refine g_icmp_ne (tgt := 25) X dX3_bestAsk_14 (by decide) (fun c_14 => absurd c_14 (fun h => h rfl)) (fun c_14 => ?_)
    refine g_aload_n X dX3_bestAsk_17 rfl rfl ?_
    refine g_iconst (v := 1) X dX3_bestAsk_18 rfl ?_
    refine g_callV X dX3_bestAsk_19 mv_X3_75 (c_X3_throwing hB) rfl cl_X3 (by repeat (first | with_reducible exact Rc.pt | with_reducible apply Rc.there)) (by repeat (first | with_reducible exact Pks.nil | (with_reducible refine Pks.pure (by assumption) ?_) | (with_reducible apply Pks.cons; focus ((repeat (first | with_reducible exact Pk.here | with_reducible apply Pk.there)); done)) | (refine Pks.cons Pk.here ?_))) rfl rfl (by decide) (by exact Nat.le_of_ble_eq_true rfl) (by first | decide | omega) (fun r w1 hq => ?_) (fun E q w1 hq => hq.elim)
    obtain ⟨rfl, rfl⟩ := hq
    dsimp only [wM, PqM, List.cons_append, List.nil_append, Option.toList_some, Option.toList_none]
    refine g_goto (tgt := 36) X dX3_bestAsk_22 (by decide) ?_
    exact g_iret X Y dX3_bestAsk_36 (rfl) (⟨1, by rw [hr], rfl, by rw [hr]; rfl⟩) (Pks.tail (rest := _) (by repeat (first | with_reducible exact Pks.nil | (with_reducible refine Pks.pure (by assumption) ?_) | (with_reducible apply Pks.cons; focus ((repeat (first | with_reducible exact Pk.here | with_reducible apply Pk.there)); done)) | (refine Pks.cons Pk.here ?_))))
  | some k =>
    obtain ⟨hk, o, ho, -⟩ := rkU_lt hp
    have hr : qAt (fun o => nI o.2.2.2.1) false 0 S = (0, (fun o => nI o.2.2.2.1) o) := by simp only [qAt, hp, ho]
    obtain ⟨⟨e0, e1, e2, e3, e4⟩, -⟩ := hE.2.2.2.1.2.2 k o ho
    refine g_aload_n X dX3_bestAsk_0 rfl rfl ?_
    refine g_iconst (v := 0) X dX3_bestAsk_1 rfl ?_
    refine pf_20_8 X dX3_bestAsk_2 fl_X3_45 (by repeat (first | with_reducible exact Rp.here | with_reducible apply Rp.there)) rfl rfl ?_
    refine g_aload_n X dX3_bestAsk_5 rfl rfl ?_
    refine g_iconst (v := 0) X dX3_bestAsk_6 rfl ?_
    refine g_iconst (v := 0) X dX3_bestAsk_7 rfl ?_
    refine g_callV X dX3_bestAsk_8 mv_X3_181 (c_X3_placeAtRank hB (b := false) hE.2.2.2.1) rfl cl_X3 (by repeat (first | with_reducible exact Rc.pt | with_reducible apply Rc.there)) (by repeat (first | with_reducible exact Pks.nil | (with_reducible refine Pks.pure (by assumption) ?_) | (with_reducible apply Pks.cons; focus ((repeat (first | with_reducible exact Pk.here | with_reducible apply Pk.there)); done)) | (refine Pks.cons Pk.here ?_))) rfl rfl (by decide) (by exact Nat.le_of_ble_eq_true rfl) (by first | decide | omega) (fun r w1 hq => ?_) (fun E q w1 hq => hq.elim)
    obtain ⟨rfl, rfl⟩ := hq
    dsimp only [wM, PqM, List.cons_append, List.nil_append, Option.toList_some, Option.toList_none]
    rw [hp]
    refine is_2_1n X dX3_bestAsk_11 rfl rfl ?_
    refine g_iload_n X dX3_bestAsk_12 rfl rfl ?_
    refine g_iconst (v := (-1)) X dX3_bestAsk_13 rfl ?_
    refine g_icmp_ne (tgt := 25) X dX3_bestAsk_14 (by decide) (fun c_14 => ?_) (fun c_14 => absurd c_14 (fun e => nomatch (oI_none (x := some k) (fun j e => by cases e; omega)).mp e))
    refine g_aload_n X dX3_bestAsk_25 rfl rfl ?_
    refine g_getf X dX3_bestAsk_26 fl_X3_9 (by repeat (first | with_reducible exact Pk.here | with_reducible apply Pk.there)) (by exact rfl) ?_
    refine g_iload_n X dX3_bestAsk_29 rfl rfl ?_
    refine g_callS X dX3_bestAsk_30 ms_X3_61 (c_X3_orderAtPlace hB) rfl (by repeat (first | with_reducible exact Pks.nil | (with_reducible refine Pks.pure (by assumption) ?_) | (with_reducible apply Pks.cons; focus ((repeat (first | with_reducible exact Pk.here | with_reducible apply Pk.there)); done)) | (refine Pks.cons Pk.here ?_))) rfl rfl (by decide) (by exact Nat.le_of_ble_eq_true rfl) (by first | decide | omega) (fun r w1 hq => ?_) (fun E q w1 hq => hq.elim)
    obtain ⟨rfl, rfl⟩ := hq
    dsimp only [wM, PqM, List.cons_append, List.nil_append, Option.toList_some, Option.toList_none]
    rw [show oI_ (some k) = nI k from rfl, io]
    refine g_iconst (v := 3) X dX3_bestAsk_33 rfl ?_
    refine g_iadd X dX3_bestAsk_34 ?_
    refine g_iald (35 + 5 * k + 3) X dX3_bestAsk_35 (by repeat (first | with_reducible exact Pk.here | with_reducible apply Pk.there)) (nIp3 _) (by omega) (by exact e3) ?_
    exact g_iret X Y dX3_bestAsk_36 (rfl) (⟨0, by rw [hr], rfl, by rw [hr]; rfl⟩) (Pks.tail (rest := _) (by repeat (first | with_reducible exact Pks.nil | (with_reducible refine Pks.pure (by assumption) ?_) | (with_reducible apply Pks.cons; focus ((repeat (first | with_reducible exact Pk.here | with_reducible apply Pk.there)); done)) | (refine Pks.cons Pk.here ?_))))
theorem c_X3_lastPrice (hB : Bs B)  (hE : Enc M S) (hb : sN S 5 < 2 ^ 31) : Tr B yX3_lastPrice (Cond.code yX3_lastPrice cX3_lastPrice 1 (some .int)) (rmd 4 0 0) [.ref m] (wM m ad sv ch ea fa th pm lm cm p0 s0 iw M) (PqM m ad sv ch ea fa pm lm cm p0 s0 iw M (qLast S)) nox := by
  refine tr_of hB (by decide +kernel) rfl ?_
  intro Γ X Y
  refine g_eq (ls' := [.val (.ref m)]) rfl rfl ?_
  have h5 := hE.1 5 (by omega)
  by_cases h : sN S 5 = 0
  · have hr : qLast S = erQ 1 := if_pos h
    refine g_aload_n X dX3_lastPrice_0 rfl rfl ?_
    refine g_iconst (v := 0) X dX3_lastPrice_1 rfl ?_
    refine pf_20_8 X dX3_lastPrice_2 fl_X3_45 (by repeat (first | with_reducible exact Rp.here | with_reducible apply Rp.there)) rfl rfl ?_
    refine g_aload_n X dX3_lastPrice_5 rfl rfl ?_
    refine g_getf X dX3_lastPrice_6 fl_X3_9 (by repeat (first | with_reducible exact Pk.here | with_reducible apply Pk.there)) (by exact rfl) ?_
    refine g_iconst (v := 5) X dX3_lastPrice_9 rfl ?_
    refine g_iald (5) X dX3_lastPrice_10 (by repeat (first | with_reducible exact Pk.here | with_reducible apply Pk.there)) (rfl) (by decide) (by exact h5) ?_
    refine g_if_ne (tgt := 22) X dX3_lastPrice_11 (by decide) (fun c_11 => absurd c_11 (fun q => q (by rw [h]; rfl))) (fun c_11 => ?_)
    refine g_aload_n X dX3_lastPrice_14 rfl rfl ?_
    refine g_iconst (v := 1) X dX3_lastPrice_15 rfl ?_
    refine g_callV X dX3_lastPrice_16 mv_X3_75 (c_X3_throwing hB) rfl cl_X3 (by repeat (first | with_reducible exact Rc.pt | with_reducible apply Rc.there)) (by repeat (first | with_reducible exact Pks.nil | (with_reducible refine Pks.pure (by assumption) ?_) | (with_reducible apply Pks.cons; focus ((repeat (first | with_reducible exact Pk.here | with_reducible apply Pk.there)); done)) | (refine Pks.cons Pk.here ?_))) rfl rfl (by decide) (by exact Nat.le_of_ble_eq_true rfl) (by first | decide | omega) (fun r w1 hq => ?_) (fun E q w1 hq => hq.elim)
    obtain ⟨rfl, rfl⟩ := hq
    dsimp only [wM, PqM, List.cons_append, List.nil_append, Option.toList_some, Option.toList_none]
    refine g_goto (tgt := 28) X dX3_lastPrice_19 (by decide) ?_
    exact g_iret X Y dX3_lastPrice_28 (rfl) (⟨1, by rw [hr], rfl, by rw [hr]; rfl⟩) (Pks.tail (rest := _) (by repeat (first | with_reducible exact Pks.nil | (with_reducible refine Pks.pure (by assumption) ?_) | (with_reducible apply Pks.cons; focus ((repeat (first | with_reducible exact Pk.here | with_reducible apply Pk.there)); done)) | (refine Pks.cons Pk.here ?_))))
  · have hr : qLast S = (0, nI (sN S 5)) := if_neg h
    refine g_aload_n X dX3_lastPrice_0 rfl rfl ?_
    refine g_iconst (v := 0) X dX3_lastPrice_1 rfl ?_
    refine pf_20_8 X dX3_lastPrice_2 fl_X3_45 (by repeat (first | with_reducible exact Rp.here | with_reducible apply Rp.there)) rfl rfl ?_
    refine g_aload_n X dX3_lastPrice_5 rfl rfl ?_
    refine g_getf X dX3_lastPrice_6 fl_X3_9 (by repeat (first | with_reducible exact Pk.here | with_reducible apply Pk.there)) (by exact rfl) ?_
    refine g_iconst (v := 5) X dX3_lastPrice_9 rfl ?_
    refine g_iald (5) X dX3_lastPrice_10 (by repeat (first | with_reducible exact Pk.here | with_reducible apply Pk.there)) (rfl) (by decide) (by exact h5) ?_
    refine g_if_ne (tgt := 22) X dX3_lastPrice_11 (by decide) (fun c_11 => ?_) (fun c_11 => absurd c_11 (fun q => h (nI_inj (b := 0) hb (by decide) q)))
    refine g_aload_n X dX3_lastPrice_22 rfl rfl ?_
    refine g_getf X dX3_lastPrice_23 fl_X3_9 (by repeat (first | with_reducible exact Pk.here | with_reducible apply Pk.there)) (by exact rfl) ?_
    refine g_iconst (v := 5) X dX3_lastPrice_26 rfl ?_
    refine g_iald (5) X dX3_lastPrice_27 (by repeat (first | with_reducible exact Pk.here | with_reducible apply Pk.there)) (rfl) (by decide) (by exact h5) ?_
    exact g_iret X Y dX3_lastPrice_28 (rfl) (⟨0, by rw [hr], rfl, by rw [hr]; rfl⟩) (Pks.tail (rest := _) (by repeat (first | with_reducible exact Pks.nil | (with_reducible refine Pks.pure (by assumption) ?_) | (with_reducible apply Pks.cons; focus ((repeat (first | with_reducible exact Pk.here | with_reducible apply Pk.there)); done)) | (refine Pks.cons Pk.here ?_))))
theorem c_X3_daysLeft (hB : Bs B) {k : Int32} (hE : Enc M S) : Tr B yX3_daysLeft (Cond.code yX3_daysLeft cX3_daysLeft 2 (some .int)) (rmd 4 0 0) [.ref m, .int k] (wM m ad sv ch ea fa th pm lm cm p0 s0 iw M) (PqM m ad sv ch ea fa pm lm cm p0 s0 iw M (qDays k S)) nox := by
  refine tr_of hB (by decide +kernel) rfl ?_
  intro Γ X Y
  refine g_eq (ls' := [.val (.ref m), .val (.int k)]) rfl rfl ?_
  have hT := hE.2.2.2.2.1.1
  have hl := hE.2.2.2.2.1.2.1
  by_cases h1 : isT (sC S).length k
  · obtain ⟨k', hk, rfl⟩ := isT_of (by omega) h1
    obtain ⟨c, hc⟩ : ∃ c, (sC S)[k']? = some c := ⟨_, List.getElem?_eq_getElem hk⟩
    obtain ⟨⟨e0, e1, e2, e3, e4⟩, -⟩ := hE.2.2.2.2.1.2.2 k' c hc
    have hr : qDays (nI k') S = (0, nI c.2.2.2.2 - nI (sN S 4)) := by rw [qDays, if_pos h1, show cN (nI k') = k' from nI_clamp (by omega), hc]
    refine g_aload_n X dX3_daysLeft_0 rfl rfl ?_
    refine g_iconst (v := 0) X dX3_daysLeft_1 rfl ?_
    refine pf_20_8 X dX3_daysLeft_2 fl_X3_45 (by repeat (first | with_reducible exact Rp.here | with_reducible apply Rp.there)) rfl rfl ?_
    refine g_aload_n X dX3_daysLeft_5 rfl rfl ?_
    refine g_iload_n X dX3_daysLeft_6 rfl rfl ?_
    refine g_callV X dX3_daysLeft_7 mv_X3_187 (c_X3_isContract hB hT (by omega)) rfl cl_X3 (by repeat (first | with_reducible exact Rc.pt | with_reducible apply Rc.there)) (by repeat (first | with_reducible exact Pks.nil | (with_reducible refine Pks.pure (by assumption) ?_) | (with_reducible apply Pks.cons; focus ((repeat (first | with_reducible exact Pk.here | with_reducible apply Pk.there)); done)) | (refine Pks.cons Pk.here ?_))) rfl rfl (by decide) (by exact Nat.le_of_ble_eq_true rfl) (by first | decide | omega) (fun r w1 hq => ?_) (fun E q w1 hq => hq.elim)
    obtain ⟨rfl, rfl⟩ := hq
    dsimp only [wM, PqM, List.cons_append, List.nil_append, Option.toList_some, Option.toList_none]
    rw [bP_t h1]
    refine g_if_eq (tgt := 34) X dX3_daysLeft_10 (by decide) (fun c_10 => absurd c_10 (by decide)) (fun c_10 => ?_)
    refine g_aload_n X dX3_daysLeft_13 rfl rfl ?_
    refine g_getf X dX3_daysLeft_14 fl_X3_9 (by repeat (first | with_reducible exact Pk.here | with_reducible apply Pk.there)) (by exact rfl) ?_
    refine g_iload_n X dX3_daysLeft_17 rfl rfl ?_
    refine g_callS X dX3_daysLeft_18 ms_X3_130 (c_X3_contractAt hB) rfl (by repeat (first | with_reducible exact Pks.nil | (with_reducible refine Pks.pure (by assumption) ?_) | (with_reducible apply Pks.cons; focus ((repeat (first | with_reducible exact Pk.here | with_reducible apply Pk.there)); done)) | (refine Pks.cons Pk.here ?_))) rfl rfl (by decide) (by exact Nat.le_of_ble_eq_true rfl) (by first | decide | omega) (fun r w1 hq => ?_) (fun E q w1 hq => hq.elim)
    obtain ⟨rfl, rfl⟩ := hq
    dsimp only [wM, PqM, List.cons_append, List.nil_append, Option.toList_some, Option.toList_none]
    rw [ic]
    refine g_iconst (v := 4) X dX3_daysLeft_21 rfl ?_
    refine g_iadd X dX3_daysLeft_22 ?_
    refine g_iald (115 + 5 * k' + 4) X dX3_daysLeft_23 (by repeat (first | with_reducible exact Pk.here | with_reducible apply Pk.there)) (nIp4 _) (by omega) (by exact e4) ?_
    refine g_aload_n X dX3_daysLeft_24 rfl rfl ?_
    refine g_getf X dX3_daysLeft_25 fl_X3_9 (by repeat (first | with_reducible exact Pk.here | with_reducible apply Pk.there)) (by exact rfl) ?_
    refine g_iconst (v := 4) X dX3_daysLeft_28 rfl ?_
    refine g_iald (4) X dX3_daysLeft_29 (by repeat (first | with_reducible exact Pk.here | with_reducible apply Pk.there)) (rfl) (by decide) (by exact hE.1 4 (by omega)) ?_
    refine g_isub X dX3_daysLeft_30 ?_
    refine g_goto (tgt := 39) X dX3_daysLeft_31 (by decide) ?_
    exact g_iret X Y dX3_daysLeft_39 (rfl) (⟨0, by rw [hr], rfl, by rw [hr]; rfl⟩) (Pks.tail (rest := _) (by repeat (first | with_reducible exact Pks.nil | (with_reducible refine Pks.pure (by assumption) ?_) | (with_reducible apply Pks.cons; focus ((repeat (first | with_reducible exact Pk.here | with_reducible apply Pk.there)); done)) | (refine Pks.cons Pk.here ?_))))
  · have hr : qDays k S = erQ 1 := if_neg h1
    refine g_aload_n X dX3_daysLeft_0 rfl rfl ?_
    refine g_iconst (v := 0) X dX3_daysLeft_1 rfl ?_
    refine pf_20_8 X dX3_daysLeft_2 fl_X3_45 (by repeat (first | with_reducible exact Rp.here | with_reducible apply Rp.there)) rfl rfl ?_
    refine g_aload_n X dX3_daysLeft_5 rfl rfl ?_
    refine g_iload_n X dX3_daysLeft_6 rfl rfl ?_
    refine g_callV X dX3_daysLeft_7 mv_X3_187 (c_X3_isContract hB hT (by omega)) rfl cl_X3 (by repeat (first | with_reducible exact Rc.pt | with_reducible apply Rc.there)) (by repeat (first | with_reducible exact Pks.nil | (with_reducible refine Pks.pure (by assumption) ?_) | (with_reducible apply Pks.cons; focus ((repeat (first | with_reducible exact Pk.here | with_reducible apply Pk.there)); done)) | (refine Pks.cons Pk.here ?_))) rfl rfl (by decide) (by exact Nat.le_of_ble_eq_true rfl) (by first | decide | omega) (fun r w1 hq => ?_) (fun E q w1 hq => hq.elim)
    obtain ⟨rfl, rfl⟩ := hq
    dsimp only [wM, PqM, List.cons_append, List.nil_append, Option.toList_some, Option.toList_none]
    rw [bP_f h1]
    refine g_if_eq (tgt := 34) X dX3_daysLeft_10 (by decide) (fun c_10 => ?_) (fun c_10 => absurd (rfl) c_10)
    refine g_aload_n X dX3_daysLeft_34 rfl rfl ?_
    refine g_iconst (v := 1) X dX3_daysLeft_35 rfl ?_
    refine g_callV X dX3_daysLeft_36 mv_X3_75 (c_X3_throwing hB) rfl cl_X3 (by repeat (first | with_reducible exact Rc.pt | with_reducible apply Rc.there)) (by repeat (first | with_reducible exact Pks.nil | (with_reducible refine Pks.pure (by assumption) ?_) | (with_reducible apply Pks.cons; focus ((repeat (first | with_reducible exact Pk.here | with_reducible apply Pk.there)); done)) | (refine Pks.cons Pk.here ?_))) rfl rfl (by decide) (by exact Nat.le_of_ble_eq_true rfl) (by first | decide | omega) (fun r w1 hq => ?_) (fun E q w1 hq => hq.elim)
    obtain ⟨rfl, rfl⟩ := hq
    dsimp only [wM, PqM, List.cons_append, List.nil_append, Option.toList_some, Option.toList_none]
    exact g_iret X Y dX3_daysLeft_39 (rfl) (⟨1, by rw [hr], rfl, by rw [hr]; rfl⟩) (Pks.tail (rest := _) (by repeat (first | with_reducible exact Pks.nil | (with_reducible refine Pks.pure (by assumption) ?_) | (with_reducible apply Pks.cons; focus ((repeat (first | with_reducible exact Pk.here | with_reducible apply Pk.there)); done)) | (refine Pks.cons Pk.here ?_))))
theorem c_X3_gain (hB : Bs B) {k p : Int32} (hE : Enc M S) : Tr B yX3_gain (Cond.code yX3_gain cX3_gain 3 (some .int)) (rmd 4 0 0) [.ref m, .int k, .int p] (wM m ad sv ch ea fa th pm lm cm p0 s0 iw M) (PqM m ad sv ch ea fa pm lm cm p0 s0 iw M (qGain k p S)) nox := by
  refine tr_of hB (by decide +kernel) rfl ?_
  intro Γ X Y
  refine g_eq (ls' := [.val (.ref m), .val (.int k), .val (.int p)]) rfl rfl ?_
  have hT := hE.2.2.2.2.1.1
  have hl := hE.2.2.2.2.1.2.1
  by_cases h1 : isT (sC S).length k
  · by_cases h2 : inR p 0 99
    · obtain ⟨k', hk, rfl⟩ := isT_of (by omega) h1
      obtain ⟨c, hc⟩ : ∃ c, (sC S)[k']? = some c := ⟨_, List.getElem?_eq_getElem hk⟩
      have hr : qGain (nI k') p S = (0, (p - nI c.2.2.2.1) * nI c.2.2.1) := by rw [qGain, if_pos h1, if_pos h2, show cN (nI k') = k' from nI_clamp (by omega), hc]
      refine g_aload_n X dX3_gain_0 rfl rfl ?_
      refine g_iconst (v := 0) X dX3_gain_1 rfl ?_
      refine pf_20_8 X dX3_gain_2 fl_X3_45 (by repeat (first | with_reducible exact Rp.here | with_reducible apply Rp.there)) rfl rfl ?_
      refine g_aload_n X dX3_gain_5 rfl rfl ?_
      refine g_iload_n X dX3_gain_6 rfl rfl ?_
      refine g_callV X dX3_gain_7 mv_X3_187 (c_X3_isContract hB hT (by omega)) rfl cl_X3 (by repeat (first | with_reducible exact Rc.pt | with_reducible apply Rc.there)) (by repeat (first | with_reducible exact Pks.nil | (with_reducible refine Pks.pure (by assumption) ?_) | (with_reducible apply Pks.cons; focus ((repeat (first | with_reducible exact Pk.here | with_reducible apply Pk.there)); done)) | (refine Pks.cons Pk.here ?_))) rfl rfl (by decide) (by exact Nat.le_of_ble_eq_true rfl) (by first | decide | omega) (fun r w1 hq => ?_) (fun E q w1 hq => hq.elim)
      obtain ⟨rfl, rfl⟩ := hq
      dsimp only [wM, PqM, List.cons_append, List.nil_append, Option.toList_some, Option.toList_none]
      rw [bP_t h1]
      refine g_if_ne (tgt := 19) X dX3_gain_10 (by decide) (fun c_10 => ?_) (fun c_10 => absurd c_10 (by decide))
      refine g_iload_n X dX3_gain_19 rfl rfl ?_
      refine g_i2l X dX3_gain_20 rfl ?_
      refine g_lconst (v := 0) X dX3_gain_21 rfl ?_
      refine g_ldc2 X dX3_gain_22 q2804 ?_
      refine g_callS X dX3_gain_25 ms_X3_51 (c_X3_in hB) rfl (by repeat (first | with_reducible exact Pks.nil | (with_reducible refine Pks.pure (by assumption) ?_) | (with_reducible apply Pks.cons; focus ((repeat (first | with_reducible exact Pk.here | with_reducible apply Pk.there)); done)) | (refine Pks.cons Pk.here ?_))) rfl rfl (by decide) (by exact Nat.le_of_ble_eq_true rfl) (by first | decide | omega) (fun r w1 hq => ?_) (fun E q w1 hq => hq.elim)
      obtain ⟨rfl, rfl⟩ := hq
      dsimp only [wM, PqM, List.cons_append, List.nil_append, Option.toList_some, Option.toList_none]
      rw [inL (j := 0) (k := 99) (by decide) (by decide), bP_t h2]
      refine g_if_eq (tgt := 40) X dX3_gain_28 (by decide) (fun c_28 => absurd c_28 (by decide)) (fun c_28 => ?_)
      refine g_aload_n X dX3_gain_31 rfl rfl ?_
      refine g_iload_n X dX3_gain_32 rfl rfl ?_
      refine g_iload_n X dX3_gain_33 rfl rfl ?_
      refine g_callV X dX3_gain_34 mv_X3_137 (c_X3_gainOf hB hE.2.2.2.2.1 hc) rfl cl_X3 (by repeat (first | with_reducible exact Rc.pt | with_reducible apply Rc.there)) (by repeat (first | with_reducible exact Pks.nil | (with_reducible refine Pks.pure (by assumption) ?_) | (with_reducible apply Pks.cons; focus ((repeat (first | with_reducible exact Pk.here | with_reducible apply Pk.there)); done)) | (refine Pks.cons Pk.here ?_))) rfl rfl (by decide) (by exact Nat.le_of_ble_eq_true rfl) (by first | decide | omega) (fun r w1 hq => ?_) (fun E q w1 hq => hq.elim)
      obtain ⟨rfl, rfl⟩ := hq
      dsimp only [wM, PqM, List.cons_append, List.nil_append, Option.toList_some, Option.toList_none]
      refine g_goto (tgt := 45) X dX3_gain_37 (by decide) ?_
      exact g_iret X Y dX3_gain_45 (rfl) (⟨0, by rw [hr], rfl, by rw [hr]; rfl⟩) (Pks.tail (rest := _) (by repeat (first | with_reducible exact Pks.nil | (with_reducible refine Pks.pure (by assumption) ?_) | (with_reducible apply Pks.cons; focus ((repeat (first | with_reducible exact Pk.here | with_reducible apply Pk.there)); done)) | (refine Pks.cons Pk.here ?_))))
    · have hr : qGain k p S = erQ 2 := by rw [qGain, if_pos h1, if_neg h2]
      refine g_aload_n X dX3_gain_0 rfl rfl ?_
      refine g_iconst (v := 0) X dX3_gain_1 rfl ?_
      refine pf_20_8 X dX3_gain_2 fl_X3_45 (by repeat (first | with_reducible exact Rp.here | with_reducible apply Rp.there)) rfl rfl ?_
      refine g_aload_n X dX3_gain_5 rfl rfl ?_
      refine g_iload_n X dX3_gain_6 rfl rfl ?_
      refine g_callV X dX3_gain_7 mv_X3_187 (c_X3_isContract hB hT (by omega)) rfl cl_X3 (by repeat (first | with_reducible exact Rc.pt | with_reducible apply Rc.there)) (by repeat (first | with_reducible exact Pks.nil | (with_reducible refine Pks.pure (by assumption) ?_) | (with_reducible apply Pks.cons; focus ((repeat (first | with_reducible exact Pk.here | with_reducible apply Pk.there)); done)) | (refine Pks.cons Pk.here ?_))) rfl rfl (by decide) (by exact Nat.le_of_ble_eq_true rfl) (by first | decide | omega) (fun r w1 hq => ?_) (fun E q w1 hq => hq.elim)
      obtain ⟨rfl, rfl⟩ := hq
      dsimp only [wM, PqM, List.cons_append, List.nil_append, Option.toList_some, Option.toList_none]
      rw [bP_t h1]
      refine g_if_ne (tgt := 19) X dX3_gain_10 (by decide) (fun c_10 => ?_) (fun c_10 => absurd c_10 (by decide))
      refine g_iload_n X dX3_gain_19 rfl rfl ?_
      refine g_i2l X dX3_gain_20 rfl ?_
      refine g_lconst (v := 0) X dX3_gain_21 rfl ?_
      refine g_ldc2 X dX3_gain_22 q2804 ?_
      refine g_callS X dX3_gain_25 ms_X3_51 (c_X3_in hB) rfl (by repeat (first | with_reducible exact Pks.nil | (with_reducible refine Pks.pure (by assumption) ?_) | (with_reducible apply Pks.cons; focus ((repeat (first | with_reducible exact Pk.here | with_reducible apply Pk.there)); done)) | (refine Pks.cons Pk.here ?_))) rfl rfl (by decide) (by exact Nat.le_of_ble_eq_true rfl) (by first | decide | omega) (fun r w1 hq => ?_) (fun E q w1 hq => hq.elim)
      obtain ⟨rfl, rfl⟩ := hq
      dsimp only [wM, PqM, List.cons_append, List.nil_append, Option.toList_some, Option.toList_none]
      rw [inL (j := 0) (k := 99) (by decide) (by decide), bP_f h2]
      refine g_if_eq (tgt := 40) X dX3_gain_28 (by decide) (fun c_28 => ?_) (fun c_28 => absurd (rfl) c_28)
      refine g_aload_n X dX3_gain_40 rfl rfl ?_
      refine g_iconst (v := 2) X dX3_gain_41 rfl ?_
      refine g_callV X dX3_gain_42 mv_X3_75 (c_X3_throwing hB) rfl cl_X3 (by repeat (first | with_reducible exact Rc.pt | with_reducible apply Rc.there)) (by repeat (first | with_reducible exact Pks.nil | (with_reducible refine Pks.pure (by assumption) ?_) | (with_reducible apply Pks.cons; focus ((repeat (first | with_reducible exact Pk.here | with_reducible apply Pk.there)); done)) | (refine Pks.cons Pk.here ?_))) rfl rfl (by decide) (by exact Nat.le_of_ble_eq_true rfl) (by first | decide | omega) (fun r w1 hq => ?_) (fun E q w1 hq => hq.elim)
      obtain ⟨rfl, rfl⟩ := hq
      dsimp only [wM, PqM, List.cons_append, List.nil_append, Option.toList_some, Option.toList_none]
      exact g_iret X Y dX3_gain_45 (rfl) (⟨2, by rw [hr], rfl, by rw [hr]; rfl⟩) (Pks.tail (rest := _) (by repeat (first | with_reducible exact Pks.nil | (with_reducible refine Pks.pure (by assumption) ?_) | (with_reducible apply Pks.cons; focus ((repeat (first | with_reducible exact Pk.here | with_reducible apply Pk.there)); done)) | (refine Pks.cons Pk.here ?_))))
  · have hr : qGain k p S = erQ 1 := if_neg h1
    refine g_aload_n X dX3_gain_0 rfl rfl ?_
    refine g_iconst (v := 0) X dX3_gain_1 rfl ?_
    refine pf_20_8 X dX3_gain_2 fl_X3_45 (by repeat (first | with_reducible exact Rp.here | with_reducible apply Rp.there)) rfl rfl ?_
    refine g_aload_n X dX3_gain_5 rfl rfl ?_
    refine g_iload_n X dX3_gain_6 rfl rfl ?_
    refine g_callV X dX3_gain_7 mv_X3_187 (c_X3_isContract hB hT (by omega)) rfl cl_X3 (by repeat (first | with_reducible exact Rc.pt | with_reducible apply Rc.there)) (by repeat (first | with_reducible exact Pks.nil | (with_reducible refine Pks.pure (by assumption) ?_) | (with_reducible apply Pks.cons; focus ((repeat (first | with_reducible exact Pk.here | with_reducible apply Pk.there)); done)) | (refine Pks.cons Pk.here ?_))) rfl rfl (by decide) (by exact Nat.le_of_ble_eq_true rfl) (by first | decide | omega) (fun r w1 hq => ?_) (fun E q w1 hq => hq.elim)
    obtain ⟨rfl, rfl⟩ := hq
    dsimp only [wM, PqM, List.cons_append, List.nil_append, Option.toList_some, Option.toList_none]
    rw [bP_f h1]
    refine g_if_ne (tgt := 19) X dX3_gain_10 (by decide) (fun c_10 => absurd c_10 (by decide)) (fun c_10 => ?_)
    refine g_aload_n X dX3_gain_13 rfl rfl ?_
    refine g_iconst (v := 1) X dX3_gain_14 rfl ?_
    refine g_callV X dX3_gain_15 mv_X3_75 (c_X3_throwing hB) rfl cl_X3 (by repeat (first | with_reducible exact Rc.pt | with_reducible apply Rc.there)) (by repeat (first | with_reducible exact Pks.nil | (with_reducible refine Pks.pure (by assumption) ?_) | (with_reducible apply Pks.cons; focus ((repeat (first | with_reducible exact Pk.here | with_reducible apply Pk.there)); done)) | (refine Pks.cons Pk.here ?_))) rfl rfl (by decide) (by exact Nat.le_of_ble_eq_true rfl) (by first | decide | omega) (fun r w1 hq => ?_) (fun E q w1 hq => hq.elim)
    obtain ⟨rfl, rfl⟩ := hq
    dsimp only [wM, PqM, List.cons_append, List.nil_append, Option.toList_some, Option.toList_none]
    exact g_iret X Y dX3_gain_18 (rfl) (⟨1, by rw [hr], rfl, by rw [hr]; rfl⟩) (Pks.tail (rest := _) (by repeat (first | with_reducible exact Pks.nil | (with_reducible refine Pks.pure (by assumption) ?_) | (with_reducible apply Pks.cons; focus ((repeat (first | with_reducible exact Pk.here | with_reducible apply Pk.there)); done)) | (refine Pks.cons Pk.here ?_))))
theorem c_X3_holder (hB : Bs B) {r : Int32} (hE : Enc M S) : Tr B yX3_holder (Cond.code yX3_holder cX3_holder 2 (some .int)) (rmd 4 0 0) [.ref m, .int r] (wM m ad sv ch ea fa th pm lm cm p0 s0 iw M) (PqM m ad sv ch ea fa pm lm cm p0 s0 iw M (qHolder r S)) nox := by
  refine tr_of hB (by decide +kernel) rfl ?_
  intro Γ X Y
  refine g_eq (ls' := [.val (.ref m), .val (.int r)]) rfl rfl ?_
  by_cases h1 : isT 4 r
  · obtain ⟨r', hr', rfl⟩ := isT_of (by omega) h1
    have hH := hE.2.1 r' hr'
    cases hh : sH S r' with
    | none =>
      rw [hh] at hH
      have hr : qHolder (nI r') S = erQ 2 := by rw [qHolder, if_pos h1, show cN (nI r') = r' from nI_clamp (by omega), hh]
      refine g_aload_n X dX3_holder_0 rfl rfl ?_
      refine g_iconst (v := 0) X dX3_holder_1 rfl ?_
      refine pf_20_8 X dX3_holder_2 fl_X3_45 (by repeat (first | with_reducible exact Rp.here | with_reducible apply Rp.there)) rfl rfl ?_
      refine g_iload_n X dX3_holder_5 rfl rfl ?_
      refine g_callS X dX3_holder_6 ms_X3_149 (c_X3_isRoom hB) rfl (by repeat (first | with_reducible exact Pks.nil | (with_reducible refine Pks.pure (by assumption) ?_) | (with_reducible apply Pks.cons; focus ((repeat (first | with_reducible exact Pk.here | with_reducible apply Pk.there)); done)) | (refine Pks.cons Pk.here ?_))) rfl rfl (by decide) (by exact Nat.le_of_ble_eq_true rfl) (by first | decide | omega) (fun r w1 hq => ?_) (fun E q w1 hq => hq.elim)
      obtain ⟨rfl, rfl⟩ := hq
      dsimp only [wM, PqM, List.cons_append, List.nil_append, Option.toList_some, Option.toList_none]
      rw [bP_t h1]
      refine g_if_ne (tgt := 18) X dX3_holder_9 (by decide) (fun c_9 => ?_) (fun c_9 => absurd c_9 (by decide))
      refine g_aload_n X dX3_holder_18 rfl rfl ?_
      refine g_getf X dX3_holder_19 fl_X3_9 (by repeat (first | with_reducible exact Pk.here | with_reducible apply Pk.there)) (by exact rfl) ?_
      refine g_bipush (v := 13) X dX3_holder_22 rfl ?_
      refine g_iload_n X dX3_holder_24 rfl rfl ?_
      refine g_iadd X dX3_holder_25 ?_
      rw [show (13 : Int32) = nI 13 by decide, nI_add]
      refine g_iald (13 + r') X dX3_holder_26 (by repeat (first | with_reducible exact Pk.here | with_reducible apply Pk.there)) (rfl) (by omega) (by exact hH.1) ?_
      refine g_iconst (v := (-1)) X dX3_holder_27 rfl ?_
      refine g_icmp_ne (tgt := 39) X dX3_holder_28 (by decide) (fun c_28 => absurd c_28 (fun h => h rfl)) (fun c_28 => ?_)
      refine g_aload_n X dX3_holder_31 rfl rfl ?_
      refine g_iconst (v := 2) X dX3_holder_32 rfl ?_
      refine g_callV X dX3_holder_33 mv_X3_75 (c_X3_throwing hB) rfl cl_X3 (by repeat (first | with_reducible exact Rc.pt | with_reducible apply Rc.there)) (by repeat (first | with_reducible exact Pks.nil | (with_reducible refine Pks.pure (by assumption) ?_) | (with_reducible apply Pks.cons; focus ((repeat (first | with_reducible exact Pk.here | with_reducible apply Pk.there)); done)) | (refine Pks.cons Pk.here ?_))) rfl rfl (by decide) (by exact Nat.le_of_ble_eq_true rfl) (by first | decide | omega) (fun r w1 hq => ?_) (fun E q w1 hq => hq.elim)
      obtain ⟨rfl, rfl⟩ := hq
      dsimp only [wM, PqM, List.cons_append, List.nil_append, Option.toList_some, Option.toList_none]
      refine g_goto (tgt := 48) X dX3_holder_36 (by decide) ?_
      exact g_iret X Y dX3_holder_48 (rfl) (⟨2, by rw [hr], rfl, by rw [hr]; rfl⟩) (Pks.tail (rest := _) (by repeat (first | with_reducible exact Pks.nil | (with_reducible refine Pks.pure (by assumption) ?_) | (with_reducible apply Pks.cons; focus ((repeat (first | with_reducible exact Pk.here | with_reducible apply Pk.there)); done)) | (refine Pks.cons Pk.here ?_))))
    | some t =>
      rw [hh] at hH
      have ht := hH.2 t rfl
      have hr : qHolder (nI r') S = (0, nI t) := by rw [qHolder, if_pos h1, show cN (nI r') = r' from nI_clamp (by omega), hh]
      refine g_aload_n X dX3_holder_0 rfl rfl ?_
      refine g_iconst (v := 0) X dX3_holder_1 rfl ?_
      refine pf_20_8 X dX3_holder_2 fl_X3_45 (by repeat (first | with_reducible exact Rp.here | with_reducible apply Rp.there)) rfl rfl ?_
      refine g_iload_n X dX3_holder_5 rfl rfl ?_
      refine g_callS X dX3_holder_6 ms_X3_149 (c_X3_isRoom hB) rfl (by repeat (first | with_reducible exact Pks.nil | (with_reducible refine Pks.pure (by assumption) ?_) | (with_reducible apply Pks.cons; focus ((repeat (first | with_reducible exact Pk.here | with_reducible apply Pk.there)); done)) | (refine Pks.cons Pk.here ?_))) rfl rfl (by decide) (by exact Nat.le_of_ble_eq_true rfl) (by first | decide | omega) (fun r w1 hq => ?_) (fun E q w1 hq => hq.elim)
      obtain ⟨rfl, rfl⟩ := hq
      dsimp only [wM, PqM, List.cons_append, List.nil_append, Option.toList_some, Option.toList_none]
      rw [bP_t h1]
      refine g_if_ne (tgt := 18) X dX3_holder_9 (by decide) (fun c_9 => ?_) (fun c_9 => absurd c_9 (by decide))
      refine g_aload_n X dX3_holder_18 rfl rfl ?_
      refine g_getf X dX3_holder_19 fl_X3_9 (by repeat (first | with_reducible exact Pk.here | with_reducible apply Pk.there)) (by exact rfl) ?_
      refine g_bipush (v := 13) X dX3_holder_22 rfl ?_
      refine g_iload_n X dX3_holder_24 rfl rfl ?_
      refine g_iadd X dX3_holder_25 ?_
      rw [show (13 : Int32) = nI 13 by decide, nI_add]
      refine g_iald (13 + r') X dX3_holder_26 (by repeat (first | with_reducible exact Pk.here | with_reducible apply Pk.there)) (rfl) (by omega) (by exact hH.1) ?_
      refine g_iconst (v := (-1)) X dX3_holder_27 rfl ?_
      refine g_icmp_ne (tgt := 39) X dX3_holder_28 (by decide) (fun c_28 => ?_) (fun c_28 => absurd c_28 (fun e => nomatch (oI_none (x := some t) (fun j e => by cases e; omega)).mp e))
      refine g_aload_n X dX3_holder_39 rfl rfl ?_
      refine g_getf X dX3_holder_40 fl_X3_9 (by repeat (first | with_reducible exact Pk.here | with_reducible apply Pk.there)) (by exact rfl) ?_
      refine g_bipush (v := 13) X dX3_holder_43 rfl ?_
      refine g_iload_n X dX3_holder_45 rfl rfl ?_
      refine g_iadd X dX3_holder_46 ?_
      rw [show (13 : Int32) = nI 13 by decide, nI_add]
      refine g_iald (13 + r') X dX3_holder_47 (by repeat (first | with_reducible exact Pk.here | with_reducible apply Pk.there)) (rfl) (by omega) (by exact hH.1) ?_
      exact g_iret X Y dX3_holder_48 (rfl) (⟨0, by rw [hr]; rfl, rfl, by rw [hr]; rfl⟩) (Pks.tail (rest := _) (by repeat (first | with_reducible exact Pks.nil | (with_reducible refine Pks.pure (by assumption) ?_) | (with_reducible apply Pks.cons; focus ((repeat (first | with_reducible exact Pk.here | with_reducible apply Pk.there)); done)) | (refine Pks.cons Pk.here ?_))))
  · have hr : qHolder r S = erQ 1 := if_neg h1
    refine g_aload_n X dX3_holder_0 rfl rfl ?_
    refine g_iconst (v := 0) X dX3_holder_1 rfl ?_
    refine pf_20_8 X dX3_holder_2 fl_X3_45 (by repeat (first | with_reducible exact Rp.here | with_reducible apply Rp.there)) rfl rfl ?_
    refine g_iload_n X dX3_holder_5 rfl rfl ?_
    refine g_callS X dX3_holder_6 ms_X3_149 (c_X3_isRoom hB) rfl (by repeat (first | with_reducible exact Pks.nil | (with_reducible refine Pks.pure (by assumption) ?_) | (with_reducible apply Pks.cons; focus ((repeat (first | with_reducible exact Pk.here | with_reducible apply Pk.there)); done)) | (refine Pks.cons Pk.here ?_))) rfl rfl (by decide) (by exact Nat.le_of_ble_eq_true rfl) (by first | decide | omega) (fun r w1 hq => ?_) (fun E q w1 hq => hq.elim)
    obtain ⟨rfl, rfl⟩ := hq
    dsimp only [wM, PqM, List.cons_append, List.nil_append, Option.toList_some, Option.toList_none]
    rw [bP_f h1]
    refine g_if_ne (tgt := 18) X dX3_holder_9 (by decide) (fun c_9 => absurd c_9 (by decide)) (fun c_9 => ?_)
    refine g_aload_n X dX3_holder_12 rfl rfl ?_
    refine g_iconst (v := 1) X dX3_holder_13 rfl ?_
    refine g_callV X dX3_holder_14 mv_X3_75 (c_X3_throwing hB) rfl cl_X3 (by repeat (first | with_reducible exact Rc.pt | with_reducible apply Rc.there)) (by repeat (first | with_reducible exact Pks.nil | (with_reducible refine Pks.pure (by assumption) ?_) | (with_reducible apply Pks.cons; focus ((repeat (first | with_reducible exact Pk.here | with_reducible apply Pk.there)); done)) | (refine Pks.cons Pk.here ?_))) rfl rfl (by decide) (by exact Nat.le_of_ble_eq_true rfl) (by first | decide | omega) (fun r w1 hq => ?_) (fun E q w1 hq => hq.elim)
    obtain ⟨rfl, rfl⟩ := hq
    dsimp only [wM, PqM, List.cons_append, List.nil_append, Option.toList_some, Option.toList_none]
    exact g_iret X Y dX3_holder_17 (rfl) (⟨1, by rw [hr], rfl, by rw [hr]; rfl⟩) (Pks.tail (rest := _) (by repeat (first | with_reducible exact Pks.nil | (with_reducible refine Pks.pure (by assumption) ?_) | (with_reducible apply Pks.cons; focus ((repeat (first | with_reducible exact Pk.here | with_reducible apply Pk.there)); done)) | (refine Pks.cons Pk.here ?_))))
theorem c_X3_isConsistent (hB : Bs B) : Tr B yX3_isConsistent (Cond.code yX3_isConsistent cX3_isConsistent 1 (some .boolean)) (rmd 1 0 0) [.ref m] [pt m (mO ad sv ch ea fa th pm lm cm p0 s0 iw)] (fun r w => r = some (.int (bI true)) ∧ w = [pt m (mO ad sv ch ea fa 0 pm lm cm p0 s0 iw)]) nox := by
  refine tr_of hB (by decide +kernel) rfl ?_
  intro Γ X Y
  refine g_eq (ls' := [.val (.ref m)]) rfl rfl ?_
  refine g_aload_n X dX3_isConsistent_0 rfl rfl ?_
  refine g_iconst (v := 0) X dX3_isConsistent_1 rfl ?_
  refine pf_20_8 X dX3_isConsistent_2 fl_X3_45 (by repeat (first | with_reducible exact Rp.here | with_reducible apply Rp.there)) rfl rfl ?_
  refine g_iconst (v := 1) X dX3_isConsistent_5 rfl ?_
  exact g_iret X Y dX3_isConsistent_6 (rfl) (⟨rfl, rfl⟩) (Pks.tail (rest := _) (by repeat (first | with_reducible exact Pks.nil | (with_reducible refine Pks.pure (by assumption) ?_) | (with_reducible apply Pks.cons; focus ((repeat (first | with_reducible exact Pk.here | with_reducible apply Pk.there)); done)) | (refine Pks.cons Pk.here ?_))))
theorem c_X3_isAuctionOpen (hB : Bs B) (hE : Enc M S) : Tr B yX3_isAuctionOpen (Cond.code yX3_isAuctionOpen cX3_isAuctionOpen 1 (some .boolean)) (rmd 1 0 0) [.ref m] (wM m ad sv ch ea fa th pm lm cm p0 s0 iw M) (fun r w => r = some (.int (bI (sA S).isSome)) ∧ w = wM m ad sv ch ea fa 0 pm lm cm p0 s0 iw M) nox := by
  have hA := hE.2.2.2.2.2.1
  refine tr_of hB (by decide +kernel) rfl ?_
  intro Γ X Y
  refine g_eq (ls' := [.val (.ref m)]) rfl rfl ?_
  cases ha : sA S with
  | none =>
    rw [ha] at hA
    refine g_aload_n X dX3_isAuctionOpen_0 rfl rfl ?_
    refine g_iconst (v := 0) X dX3_isAuctionOpen_1 rfl ?_
    refine pf_20_8 X dX3_isAuctionOpen_2 fl_X3_45 (by repeat (first | with_reducible exact Rp.here | with_reducible apply Rp.there)) rfl rfl ?_
    refine g_aload_n X dX3_isAuctionOpen_5 rfl rfl ?_
    refine g_getf X dX3_isAuctionOpen_6 fl_X3_9 (by repeat (first | with_reducible exact Pk.here | with_reducible apply Pk.there)) (by exact rfl) ?_
    refine g_bipush (v := 11) X dX3_isAuctionOpen_9 rfl ?_
    refine g_iald (11) X dX3_isAuctionOpen_11 (by repeat (first | with_reducible exact Pk.here | with_reducible apply Pk.there)) (rfl) (by decide) (by exact hA.1) ?_
    refine g_iconst (v := (-1)) X dX3_isAuctionOpen_12 rfl ?_
    refine g_icmp_eq (tgt := 20) X dX3_isAuctionOpen_13 (by decide) (fun c_13 => ?_) (fun c_13 => absurd (rfl) c_13)
    refine g_iconst (v := 0) X dX3_isAuctionOpen_20 rfl ?_
    exact g_iret X Y dX3_isAuctionOpen_21 (rfl) (⟨by rw [ha]; rfl, rfl⟩) (Pks.tail (rest := _) (by repeat (first | with_reducible exact Pks.nil | (with_reducible refine Pks.pure (by assumption) ?_) | (with_reducible apply Pks.cons; focus ((repeat (first | with_reducible exact Pk.here | with_reducible apply Pk.there)); done)) | (refine Pks.cons Pk.here ?_))))
  | some q =>
    rw [ha] at hA
    have := (hA.2 q.1 q.2 rfl).2.1
    refine g_aload_n X dX3_isAuctionOpen_0 rfl rfl ?_
    refine g_iconst (v := 0) X dX3_isAuctionOpen_1 rfl ?_
    refine pf_20_8 X dX3_isAuctionOpen_2 fl_X3_45 (by repeat (first | with_reducible exact Rp.here | with_reducible apply Rp.there)) rfl rfl ?_
    refine g_aload_n X dX3_isAuctionOpen_5 rfl rfl ?_
    refine g_getf X dX3_isAuctionOpen_6 fl_X3_9 (by repeat (first | with_reducible exact Pk.here | with_reducible apply Pk.there)) (by exact rfl) ?_
    refine g_bipush (v := 11) X dX3_isAuctionOpen_9 rfl ?_
    refine g_iald (11) X dX3_isAuctionOpen_11 (by repeat (first | with_reducible exact Pk.here | with_reducible apply Pk.there)) (rfl) (by decide) (by exact hA.1) ?_
    refine g_iconst (v := (-1)) X dX3_isAuctionOpen_12 rfl ?_
    refine g_icmp_eq (tgt := 20) X dX3_isAuctionOpen_13 (by decide) (fun c_13 => absurd c_13 (fun e => nomatch (oI_none (x := some q.1) (fun j e => by cases e; omega)).mp e)) (fun c_13 => ?_)
    refine g_iconst (v := 1) X dX3_isAuctionOpen_16 rfl ?_
    refine g_goto (tgt := 21) X dX3_isAuctionOpen_17 (by decide) ?_
    exact g_iret X Y dX3_isAuctionOpen_21 (rfl) (⟨by rw [ha]; rfl, rfl⟩) (Pks.tail (rest := _) (by repeat (first | with_reducible exact Pks.nil | (with_reducible refine Pks.pure (by assumption) ?_) | (with_reducible apply Pks.cons; focus ((repeat (first | with_reducible exact Pk.here | with_reducible apply Pk.there)); done)) | (refine Pks.cons Pk.here ?_))))
end MODEL
