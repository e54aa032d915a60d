/-! THE MODEL: lines written -/
set_option maxRecDepth 100000
/-- the digits of v from the j-th on, as characters -/
def dgU (v : Nat) : Nat → List Nat
  | 0 => []
  | j + 1 => (48 + v / 10 ^ j % 10) :: dgU v j
def dgF : Nat → Nat → List Nat
  | 0, v => [48 + v % 10]
  | f + 1, v => if v < 10 then [48 + v] else dgF f (v / 10) ++ [48 + v % 10]
/-- a number in decimal -/
def dgs (v : Nat) : List Nat := dgF v v
theorem dgU_b : ∀ {j v : Nat}, dgU v (j + 1) = dgU (v / 10) j ++ [48 + v % 10]
  | 0, v => by simp [dgU]
  | j + 1, v => by
    rw [dgU, dgU_b, dgU, List.cons_append, Nat.div_div_eq_div_mul, Nat.pow_succ, Nat.mul_comm 10]
theorem dgF_U : ∀ {j v : Nat}, (∀ i, i < j → 9 < v / 10 ^ i) → v / 10 ^ j ≤ 9 → dgU v (j + 1) = dgF j v
  | 0, v, _, h => by simp [dgU, dgF]
  | j + 1, v, h1, h2 => by
    have h0 := h1 0 (by omega)
    rw [Nat.pow_zero, Nat.div_one] at h0
    rw [dgU_b, dgF, if_neg (by omega), dgF_U (fun i hi => by rw [Nat.div_div_eq_div_mul, Nat.mul_comm, ← Nat.pow_succ]; exact h1 (i + 1) (by omega)) (by rw [Nat.div_div_eq_div_mul, Nat.mul_comm, ← Nat.pow_succ]; exact h2)]
theorem dgF_eq : ∀ {f g v : Nat}, v < 10 ^ (f + 1) → v < 10 ^ (g + 1) → dgF f v = dgF g v
  | 0, 0, v, _, _ => rfl
  | 0, g + 1, v, h, _ => by
    have : v < 10 := h
    rw [dgF, dgF, if_pos this, Nat.mod_eq_of_lt this]
  | f + 1, 0, v, _, h => by
    have : v < 10 := h
    rw [dgF, dgF, if_pos this, Nat.mod_eq_of_lt this]
  | f + 1, g + 1, v, h1, h2 => by
    rw [dgF, dgF]
    by_cases h : v < 10
    · rw [if_pos h, if_pos h]
    · rw [if_neg h, if_neg h, dgF_eq (f := f) (g := g) (v := v / 10) (by rw [Nat.div_lt_iff_lt_mul (by decide), ← Nat.pow_succ]; exact h1) (by rw [Nat.div_lt_iff_lt_mul (by decide), ← Nat.pow_succ]; exact h2)]
theorem lt_ten : ∀ v : Nat, v < 10 ^ (v + 1)
  | 0 => by decide
  | v + 1 => by
    have := lt_ten v
    rw [Nat.pow_succ]
    omega
theorem dgF_len : ∀ {f v : Nat}, (dgF f v).length ≤ f + 1
  | 0, v => Nat.le_refl _
  | f + 1, v => by
    rw [dgF]
    by_cases h : v < 10
    · rw [if_pos h]; exact Nat.le_add_left _ _
    · rw [if_neg h, List.length_append]
      have := dgF_len (f := f) (v := v / 10)
      show _ + 1 ≤ _
      omega
theorem dgs_len {v f : Nat} (h : v < 10 ^ (f + 1)) : (dgs v).length ≤ f + 1 := by
  rw [dgs, dgF_eq (lt_ten v) h]
  exact dgF_len
theorem dgs_pos {v : Nat} : 0 < (dgs v).length := by
  unfold dgs
  cases v with
  | zero => exact Nat.lt_succ_self 0
  | succ v =>
    rw [dgF]
    by_cases h : v + 1 < 10
    · rw [if_pos h]; exact Nat.lt_succ_self 0
    · rw [if_neg h, List.length_append]; exact Nat.lt_of_lt_of_le (Nat.lt_succ_self 0) (Nat.le_add_left _ _)
/-- the line's array holds its characters -/
def EnL (F : Nat → Int32) (L : List Nat) : Prop := ∀ k c, L[k]? = some c → F k = nI c
theorem EnL.add {F : Nat → Int32} {L : List Nat} {c : Nat} (h : EnL F L) : EnL (upd F L.length (nI c)) (L ++ [c]) := by
  intro k d hk
  have hk2 := (List.getElem?_eq_some_iff.mp hk).1
  have hl : (L ++ [c]).length = L.length + 1 := by simp
  by_cases he : k = L.length
  · subst he
    simp only [List.getElem?_concat_length, Option.some.injEq] at hk
    subst hk
    exact upd_s
  · rw [List.getElem?_append_left (by omega)] at hk
    rw [upd_n he]
    exact h k d hk
section MODEL
variable {B : Bt} {m : Nat} {ad : Nat → Nat} {sv ch ea fa th pm lm cm p0 s0 iw : Int32} {M F : Nat → Int32} {S : SS} {L : List Nat}
abbrev wL (m : Nat) (ad : Nat → Nat) (sv ch ea fa th pm lm cm p0 s0 iw : Int32) (F : Nat → Int32) : List An := [pt m (mO ad sv ch ea fa th pm lm cm p0 s0 iw), pt (ad 5) (oA .int 160 F)]
theorem c_X3_sign (hB : Bs B) {x : Int32} {c : Nat} (hF : EnL F L) (hl : L.length < 160) (hm : lm = nI L.length) (hx : x = nI c) : Tr B yX3_sign (Cond.code yX3_sign cX3_sign 2 none) (rmd 1 0 0) [.ref m, .int x] (wL m ad sv ch ea fa th pm lm cm p0 s0 iw F) (fun r w => ∃ lm' F', r = none ∧ w = wL m ad sv ch ea fa th pm lm' cm p0 s0 iw F' ∧ lm' = nI (L ++ [c]).length ∧ EnL F' (L ++ [c])) nox := by
  subst hm hx
  refine tr_of hB (by decide +kernel) rfl ?_
  intro Γ X Y
  refine g_eq (ls' := [.val (.ref m), .val (.int (nI c))]) rfl rfl ?_
  refine g_aload_n X dX3_sign_0 rfl rfl ?_
  refine g_getf X dX3_sign_1 fl_X3_32 (by repeat (first | with_reducible exact Pk.here | with_reducible apply Pk.there)) (by exact rfl) ?_
  refine g_aload_n X dX3_sign_4 rfl rfl ?_
  refine g_getf X dX3_sign_5 fl_X3_200 (by repeat (first | with_reducible exact Pk.here | with_reducible apply Pk.there)) (by exact rfl) ?_
  refine g_iload_n X dX3_sign_8 rfl rfl ?_
  refine g_iast (L.length) X dX3_sign_9 (by repeat (first | with_reducible exact Rp.here | with_reducible apply Rp.there)) (rfl) (by omega) ?_
  refine g_aload_n X dX3_sign_10 rfl rfl ?_
  refine g_dup X dX3_sign_11 rfl ?_
  refine g_getf X dX3_sign_12 fl_X3_200 (by repeat (first | with_reducible exact Pk.here | with_reducible apply Pk.there)) (by exact rfl) ?_
  refine g_iconst (v := 1) X dX3_sign_15 rfl ?_
  refine g_iadd X dX3_sign_16 ?_
  refine pf_20_12 X dX3_sign_17 fl_X3_200 (by repeat (first | with_reducible exact Rp.here | with_reducible apply Rp.there)) rfl rfl ?_
  exact g_vret X Y dX3_sign_20 (⟨nI L.length + 1, _, rfl, rfl, by rw [List.length_append, nI_1]; rfl, hF.add⟩) (Pks.tail (rest := _) (by repeat (first | with_reducible exact Pks.nil | (with_reducible refine Pks.pure (by assumption) ?_) | (with_reducible apply Pks.cons; focus ((repeat (first | with_reducible exact Pk.here | with_reducible apply Pk.there)); done)) | (refine Pks.cons Pk.here ?_))))
theorem c_X3_writesNumber (hB : Bs B) {x : Int32} {v : Nat} (hF : EnL F L) (hv : v < 10000) (hl : L.length + (dgs v).length ≤ 160) (hm : lm = nI L.length) (hx : x = nI v) : Tr B yX3_writesNumber (Cond.code yX3_writesNumber cX3_writesNumber 3 none) (rmd 2 0 0) [.ref m, .int x] (wL m ad sv ch ea fa th pm lm cm p0 s0 iw F) (fun r w => ∃ lm' F', r = none ∧ w = wL m ad sv ch ea fa th pm lm' cm p0 s0 iw F' ∧ lm' = nI (L ++ dgs v).length ∧ EnL F' (L ++ dgs v)) nox := by
  subst hm hx
  refine tr_of hB (by decide +kernel) rfl ?_
  intro Γ X Y
  refine g_eq (ls' := [.val (.ref m), .val (.int (nI v)), .unset]) rfl rfl ?_
  have L2 : ∀ j (L1 : List Nat) (lm1 : Int32) (F1 : Nat → Int32), j < 5 → lm1 = nI L1.length → EnL F1 L1 → L1.length + (dgU v j).length ≤ 160 → L1 ++ dgU v j = L ++ dgs v → G B Γ 0 0 (wL m ad sv ch ea fa th pm lm1 cm p0 s0 iw F1) 18 [.val (.ref m), .val (.int (nI v)), .val (.int (nI (10 ^ j / 10)))] [] := by
    intro j
    induction j with
    | zero =>
      intro L1 lm1 F1 hj hl1 hF1 hb he
      rw [show dgU v 0 = [] from rfl, List.append_nil] at he
      subst he hl1
      refine g_iload_n X dX3_writesNumber_18 rfl rfl ?_
      refine g_if_le (tgt := 43) X dX3_writesNumber_19 (by decide) (fun c_19 => ?_) (fun c_19 => absurd ((by decide : nI (10 ^ 0 / 10) ≤ 0)) c_19)
      exact g_vret X Y dX3_writesNumber_43 (⟨_, _, rfl, rfl, rfl, hF1⟩) (Pks.tail (rest := _) (by repeat (first | with_reducible exact Pks.nil | (with_reducible refine Pks.pure (by assumption) ?_) | (with_reducible apply Pks.cons; focus ((repeat (first | with_reducible exact Pk.here | with_reducible apply Pk.there)); done)) | (refine Pks.cons Pk.here ?_))))
    | succ j ih =>
      intro L1 lm1 F1 hj hl1 hF1 hb he
      have hp : 10 ^ (j + 1) / 10 = 10 ^ j := by rw [Nat.pow_succ]; exact Nat.mul_div_cancel _ (by decide)
      have hpp : 0 < 10 ^ j := Nat.pow_pos (by decide)
      have hpl : 10 ^ j ≤ 10 ^ 4 := Nat.pow_le_pow_right (by decide) (by omega)
      have hb2 : (dgU v (j + 1)).length = (dgU v j).length + 1 := rfl
      rw [hp]
      have hq : 48 + v / 10 ^ j % 10 < 2 ^ 31 := by omega
      have hvd : v / 10 ^ j < 2 ^ 31 := Nat.lt_of_le_of_lt (Nat.div_le_self _ _) (by omega)
      have hd : dgU v (j + 1) = (48 + v / 10 ^ j % 10) :: dgU v j := rfl
      refine g_iload_n X dX3_writesNumber_18 rfl rfl ?_
      refine g_if_le (tgt := 43) X dX3_writesNumber_19 (by decide) (fun c_19 => absurd c_19 (nI_nle hpp (by omega))) (fun c_19 => ?_)
      refine g_aload_n X dX3_writesNumber_22 rfl rfl ?_
      refine g_bipush (v := 48) X dX3_writesNumber_23 rfl ?_
      refine g_iload_n X dX3_writesNumber_25 rfl rfl ?_
      refine g_iload_n X dX3_writesNumber_26 rfl rfl ?_
      refine g_idiv X dX3_writesNumber_27 (nI_ne0 hpp (by omega)) ?_
      rw [pk_div (by omega) hpp (by omega)]
      refine g_bipush (v := 10) X dX3_writesNumber_28 rfl ?_
      refine g_irem X dX3_writesNumber_30 (by decide) ?_
      rw [show (10 : Int32) = nI 10 by decide, pk_rem hvd (by decide) (by decide)]
      refine g_iadd X dX3_writesNumber_31 ?_
      rw [show (48 : Int32) = nI 48 by decide, nI_add]
      refine g_callV X dX3_writesNumber_32 mv_X3_203 (c_X3_sign hB hF1 (by omega) hl1 rfl) rfl cl_X3 (by repeat (first | with_reducible exact Rc.pt | with_reducible apply Rc.there)) (by repeat (first | with_reducible exact Pks.nil | (with_reducible refine Pks.pure (by assumption) ?_) | (with_reducible apply Pks.cons; focus ((repeat (first | with_reducible exact Pk.here | with_reducible apply Pk.there)); done)) | (refine Pks.cons Pk.here ?_))) rfl rfl (by decide) (by exact Nat.le_of_ble_eq_true rfl) (by first | decide | omega) (fun r w1 hq => ?_) (fun E q w1 hq => hq.elim)
      obtain ⟨lm2, F2, rfl, rfl, hl2, hF2⟩ := hq
      dsimp only [wL, List.cons_append, List.nil_append, Option.toList_some, Option.toList_none]
      refine g_iload_n X dX3_writesNumber_35 rfl rfl ?_
      refine g_bipush (v := 10) X dX3_writesNumber_36 rfl ?_
      refine g_idiv X dX3_writesNumber_38 (by decide) ?_
      rw [show (10 : Int32) = nI 10 by decide, pk_div (by omega) (by decide) (by decide)]
      refine is_3_2n X dX3_writesNumber_39 rfl rfl ?_
      refine g_goto (tgt := 18) X dX3_writesNumber_40 (by decide) ?_
      exact ih _ _ _ (by omega) hl2 hF2 (by rw [List.length_append]; show L1.length + 1 + _ ≤ _; omega) (by rw [List.append_assoc, ← he, hd]; rfl)
  have L1 : ∀ f j, j + f = 4 → (∀ i, i < j → 9 < v / 10 ^ i) → G B Γ 0 0 (wL m ad sv ch ea fa th pm (nI L.length) cm p0 s0 iw F) 2 [.val (.ref m), .val (.int (nI v)), .val (.int (nI (10 ^ j)))] [] := by
    intro f
    induction f with
    | zero =>
      intro j hj h
      have := h 3 (by omega)
      have hj4 : j = 4 := by omega
      subst hj4
      have h9 : v / 10 ^ 4 = 0 := Nat.div_eq_of_lt (by omega)
      have hv9 : v / 10 ^ 3 ≤ 9 := by omega
      omega
    | succ f ih =>
      intro j hj h
      have hpp : 0 < 10 ^ j := Nat.pow_pos (by decide)
      have hpl : 10 ^ j ≤ 10 ^ 4 := Nat.pow_le_pow_right (by decide) (by omega)
      have hvd : v / 10 ^ j < 2 ^ 31 := Nat.lt_of_le_of_lt (Nat.div_le_self _ _) (by omega)
      by_cases h9 : v / 10 ^ j ≤ 9
      · have hu := dgF_U h h9
        have hlt : v < 10 ^ (j + 1) := by rw [Nat.pow_succ, Nat.mul_comm]; exact (Nat.div_lt_iff_lt_mul hpp).mp (by omega)
        have hs : dgU v (j + 1) = dgs v := hu.trans (dgF_eq hlt (lt_ten v))
        refine g_iload_n X dX3_writesNumber_2 rfl rfl ?_
        refine g_iload_n X dX3_writesNumber_3 rfl rfl ?_
        refine g_idiv X dX3_writesNumber_4 (nI_ne0 hpp (by omega)) ?_
        rw [pk_div (by omega) hpp (by omega)]
        refine g_bipush (v := 9) X dX3_writesNumber_5 rfl ?_
        refine g_icmp_le (tgt := 18) X dX3_writesNumber_7 (by decide) (fun c_7 => ?_) (fun c_7 => absurd (nI_le (b := 9) h9 (by decide)) c_7)
        have h8 := L2 (j + 1) L _ F (by omega) rfl hF (by rw [hs]; exact hl) (by rw [hs])
        rw [Nat.pow_succ, Nat.mul_div_cancel _ (by decide)] at h8
        exact h8
      · refine g_iload_n X dX3_writesNumber_2 rfl rfl ?_
        refine g_iload_n X dX3_writesNumber_3 rfl rfl ?_
        refine g_idiv X dX3_writesNumber_4 (nI_ne0 hpp (by omega)) ?_
        rw [pk_div (by omega) hpp (by omega)]
        refine g_bipush (v := 9) X dX3_writesNumber_5 rfl ?_
        refine g_icmp_le (tgt := 18) X dX3_writesNumber_7 (by decide) (fun c_7 => absurd c_7 (nI_ge (a := 9) (by omega) hvd)) (fun c_7 => ?_)
        refine g_iload_n X dX3_writesNumber_10 rfl rfl ?_
        refine g_bipush (v := 10) X dX3_writesNumber_11 rfl ?_
        refine g_imul X dX3_writesNumber_13 ?_
        rw [show (10 : Int32) = nI 10 by decide, pk_mul]
        refine is_3_2n X dX3_writesNumber_14 rfl rfl ?_
        refine g_goto (tgt := 2) X dX3_writesNumber_15 (by decide) ?_
        refine ih (j + 1) (by omega) fun i hi => ?_
        by_cases e : i = j
        · subst e; omega
        · exact h i (by omega)
  refine g_iconst (v := 1) X dX3_writesNumber_0 rfl ?_
  refine is_3_2n X dX3_writesNumber_1 rfl rfl ?_
  exact L1 4 0 rfl fun i hi => absurd hi (by omega)
theorem c_X3_writesReserved (hB : Bs B) {x : Int32} {v : Nat} (hF : EnL F L) (hv : v < 10000) (hl : L.length + 5 ≤ 160) (hm : lm = nI L.length) (hx : x = nI v) : Tr B yX3_writesReserved (Cond.code yX3_writesReserved cX3_writesReserved 2 none) (rmd 3 0 0) [.ref m, .int x] (wL m ad sv ch ea fa th pm lm cm p0 s0 iw F) (fun r w => ∃ lm' F', r = none ∧ w = wL m ad sv ch ea fa th pm lm' cm p0 s0 iw F' ∧ lm' = nI (L ++ if v = 0 then [] else 43 :: dgs v).length ∧ EnL F' (L ++ if v = 0 then [] else 43 :: dgs v)) nox := by
  subst hx
  refine tr_of hB (by decide +kernel) rfl ?_
  intro Γ X Y
  refine g_eq (ls' := [.val (.ref m), .val (.int (nI v))]) rfl rfl ?_
  by_cases h : v = 0
  · subst h
    refine g_iload_n X dX3_writesReserved_0 rfl rfl ?_
    refine g_if_le (tgt := 15) X dX3_writesReserved_1 (by decide) (fun c_1 => ?_) (fun c_1 => absurd ((by decide : nI 0 ≤ 0)) c_1)
    exact g_vret X Y dX3_writesReserved_15 (⟨lm, F, rfl, rfl, by rw [if_pos rfl, List.append_nil]; exact hm, by rw [if_pos rfl, List.append_nil]; exact hF⟩) (Pks.tail (rest := _) (by repeat (first | with_reducible exact Pks.nil | (with_reducible refine Pks.pure (by assumption) ?_) | (with_reducible apply Pks.cons; focus ((repeat (first | with_reducible exact Pk.here | with_reducible apply Pk.there)); done)) | (refine Pks.cons Pk.here ?_))))
  · have hd := dgs_len (f := 3) hv
    have e : L ++ [43] ++ dgs v = L ++ 43 :: dgs v := by rw [List.append_assoc]; rfl
    have hq : (L ++ [43]).length = L.length + 1 := by simp
    refine g_iload_n X dX3_writesReserved_0 rfl rfl ?_
    refine g_if_le (tgt := 15) X dX3_writesReserved_1 (by decide) (fun c_1 => absurd c_1 (nI_nle (by omega) (by omega))) (fun c_1 => ?_)
    refine g_aload_n X dX3_writesReserved_4 rfl rfl ?_
    refine g_bipush (v := 43) X dX3_writesReserved_5 rfl ?_
    refine g_callV X dX3_writesReserved_7 mv_X3_203 (c_X3_sign hB (c := 43) hF (by omega) hm rfl) rfl cl_X3 (by repeat (first | with_reducible exact Rc.pt | with_reducible apply Rc.there)) (by repeat (first | with_reducible exact Pks.nil | (with_reducible refine Pks.pure (by assumption) ?_) | (with_reducible apply Pks.cons; focus ((repeat (first | with_reducible exact Pk.here | with_reducible apply Pk.there)); done)) | (refine Pks.cons Pk.here ?_))) rfl rfl (by decide) (by exact Nat.le_of_ble_eq_true rfl) (by first | decide | omega) (fun r w1 hq => ?_) (fun E q w1 hq => hq.elim)
    obtain ⟨lm2, F2, rfl, rfl, hl2, hF2⟩ := hq
    dsimp only [wL, List.cons_append, List.nil_append, Option.toList_some, Option.toList_none]
    refine g_aload_n X dX3_writesReserved_10 rfl rfl ?_
    refine g_iload_n X dX3_writesReserved_11 rfl rfl ?_
    refine g_callV X dX3_writesReserved_12 mv_X3_206 (c_X3_writesNumber hB hF2 hv (by omega) hl2 rfl) rfl cl_X3 (by repeat (first | with_reducible exact Rc.pt | with_reducible apply Rc.there)) (by repeat (first | with_reducible exact Pks.nil | (with_reducible refine Pks.pure (by assumption) ?_) | (with_reducible apply Pks.cons; focus ((repeat (first | with_reducible exact Pk.here | with_reducible apply Pk.there)); done)) | (refine Pks.cons Pk.here ?_))) rfl rfl (by decide) (by exact Nat.le_of_ble_eq_true rfl) (by first | decide | omega) (fun r w1 hq => ?_) (fun E q w1 hq => hq.elim)
    obtain ⟨lm3, F3, rfl, rfl, hl3, hF3⟩ := hq
    dsimp only [wL, List.cons_append, List.nil_append, Option.toList_some, Option.toList_none]
    exact g_vret X Y dX3_writesReserved_15 (⟨lm3, F3, rfl, rfl, by rw [if_neg h, ← e]; exact hl3, by rw [if_neg h, ← e]; exact hF3⟩) (Pks.tail (rest := _) (by repeat (first | with_reducible exact Pks.nil | (with_reducible refine Pks.pure (by assumption) ?_) | (with_reducible apply Pks.cons; focus ((repeat (first | with_reducible exact Pk.here | with_reducible apply Pk.there)); done)) | (refine Pks.cons Pk.here ?_))))
end MODEL
