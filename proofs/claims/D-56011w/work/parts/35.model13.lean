/-! THE MODEL: what is asked of it -/
set_option maxRecDepth 100000
/-- a sum over the first k members of a list -/
def smU {α : Type} (f : Nat → α → Int32) (L : List α) : Nat → Int32
  | 0 => 0
  | k + 1 => smU f L k + match L[k]? with
    | none => 0
    | some a => f k a
theorem smU_s {α : Type} {f : Nat → α → Int32} {L : List α} {k : Nat} {a : α} (h : L[k]? = some a) : smU f L (k + 1) = smU f L k + f k a := by simp only [smU, h]
/-- an answer to a question: the kind of failure (0: none), the value -/
abbrev Rq : Type := Nat × Int32
abbrev erQ (k : Nat) : Rq := (k, -1)
/-- what an open order reserves of a trader's cash (b) or windows -/
abbrev rvF (t : Nat) (b : Bool) : Nat → OO → Int32 := fun _ o => if o.2.1 = t ∧ o.2.2.1 = b then nI o.2.2.2.2 * (if b then nI o.2.2.2.1 else 1) else 0
abbrev rvS (t : Nat) (b : Bool) (O : List OO) : Int32 := smU (rvF t b) O O.length
/-- whether the order o at j stands ahead of the order u at k -/
def ahB (b : Bool) (k p : Nat) (j : Nat) (o : OO) : Bool := (o.2.2.1 == b) && ((if b then decide (p < o.2.2.2.1) else decide (o.2.2.2.1 < p)) || ((o.2.2.2.1 == p) && decide (j < k)))
abbrev ahF (b : Bool) (k p : Nat) : Nat → OO → Int32 := fun j o => if ahB b k p j o then 1 else 0
def rkU (b : Bool) (r : Int32) (O : List OO) : Nat → Option Nat
  | 0 => none
  | k + 1 => match rkU b r O k with
    | some f => some f
    | none => match O[k]? with
      | none => none
      | some o => if o.2.2.1 = b ∧ smU (ahF b k o.2.2.2.1) O O.length = r then some k else none
/-- the place of the order of the rank r of a side -/
abbrev rkS (b : Bool) (r : Int32) (O : List OO) : Option Nat := rkU b r O O.length
theorem rkU_mono {b : Bool} {r : Int32} {O : List OO} {a f : Nat} (h : rkU b r O a = some f) : ∀ {c : Nat}, a ≤ c → rkU b r O c = some f := by
  intro c hb
  obtain ⟨d, rfl⟩ : ∃ d, c = a + d := ⟨c - a, by omega⟩
  clear hb
  induction d with
  | zero => exact h
  | succ d ih => rw [← Nat.add_assoc]; simp only [rkU, ih]
theorem rkU_lt {b : Bool} {r : Int32} {O : List OO} : ∀ {k f : Nat}, rkU b r O k = some f → f < k ∧ ∃ o, O[f]? = some o ∧ o.2.2.1 = b ∧ smU (ahF b f o.2.2.2.1) O O.length = r
  | 0, f, h => nomatch h
  | k + 1, f, h => by
    have ih := fun f => rkU_lt (b := b) (r := r) (O := O) (k := k) (f := f)
    simp only [rkU] at h
    cases hp : rkU b r O k with
    | some g =>
      simp only [hp] at h
      obtain rfl : g = f := Option.some.inj h
      obtain ⟨h1, h2⟩ := ih _ hp
      exact ⟨by omega, h2⟩
    | none =>
      simp only [hp] at h
      cases ho : O[k]? with
      | none => simp [ho] at h
      | some o =>
        simp only [ho] at h
        by_cases hx : o.2.2.1 = b ∧ smU (ahF b k o.2.2.2.1) O O.length = r
        · rw [if_pos hx] at h
          cases h
          exact ⟨by omega, o, ho, hx⟩
        · rw [if_neg hx] at h
          cases h
section MODEL
variable {B : Bt} {m : Nat} {ad : Nat → Nat} {sv ch ea fa th pm lm cm p0 s0 iw : Int32} {M A : Nat → Int32} {S : SS} {O : List OO} {R : Rq}
abbrev PqM (m : Nat) (ad : Nat → Nat) (sv ch ea fa pm lm cm p0 s0 iw : Int32) (M : Nat → Int32) (R : Rq) : Option Value → List An → Prop := fun r w => ∃ q, r = some (.int R.2) ∧ w = wM m ad sv ch ea fa q pm lm cm p0 s0 iw M ∧ q = nI R.1
theorem c_X3_reservedFor (hB : Bs B) {t : Nat} {b : Bool} (hE : EnO M O) (ht : t < 2 ^ 31) : Tr B yX3_reservedFor (Cond.code yX3_reservedFor cX3_reservedFor 7 (some .int)) (rmd 3 0 0) [.ref m, .int (nI t), .int (bI b)] (wM m ad sv ch ea fa th pm lm cm p0 s0 iw M) (fun r w => r = some (.int (rvS t b O)) ∧ w = wM m ad sv ch ea fa th pm lm cm p0 s0 iw M) nox := by
  have hl := hE.2.1
  refine tr_of hB (by decide +kernel) rfl ?_
  intro Γ X Y
  refine g_eq (ls' := [.val (.ref m), .val (.int (nI t)), .val (.int (bI b)), .unset, .unset, .unset, .unset]) rfl rfl ?_
  refine g_iconst (v := 0) X dX3_reservedFor_0 rfl ?_
  refine is_7_3n X dX3_reservedFor_1 rfl rfl ?_
  refine g_iconst (v := 0) X dX3_reservedFor_2 rfl ?_
  refine is_7_4 X dX3_reservedFor_3 rfl ?_
  have L : ∀ j k, k + j = O.length → ∀ x5 x6 : Slot, LZ x5 → LZ x6 → G B Γ 0 0 (wM m ad sv ch ea fa th pm lm cm p0 s0 iw M) 5 [.val (.ref m), .val (.int (nI t)), .val (.int (bI b)), .val (.int (smU (rvF t b) O k)), .val (.int (nI k)), x5, x6] [] := by
    intro j
    induction j with
    | zero =>
      intro k hk x5 x6 h5 h6
      obtain rfl : k = O.length := by omega
      refine g_iload X dX3_reservedFor_5 rfl ?_
      refine g_aload_n X dX3_reservedFor_7 rfl rfl ?_
      refine g_getf X dX3_reservedFor_8 fl_X3_9 (by repeat (first | with_reducible exact Pk.here | with_reducible apply Pk.there)) (by exact rfl) ?_
      refine g_iconst (v := 1) X dX3_reservedFor_11 rfl ?_
      refine g_iald (1) X dX3_reservedFor_12 (by repeat (first | with_reducible exact Pk.here | with_reducible apply Pk.there)) (rfl) (by decide) (by exact hE.1) ?_
      refine g_icmp_ge (tgt := 90) X dX3_reservedFor_13 (by decide) (fun c_13 => ?_) (fun c_13 => absurd (nI_le (by omega) (by omega)) c_13)
      refine g_iload_n X dX3_reservedFor_90 rfl rfl ?_
      exact g_iret X Y dX3_reservedFor_91 (rfl) (⟨rfl, rfl⟩) (Pks.tail (rest := _) (by repeat (first | with_reducible exact Pks.nil | (with_reducible refine Pks.pure (by assumption) ?_) | (with_reducible apply Pks.cons; focus ((repeat (first | with_reducible exact Pk.here | with_reducible apply Pk.there)); done)) | (refine Pks.cons Pk.here ?_))))
    | succ j ih =>
      intro k hk x5 x6 h5 h6
      obtain ⟨o, ho⟩ : ∃ o, O[k]? = some o := ⟨_, List.getElem?_eq_getElem (show k < O.length by omega)⟩
      obtain ⟨⟨e0, e1, e2, e3, e4⟩, k1, k2, k3, k4⟩ := hE.2.2 k o ho
      have J : ∀ x, x = (if b then nI o.2.2.2.1 else 1) → G B Γ 0 0 (wM m ad sv ch ea fa th pm lm cm p0 s0 iw M) 49 [.val (.ref m), .val (.int (nI t)), .val (.int (bI b)), .val (.int (smU (rvF t b) O k)), .val (.int (nI k)), .val (.int (nI (35 + 5 * k))), x6] [.int x, .int (nI o.2.2.2.2)] := by
        intro x hx
        have hs := smU_s (f := rvF t b) ho
        have K : ∀ y, y = rvF t b k o → G B Γ 0 0 (wM m ad sv ch ea fa th pm lm cm p0 s0 iw M) 82 [.val (.ref m), .val (.int (nI t)), .val (.int (bI b)), .val (.int (smU (rvF t b) O k)), .val (.int (nI k)), .val (.int (nI (35 + 5 * k))), .val (.int (nI o.2.2.2.2 * x))] [.int y, .int (smU (rvF t b) O k)] := by
          intro y hy
          rw [← hy] at hs
          refine g_iadd X dX3_reservedFor_82 ?_
          rw [← hs]
          refine is_7_3n X dX3_reservedFor_83 rfl rfl ?_
          refine ii_7_4 (v := nI (k + 1)) X dX3_reservedFor_84 (nI_1 k) rfl ?_
          refine g_goto (tgt := 5) X dX3_reservedFor_87 (by decide) ?_
          exact ih (k + 1) (by omega) _ _ LZ.i LZ.i
        by_cases hw : o.2.1 = t
        · by_cases hb : o.2.2.1 = b
          · refine g_imul X dX3_reservedFor_49 ?_
            refine is_7_6 X dX3_reservedFor_50 (by exact st_lz [_, _, _, _, _, _] [] h6 rfl) ?_
            refine g_iload_n X dX3_reservedFor_52 rfl rfl ?_
            refine g_aload_n X dX3_reservedFor_53 rfl rfl ?_
            refine g_getf X dX3_reservedFor_54 fl_X3_9 (by repeat (first | with_reducible exact Pk.here | with_reducible apply Pk.there)) (by exact rfl) ?_
            refine g_iload X dX3_reservedFor_57 rfl ?_
            refine g_iconst (v := 1) X dX3_reservedFor_59 rfl ?_
            refine g_iadd X dX3_reservedFor_60 ?_
            refine g_iald (35 + 5 * k + 1) X dX3_reservedFor_61 (by repeat (first | with_reducible exact Pk.here | with_reducible apply Pk.there)) (nI_1 _) (by omega) (by exact e1) ?_
            refine g_iload_n X dX3_reservedFor_62 rfl rfl ?_
            refine g_icmp_ne (tgt := 81) X dX3_reservedFor_63 (by decide) (fun c_63 => absurd c_63 (fun q => q (by rw [hw]))) (fun c_63 => ?_)
            refine g_aload_n X dX3_reservedFor_66 rfl rfl ?_
            refine g_iload X dX3_reservedFor_67 rfl ?_
            refine g_iload_n X dX3_reservedFor_69 rfl rfl ?_
            refine g_callV X dX3_reservedFor_70 mv_X3_65 (c_X3_isSide hB hE ho) rfl cl_X3 (by repeat (first | with_reducible exact Rc.pt | with_reducible apply Rc.there)) (by repeat (first | with_reducible exact Pks.nil | (with_reducible refine Pks.pure (by assumption) ?_) | (with_reducible apply Pks.cons; focus ((repeat (first | with_reducible exact Pk.here | with_reducible apply Pk.there)); done)) | (refine Pks.cons Pk.here ?_))) rfl rfl (by decide) (by exact Nat.le_of_ble_eq_true rfl) (by first | decide | omega) (fun r w1 hq => ?_) (fun E q w1 hq => hq.elim)
            obtain ⟨rfl, rfl⟩ := hq
            dsimp only [wM, PqM, List.cons_append, List.nil_append, Option.toList_some, Option.toList_none]
            rw [beq_iff_eq.mpr hb]
            refine g_if_eq (tgt := 81) X dX3_reservedFor_73 (by decide) (fun c_73 => absurd c_73 (by decide)) (fun c_73 => ?_)
            refine g_iload X dX3_reservedFor_76 rfl ?_
            refine g_goto (tgt := 82) X dX3_reservedFor_78 (by decide) ?_
            exact K _ (by rw [hx]; exact (if_pos ⟨hw, hb⟩).symm)
          · refine g_imul X dX3_reservedFor_49 ?_
            refine is_7_6 X dX3_reservedFor_50 (by exact st_lz [_, _, _, _, _, _] [] h6 rfl) ?_
            refine g_iload_n X dX3_reservedFor_52 rfl rfl ?_
            refine g_aload_n X dX3_reservedFor_53 rfl rfl ?_
            refine g_getf X dX3_reservedFor_54 fl_X3_9 (by repeat (first | with_reducible exact Pk.here | with_reducible apply Pk.there)) (by exact rfl) ?_
            refine g_iload X dX3_reservedFor_57 rfl ?_
            refine g_iconst (v := 1) X dX3_reservedFor_59 rfl ?_
            refine g_iadd X dX3_reservedFor_60 ?_
            refine g_iald (35 + 5 * k + 1) X dX3_reservedFor_61 (by repeat (first | with_reducible exact Pk.here | with_reducible apply Pk.there)) (nI_1 _) (by omega) (by exact e1) ?_
            refine g_iload_n X dX3_reservedFor_62 rfl rfl ?_
            refine g_icmp_ne (tgt := 81) X dX3_reservedFor_63 (by decide) (fun c_63 => absurd c_63 (fun q => q (by rw [hw]))) (fun c_63 => ?_)
            refine g_aload_n X dX3_reservedFor_66 rfl rfl ?_
            refine g_iload X dX3_reservedFor_67 rfl ?_
            refine g_iload_n X dX3_reservedFor_69 rfl rfl ?_
            refine g_callV X dX3_reservedFor_70 mv_X3_65 (c_X3_isSide hB hE ho) rfl cl_X3 (by repeat (first | with_reducible exact Rc.pt | with_reducible apply Rc.there)) (by repeat (first | with_reducible exact Pks.nil | (with_reducible refine Pks.pure (by assumption) ?_) | (with_reducible apply Pks.cons; focus ((repeat (first | with_reducible exact Pk.here | with_reducible apply Pk.there)); done)) | (refine Pks.cons Pk.here ?_))) rfl rfl (by decide) (by exact Nat.le_of_ble_eq_true rfl) (by first | decide | omega) (fun r w1 hq => ?_) (fun E q w1 hq => hq.elim)
            obtain ⟨rfl, rfl⟩ := hq
            dsimp only [wM, PqM, List.cons_append, List.nil_append, Option.toList_some, Option.toList_none]
            rw [beq_eq_false_iff_ne.mpr hb]
            refine g_if_eq (tgt := 81) X dX3_reservedFor_73 (by decide) (fun c_73 => ?_) (fun c_73 => absurd (rfl) c_73)
            refine g_iconst (v := 0) X dX3_reservedFor_81 rfl ?_
            exact K _ (if_neg fun q => hb q.2).symm
        · refine g_imul X dX3_reservedFor_49 ?_
          refine is_7_6 X dX3_reservedFor_50 (by exact st_lz [_, _, _, _, _, _] [] h6 rfl) ?_
          refine g_iload_n X dX3_reservedFor_52 rfl rfl ?_
          refine g_aload_n X dX3_reservedFor_53 rfl rfl ?_
          refine g_getf X dX3_reservedFor_54 fl_X3_9 (by repeat (first | with_reducible exact Pk.here | with_reducible apply Pk.there)) (by exact rfl) ?_
          refine g_iload X dX3_reservedFor_57 rfl ?_
          refine g_iconst (v := 1) X dX3_reservedFor_59 rfl ?_
          refine g_iadd X dX3_reservedFor_60 ?_
          refine g_iald (35 + 5 * k + 1) X dX3_reservedFor_61 (by repeat (first | with_reducible exact Pk.here | with_reducible apply Pk.there)) (nI_1 _) (by omega) (by exact e1) ?_
          refine g_iload_n X dX3_reservedFor_62 rfl rfl ?_
          refine g_icmp_ne (tgt := 81) X dX3_reservedFor_63 (by decide) (fun c_63 => ?_) (fun c_63 => absurd c_63 (fun q => hw (nI_inj (by omega) ht q)))
          refine g_iconst (v := 0) X dX3_reservedFor_81 rfl ?_
          exact K _ (if_neg fun q => hw q.1).symm
      cases b with
      | true =>
        refine g_iload X dX3_reservedFor_5 rfl ?_
        refine g_aload_n X dX3_reservedFor_7 rfl rfl ?_
        refine g_getf X dX3_reservedFor_8 fl_X3_9 (by repeat (first | with_reducible exact Pk.here | with_reducible apply Pk.there)) (by exact rfl) ?_
        refine g_iconst (v := 1) X dX3_reservedFor_11 rfl ?_
        refine g_iald (1) X dX3_reservedFor_12 (by repeat (first | with_reducible exact Pk.here | with_reducible apply Pk.there)) (rfl) (by decide) (by exact hE.1) ?_
        refine g_icmp_ge (tgt := 90) X dX3_reservedFor_13 (by decide) (fun c_13 => absurd c_13 (nI_ge (by omega) (by omega))) (fun c_13 => ?_)
        refine g_iload X dX3_reservedFor_16 rfl ?_
        refine g_callS X dX3_reservedFor_18 ms_X3_61 (c_X3_orderAtPlace hB) rfl (by repeat (first | with_reducible exact Pks.nil | (with_reducible refine Pks.pure (by assumption) ?_) | (with_reducible apply Pks.cons; focus ((repeat (first | with_reducible exact Pk.here | with_reducible apply Pk.there)); done)) | (refine Pks.cons Pk.here ?_))) rfl rfl (by decide) (by exact Nat.le_of_ble_eq_true rfl) (by first | decide | omega) (fun r w1 hq => ?_) (fun E q w1 hq => hq.elim)
        obtain ⟨rfl, rfl⟩ := hq
        dsimp only [wM, PqM, List.cons_append, List.nil_append, Option.toList_some, Option.toList_none]
        rw [io]
        refine is_7_5 X dX3_reservedFor_21 (by exact st_lz [_, _, _, _, _] [_] h5 rfl) ?_
        refine g_aload_n X dX3_reservedFor_23 rfl rfl ?_
        refine g_getf X dX3_reservedFor_24 fl_X3_9 (by repeat (first | with_reducible exact Pk.here | with_reducible apply Pk.there)) (by exact rfl) ?_
        refine g_iload X dX3_reservedFor_27 rfl ?_
        refine g_iconst (v := 4) X dX3_reservedFor_29 rfl ?_
        refine g_iadd X dX3_reservedFor_30 ?_
        refine g_iald (35 + 5 * k + 4) X dX3_reservedFor_31 (by repeat (first | with_reducible exact Pk.here | with_reducible apply Pk.there)) (nIp4 _) (by omega) (by exact e4) ?_
        refine g_iload_n X dX3_reservedFor_32 rfl rfl ?_
        refine g_if_eq (tgt := 48) X dX3_reservedFor_33 (by decide) (fun c_33 => absurd c_33 (by decide)) (fun c_33 => ?_)
        refine g_aload_n X dX3_reservedFor_36 rfl rfl ?_
        refine g_getf X dX3_reservedFor_37 fl_X3_9 (by repeat (first | with_reducible exact Pk.here | with_reducible apply Pk.there)) (by exact rfl) ?_
        refine g_iload X dX3_reservedFor_40 rfl ?_
        refine g_iconst (v := 3) X dX3_reservedFor_42 rfl ?_
        refine g_iadd X dX3_reservedFor_43 ?_
        refine g_iald (35 + 5 * k + 3) X dX3_reservedFor_44 (by repeat (first | with_reducible exact Pk.here | with_reducible apply Pk.there)) (nIp3 _) (by omega) (by exact e3) ?_
        refine g_goto (tgt := 49) X dX3_reservedFor_45 (by decide) ?_
        exact J _ rfl
      | false =>
        refine g_iload X dX3_reservedFor_5 rfl ?_
        refine g_aload_n X dX3_reservedFor_7 rfl rfl ?_
        refine g_getf X dX3_reservedFor_8 fl_X3_9 (by repeat (first | with_reducible exact Pk.here | with_reducible apply Pk.there)) (by exact rfl) ?_
        refine g_iconst (v := 1) X dX3_reservedFor_11 rfl ?_
        refine g_iald (1) X dX3_reservedFor_12 (by repeat (first | with_reducible exact Pk.here | with_reducible apply Pk.there)) (rfl) (by decide) (by exact hE.1) ?_
        refine g_icmp_ge (tgt := 90) X dX3_reservedFor_13 (by decide) (fun c_13 => absurd c_13 (nI_ge (by omega) (by omega))) (fun c_13 => ?_)
        refine g_iload X dX3_reservedFor_16 rfl ?_
        refine g_callS X dX3_reservedFor_18 ms_X3_61 (c_X3_orderAtPlace hB) rfl (by repeat (first | with_reducible exact Pks.nil | (with_reducible refine Pks.pure (by assumption) ?_) | (with_reducible apply Pks.cons; focus ((repeat (first | with_reducible exact Pk.here | with_reducible apply Pk.there)); done)) | (refine Pks.cons Pk.here ?_))) rfl rfl (by decide) (by exact Nat.le_of_ble_eq_true rfl) (by first | decide | omega) (fun r w1 hq => ?_) (fun E q w1 hq => hq.elim)
        obtain ⟨rfl, rfl⟩ := hq
        dsimp only [wM, PqM, List.cons_append, List.nil_append, Option.toList_some, Option.toList_none]
        rw [io]
        refine is_7_5 X dX3_reservedFor_21 (by exact st_lz [_, _, _, _, _] [_] h5 rfl) ?_
        refine g_aload_n X dX3_reservedFor_23 rfl rfl ?_
        refine g_getf X dX3_reservedFor_24 fl_X3_9 (by repeat (first | with_reducible exact Pk.here | with_reducible apply Pk.there)) (by exact rfl) ?_
        refine g_iload X dX3_reservedFor_27 rfl ?_
        refine g_iconst (v := 4) X dX3_reservedFor_29 rfl ?_
        refine g_iadd X dX3_reservedFor_30 ?_
        refine g_iald (35 + 5 * k + 4) X dX3_reservedFor_31 (by repeat (first | with_reducible exact Pk.here | with_reducible apply Pk.there)) (nIp4 _) (by omega) (by exact e4) ?_
        refine g_iload_n X dX3_reservedFor_32 rfl rfl ?_
        refine g_if_eq (tgt := 48) X dX3_reservedFor_33 (by decide) (fun c_33 => ?_) (fun c_33 => absurd (rfl) c_33)
        refine g_iconst (v := 1) X dX3_reservedFor_48 rfl ?_
        exact J _ rfl
  exact L O.length 0 (by omega) _ _ LZ.u LZ.u
theorem c_X3_placeAtRank (hB : Bs B) {b : Bool} {r : Int32} (hE : EnO M O) : Tr B yX3_placeAtRank (Cond.code yX3_placeAtRank cX3_placeAtRank 8 (some .int)) (rmd 3 0 0) [.ref m, .int (bI b), .int r] (wM m ad sv ch ea fa th pm lm cm p0 s0 iw M) (fun q w => q = some (.int (oI_ (rkS b r O))) ∧ w = wM m ad sv ch ea fa th pm lm cm p0 s0 iw M) nox := by
  have hl := hE.2.1
  refine tr_of hB (by decide +kernel) rfl ?_
  intro Γ X Y
  refine g_eq (ls' := [.val (.ref m), .val (.int (bI b)), .val (.int r), .unset, .unset, .unset, .unset, .unset]) rfl rfl ?_
  refine g_iconst (v := 0) X dX3_placeAtRank_0 rfl ?_
  refine is_8_3n X dX3_placeAtRank_1 rfl rfl ?_
  have L : ∀ j k, k + j = O.length → rkU b r O k = none → ∀ x4 x5 x6 x7 : Slot, LZ x4 → LZ x5 → LZ x6 → LZ x7 → G B Γ 0 0 (wM m ad sv ch ea fa th pm lm cm p0 s0 iw M) 2 [.val (.ref m), .val (.int (bI b)), .val (.int r), .val (.int (nI k)), x4, x5, x6, x7] [] := by
    intro j
    induction j with
    | zero =>
      intro k hk hn x4 x5 x6 x7 h4 h5 h6 h7
      obtain rfl : k = O.length := by omega
      refine g_iload_n X dX3_placeAtRank_2 rfl rfl ?_
      refine g_aload_n X dX3_placeAtRank_3 rfl rfl ?_
      refine g_getf X dX3_placeAtRank_4 fl_X3_9 (by repeat (first | with_reducible exact Pk.here | with_reducible apply Pk.there)) (by exact rfl) ?_
      refine g_iconst (v := 1) X dX3_placeAtRank_7 rfl ?_
      refine g_iald (1) X dX3_placeAtRank_8 (by repeat (first | with_reducible exact Pk.here | with_reducible apply Pk.there)) (rfl) (by decide) (by exact hE.1) ?_
      refine g_icmp_ge (tgt := 134) X dX3_placeAtRank_9 (by decide) (fun c_9 => ?_) (fun c_9 => absurd (nI_le (by omega) (by omega)) c_9)
      refine g_iconst (v := (-1)) X dX3_placeAtRank_134 rfl ?_
      exact g_iret X Y dX3_placeAtRank_135 (rfl) (⟨by rw [rkS, hn]; rfl, rfl⟩) (Pks.tail (rest := _) (by repeat (first | with_reducible exact Pks.nil | (with_reducible refine Pks.pure (by assumption) ?_) | (with_reducible apply Pks.cons; focus ((repeat (first | with_reducible exact Pk.here | with_reducible apply Pk.there)); done)) | (refine Pks.cons Pk.here ?_))))
    | succ j ih =>
      intro k hk hn x4 x5 x6 x7 h4 h5 h6 h7
      obtain ⟨o, ho⟩ : ∃ o, O[k]? = some o := ⟨_, List.getElem?_eq_getElem (show k < O.length by omega)⟩
      obtain ⟨⟨e0, e1, e2, e3, e4⟩, k1, k2, k3, k4⟩ := hE.2.2 k o ho
      have L2 : ∀ j2 i, i + j2 = O.length → ∀ x6 x7 : Slot, LZ x6 → LZ x7 → G B Γ 0 0 (wM m ad sv ch ea fa th pm lm cm p0 s0 iw M) 18 [.val (.ref m), .val (.int (bI b)), .val (.int r), .val (.int (nI k)), .val (.int (smU (ahF b k o.2.2.2.1) O i)), .val (.int (nI i)), x6, x7] [] := by
        intro j2
        induction j2 with
        | zero =>
          intro i hi x6 x7 h6 h7
          obtain rfl : i = O.length := by omega
          by_cases hb : o.2.2.1 = b
          · by_cases hr : smU (ahF b k o.2.2.2.1) O O.length = r
            · have hw : rkU b r O (k + 1) = some k := by simp only [rkU, hn, ho, if_pos (And.intro hb hr)]
              refine g_iload X dX3_placeAtRank_18 rfl ?_
              refine g_aload_n X dX3_placeAtRank_20 rfl rfl ?_
              refine g_getf X dX3_placeAtRank_21 fl_X3_9 (by repeat (first | with_reducible exact Pk.here | with_reducible apply Pk.there)) (by exact rfl) ?_
              refine g_iconst (v := 1) X dX3_placeAtRank_24 rfl ?_
              refine g_iald (1) X dX3_placeAtRank_25 (by repeat (first | with_reducible exact Pk.here | with_reducible apply Pk.there)) (rfl) (by decide) (by exact hE.1) ?_
              refine g_icmp_ge (tgt := 111) X dX3_placeAtRank_26 (by decide) (fun c_26 => ?_) (fun c_26 => absurd (nI_le (by omega) (by omega)) c_26)
              refine g_aload_n X dX3_placeAtRank_111 rfl rfl ?_
              refine g_iload_n X dX3_placeAtRank_112 rfl rfl ?_
              refine g_iload_n X dX3_placeAtRank_113 rfl rfl ?_
              refine g_callV X dX3_placeAtRank_114 mv_X3_65 (c_X3_isSide hB hE ho) rfl cl_X3 (by repeat (first | with_reducible exact Rc.pt | with_reducible apply Rc.there)) (by repeat (first | with_reducible exact Pks.nil | (with_reducible refine Pks.pure (by assumption) ?_) | (with_reducible apply Pks.cons; focus ((repeat (first | with_reducible exact Pk.here | with_reducible apply Pk.there)); done)) | (refine Pks.cons Pk.here ?_))) rfl rfl (by decide) (by exact Nat.le_of_ble_eq_true rfl) (by first | decide | omega) (fun r w1 hq => ?_) (fun E q w1 hq => hq.elim)
              obtain ⟨rfl, rfl⟩ := hq
              dsimp only [wM, PqM, List.cons_append, List.nil_append, Option.toList_some, Option.toList_none]
              rw [beq_iff_eq.mpr hb]
              refine g_if_eq (tgt := 128) X dX3_placeAtRank_117 (by decide) (fun c_117 => absurd c_117 (by decide)) (fun c_117 => ?_)
              refine g_iload X dX3_placeAtRank_120 rfl ?_
              refine g_iload_n X dX3_placeAtRank_122 rfl rfl ?_
              refine g_icmp_ne (tgt := 128) X dX3_placeAtRank_123 (by decide) (fun c_123 => absurd c_123 (fun q => q hr)) (fun c_123 => ?_)
              refine g_iload_n X dX3_placeAtRank_126 rfl rfl ?_
              exact g_iret X Y dX3_placeAtRank_127 (rfl) (⟨by rw [rkS, rkU_mono hw (by omega)]; rfl, rfl⟩) (Pks.tail (rest := _) (by repeat (first | with_reducible exact Pks.nil | (with_reducible refine Pks.pure (by assumption) ?_) | (with_reducible apply Pks.cons; focus ((repeat (first | with_reducible exact Pk.here | with_reducible apply Pk.there)); done)) | (refine Pks.cons Pk.here ?_))))
            · have hw : rkU b r O (k + 1) = none := by simp only [rkU, hn, ho, if_neg (fun q : o.2.2.1 = b ∧ smU (ahF b k o.2.2.2.1) O O.length = r => hr q.2)]
              refine g_iload X dX3_placeAtRank_18 rfl ?_
              refine g_aload_n X dX3_placeAtRank_20 rfl rfl ?_
              refine g_getf X dX3_placeAtRank_21 fl_X3_9 (by repeat (first | with_reducible exact Pk.here | with_reducible apply Pk.there)) (by exact rfl) ?_
              refine g_iconst (v := 1) X dX3_placeAtRank_24 rfl ?_
              refine g_iald (1) X dX3_placeAtRank_25 (by repeat (first | with_reducible exact Pk.here | with_reducible apply Pk.there)) (rfl) (by decide) (by exact hE.1) ?_
              refine g_icmp_ge (tgt := 111) X dX3_placeAtRank_26 (by decide) (fun c_26 => ?_) (fun c_26 => absurd (nI_le (by omega) (by omega)) c_26)
              refine g_aload_n X dX3_placeAtRank_111 rfl rfl ?_
              refine g_iload_n X dX3_placeAtRank_112 rfl rfl ?_
              refine g_iload_n X dX3_placeAtRank_113 rfl rfl ?_
              refine g_callV X dX3_placeAtRank_114 mv_X3_65 (c_X3_isSide hB hE ho) rfl cl_X3 (by repeat (first | with_reducible exact Rc.pt | with_reducible apply Rc.there)) (by repeat (first | with_reducible exact Pks.nil | (with_reducible refine Pks.pure (by assumption) ?_) | (with_reducible apply Pks.cons; focus ((repeat (first | with_reducible exact Pk.here | with_reducible apply Pk.there)); done)) | (refine Pks.cons Pk.here ?_))) rfl rfl (by decide) (by exact Nat.le_of_ble_eq_true rfl) (by first | decide | omega) (fun r w1 hq => ?_) (fun E q w1 hq => hq.elim)
              obtain ⟨rfl, rfl⟩ := hq
              dsimp only [wM, PqM, List.cons_append, List.nil_append, Option.toList_some, Option.toList_none]
              rw [beq_iff_eq.mpr hb]
              refine g_if_eq (tgt := 128) X dX3_placeAtRank_117 (by decide) (fun c_117 => absurd c_117 (by decide)) (fun c_117 => ?_)
              refine g_iload X dX3_placeAtRank_120 rfl ?_
              refine g_iload_n X dX3_placeAtRank_122 rfl rfl ?_
              refine g_icmp_ne (tgt := 128) X dX3_placeAtRank_123 (by decide) (fun c_123 => ?_) (fun c_123 => absurd c_123 (hr))
              refine ii_8_3 (v := nI (k + 1)) X dX3_placeAtRank_128 (nI_1 k) rfl ?_
              refine g_goto (tgt := 2) X dX3_placeAtRank_131 (by decide) ?_
              exact ih (k + 1) (by omega) hw _ _ _ _ LZ.i LZ.i h6 h7
          · have hw : rkU b r O (k + 1) = none := by simp only [rkU, hn, ho, if_neg (fun q : o.2.2.1 = b ∧ smU (ahF b k o.2.2.2.1) O O.length = r => hb q.1)]
            refine g_iload X dX3_placeAtRank_18 rfl ?_
            refine g_aload_n X dX3_placeAtRank_20 rfl rfl ?_
            refine g_getf X dX3_placeAtRank_21 fl_X3_9 (by repeat (first | with_reducible exact Pk.here | with_reducible apply Pk.there)) (by exact rfl) ?_
            refine g_iconst (v := 1) X dX3_placeAtRank_24 rfl ?_
            refine g_iald (1) X dX3_placeAtRank_25 (by repeat (first | with_reducible exact Pk.here | with_reducible apply Pk.there)) (rfl) (by decide) (by exact hE.1) ?_
            refine g_icmp_ge (tgt := 111) X dX3_placeAtRank_26 (by decide) (fun c_26 => ?_) (fun c_26 => absurd (nI_le (by omega) (by omega)) c_26)
            refine g_aload_n X dX3_placeAtRank_111 rfl rfl ?_
            refine g_iload_n X dX3_placeAtRank_112 rfl rfl ?_
            refine g_iload_n X dX3_placeAtRank_113 rfl rfl ?_
            refine g_callV X dX3_placeAtRank_114 mv_X3_65 (c_X3_isSide hB hE ho) rfl cl_X3 (by repeat (first | with_reducible exact Rc.pt | with_reducible apply Rc.there)) (by repeat (first | with_reducible exact Pks.nil | (with_reducible refine Pks.pure (by assumption) ?_) | (with_reducible apply Pks.cons; focus ((repeat (first | with_reducible exact Pk.here | with_reducible apply Pk.there)); done)) | (refine Pks.cons Pk.here ?_))) rfl rfl (by decide) (by exact Nat.le_of_ble_eq_true rfl) (by first | decide | omega) (fun r w1 hq => ?_) (fun E q w1 hq => hq.elim)
            obtain ⟨rfl, rfl⟩ := hq
            dsimp only [wM, PqM, List.cons_append, List.nil_append, Option.toList_some, Option.toList_none]
            rw [beq_eq_false_iff_ne.mpr hb]
            refine g_if_eq (tgt := 128) X dX3_placeAtRank_117 (by decide) (fun c_117 => ?_) (fun c_117 => absurd (rfl) c_117)
            refine ii_8_3 (v := nI (k + 1)) X dX3_placeAtRank_128 (nI_1 k) rfl ?_
            refine g_goto (tgt := 2) X dX3_placeAtRank_131 (by decide) ?_
            exact ih (k + 1) (by omega) hw _ _ _ _ LZ.i LZ.i h6 h7
        | succ j2 ih2 =>
          intro i hi x6 x7 h6 h7
          obtain ⟨u, hu⟩ : ∃ u, O[i]? = some u := ⟨_, List.getElem?_eq_getElem (show i < O.length by omega)⟩
          obtain ⟨⟨f0, f1, f2, f3, f4⟩, m1, m2, m3, m4⟩ := hE.2.2 i u hu
          have hs := smU_s (f := ahF b k o.2.2.2.1) hu
          have K : ∀ (y z1 z2 : Int32), y = ahF b k o.2.2.2.1 i u → G B Γ 0 0 (wM m ad sv ch ea fa th pm lm cm p0 s0 iw M) 102 [.val (.ref m), .val (.int (bI b)), .val (.int r), .val (.int (nI k)), .val (.int (smU (ahF b k o.2.2.2.1) O i)), .val (.int (nI i)), .val (.int z1), .val (.int z2)] [.int y, .int (smU (ahF b k o.2.2.2.1) O i)] := by
            intro y z1 z2 hy
            rw [← hy] at hs
            refine g_iadd X dX3_placeAtRank_102 ?_
            rw [← hs]
            refine is_8_4 X dX3_placeAtRank_103 rfl ?_
            refine ii_8_5 (v := nI (i + 1)) X dX3_placeAtRank_105 (nI_1 i) rfl ?_
            refine g_goto (tgt := 18) X dX3_placeAtRank_108 (by decide) ?_
            exact ih2 (i + 1) (by omega) _ _ LZ.i LZ.i
          have J : ∀ x z : Int32, (0 < x ↔ (if b then o.2.2.2.1 < u.2.2.2.1 else u.2.2.2.1 < o.2.2.2.1)) → (x = 0 ↔ u.2.2.2.1 = o.2.2.2.1) → G B Γ 0 0 (wM m ad sv ch ea fa th pm lm cm p0 s0 iw M) 67 [.val (.ref m), .val (.int (bI b)), .val (.int r), .val (.int (nI k)), .val (.int (smU (ahF b k o.2.2.2.1) O i)), .val (.int (nI i)), .val (.int z), x7] [.int x] := by
            intro x z hx1 hx2
            by_cases hb : u.2.2.1 = b
            · by_cases hg : 0 < x
              · have := hx1.mp hg
                refine is_8_7 X dX3_placeAtRank_67 (by exact st_lz [_, _, _, _, _, _, _] [] h7 rfl) ?_
                refine g_iload X dX3_placeAtRank_69 rfl ?_
                refine g_aload_n X dX3_placeAtRank_71 rfl rfl ?_
                refine g_iload X dX3_placeAtRank_72 rfl ?_
                refine g_iload_n X dX3_placeAtRank_74 rfl rfl ?_
                refine g_callV X dX3_placeAtRank_75 mv_X3_65 (c_X3_isSide hB hE hu) rfl cl_X3 (by repeat (first | with_reducible exact Rc.pt | with_reducible apply Rc.there)) (by repeat (first | with_reducible exact Pks.nil | (with_reducible refine Pks.pure (by assumption) ?_) | (with_reducible apply Pks.cons; focus ((repeat (first | with_reducible exact Pk.here | with_reducible apply Pk.there)); done)) | (refine Pks.cons Pk.here ?_))) rfl rfl (by decide) (by exact Nat.le_of_ble_eq_true rfl) (by first | decide | omega) (fun r w1 hq => ?_) (fun E q w1 hq => hq.elim)
                obtain ⟨rfl, rfl⟩ := hq
                dsimp only [wM, PqM, List.cons_append, List.nil_append, Option.toList_some, Option.toList_none]
                rw [beq_iff_eq.mpr hb]
                refine g_if_eq (tgt := 101) X dX3_placeAtRank_78 (by decide) (fun c_78 => absurd c_78 (by decide)) (fun c_78 => ?_)
                refine g_iload X dX3_placeAtRank_81 rfl ?_
                refine g_if_gt (tgt := 97) X dX3_placeAtRank_83 (by decide) (fun c_83 => ?_) (fun c_83 => absurd (hg) c_83)
                refine g_iconst (v := 1) X dX3_placeAtRank_97 rfl ?_
                refine g_goto (tgt := 102) X dX3_placeAtRank_98 (by decide) ?_
                refine K _ _ _ ?_
                have : ahB b k o.2.2.2.1 i u = true := by simp [ahB, hb]; exact Or.inl this
                simp [this]
              · by_cases hz : x = 0
                · have hz2 := hx2.mp hz
                  by_cases hi2 : i < k
                  · refine is_8_7 X dX3_placeAtRank_67 (by exact st_lz [_, _, _, _, _, _, _] [] h7 rfl) ?_
                    refine g_iload X dX3_placeAtRank_69 rfl ?_
                    refine g_aload_n X dX3_placeAtRank_71 rfl rfl ?_
                    refine g_iload X dX3_placeAtRank_72 rfl ?_
                    refine g_iload_n X dX3_placeAtRank_74 rfl rfl ?_
                    refine g_callV X dX3_placeAtRank_75 mv_X3_65 (c_X3_isSide hB hE hu) rfl cl_X3 (by repeat (first | with_reducible exact Rc.pt | with_reducible apply Rc.there)) (by repeat (first | with_reducible exact Pks.nil | (with_reducible refine Pks.pure (by assumption) ?_) | (with_reducible apply Pks.cons; focus ((repeat (first | with_reducible exact Pk.here | with_reducible apply Pk.there)); done)) | (refine Pks.cons Pk.here ?_))) rfl rfl (by decide) (by exact Nat.le_of_ble_eq_true rfl) (by first | decide | omega) (fun r w1 hq => ?_) (fun E q w1 hq => hq.elim)
                    obtain ⟨rfl, rfl⟩ := hq
                    dsimp only [wM, PqM, List.cons_append, List.nil_append, Option.toList_some, Option.toList_none]
                    rw [beq_iff_eq.mpr hb]
                    refine g_if_eq (tgt := 101) X dX3_placeAtRank_78 (by decide) (fun c_78 => absurd c_78 (by decide)) (fun c_78 => ?_)
                    refine g_iload X dX3_placeAtRank_81 rfl ?_
                    refine g_if_gt (tgt := 97) X dX3_placeAtRank_83 (by decide) (fun c_83 => absurd c_83 (hg)) (fun c_83 => ?_)
                    refine g_iload X dX3_placeAtRank_86 rfl ?_
                    refine g_if_ne (tgt := 101) X dX3_placeAtRank_88 (by decide) (fun c_88 => absurd c_88 (fun q => q hz)) (fun c_88 => ?_)
                    refine g_iload X dX3_placeAtRank_91 rfl ?_
                    refine g_iload_n X dX3_placeAtRank_93 rfl rfl ?_
                    refine g_icmp_ge (tgt := 101) X dX3_placeAtRank_94 (by decide) (fun c_94 => absurd c_94 (nI_ge hi2 (by omega))) (fun c_94 => ?_)
                    refine g_iconst (v := 1) X dX3_placeAtRank_97 rfl ?_
                    refine g_goto (tgt := 102) X dX3_placeAtRank_98 (by decide) ?_
                    refine K _ _ _ ?_
                    have : ahB b k o.2.2.2.1 i u = true := by simp [ahB, hb, hz2, hi2]
                    simp [this]
                  · refine is_8_7 X dX3_placeAtRank_67 (by exact st_lz [_, _, _, _, _, _, _] [] h7 rfl) ?_
                    refine g_iload X dX3_placeAtRank_69 rfl ?_
                    refine g_aload_n X dX3_placeAtRank_71 rfl rfl ?_
                    refine g_iload X dX3_placeAtRank_72 rfl ?_
                    refine g_iload_n X dX3_placeAtRank_74 rfl rfl ?_
                    refine g_callV X dX3_placeAtRank_75 mv_X3_65 (c_X3_isSide hB hE hu) rfl cl_X3 (by repeat (first | with_reducible exact Rc.pt | with_reducible apply Rc.there)) (by repeat (first | with_reducible exact Pks.nil | (with_reducible refine Pks.pure (by assumption) ?_) | (with_reducible apply Pks.cons; focus ((repeat (first | with_reducible exact Pk.here | with_reducible apply Pk.there)); done)) | (refine Pks.cons Pk.here ?_))) rfl rfl (by decide) (by exact Nat.le_of_ble_eq_true rfl) (by first | decide | omega) (fun r w1 hq => ?_) (fun E q w1 hq => hq.elim)
                    obtain ⟨rfl, rfl⟩ := hq
                    dsimp only [wM, PqM, List.cons_append, List.nil_append, Option.toList_some, Option.toList_none]
                    rw [beq_iff_eq.mpr hb]
                    refine g_if_eq (tgt := 101) X dX3_placeAtRank_78 (by decide) (fun c_78 => absurd c_78 (by decide)) (fun c_78 => ?_)
                    refine g_iload X dX3_placeAtRank_81 rfl ?_
                    refine g_if_gt (tgt := 97) X dX3_placeAtRank_83 (by decide) (fun c_83 => absurd c_83 (hg)) (fun c_83 => ?_)
                    refine g_iload X dX3_placeAtRank_86 rfl ?_
                    refine g_if_ne (tgt := 101) X dX3_placeAtRank_88 (by decide) (fun c_88 => absurd c_88 (fun q => q hz)) (fun c_88 => ?_)
                    refine g_iload X dX3_placeAtRank_91 rfl ?_
                    refine g_iload_n X dX3_placeAtRank_93 rfl rfl ?_
                    refine g_icmp_ge (tgt := 101) X dX3_placeAtRank_94 (by decide) (fun c_94 => ?_) (fun c_94 => absurd (nI_le (by omega) (by omega)) c_94)
                    refine g_iconst (v := 0) X dX3_placeAtRank_101 rfl ?_
                    refine K _ _ _ ?_
                    have : ahB b k o.2.2.2.1 i u = false := by
                      simp [ahB, hb, hz2, hi2]
                    simp [this]
                · refine is_8_7 X dX3_placeAtRank_67 (by exact st_lz [_, _, _, _, _, _, _] [] h7 rfl) ?_
                  refine g_iload X dX3_placeAtRank_69 rfl ?_
                  refine g_aload_n X dX3_placeAtRank_71 rfl rfl ?_
                  refine g_iload X dX3_placeAtRank_72 rfl ?_
                  refine g_iload_n X dX3_placeAtRank_74 rfl rfl ?_
                  refine g_callV X dX3_placeAtRank_75 mv_X3_65 (c_X3_isSide hB hE hu) rfl cl_X3 (by repeat (first | with_reducible exact Rc.pt | with_reducible apply Rc.there)) (by repeat (first | with_reducible exact Pks.nil | (with_reducible refine Pks.pure (by assumption) ?_) | (with_reducible apply Pks.cons; focus ((repeat (first | with_reducible exact Pk.here | with_reducible apply Pk.there)); done)) | (refine Pks.cons Pk.here ?_))) rfl rfl (by decide) (by exact Nat.le_of_ble_eq_true rfl) (by first | decide | omega) (fun r w1 hq => ?_) (fun E q w1 hq => hq.elim)
                  obtain ⟨rfl, rfl⟩ := hq
                  dsimp only [wM, PqM, List.cons_append, List.nil_append, Option.toList_some, Option.toList_none]
                  rw [beq_iff_eq.mpr hb]
                  refine g_if_eq (tgt := 101) X dX3_placeAtRank_78 (by decide) (fun c_78 => absurd c_78 (by decide)) (fun c_78 => ?_)
                  refine g_iload X dX3_placeAtRank_81 rfl ?_
                  refine g_if_gt (tgt := 97) X dX3_placeAtRank_83 (by decide) (fun c_83 => absurd c_83 (hg)) (fun c_83 => ?_)
                  refine g_iload X dX3_placeAtRank_86 rfl ?_
                  refine g_if_ne (tgt := 101) X dX3_placeAtRank_88 (by decide) (fun c_88 => ?_) (fun c_88 => absurd c_88 (hz))
                  refine g_iconst (v := 0) X dX3_placeAtRank_101 rfl ?_
                  refine K _ _ _ ?_
                  have h8 : ¬ u.2.2.2.1 = o.2.2.2.1 := fun q => hz (hx2.mpr q)
                  have h9 : ¬ (if b then o.2.2.2.1 < u.2.2.2.1 else u.2.2.2.1 < o.2.2.2.1) := fun q => hg (hx1.mpr q)
                  have : ahB b k o.2.2.2.1 i u = false := by
                    cases b <;> simp [ahB, hb, h8] <;> simpa using h9
                  simp [this]
            · have : ahB b k o.2.2.2.1 i u = false := by simp [ahB, hb]
              refine is_8_7 X dX3_placeAtRank_67 (by exact st_lz [_, _, _, _, _, _, _] [] h7 rfl) ?_
              refine g_iload X dX3_placeAtRank_69 rfl ?_
              refine g_aload_n X dX3_placeAtRank_71 rfl rfl ?_
              refine g_iload X dX3_placeAtRank_72 rfl ?_
              refine g_iload_n X dX3_placeAtRank_74 rfl rfl ?_
              refine g_callV X dX3_placeAtRank_75 mv_X3_65 (c_X3_isSide hB hE hu) rfl cl_X3 (by repeat (first | with_reducible exact Rc.pt | with_reducible apply Rc.there)) (by repeat (first | with_reducible exact Pks.nil | (with_reducible refine Pks.pure (by assumption) ?_) | (with_reducible apply Pks.cons; focus ((repeat (first | with_reducible exact Pk.here | with_reducible apply Pk.there)); done)) | (refine Pks.cons Pk.here ?_))) rfl rfl (by decide) (by exact Nat.le_of_ble_eq_true rfl) (by first | decide | omega) (fun r w1 hq => ?_) (fun E q w1 hq => hq.elim)
              obtain ⟨rfl, rfl⟩ := hq
              dsimp only [wM, PqM, List.cons_append, List.nil_append, Option.toList_some, Option.toList_none]
              rw [beq_eq_false_iff_ne.mpr hb]
              refine g_if_eq (tgt := 101) X dX3_placeAtRank_78 (by decide) (fun c_78 => ?_) (fun c_78 => absurd (rfl) c_78)
              refine g_iconst (v := 0) X dX3_placeAtRank_101 rfl ?_
              refine K _ _ _ ?_
              simp [this]
          have hz0 : (0 : Int32).toInt = 0 := by decide
          have hd := pk_sub_toInt (a := u.2.2.2.1) (b := o.2.2.2.1) (by omega) (by omega)
          have hd2 := pk_sub_toInt (a := o.2.2.2.1) (b := u.2.2.2.1) (by omega) (by omega)
          cases b with
          | true =>
            refine g_iload X dX3_placeAtRank_18 rfl ?_
            refine g_aload_n X dX3_placeAtRank_20 rfl rfl ?_
            refine g_getf X dX3_placeAtRank_21 fl_X3_9 (by repeat (first | with_reducible exact Pk.here | with_reducible apply Pk.there)) (by exact rfl) ?_
            refine g_iconst (v := 1) X dX3_placeAtRank_24 rfl ?_
            refine g_iald (1) X dX3_placeAtRank_25 (by repeat (first | with_reducible exact Pk.here | with_reducible apply Pk.there)) (rfl) (by decide) (by exact hE.1) ?_
            refine g_icmp_ge (tgt := 111) X dX3_placeAtRank_26 (by decide) (fun c_26 => absurd c_26 (nI_ge (by omega) (by omega))) (fun c_26 => ?_)
            refine g_aload_n X dX3_placeAtRank_29 rfl rfl ?_
            refine g_getf X dX3_placeAtRank_30 fl_X3_9 (by repeat (first | with_reducible exact Pk.here | with_reducible apply Pk.there)) (by exact rfl) ?_
            refine g_iload X dX3_placeAtRank_33 rfl ?_
            refine g_callS X dX3_placeAtRank_35 ms_X3_61 (c_X3_orderAtPlace hB) rfl (by repeat (first | with_reducible exact Pks.nil | (with_reducible refine Pks.pure (by assumption) ?_) | (with_reducible apply Pks.cons; focus ((repeat (first | with_reducible exact Pk.here | with_reducible apply Pk.there)); done)) | (refine Pks.cons Pk.here ?_))) rfl rfl (by decide) (by exact Nat.le_of_ble_eq_true rfl) (by first | decide | omega) (fun r w1 hq => ?_) (fun E q w1 hq => hq.elim)
            obtain ⟨rfl, rfl⟩ := hq
            dsimp only [wM, PqM, List.cons_append, List.nil_append, Option.toList_some, Option.toList_none]
            rw [io]
            refine g_iconst (v := 3) X dX3_placeAtRank_38 rfl ?_
            refine g_iadd X dX3_placeAtRank_39 ?_
            refine g_iald (35 + 5 * i + 3) X dX3_placeAtRank_40 (by repeat (first | with_reducible exact Pk.here | with_reducible apply Pk.there)) (nIp3 _) (by omega) (by exact f3) ?_
            refine g_aload_n X dX3_placeAtRank_41 rfl rfl ?_
            refine g_getf X dX3_placeAtRank_42 fl_X3_9 (by repeat (first | with_reducible exact Pk.here | with_reducible apply Pk.there)) (by exact rfl) ?_
            refine g_iload_n X dX3_placeAtRank_45 rfl rfl ?_
            refine g_callS X dX3_placeAtRank_46 ms_X3_61 (c_X3_orderAtPlace hB) rfl (by repeat (first | with_reducible exact Pks.nil | (with_reducible refine Pks.pure (by assumption) ?_) | (with_reducible apply Pks.cons; focus ((repeat (first | with_reducible exact Pk.here | with_reducible apply Pk.there)); done)) | (refine Pks.cons Pk.here ?_))) rfl rfl (by decide) (by exact Nat.le_of_ble_eq_true rfl) (by first | decide | omega) (fun r w1 hq => ?_) (fun E q w1 hq => hq.elim)
            obtain ⟨rfl, rfl⟩ := hq
            dsimp only [wM, PqM, List.cons_append, List.nil_append, Option.toList_some, Option.toList_none]
            rw [io]
            refine g_iconst (v := 3) X dX3_placeAtRank_49 rfl ?_
            refine g_iadd X dX3_placeAtRank_50 ?_
            refine g_iald (35 + 5 * k + 3) X dX3_placeAtRank_51 (by repeat (first | with_reducible exact Pk.here | with_reducible apply Pk.there)) (nIp3 _) (by omega) (by exact e3) ?_
            refine g_isub X dX3_placeAtRank_52 ?_
            refine is_8_6 X dX3_placeAtRank_53 (by exact st_lz [_, _, _, _, _, _] [_] h6 rfl) ?_
            refine g_iload_n X dX3_placeAtRank_55 rfl rfl ?_
            refine g_if_eq (tgt := 64) X dX3_placeAtRank_56 (by decide) (fun c_56 => absurd c_56 (by decide)) (fun c_56 => ?_)
            refine g_iload X dX3_placeAtRank_59 rfl ?_
            refine g_goto (tgt := 67) X dX3_placeAtRank_61 (by decide) ?_
            refine J _ _ ?_ ?_
            · rw [Int32.lt_iff_toInt_lt, hz0, hd]; show _ ↔ o.2.2.2.1 < u.2.2.2.1; omega
            · rw [← Int32.toInt_inj, hz0, hd]; omega
          | false =>
            refine g_iload X dX3_placeAtRank_18 rfl ?_
            refine g_aload_n X dX3_placeAtRank_20 rfl rfl ?_
            refine g_getf X dX3_placeAtRank_21 fl_X3_9 (by repeat (first | with_reducible exact Pk.here | with_reducible apply Pk.there)) (by exact rfl) ?_
            refine g_iconst (v := 1) X dX3_placeAtRank_24 rfl ?_
            refine g_iald (1) X dX3_placeAtRank_25 (by repeat (first | with_reducible exact Pk.here | with_reducible apply Pk.there)) (rfl) (by decide) (by exact hE.1) ?_
            refine g_icmp_ge (tgt := 111) X dX3_placeAtRank_26 (by decide) (fun c_26 => absurd c_26 (nI_ge (by omega) (by omega))) (fun c_26 => ?_)
            refine g_aload_n X dX3_placeAtRank_29 rfl rfl ?_
            refine g_getf X dX3_placeAtRank_30 fl_X3_9 (by repeat (first | with_reducible exact Pk.here | with_reducible apply Pk.there)) (by exact rfl) ?_
            refine g_iload X dX3_placeAtRank_33 rfl ?_
            refine g_callS X dX3_placeAtRank_35 ms_X3_61 (c_X3_orderAtPlace hB) rfl (by repeat (first | with_reducible exact Pks.nil | (with_reducible refine Pks.pure (by assumption) ?_) | (with_reducible apply Pks.cons; focus ((repeat (first | with_reducible exact Pk.here | with_reducible apply Pk.there)); done)) | (refine Pks.cons Pk.here ?_))) rfl rfl (by decide) (by exact Nat.le_of_ble_eq_true rfl) (by first | decide | omega) (fun r w1 hq => ?_) (fun E q w1 hq => hq.elim)
            obtain ⟨rfl, rfl⟩ := hq
            dsimp only [wM, PqM, List.cons_append, List.nil_append, Option.toList_some, Option.toList_none]
            rw [io]
            refine g_iconst (v := 3) X dX3_placeAtRank_38 rfl ?_
            refine g_iadd X dX3_placeAtRank_39 ?_
            refine g_iald (35 + 5 * i + 3) X dX3_placeAtRank_40 (by repeat (first | with_reducible exact Pk.here | with_reducible apply Pk.there)) (nIp3 _) (by omega) (by exact f3) ?_
            refine g_aload_n X dX3_placeAtRank_41 rfl rfl ?_
            refine g_getf X dX3_placeAtRank_42 fl_X3_9 (by repeat (first | with_reducible exact Pk.here | with_reducible apply Pk.there)) (by exact rfl) ?_
            refine g_iload_n X dX3_placeAtRank_45 rfl rfl ?_
            refine g_callS X dX3_placeAtRank_46 ms_X3_61 (c_X3_orderAtPlace hB) rfl (by repeat (first | with_reducible exact Pks.nil | (with_reducible refine Pks.pure (by assumption) ?_) | (with_reducible apply Pks.cons; focus ((repeat (first | with_reducible exact Pk.here | with_reducible apply Pk.there)); done)) | (refine Pks.cons Pk.here ?_))) rfl rfl (by decide) (by exact Nat.le_of_ble_eq_true rfl) (by first | decide | omega) (fun r w1 hq => ?_) (fun E q w1 hq => hq.elim)
            obtain ⟨rfl, rfl⟩ := hq
            dsimp only [wM, PqM, List.cons_append, List.nil_append, Option.toList_some, Option.toList_none]
            rw [io]
            refine g_iconst (v := 3) X dX3_placeAtRank_49 rfl ?_
            refine g_iadd X dX3_placeAtRank_50 ?_
            refine g_iald (35 + 5 * k + 3) X dX3_placeAtRank_51 (by repeat (first | with_reducible exact Pk.here | with_reducible apply Pk.there)) (nIp3 _) (by omega) (by exact e3) ?_
            refine g_isub X dX3_placeAtRank_52 ?_
            refine is_8_6 X dX3_placeAtRank_53 (by exact st_lz [_, _, _, _, _, _] [_] h6 rfl) ?_
            refine g_iload_n X dX3_placeAtRank_55 rfl rfl ?_
            refine g_if_eq (tgt := 64) X dX3_placeAtRank_56 (by decide) (fun c_56 => ?_) (fun c_56 => absurd (rfl) c_56)
            refine g_iload X dX3_placeAtRank_64 rfl ?_
            refine g_ineg X dX3_placeAtRank_66 ?_
            rw [Int32.neg_sub]
            refine J _ _ ?_ ?_
            · rw [Int32.lt_iff_toInt_lt, hz0, hd2]; show _ ↔ u.2.2.2.1 < o.2.2.2.1; omega
            · rw [← Int32.toInt_inj, hz0, hd2]; omega
      refine g_iload_n X dX3_placeAtRank_2 rfl rfl ?_
      refine g_aload_n X dX3_placeAtRank_3 rfl rfl ?_
      refine g_getf X dX3_placeAtRank_4 fl_X3_9 (by repeat (first | with_reducible exact Pk.here | with_reducible apply Pk.there)) (by exact rfl) ?_
      refine g_iconst (v := 1) X dX3_placeAtRank_7 rfl ?_
      refine g_iald (1) X dX3_placeAtRank_8 (by repeat (first | with_reducible exact Pk.here | with_reducible apply Pk.there)) (rfl) (by decide) (by exact hE.1) ?_
      refine g_icmp_ge (tgt := 134) X dX3_placeAtRank_9 (by decide) (fun c_9 => absurd c_9 (nI_ge (by omega) (by omega))) (fun c_9 => ?_)
      refine g_iconst (v := 0) X dX3_placeAtRank_12 rfl ?_
      refine is_8_4 X dX3_placeAtRank_13 (by exact st_lz [_, _, _, _] [_, _, _] h4 rfl) ?_
      refine g_iconst (v := 0) X dX3_placeAtRank_15 rfl ?_
      refine is_8_5 X dX3_placeAtRank_16 (by exact st_lz [_, _, _, _, _] [_, _] h5 rfl) ?_
      exact L2 O.length 0 (by omega) _ _ h6 h7
  exact L O.length 0 (by omega) rfl _ _ _ _ LZ.u LZ.u LZ.u LZ.u
end MODEL
