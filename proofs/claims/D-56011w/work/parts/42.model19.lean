/-! THE MODEL: the book's and the traders' lines -/
set_option maxRecDepth 100000
def cnU (b : Bool) (O : List OO) : Nat → Nat
  | 0 => 0
  | k + 1 => cnU b O k + match O[k]? with
    | none => 0
    | some o => if o.2.2.1 = b then 1 else 0
theorem cn_sum {O : List OO} : ∀ {k : Nat}, k ≤ O.length → cnU true O k + cnU false O k = k
  | 0, _ => rfl
  | k + 1, h => by
    have ih := cn_sum (O := O) (k := k) (by omega)
    obtain ⟨o, ho⟩ : ∃ o, O[k]? = some o := ⟨_, List.getElem?_eq_getElem (show k < O.length by omega)⟩
    simp only [cnU, ho]
    cases o.2.2.1 <;> simp <;> omega
theorem ah_cnt {b : Bool} {k p : Nat} {O : List OO} {o : OO} (ho : O[k]? = some o) (hb : o.2.2.1 = b) (hp : o.2.2.2.1 = p) : ∀ {n : Nat}, n ≤ O.length → ∃ c, smU (ahF b k p) O n = nI c ∧ c ≤ cnU b O n ∧ (k < n → c < cnU b O n)
  | 0, _ => ⟨0, rfl, Nat.le_refl _, fun h => absurd h (by omega)⟩
  | n + 1, h => by
    obtain ⟨c, h1, h2, h3⟩ := ah_cnt ho hb hp (n := n) (by omega)
    obtain ⟨u, hu⟩ : ∃ u, O[n]? = some u := ⟨_, List.getElem?_eq_getElem (show n < O.length by omega)⟩
    rw [smU_s hu, h1]
    have hc : cnU b O (n + 1) = cnU b O n + if u.2.2.1 = b then 1 else 0 := by simp only [cnU, hu]
    by_cases ha : ahB b k p n u = true
    · have hub : u.2.2.1 = b := by
        unfold ahB at ha
        simp only [Bool.and_eq_true, beq_iff_eq] at ha
        exact ha.1
      rw [if_pos hub] at hc
      refine ⟨c + 1, by show nI c + (if ahB b k p n u = true then 1 else 0) = _; rw [if_pos ha, nI_1], by omega, fun hk => ?_⟩
      by_cases hkn : k = n
      · subst hkn
        cases ho.symm.trans hu
        exfalso
        unfold ahB at ha
        rw [hp] at ha
        cases b <;> simp at ha
      · have := h3 (by omega)
        omega
    · refine ⟨c, by show nI c + (if ahB b k p n u = true then 1 else 0) = _; rw [if_neg ha, show (0 : Int32) = nI 0 by decide, nI_add, Nat.add_zero], by omega, fun hk => ?_⟩
      by_cases hkn : k = n
      · subst hkn
        cases ho.symm.trans hu
        rw [if_pos hb] at hc
        omega
      · have := h3 (by omega)
        omega
theorem rk_none {b : Bool} {r : Nat} {O : List OO} (h : cnU b O O.length ≤ r) (hr : r < 2 ^ 31) : rkS b (nI r) O = none := by
  cases hk : rkS b (nI r) O with
  | none => rfl
  | some k =>
    obtain ⟨h1, o, ho, hb, hs⟩ := rkU_lt hk
    obtain ⟨c, h2, -, h3⟩ := ah_cnt ho hb rfl (Nat.le_refl _)
    have h4 := h3 h1
    have := nI_inj (by omega) hr (h2.symm.trans hs)
    omega
/-- the orders of a side from the rank r on, as written -/
def bkU (b : Bool) (O : List OO) : Nat → Nat → List Nat
  | 0, _ => []
  | f + 1, r => match rkS b (nI r) O with
    | none => []
    | some k => match O[k]? with
      | none => []
      | some o => (if r = 0 then [] else [32]) ++ (dgs o.2.2.2.2 ++ (64 :: (dgs o.2.2.2.1 ++ bkU b O f (r + 1))))
abbrev bkS (b : Bool) (O : List OO) : List Nat := bkU b O (cnU b O O.length) 0
theorem bk_len {b : Bool} {O : List OO} (hO : ∀ o, o ∈ O → o.2.2.2.1 < 100 ∧ o.2.2.2.2 < 100) : ∀ {f r : Nat}, (bkU b O f r).length ≤ 6 * f
  | 0, r => Nat.zero_le _
  | f + 1, r => by
    cases hk : rkS b (nI r) O with
    | none => rw [show bkU b O (f + 1) r = [] by simp only [bkU, hk]]; exact Nat.zero_le _
    | some k =>
      cases ho : O[k]? with
      | none => rw [show bkU b O (f + 1) r = [] by simp only [bkU, hk, ho]]; exact Nat.zero_le _
      | some o =>
        simp only [bkU, hk, ho]
        have ih := bk_len (b := b) hO (f := f) (r := r + 1)
        have h1 := hO o (List.mem_of_getElem? ho)
        have h2 := dgs_len (f := 1) (v := o.2.2.2.1) h1.1
        have h3 := dgs_len (f := 1) (v := o.2.2.2.2) h1.2
        simp only [List.length_append, List.length_cons]
        have h4 : (if r = 0 then [] else [32]).length ≤ 1 := by split <;> decide
        omega
def rsL (v : Nat) : List Nat := if v = 0 then [] else 43 :: dgs v
def rmU (H : Nat → Option Nat) (t : Nat) : Nat → List Nat
  | 0 => []
  | k + 1 => rmU H t k ++ if H k = some t then [32, 118, 48 + k] else []
theorem rm_len {H : Nat → Option Nat} {t : Nat} : ∀ {k : Nat}, (rmU H t k).length ≤ 3 * k
  | 0 => Nat.zero_le _
  | k + 1 => by
    have ih := rm_len (H := H) (t := t) (k := k)
    rw [rmU, List.length_append]
    have : (if H k = some t then [32, 118, 48 + k] else []).length ≤ 3 := by
      split
      · exact Nat.le_refl 3
      · exact Nat.zero_le _
    omega
/-- a trader's line: a and b are what is reserved -/
def trL (t a b : Nat) (S : SS) : List Nat := dgs (caT (sT S) t) ++ rsL a ++ [32] ++ [119] ++ dgs (wiT (sT S) t) ++ rsL b ++ rmU (sH S) t 4
section MODEL
variable {B : Bt} {m : Nat} {ad : Nat → Nat} {sv ch ea fa th pm lm cm p0 s0 iw : Int32} {M F : Nat → Int32} {S : SS} {L : List Nat}
abbrev wW (m : Nat) (ad : Nat → Nat) (sv ch ea fa th pm lm cm p0 s0 iw : Int32) (M F : Nat → Int32) : List An := [pt m (mO ad sv ch ea fa th pm lm cm p0 s0 iw), pt (ad 0) (oA .int 155 M), pt (ad 5) (oA .int 160 F)]
theorem c_X3_writesSide (hB : Bs B) {b : Bool} (hE : Enc M S) (hF : EnL F L) (hl : L.length + 6 * cnU b (sO S) (sO S).length ≤ 160) (hm : lm = nI L.length) : Tr B yX3_writesSide (Cond.code yX3_writesSide cX3_writesSide 4 none) (rmd 4 0 0) [.ref m, .int (bI b)] (wW m ad sv ch ea fa th pm lm cm p0 s0 iw M F) (fun r w => ∃ lm' F', r = none ∧ w = wW m ad sv ch ea fa th pm lm' cm p0 s0 iw M F' ∧ lm' = nI (L ++ bkS b (sO S)).length ∧ EnL F' (L ++ bkS b (sO S))) nox := by
  have hO := hE.2.2.2.1
  have hOl := hO.2.1
  have hcn : cnU b (sO S) (sO S).length ≤ 16 := by have := cn_sum (O := sO S) (Nat.le_refl _); cases b <;> omega
  subst hm
  refine tr_of hB (by decide +kernel) rfl ?_
  intro Γ X Y
  refine g_eq (ls' := [.val (.ref m), .val (.int (bI b)), .unset, .unset]) rfl rfl ?_
  have K : ∀ (f r : Nat) (L1 : List Nat) (lm1 : Int32) (F1 : Nat → Int32), r + f = cnU b (sO S) (sO S).length → lm1 = nI L1.length → EnL F1 L1 → L1.length + 6 * f ≤ 160 → L1 ++ bkU b (sO S) f r = L ++ bkS b (sO S) → G B Γ 0 0 (wW m ad sv ch ea fa th pm lm1 cm p0 s0 iw M F1) 9 [.val (.ref m), .val (.int (bI b)), .val (.int (nI r)), .val (.int (oI_ (rkS b (nI r) (sO S))))] [] := by
    intro f
    induction f with
    | zero =>
      intro r L1 lm1 F1 hr hl1 hF1 hb he
      rw [show bkU b (sO S) 0 r = [] from rfl, List.append_nil] at he
      subst he hl1
      rw [rk_none (show cnU b (sO S) (sO S).length ≤ r by omega) (by omega)]
      refine g_iload_n X dX3_writesSide_9 rfl rfl ?_
      refine g_iconst (v := (-1)) X dX3_writesSide_10 rfl ?_
      refine g_icmp_eq (tgt := 73) X dX3_writesSide_11 (by decide) (fun c_11 => ?_) (fun c_11 => absurd (rfl) c_11)
      exact g_vret X Y dX3_writesSide_73 (⟨_, _, rfl, rfl, rfl, hF1⟩) (Pks.tail (rest := _) (by repeat (first | with_reducible exact Pks.nil | (with_reducible refine Pks.pure (by assumption) ?_) | (with_reducible apply Pks.cons; focus ((repeat (first | with_reducible exact Pk.here | with_reducible apply Pk.there)); done)) | (refine Pks.cons Pk.here ?_))))
    | succ f ih =>
      intro r L1 lm1 F1 hr hl1 hF1 hb he
      cases hk : rkS b (nI r) (sO S) with
      | none =>
        rw [show bkU b (sO S) (f + 1) r = [] by simp only [bkU, hk], List.append_nil] at he
        subst he hl1
        refine g_iload_n X dX3_writesSide_9 rfl rfl ?_
        refine g_iconst (v := (-1)) X dX3_writesSide_10 rfl ?_
        refine g_icmp_eq (tgt := 73) X dX3_writesSide_11 (by decide) (fun c_11 => ?_) (fun c_11 => absurd (rfl) c_11)
        exact g_vret X Y dX3_writesSide_73 (⟨_, _, rfl, rfl, rfl, hF1⟩) (Pks.tail (rest := _) (by repeat (first | with_reducible exact Pks.nil | (with_reducible refine Pks.pure (by assumption) ?_) | (with_reducible apply Pks.cons; focus ((repeat (first | with_reducible exact Pk.here | with_reducible apply Pk.there)); done)) | (refine Pks.cons Pk.here ?_))))
      | some k =>
        obtain ⟨hk1, o, ho, -⟩ := rkU_lt hk
        obtain ⟨⟨e0, e1, e2, e3, e4⟩, k1, k2, k3, k4⟩ := hO.2.2 k o ho
        have hn : ¬ oI_ (some k) = -1 := fun e => nomatch (oI_none (x := some k) (fun j e => by cases e; omega)).mp e
        have d3 := dgs_len (f := 1) (v := o.2.2.2.1) k3
        have d4 := dgs_len (f := 1) (v := o.2.2.2.2) k4
        have J : ∀ (L2 : List Nat) (lm2 : Int32) (F2 : Nat → Int32), lm2 = nI L2.length → EnL F2 L2 → L2.length + 5 + 6 * f ≤ 160 → L2 ++ (dgs o.2.2.2.2 ++ (64 :: (dgs o.2.2.2.1 ++ bkU b (sO S) f (r + 1)))) = L ++ bkS b (sO S) → G B Γ 0 0 (wW m ad sv ch ea fa th pm lm2 cm p0 s0 iw M F2) 24 [.val (.ref m), .val (.int (bI b)), .val (.int (nI r)), .val (.int (oI_ (some k)))] [] := by
          intro L2 lm2 F2 hl2 hF2 hb2 he2
          have q1 : (L2 ++ dgs o.2.2.2.2).length = L2.length + (dgs o.2.2.2.2).length := List.length_append
          have q2 : (L2 ++ dgs o.2.2.2.2 ++ [64]).length = L2.length + (dgs o.2.2.2.2).length + 1 := by rw [List.length_append, q1]; rfl
          have q3 : (L2 ++ dgs o.2.2.2.2 ++ [64] ++ dgs o.2.2.2.1).length = L2.length + (dgs o.2.2.2.2).length + 1 + (dgs o.2.2.2.1).length := by rw [List.length_append, q2]
          refine g_aload_n X dX3_writesSide_24 rfl rfl ?_
          refine g_aload_n X dX3_writesSide_25 rfl rfl ?_
          refine g_getf X dX3_writesSide_26 fl_X3_9 (by repeat (first | with_reducible exact Pk.here | with_reducible apply Pk.there)) (by exact rfl) ?_
          refine g_iload_n X dX3_writesSide_29 rfl rfl ?_
          refine g_callS X dX3_writesSide_30 ms_X3_61 (c_X3_orderAtPlace hB) rfl (by repeat (first | with_reducible exact Pks.nil | (with_reducible refine Pks.pure (by assumption) ?_) | (with_reducible apply Pks.cons; focus ((repeat (first | with_reducible exact Pk.here | with_reducible apply Pk.there)); done)) | (refine Pks.cons Pk.here ?_))) rfl rfl (by decide) (by exact Nat.le_of_ble_eq_true rfl) (by first | decide | omega) (fun r w1 hq => ?_) (fun E q w1 hq => hq.elim)
          obtain ⟨rfl, rfl⟩ := hq
          dsimp only [wW, wL, wM, List.cons_append, List.nil_append, Option.toList_some, Option.toList_none]
          rw [show oI_ (some k) = nI k from rfl, io]
          refine g_iconst (v := 4) X dX3_writesSide_33 rfl ?_
          refine g_iadd X dX3_writesSide_34 ?_
          refine g_iald (35 + 5 * k + 4) X dX3_writesSide_35 (by repeat (first | with_reducible exact Pk.here | with_reducible apply Pk.there)) (nIp4 _) (by omega) (by exact e4) ?_
          refine g_callV X dX3_writesSide_36 mv_X3_206 (c_X3_writesNumber hB hF2 (by omega) (by omega) hl2 rfl) rfl cl_X3 (by repeat (first | with_reducible exact Rc.pt | with_reducible apply Rc.there)) (by repeat (first | with_reducible exact Pks.nil | (with_reducible refine Pks.pure (by assumption) ?_) | (with_reducible apply Pks.cons; focus ((repeat (first | with_reducible exact Pk.here | with_reducible apply Pk.there)); done)) | (refine Pks.cons Pk.here ?_))) rfl rfl (by decide) (by exact Nat.le_of_ble_eq_true rfl) (by first | decide | omega) (fun r w1 hq => ?_) (fun E q w1 hq => hq.elim)
          obtain ⟨lm3, F3, rfl, rfl, hl3, hF3⟩ := hq
          dsimp only [wW, wL, wM, List.cons_append, List.nil_append, Option.toList_some, Option.toList_none]
          refine g_aload_n X dX3_writesSide_39 rfl rfl ?_
          refine g_bipush (v := 64) X dX3_writesSide_40 rfl ?_
          refine g_callV X dX3_writesSide_42 mv_X3_203 (c_X3_sign hB (c := 64) hF3 (by omega) hl3 rfl) rfl cl_X3 (by repeat (first | with_reducible exact Rc.pt | with_reducible apply Rc.there)) (by repeat (first | with_reducible exact Pks.nil | (with_reducible refine Pks.pure (by assumption) ?_) | (with_reducible apply Pks.cons; focus ((repeat (first | with_reducible exact Pk.here | with_reducible apply Pk.there)); done)) | (refine Pks.cons Pk.here ?_))) rfl rfl (by decide) (by exact Nat.le_of_ble_eq_true rfl) (by first | decide | omega) (fun r w1 hq => ?_) (fun E q w1 hq => hq.elim)
          obtain ⟨lm4, F4, rfl, rfl, hl4, hF4⟩ := hq
          dsimp only [wW, wL, wM, List.cons_append, List.nil_append, Option.toList_some, Option.toList_none]
          refine g_aload_n X dX3_writesSide_45 rfl rfl ?_
          refine g_aload_n X dX3_writesSide_46 rfl rfl ?_
          refine g_getf X dX3_writesSide_47 fl_X3_9 (by repeat (first | with_reducible exact Pk.here | with_reducible apply Pk.there)) (by exact rfl) ?_
          refine g_iload_n X dX3_writesSide_50 rfl rfl ?_
          refine g_callS X dX3_writesSide_51 ms_X3_61 (c_X3_orderAtPlace hB) rfl (by repeat (first | with_reducible exact Pks.nil | (with_reducible refine Pks.pure (by assumption) ?_) | (with_reducible apply Pks.cons; focus ((repeat (first | with_reducible exact Pk.here | with_reducible apply Pk.there)); done)) | (refine Pks.cons Pk.here ?_))) rfl rfl (by decide) (by exact Nat.le_of_ble_eq_true rfl) (by first | decide | omega) (fun r w1 hq => ?_) (fun E q w1 hq => hq.elim)
          obtain ⟨rfl, rfl⟩ := hq
          dsimp only [wW, wL, wM, List.cons_append, List.nil_append, Option.toList_some, Option.toList_none]
          rw [io]
          refine g_iconst (v := 3) X dX3_writesSide_54 rfl ?_
          refine g_iadd X dX3_writesSide_55 ?_
          refine g_iald (35 + 5 * k + 3) X dX3_writesSide_56 (by repeat (first | with_reducible exact Pk.here | with_reducible apply Pk.there)) (nIp3 _) (by omega) (by exact e3) ?_
          refine g_callV X dX3_writesSide_57 mv_X3_206 (c_X3_writesNumber hB hF4 (by omega) (by omega) hl4 rfl) rfl cl_X3 (by repeat (first | with_reducible exact Rc.pt | with_reducible apply Rc.there)) (by repeat (first | with_reducible exact Pks.nil | (with_reducible refine Pks.pure (by assumption) ?_) | (with_reducible apply Pks.cons; focus ((repeat (first | with_reducible exact Pk.here | with_reducible apply Pk.there)); done)) | (refine Pks.cons Pk.here ?_))) rfl rfl (by decide) (by exact Nat.le_of_ble_eq_true rfl) (by first | decide | omega) (fun r w1 hq => ?_) (fun E q w1 hq => hq.elim)
          obtain ⟨lm5, F5, rfl, rfl, hl5, hF5⟩ := hq
          dsimp only [wW, wL, wM, List.cons_append, List.nil_append, Option.toList_some, Option.toList_none]
          refine ii_4_2 (v := nI (r + 1)) X dX3_writesSide_60 (nI_1 r) rfl ?_
          refine g_aload_n X dX3_writesSide_63 rfl rfl ?_
          refine g_iload_n X dX3_writesSide_64 rfl rfl ?_
          refine g_iload_n X dX3_writesSide_65 rfl rfl ?_
          refine g_callV X dX3_writesSide_66 mv_X3_181 (c_X3_placeAtRank hB hO) rfl cl_X3 (by repeat (first | with_reducible exact Rc.pt | with_reducible apply Rc.there)) (by repeat (first | with_reducible exact Pks.nil | (with_reducible refine Pks.pure (by assumption) ?_) | (with_reducible apply Pks.cons; focus ((repeat (first | with_reducible exact Pk.here | with_reducible apply Pk.there)); done)) | (refine Pks.cons Pk.here ?_))) rfl rfl (by decide) (by exact Nat.le_of_ble_eq_true rfl) (by first | decide | omega) (fun r w1 hq => ?_) (fun E q w1 hq => hq.elim)
          obtain ⟨rfl, rfl⟩ := hq
          dsimp only [wW, wL, wM, List.cons_append, List.nil_append, Option.toList_some, Option.toList_none]
          refine is_4_3n X dX3_writesSide_69 rfl rfl ?_
          refine g_goto (tgt := 9) X dX3_writesSide_70 (by decide) ?_
          exact g_bud (kc' := 0) (ks' := 0) (Nat.zero_le _) (Nat.zero_le _) (g_ent (Pks.tail (rest := _) (by repeat (first | with_reducible exact Pks.nil | (with_reducible refine Pks.pure (by assumption) ?_) | (with_reducible apply Pks.cons; focus ((repeat (first | with_reducible exact Pk.here | with_reducible apply Pk.there)); done)) | (refine Pks.cons Pk.here ?_)))) (ih (r + 1) _ _ _ (by omega) hl5 hF5 (by omega) (by rw [← he2]; simp only [List.append_assoc]; rfl)))
        have hbk : bkU b (sO S) (f + 1) r = (if r = 0 then [] else [32]) ++ (dgs o.2.2.2.2 ++ (64 :: (dgs o.2.2.2.1 ++ bkU b (sO S) f (r + 1)))) := by simp only [bkU, hk, ho]
        rw [hbk] at he
        by_cases h0 : r = 0
        · rw [if_pos h0, List.nil_append] at he
          refine g_iload_n X dX3_writesSide_9 rfl rfl ?_
          refine g_iconst (v := (-1)) X dX3_writesSide_10 rfl ?_
          refine g_icmp_eq (tgt := 73) X dX3_writesSide_11 (by decide) (fun c_11 => absurd c_11 (hn)) (fun c_11 => ?_)
          refine g_iload_n X dX3_writesSide_14 rfl rfl ?_
          refine g_if_le (tgt := 24) X dX3_writesSide_15 (by decide) (fun c_15 => ?_) (fun c_15 => absurd ((by rw [h0]; decide : nI r ≤ 0)) c_15)
          exact J L1 lm1 F1 hl1 hF1 (by omega) he
        · rw [if_neg h0, ← List.append_assoc] at he
          have q0 : (L1 ++ [32]).length = L1.length + 1 := by simp
          refine g_iload_n X dX3_writesSide_9 rfl rfl ?_
          refine g_iconst (v := (-1)) X dX3_writesSide_10 rfl ?_
          refine g_icmp_eq (tgt := 73) X dX3_writesSide_11 (by decide) (fun c_11 => absurd c_11 (hn)) (fun c_11 => ?_)
          refine g_iload_n X dX3_writesSide_14 rfl rfl ?_
          refine g_if_le (tgt := 24) X dX3_writesSide_15 (by decide) (fun c_15 => absurd c_15 (nI_nle (by omega) (by omega))) (fun c_15 => ?_)
          refine g_aload_n X dX3_writesSide_18 rfl rfl ?_
          refine g_bipush (v := 32) X dX3_writesSide_19 rfl ?_
          refine g_callV X dX3_writesSide_21 mv_X3_203 (c_X3_sign hB (c := 32) hF1 (by omega) hl1 rfl) rfl cl_X3 (by repeat (first | with_reducible exact Rc.pt | with_reducible apply Rc.there)) (by repeat (first | with_reducible exact Pks.nil | (with_reducible refine Pks.pure (by assumption) ?_) | (with_reducible apply Pks.cons; focus ((repeat (first | with_reducible exact Pk.here | with_reducible apply Pk.there)); done)) | (refine Pks.cons Pk.here ?_))) rfl rfl (by decide) (by exact Nat.le_of_ble_eq_true rfl) (by first | decide | omega) (fun r w1 hq => ?_) (fun E q w1 hq => hq.elim)
          obtain ⟨lm2, F2, rfl, rfl, hl2, hF2⟩ := hq
          dsimp only [wW, wL, wM, List.cons_append, List.nil_append, Option.toList_some, Option.toList_none]
          exact g_bud (kc' := 0) (ks' := 0) (Nat.zero_le _) (Nat.zero_le _) (g_ent (Pks.tail (rest := _) (by repeat (first | with_reducible exact Pks.nil | (with_reducible refine Pks.pure (by assumption) ?_) | (with_reducible apply Pks.cons; focus ((repeat (first | with_reducible exact Pk.here | with_reducible apply Pk.there)); done)) | (refine Pks.cons Pk.here ?_)))) (J _ _ _ hl2 hF2 (by omega) he))
  refine g_iconst (v := 0) X dX3_writesSide_0 rfl ?_
  refine is_4_2n X dX3_writesSide_1 rfl rfl ?_
  refine g_aload_n X dX3_writesSide_2 rfl rfl ?_
  refine g_iload_n X dX3_writesSide_3 rfl rfl ?_
  refine g_iconst (v := 0) X dX3_writesSide_4 rfl ?_
  refine g_callV X dX3_writesSide_5 mv_X3_181 (c_X3_placeAtRank hB hO) rfl cl_X3 (by repeat (first | with_reducible exact Rc.pt | with_reducible apply Rc.there)) (by repeat (first | with_reducible exact Pks.nil | (with_reducible refine Pks.pure (by assumption) ?_) | (with_reducible apply Pks.cons; focus ((repeat (first | with_reducible exact Pk.here | with_reducible apply Pk.there)); done)) | (refine Pks.cons Pk.here ?_))) rfl rfl (by decide) (by exact Nat.le_of_ble_eq_true rfl) (by first | decide | omega) (fun r w1 hq => ?_) (fun E q w1 hq => hq.elim)
  obtain ⟨rfl, rfl⟩ := hq
  dsimp only [wW, wL, wM, List.cons_append, List.nil_append, Option.toList_some, Option.toList_none]
  refine is_4_3n X dX3_writesSide_8 rfl rfl ?_
  exact g_bud (kc' := 0) (ks' := 0) (Nat.zero_le _) (Nat.zero_le _) (g_ent (Pks.tail (rest := _) (by repeat (first | with_reducible exact Pks.nil | (with_reducible refine Pks.pure (by assumption) ?_) | (with_reducible apply Pks.cons; focus ((repeat (first | with_reducible exact Pk.here | with_reducible apply Pk.there)); done)) | (refine Pks.cons Pk.here ?_)))) (K _ 0 L _ F (by omega) rfl hF hl rfl))
theorem c_X3_writeBook (hB : Bs B) (hE : Enc M S) : Tr B yX3_writeBook (Cond.code yX3_writeBook cX3_writeBook 1 (some .int)) (rmd 5 0 0) [.ref m] (wW m ad sv ch ea fa th pm lm cm p0 s0 iw M F) (fun r w => ∃ lm' F', r = some (.int lm') ∧ w = wW m ad sv ch ea fa 0 pm lm' cm p0 s0 iw M F' ∧ lm' = nI (bkS true (sO S) ++ [124] ++ bkS false (sO S)).length ∧ EnL F' (bkS true (sO S) ++ [124] ++ bkS false (sO S))) nox := by
  have hO := hE.2.2.2.1
  have hcn := cn_sum (O := sO S) (Nat.le_refl _)
  have hO2 : ∀ o, o ∈ sO S → o.2.2.2.1 < 100 ∧ o.2.2.2.2 < 100 := fun o ho => by
    obtain ⟨k, hk⟩ := List.getElem?_of_mem ho
    exact (hO.2.2 k o hk).2.2.2
  have hl := hO.2.1
  have hb : (bkS true (sO S)).length ≤ 6 * cnU true (sO S) (sO S).length := bk_len (b := true) hO2
  have q : (bkS true (sO S) ++ [124]).length = (bkS true (sO S)).length + 1 := by simp
  have h0 : EnL F [] := fun k c h => by simp at h
  refine tr_of hB (by decide +kernel) rfl ?_
  intro Γ X Y
  refine g_eq (ls' := [.val (.ref m)]) rfl rfl ?_
  refine g_aload_n X dX3_writeBook_0 rfl rfl ?_
  refine g_iconst (v := 0) X dX3_writeBook_1 rfl ?_
  refine pf_20_8 X dX3_writeBook_2 fl_X3_45 (by repeat (first | with_reducible exact Rp.here | with_reducible apply Rp.there)) rfl rfl ?_
  refine g_aload_n X dX3_writeBook_5 rfl rfl ?_
  refine g_iconst (v := 0) X dX3_writeBook_6 rfl ?_
  refine pf_20_12 X dX3_writeBook_7 fl_X3_200 (by repeat (first | with_reducible exact Rp.here | with_reducible apply Rp.there)) rfl rfl ?_
  refine g_aload_n X dX3_writeBook_10 rfl rfl ?_
  refine g_iconst (v := 1) X dX3_writeBook_11 rfl ?_
  refine g_callV X dX3_writeBook_12 mv_X3_209 (c_X3_writesSide hB (b := true) (L := []) (lm := 0) hE h0 (by show 0 + _ ≤ 160; omega) rfl) rfl cl_X3 (by repeat (first | with_reducible exact Rc.pt | with_reducible apply Rc.there)) (by repeat (first | with_reducible exact Pks.nil | (with_reducible refine Pks.pure (by assumption) ?_) | (with_reducible apply Pks.cons; focus ((repeat (first | with_reducible exact Pk.here | with_reducible apply Pk.there)); done)) | (refine Pks.cons Pk.here ?_))) rfl rfl (by decide) (by exact Nat.le_of_ble_eq_true rfl) (by first | decide | omega) (fun r w1 hq => ?_) (fun E q w1 hq => hq.elim)
  obtain ⟨lm1, F1, rfl, rfl, hl1, hF1⟩ := hq
  dsimp only [wW, wL, wM, List.cons_append, List.nil_append, Option.toList_some, Option.toList_none]
  refine g_aload_n X dX3_writeBook_15 rfl rfl ?_
  refine g_bipush (v := 124) X dX3_writeBook_16 rfl ?_
  refine g_callV X dX3_writeBook_18 mv_X3_203 (c_X3_sign hB (c := 124) (L := bkS true (sO S)) hF1 (by omega) hl1 rfl) rfl cl_X3 (by repeat (first | with_reducible exact Rc.pt | with_reducible apply Rc.there)) (by repeat (first | with_reducible exact Pks.nil | (with_reducible refine Pks.pure (by assumption) ?_) | (with_reducible apply Pks.cons; focus ((repeat (first | with_reducible exact Pk.here | with_reducible apply Pk.there)); done)) | (refine Pks.cons Pk.here ?_))) rfl rfl (by decide) (by exact Nat.le_of_ble_eq_true rfl) (by first | decide | omega) (fun r w1 hq => ?_) (fun E q w1 hq => hq.elim)
  obtain ⟨lm2, F2, rfl, rfl, hl2, hF2⟩ := hq
  dsimp only [wW, wL, wM, List.cons_append, List.nil_append, Option.toList_some, Option.toList_none]
  refine g_aload_n X dX3_writeBook_21 rfl rfl ?_
  refine g_iconst (v := 0) X dX3_writeBook_22 rfl ?_
  refine g_callV X dX3_writeBook_23 mv_X3_209 (c_X3_writesSide hB (b := false) hE hF2 (by omega) hl2) rfl cl_X3 (by repeat (first | with_reducible exact Rc.pt | with_reducible apply Rc.there)) (by repeat (first | with_reducible exact Pks.nil | (with_reducible refine Pks.pure (by assumption) ?_) | (with_reducible apply Pks.cons; focus ((repeat (first | with_reducible exact Pk.here | with_reducible apply Pk.there)); done)) | (refine Pks.cons Pk.here ?_))) rfl rfl (by decide) (by exact Nat.le_of_ble_eq_true rfl) (by first | decide | omega) (fun r w1 hq => ?_) (fun E q w1 hq => hq.elim)
  obtain ⟨lm3, F3, rfl, rfl, hl3, hF3⟩ := hq
  dsimp only [wW, wL, wM, List.cons_append, List.nil_append, Option.toList_some, Option.toList_none]
  refine g_aload_n X dX3_writeBook_26 rfl rfl ?_
  refine g_getf X dX3_writeBook_27 fl_X3_200 (by repeat (first | with_reducible exact Pk.here | with_reducible apply Pk.there)) (by exact rfl) ?_
  exact g_iret X Y dX3_writeBook_30 (rfl) (⟨lm3, F3, rfl, rfl, hl3, hF3⟩) (Pks.tail (rest := _) (by repeat (first | with_reducible exact Pks.nil | (with_reducible refine Pks.pure (by assumption) ?_) | (with_reducible apply Pks.cons; focus ((repeat (first | with_reducible exact Pk.here | with_reducible apply Pk.there)); done)) | (refine Pks.cons Pk.here ?_))))
theorem c_X3_writeTrader0 (hB : Bs B) {t : Int32} (hE : Enc M S) (ht : ¬ isT (sT S).length t) : Tr B yX3_writeTrader (Cond.code yX3_writeTrader cX3_writeTrader 3 (some .int)) (rmd 5 0 0) [.ref m, .int t] (wW m ad sv ch ea fa th pm lm cm p0 s0 iw M F) (fun r w => r = some (.int (-1)) ∧ w = wW m ad sv ch ea fa 1 pm lm cm p0 s0 iw M F) nox := by
  have hl := hE.2.2.1.2.1
  refine tr_of hB (by decide +kernel) rfl ?_
  intro Γ X Y
  refine g_eq (ls' := [.val (.ref m), .val (.int t), .unset]) rfl rfl ?_
  refine g_aload_n X dX3_writeTrader_0 rfl rfl ?_
  refine g_iconst (v := 0) X dX3_writeTrader_1 rfl ?_
  refine pf_20_8 X dX3_writeTrader_2 fl_X3_45 (by repeat (first | with_reducible exact Rp.here | with_reducible apply Rp.there)) rfl rfl ?_
  refine g_aload_n X dX3_writeTrader_5 rfl rfl ?_
  refine g_iload_n X dX3_writeTrader_6 rfl rfl ?_
  refine g_callV X dX3_writeTrader_7 mv_X3_95 (c_X3_isTrader hB hE.2.2.1.1 (by omega)) rfl cl_X3 (by repeat (first | with_reducible exact Rc.pt | with_reducible apply Rc.there)) (by repeat (first | with_reducible exact Pks.nil | (with_reducible refine Pks.pure (by assumption) ?_) | (with_reducible apply Pks.cons; focus ((repeat (first | with_reducible exact Pk.here | with_reducible apply Pk.there)); done)) | (refine Pks.cons Pk.here ?_))) rfl rfl (by decide) (by exact Nat.le_of_ble_eq_true rfl) (by first | decide | omega) (fun r w1 hq => ?_) (fun E q w1 hq => hq.elim)
  obtain ⟨rfl, rfl⟩ := hq
  dsimp only [wW, wL, wM, List.cons_append, List.nil_append, Option.toList_some, Option.toList_none]
  rw [bP_f ht]
  refine g_if_ne (tgt := 19) X dX3_writeTrader_10 (by decide) (fun c_10 => absurd c_10 (by decide)) (fun c_10 => ?_)
  refine g_aload_n X dX3_writeTrader_13 rfl rfl ?_
  refine g_iconst (v := 1) X dX3_writeTrader_14 rfl ?_
  refine g_callV X dX3_writeTrader_15 mv_X3_75 (c_X3_throwing hB) rfl cl_X3 (by repeat (first | with_reducible exact Rc.pt | with_reducible apply Rc.there)) (by repeat (first | with_reducible exact Pks.nil | (with_reducible refine Pks.pure (by assumption) ?_) | (with_reducible apply Pks.cons; focus ((repeat (first | with_reducible exact Pk.here | with_reducible apply Pk.there)); done)) | (refine Pks.cons Pk.here ?_))) rfl rfl (by decide) (by exact Nat.le_of_ble_eq_true rfl) (by first | decide | omega) (fun r w1 hq => ?_) (fun E q w1 hq => hq.elim)
  obtain ⟨rfl, rfl⟩ := hq
  dsimp only [wW, wL, wM, List.cons_append, List.nil_append, Option.toList_some, Option.toList_none]
  exact g_iret X Y dX3_writeTrader_18 (rfl) (⟨rfl, rfl⟩) (Pks.tail (rest := _) (by repeat (first | with_reducible exact Pks.nil | (with_reducible refine Pks.pure (by assumption) ?_) | (with_reducible apply Pks.cons; focus ((repeat (first | with_reducible exact Pk.here | with_reducible apply Pk.there)); done)) | (refine Pks.cons Pk.here ?_))))
theorem c_X3_writeTrader (hB : Bs B) {t a b : Nat} (hE : Enc M S) (ht : t < (sT S).length) (ha : rvS t true (sO S) = nI a) (ha2 : a < 10000) (hb : rvS t false (sO S) = nI b) (hb2 : b < 10000) (hc : caT (sT S) t < 10000) (hw : wiT (sT S) t < 10000) : Tr B yX3_writeTrader (Cond.code yX3_writeTrader cX3_writeTrader 3 (some .int)) (rmd 5 0 0) [.ref m, .int (nI t)] (wW m ad sv ch ea fa th pm lm cm p0 s0 iw M F) (fun r w => ∃ lm' F', r = some (.int lm') ∧ w = wW m ad sv ch ea fa 0 pm lm' cm p0 s0 iw M F' ∧ lm' = nI (trL t a b S).length ∧ EnL F' (trL t a b S)) nox := by
  have hl := hE.2.2.1.2.1
  have hO := hE.2.2.2.1
  obtain ⟨c, hcc⟩ : ∃ c, (sT S)[t]? = some c := ⟨_, List.getElem?_eq_getElem ht⟩
  have hM := hE.2.2.1.2.2 t c hcc
  have hc1 : caT (sT S) t = c.1 := by simp only [caT, hcc]
  have hw1 : wiT (sT S) t = c.2 := by simp only [wiT, hcc]
  rw [hc1] at hc
  rw [hw1] at hw
  have d1 := dgs_len (f := 3) hc
  have d2 := dgs_len (f := 3) hw
  have r_ : ∀ v, v < 10000 → (rsL v).length ≤ 5 := fun v hv => by
    unfold rsL
    split
    · exact Nat.zero_le _
    · exact Nat.succ_le_succ (dgs_len (f := 3) hv)
  have d3 := r_ a ha2
  have d4 := r_ b hb2
  have h0 : EnL F [] := fun k c h => by simp at h
  have q1 : (dgs c.1 ++ rsL a).length = (dgs c.1).length + (rsL a).length := List.length_append
  have q2 : (dgs c.1 ++ rsL a ++ [32]).length = (dgs c.1).length + (rsL a).length + 1 := by rw [List.length_append, q1]; rfl
  have q3 : (dgs c.1 ++ rsL a ++ [32] ++ [119]).length = (dgs c.1).length + (rsL a).length + 2 := by rw [List.length_append, q2]; rfl
  have q4 : (dgs c.1 ++ rsL a ++ [32] ++ [119] ++ dgs c.2).length = (dgs c.1).length + (rsL a).length + 2 + (dgs c.2).length := by rw [List.length_append, q3]
  have q5 : (dgs c.1 ++ rsL a ++ [32] ++ [119] ++ dgs c.2 ++ rsL b).length = (dgs c.1).length + (rsL a).length + 2 + (dgs c.2).length + (rsL b).length := by rw [List.length_append, q4]
  have hT : trL t a b S = dgs c.1 ++ rsL a ++ [32] ++ [119] ++ dgs c.2 ++ rsL b ++ rmU (sH S) t 4 := by rw [trL, hc1, hw1]
  refine tr_of hB (by decide +kernel) rfl ?_
  intro Γ X Y
  refine g_eq (ls' := [.val (.ref m), .val (.int (nI t)), .unset]) rfl rfl ?_
  have K : ∀ j k (lm1 : Int32) (F1 : Nat → Int32), k + j = 4 → lm1 = nI (dgs c.1 ++ rsL a ++ [32] ++ [119] ++ dgs c.2 ++ rsL b ++ rmU (sH S) t k).length → EnL F1 (dgs c.1 ++ rsL a ++ [32] ++ [119] ++ dgs c.2 ++ rsL b ++ rmU (sH S) t k) → G B Γ 0 0 (wW m ad sv ch ea fa 0 pm lm1 cm p0 s0 iw M F1) 86 [.val (.ref m), .val (.int (nI t)), .val (.int (nI k))] [] := by
    intro j
    induction j with
    | zero =>
      intro k lm1 F1 hk hl1 hF1
      obtain rfl : k = 4 := by omega
      refine g_iload_n X dX3_writeTrader_86 rfl rfl ?_
      refine g_iconst (v := 4) X dX3_writeTrader_87 rfl ?_
      refine g_icmp_ge (tgt := 130) X dX3_writeTrader_88 (by decide) (fun c_88 => ?_) (fun c_88 => absurd (nI_le (a := 4) (by omega) (by omega)) c_88)
      refine g_aload_n X dX3_writeTrader_130 rfl rfl ?_
      refine g_getf X dX3_writeTrader_131 fl_X3_200 (by repeat (first | with_reducible exact Pk.here | with_reducible apply Pk.there)) (by exact rfl) ?_
      exact g_iret X Y dX3_writeTrader_134 (rfl) (⟨lm1, F1, rfl, rfl, by rw [hT]; exact hl1, by rw [hT]; exact hF1⟩) (Pks.tail (rest := _) (by repeat (first | with_reducible exact Pks.nil | (with_reducible refine Pks.pure (by assumption) ?_) | (with_reducible apply Pks.cons; focus ((repeat (first | with_reducible exact Pk.here | with_reducible apply Pk.there)); done)) | (refine Pks.cons Pk.here ?_))))
    | succ j ih =>
      intro k lm1 F1 hk hl1 hF1
      obtain ⟨h1, h2⟩ := hE.2.1 k (by omega)
      have hm := rm_len (H := sH S) (t := t) (k := k)
      have q6 : (dgs c.1 ++ rsL a ++ [32] ++ [119] ++ dgs c.2 ++ rsL b ++ rmU (sH S) t k).length = (dgs c.1).length + (rsL a).length + 2 + (dgs c.2).length + (rsL b).length + (rmU (sH S) t k).length := by rw [List.length_append, q5]
      by_cases hh : sH S k = some t
      · have hr : rmU (sH S) t (k + 1) = rmU (sH S) t k ++ [32] ++ [118] ++ [48 + k] := by rw [rmU, if_pos hh]; simp only [List.append_assoc]; rfl
        have q7 : (dgs c.1 ++ rsL a ++ [32] ++ [119] ++ dgs c.2 ++ rsL b ++ rmU (sH S) t k ++ [32]).length = (dgs c.1).length + (rsL a).length + 2 + (dgs c.2).length + (rsL b).length + (rmU (sH S) t k).length + 1 := by rw [List.length_append, q6]; rfl
        have q8 : (dgs c.1 ++ rsL a ++ [32] ++ [119] ++ dgs c.2 ++ rsL b ++ rmU (sH S) t k ++ [32] ++ [118]).length = (dgs c.1).length + (rsL a).length + 2 + (dgs c.2).length + (rsL b).length + (rmU (sH S) t k).length + 2 := by rw [List.length_append, q7]; rfl
        have ex : ∀ Z : List Nat, Z ++ rmU (sH S) t k ++ [32] ++ [118] ++ [48 + k] = Z ++ rmU (sH S) t (k + 1) := fun Z => by rw [hr]; simp only [List.append_assoc]
        rw [hh] at h1
        refine g_iload_n X dX3_writeTrader_86 rfl rfl ?_
        refine g_iconst (v := 4) X dX3_writeTrader_87 rfl ?_
        refine g_icmp_ge (tgt := 130) X dX3_writeTrader_88 (by decide) (fun c_88 => absurd c_88 (nI_ge (b := 4) (by omega) (by omega))) (fun c_88 => ?_)
        refine g_aload_n X dX3_writeTrader_91 rfl rfl ?_
        refine g_getf X dX3_writeTrader_92 fl_X3_9 (by repeat (first | with_reducible exact Pk.here | with_reducible apply Pk.there)) (by exact rfl) ?_
        refine g_bipush (v := 13) X dX3_writeTrader_95 rfl ?_
        refine g_iload_n X dX3_writeTrader_97 rfl rfl ?_
        refine g_iadd X dX3_writeTrader_98 ?_
        rw [show (13 : Int32) = nI 13 by decide, nI_add]
        refine g_iald (13 + k) X dX3_writeTrader_99 (by repeat (first | with_reducible exact Pk.here | with_reducible apply Pk.there)) (rfl) (by omega) (by exact h1) ?_
        refine g_iload_n X dX3_writeTrader_100 rfl rfl ?_
        refine g_icmp_ne (tgt := 124) X dX3_writeTrader_101 (by decide) (fun c_101 => absurd c_101 (fun q => q rfl)) (fun c_101 => ?_)
        refine g_aload_n X dX3_writeTrader_104 rfl rfl ?_
        refine g_bipush (v := 32) X dX3_writeTrader_105 rfl ?_
        refine g_callV X dX3_writeTrader_107 mv_X3_203 (c_X3_sign hB (c := 32) hF1 (by omega) hl1 rfl) rfl cl_X3 (by repeat (first | with_reducible exact Rc.pt | with_reducible apply Rc.there)) (by repeat (first | with_reducible exact Pks.nil | (with_reducible refine Pks.pure (by assumption) ?_) | (with_reducible apply Pks.cons; focus ((repeat (first | with_reducible exact Pk.here | with_reducible apply Pk.there)); done)) | (refine Pks.cons Pk.here ?_))) rfl rfl (by decide) (by exact Nat.le_of_ble_eq_true rfl) (by first | decide | omega) (fun r w1 hq => ?_) (fun E q w1 hq => hq.elim)
        obtain ⟨lm2, F2, rfl, rfl, hl2, hF2⟩ := hq
        dsimp only [wW, wL, wM, List.cons_append, List.nil_append, Option.toList_some, Option.toList_none]
        refine g_aload_n X dX3_writeTrader_110 rfl rfl ?_
        refine g_bipush (v := 118) X dX3_writeTrader_111 rfl ?_
        refine g_callV X dX3_writeTrader_113 mv_X3_203 (c_X3_sign hB (c := 118) hF2 (by omega) hl2 rfl) rfl cl_X3 (by repeat (first | with_reducible exact Rc.pt | with_reducible apply Rc.there)) (by repeat (first | with_reducible exact Pks.nil | (with_reducible refine Pks.pure (by assumption) ?_) | (with_reducible apply Pks.cons; focus ((repeat (first | with_reducible exact Pk.here | with_reducible apply Pk.there)); done)) | (refine Pks.cons Pk.here ?_))) rfl rfl (by decide) (by exact Nat.le_of_ble_eq_true rfl) (by first | decide | omega) (fun r w1 hq => ?_) (fun E q w1 hq => hq.elim)
        obtain ⟨lm3, F3, rfl, rfl, hl3, hF3⟩ := hq
        dsimp only [wW, wL, wM, List.cons_append, List.nil_append, Option.toList_some, Option.toList_none]
        refine g_aload_n X dX3_writeTrader_116 rfl rfl ?_
        refine g_bipush (v := 48) X dX3_writeTrader_117 rfl ?_
        refine g_iload_n X dX3_writeTrader_119 rfl rfl ?_
        refine g_iadd X dX3_writeTrader_120 ?_
        rw [show (48 : Int32) = nI 48 by decide, nI_add]
        refine g_callV X dX3_writeTrader_121 mv_X3_203 (c_X3_sign hB (c := 48 + k) hF3 (by omega) hl3 rfl) rfl cl_X3 (by repeat (first | with_reducible exact Rc.pt | with_reducible apply Rc.there)) (by repeat (first | with_reducible exact Pks.nil | (with_reducible refine Pks.pure (by assumption) ?_) | (with_reducible apply Pks.cons; focus ((repeat (first | with_reducible exact Pk.here | with_reducible apply Pk.there)); done)) | (refine Pks.cons Pk.here ?_))) rfl rfl (by decide) (by exact Nat.le_of_ble_eq_true rfl) (by first | decide | omega) (fun r w1 hq => ?_) (fun E q w1 hq => hq.elim)
        obtain ⟨lm4, F4, rfl, rfl, hl4, hF4⟩ := hq
        dsimp only [wW, wL, wM, List.cons_append, List.nil_append, Option.toList_some, Option.toList_none]
        refine ii_3_2 (v := nI (k + 1)) X dX3_writeTrader_124 (nI_1 k) rfl ?_
        refine g_goto (tgt := 86) X dX3_writeTrader_127 (by decide) ?_
        exact g_bud (kc' := 0) (ks' := 0) (Nat.zero_le _) (Nat.zero_le _) (g_ent (Pks.tail (rest := _) (by repeat (first | with_reducible exact Pks.nil | (with_reducible refine Pks.pure (by assumption) ?_) | (with_reducible apply Pks.cons; focus ((repeat (first | with_reducible exact Pk.here | with_reducible apply Pk.there)); done)) | (refine Pks.cons Pk.here ?_)))) (ih (k + 1) lm4 F4 (by omega) (by rw [← ex]; exact hl4) (by rw [← ex]; exact hF4)))
      · have hr : rmU (sH S) t (k + 1) = rmU (sH S) t k := by rw [rmU, if_neg hh, List.append_nil]
        refine g_iload_n X dX3_writeTrader_86 rfl rfl ?_
        refine g_iconst (v := 4) X dX3_writeTrader_87 rfl ?_
        refine g_icmp_ge (tgt := 130) X dX3_writeTrader_88 (by decide) (fun c_88 => absurd c_88 (nI_ge (b := 4) (by omega) (by omega))) (fun c_88 => ?_)
        refine g_aload_n X dX3_writeTrader_91 rfl rfl ?_
        refine g_getf X dX3_writeTrader_92 fl_X3_9 (by repeat (first | with_reducible exact Pk.here | with_reducible apply Pk.there)) (by exact rfl) ?_
        refine g_bipush (v := 13) X dX3_writeTrader_95 rfl ?_
        refine g_iload_n X dX3_writeTrader_97 rfl rfl ?_
        refine g_iadd X dX3_writeTrader_98 ?_
        rw [show (13 : Int32) = nI 13 by decide, nI_add]
        refine g_iald (13 + k) X dX3_writeTrader_99 (by repeat (first | with_reducible exact Pk.here | with_reducible apply Pk.there)) (rfl) (by omega) (by exact h1) ?_
        refine g_iload_n X dX3_writeTrader_100 rfl rfl ?_
        refine g_icmp_ne (tgt := 124) X dX3_writeTrader_101 (by decide) (fun c_101 => ?_) (fun c_101 => absurd c_101 (fun q => hh ((oI_at (fun j e => by have := h2 j e; omega) (by omega)).mp q.symm)))
        refine ii_3_2 (v := nI (k + 1)) X dX3_writeTrader_124 (nI_1 k) rfl ?_
        refine g_goto (tgt := 86) X dX3_writeTrader_127 (by decide) ?_
        exact ih (k + 1) lm1 F1 (by omega) (by rw [hr]; exact hl1) (by rw [hr]; exact hF1)
  refine g_aload_n X dX3_writeTrader_0 rfl rfl ?_
  refine g_iconst (v := 0) X dX3_writeTrader_1 rfl ?_
  refine pf_20_8 X dX3_writeTrader_2 fl_X3_45 (by repeat (first | with_reducible exact Rp.here | with_reducible apply Rp.there)) rfl rfl ?_
  refine g_aload_n X dX3_writeTrader_5 rfl rfl ?_
  refine g_iload_n X dX3_writeTrader_6 rfl rfl ?_
  refine g_callV X dX3_writeTrader_7 mv_X3_95 (c_X3_isTrader hB hE.2.2.1.1 (by omega)) rfl cl_X3 (by repeat (first | with_reducible exact Rc.pt | with_reducible apply Rc.there)) (by repeat (first | with_reducible exact Pks.nil | (with_reducible refine Pks.pure (by assumption) ?_) | (with_reducible apply Pks.cons; focus ((repeat (first | with_reducible exact Pk.here | with_reducible apply Pk.there)); done)) | (refine Pks.cons Pk.here ?_))) rfl rfl (by decide) (by exact Nat.le_of_ble_eq_true rfl) (by first | decide | omega) (fun r w1 hq => ?_) (fun E q w1 hq => hq.elim)
  obtain ⟨rfl, rfl⟩ := hq
  dsimp only [wW, wL, wM, List.cons_append, List.nil_append, Option.toList_some, Option.toList_none]
  rw [bP_t (isT_nI (by omega) ht)]
  refine g_if_ne (tgt := 19) X dX3_writeTrader_10 (by decide) (fun c_10 => ?_) (fun c_10 => absurd c_10 (by decide))
  refine g_aload_n X dX3_writeTrader_19 rfl rfl ?_
  refine g_iconst (v := 0) X dX3_writeTrader_20 rfl ?_
  refine pf_20_12 X dX3_writeTrader_21 fl_X3_200 (by repeat (first | with_reducible exact Rp.here | with_reducible apply Rp.there)) rfl rfl ?_
  refine g_aload_n X dX3_writeTrader_24 rfl rfl ?_
  refine g_aload_n X dX3_writeTrader_25 rfl rfl ?_
  refine g_getf X dX3_writeTrader_26 fl_X3_9 (by repeat (first | with_reducible exact Pk.here | with_reducible apply Pk.there)) (by exact rfl) ?_
  refine g_iload_n X dX3_writeTrader_29 rfl rfl ?_
  refine g_callS X dX3_writeTrader_30 ms_X3_78 (c_X3_traderAt hB) rfl (by repeat (first | with_reducible exact Pks.nil | (with_reducible refine Pks.pure (by assumption) ?_) | (with_reducible apply Pks.cons; focus ((repeat (first | with_reducible exact Pk.here | with_reducible apply Pk.there)); done)) | (refine Pks.cons Pk.here ?_))) rfl rfl (by decide) (by exact Nat.le_of_ble_eq_true rfl) (by first | decide | omega) (fun r w1 hq => ?_) (fun E q w1 hq => hq.elim)
  obtain ⟨rfl, rfl⟩ := hq
  dsimp only [wW, wL, wM, List.cons_append, List.nil_append, Option.toList_some, Option.toList_none]
  rw [it_]
  refine g_iald (17 + 3 * t) X dX3_writeTrader_33 (by repeat (first | with_reducible exact Pk.here | with_reducible apply Pk.there)) (rfl) (by omega) (by exact hM.1) ?_
  refine g_callV X dX3_writeTrader_34 mv_X3_206 (c_X3_writesNumber hB (L := []) (lm := 0) h0 hc (by show 0 + _ ≤ _; omega) rfl rfl) rfl cl_X3 (by repeat (first | with_reducible exact Rc.pt | with_reducible apply Rc.there)) (by repeat (first | with_reducible exact Pks.nil | (with_reducible refine Pks.pure (by assumption) ?_) | (with_reducible apply Pks.cons; focus ((repeat (first | with_reducible exact Pk.here | with_reducible apply Pk.there)); done)) | (refine Pks.cons Pk.here ?_))) rfl rfl (by decide) (by exact Nat.le_of_ble_eq_true rfl) (by first | decide | omega) (fun r w1 hq => ?_) (fun E q w1 hq => hq.elim)
  obtain ⟨lm1, F1, rfl, rfl, hl1, hF1⟩ := hq
  dsimp only [wW, wL, wM, List.cons_append, List.nil_append, Option.toList_some, Option.toList_none]
  refine g_aload_n X dX3_writeTrader_37 rfl rfl ?_
  refine g_aload_n X dX3_writeTrader_38 rfl rfl ?_
  refine g_iload_n X dX3_writeTrader_39 rfl rfl ?_
  refine g_iconst (v := 1) X dX3_writeTrader_40 rfl ?_
  refine g_callV X dX3_writeTrader_41 mv_X3_174 (c_X3_reservedFor hB (b := true) hO (by omega)) rfl cl_X3 (by repeat (first | with_reducible exact Rc.pt | with_reducible apply Rc.there)) (by repeat (first | with_reducible exact Pks.nil | (with_reducible refine Pks.pure (by assumption) ?_) | (with_reducible apply Pks.cons; focus ((repeat (first | with_reducible exact Pk.here | with_reducible apply Pk.there)); done)) | (refine Pks.cons Pk.here ?_))) rfl rfl (by decide) (by exact Nat.le_of_ble_eq_true rfl) (by first | decide | omega) (fun r w1 hq => ?_) (fun E q w1 hq => hq.elim)
  obtain ⟨rfl, rfl⟩ := hq
  dsimp only [wW, wL, wM, List.cons_append, List.nil_append, Option.toList_some, Option.toList_none]
  rw [ha]
  refine g_callV X dX3_writeTrader_44 mv_X3_213 (c_X3_writesReserved hB (L := dgs c.1) hF1 ha2 (by omega) hl1 rfl) rfl cl_X3 (by repeat (first | with_reducible exact Rc.pt | with_reducible apply Rc.there)) (by repeat (first | with_reducible exact Pks.nil | (with_reducible refine Pks.pure (by assumption) ?_) | (with_reducible apply Pks.cons; focus ((repeat (first | with_reducible exact Pk.here | with_reducible apply Pk.there)); done)) | (refine Pks.cons Pk.here ?_))) rfl rfl (by decide) (by exact Nat.le_of_ble_eq_true rfl) (by first | decide | omega) (fun r w1 hq => ?_) (fun E q w1 hq => hq.elim)
  obtain ⟨lm2, F2, rfl, rfl, hl2, hF2⟩ := hq
  dsimp only [wW, wL, wM, List.cons_append, List.nil_append, Option.toList_some, Option.toList_none]
  refine g_aload_n X dX3_writeTrader_47 rfl rfl ?_
  refine g_bipush (v := 32) X dX3_writeTrader_48 rfl ?_
  refine g_callV X dX3_writeTrader_50 mv_X3_203 (c_X3_sign hB (c := 32) (L := dgs c.1 ++ rsL a) hF2 (by omega) hl2 rfl) rfl cl_X3 (by repeat (first | with_reducible exact Rc.pt | with_reducible apply Rc.there)) (by repeat (first | with_reducible exact Pks.nil | (with_reducible refine Pks.pure (by assumption) ?_) | (with_reducible apply Pks.cons; focus ((repeat (first | with_reducible exact Pk.here | with_reducible apply Pk.there)); done)) | (refine Pks.cons Pk.here ?_))) rfl rfl (by decide) (by exact Nat.le_of_ble_eq_true rfl) (by first | decide | omega) (fun r w1 hq => ?_) (fun E q w1 hq => hq.elim)
  obtain ⟨lm3, F3, rfl, rfl, hl3, hF3⟩ := hq
  dsimp only [wW, wL, wM, List.cons_append, List.nil_append, Option.toList_some, Option.toList_none]
  refine g_aload_n X dX3_writeTrader_53 rfl rfl ?_
  refine g_bipush (v := 119) X dX3_writeTrader_54 rfl ?_
  refine g_callV X dX3_writeTrader_56 mv_X3_203 (c_X3_sign hB (c := 119) hF3 (by omega) hl3 rfl) rfl cl_X3 (by repeat (first | with_reducible exact Rc.pt | with_reducible apply Rc.there)) (by repeat (first | with_reducible exact Pks.nil | (with_reducible refine Pks.pure (by assumption) ?_) | (with_reducible apply Pks.cons; focus ((repeat (first | with_reducible exact Pk.here | with_reducible apply Pk.there)); done)) | (refine Pks.cons Pk.here ?_))) rfl rfl (by decide) (by exact Nat.le_of_ble_eq_true rfl) (by first | decide | omega) (fun r w1 hq => ?_) (fun E q w1 hq => hq.elim)
  obtain ⟨lm4, F4, rfl, rfl, hl4, hF4⟩ := hq
  dsimp only [wW, wL, wM, List.cons_append, List.nil_append, Option.toList_some, Option.toList_none]
  refine g_aload_n X dX3_writeTrader_59 rfl rfl ?_
  refine g_aload_n X dX3_writeTrader_60 rfl rfl ?_
  refine g_getf X dX3_writeTrader_61 fl_X3_9 (by repeat (first | with_reducible exact Pk.here | with_reducible apply Pk.there)) (by exact rfl) ?_
  refine g_iload_n X dX3_writeTrader_64 rfl rfl ?_
  refine g_callS X dX3_writeTrader_65 ms_X3_78 (c_X3_traderAt hB) rfl (by repeat (first | with_reducible exact Pks.nil | (with_reducible refine Pks.pure (by assumption) ?_) | (with_reducible apply Pks.cons; focus ((repeat (first | with_reducible exact Pk.here | with_reducible apply Pk.there)); done)) | (refine Pks.cons Pk.here ?_))) rfl rfl (by decide) (by exact Nat.le_of_ble_eq_true rfl) (by first | decide | omega) (fun r w1 hq => ?_) (fun E q w1 hq => hq.elim)
  obtain ⟨rfl, rfl⟩ := hq
  dsimp only [wW, wL, wM, List.cons_append, List.nil_append, Option.toList_some, Option.toList_none]
  rw [it_]
  refine g_iconst (v := 1) X dX3_writeTrader_68 rfl ?_
  refine g_iadd X dX3_writeTrader_69 ?_
  refine g_iald (17 + 3 * t + 1) X dX3_writeTrader_70 (by repeat (first | with_reducible exact Pk.here | with_reducible apply Pk.there)) (nI_1 _) (by omega) (by exact hM.2) ?_
  refine g_callV X dX3_writeTrader_71 mv_X3_206 (c_X3_writesNumber hB hF4 hw (by omega) hl4 rfl) rfl cl_X3 (by repeat (first | with_reducible exact Rc.pt | with_reducible apply Rc.there)) (by repeat (first | with_reducible exact Pks.nil | (with_reducible refine Pks.pure (by assumption) ?_) | (with_reducible apply Pks.cons; focus ((repeat (first | with_reducible exact Pk.here | with_reducible apply Pk.there)); done)) | (refine Pks.cons Pk.here ?_))) rfl rfl (by decide) (by exact Nat.le_of_ble_eq_true rfl) (by first | decide | omega) (fun r w1 hq => ?_) (fun E q w1 hq => hq.elim)
  obtain ⟨lm5, F5, rfl, rfl, hl5, hF5⟩ := hq
  dsimp only [wW, wL, wM, List.cons_append, List.nil_append, Option.toList_some, Option.toList_none]
  refine g_aload_n X dX3_writeTrader_74 rfl rfl ?_
  refine g_aload_n X dX3_writeTrader_75 rfl rfl ?_
  refine g_iload_n X dX3_writeTrader_76 rfl rfl ?_
  refine g_iconst (v := 0) X dX3_writeTrader_77 rfl ?_
  refine g_callV X dX3_writeTrader_78 mv_X3_174 (c_X3_reservedFor hB (b := false) hO (by omega)) rfl cl_X3 (by repeat (first | with_reducible exact Rc.pt | with_reducible apply Rc.there)) (by repeat (first | with_reducible exact Pks.nil | (with_reducible refine Pks.pure (by assumption) ?_) | (with_reducible apply Pks.cons; focus ((repeat (first | with_reducible exact Pk.here | with_reducible apply Pk.there)); done)) | (refine Pks.cons Pk.here ?_))) rfl rfl (by decide) (by exact Nat.le_of_ble_eq_true rfl) (by first | decide | omega) (fun r w1 hq => ?_) (fun E q w1 hq => hq.elim)
  obtain ⟨rfl, rfl⟩ := hq
  dsimp only [wW, wL, wM, List.cons_append, List.nil_append, Option.toList_some, Option.toList_none]
  rw [hb]
  refine g_callV X dX3_writeTrader_81 mv_X3_213 (c_X3_writesReserved hB hF5 hb2 (by omega) hl5 rfl) rfl cl_X3 (by repeat (first | with_reducible exact Rc.pt | with_reducible apply Rc.there)) (by repeat (first | with_reducible exact Pks.nil | (with_reducible refine Pks.pure (by assumption) ?_) | (with_reducible apply Pks.cons; focus ((repeat (first | with_reducible exact Pk.here | with_reducible apply Pk.there)); done)) | (refine Pks.cons Pk.here ?_))) rfl rfl (by decide) (by exact Nat.le_of_ble_eq_true rfl) (by first | decide | omega) (fun r w1 hq => ?_) (fun E q w1 hq => hq.elim)
  obtain ⟨lm6, F6, rfl, rfl, hl6, hF6⟩ := hq
  dsimp only [wW, wL, wM, List.cons_append, List.nil_append, Option.toList_some, Option.toList_none]
  refine g_iconst (v := 0) X dX3_writeTrader_84 rfl ?_
  refine is_3_2n X dX3_writeTrader_85 rfl rfl ?_
  exact g_bud (kc' := 0) (ks' := 0) (Nat.zero_le _) (Nat.zero_le _) (g_ent (Pks.tail (rest := _) (by repeat (first | with_reducible exact Pks.nil | (with_reducible refine Pks.pure (by assumption) ?_) | (with_reducible apply Pks.cons; focus ((repeat (first | with_reducible exact Pk.here | with_reducible apply Pk.there)); done)) | (refine Pks.cons Pk.here ?_)))) (K 4 0 lm6 F6 rfl (by rw [show rmU (sH S) t 0 = [] from rfl, List.append_nil]; exact hl6) (by rw [show rmU (sH S) t 0 = [] from rfl, List.append_nil]; exact hF6)))
/-- a character of a line -/
def qChar (L : List Nat) (i : Int32) : Nat × Nat := if isT L.length i then (match L[cN i]? with
    | none => (1, 65535)
    | some c => (0, c)) else (1, 65535)
theorem c_X3_charAt (hB : Bs B) {i : Int32} (hF : EnL F L) (hl : L.length ≤ 160) (hm : lm = nI L.length) (hL : ∀ c, c ∈ L → c < 65536) : Tr B yX3_charAt (Cond.code yX3_charAt cX3_charAt 2 (some .char)) (rmd 2 0 0) [.ref m, .int i] (wL m ad sv ch ea fa th pm lm cm p0 s0 iw F) (fun r w => ∃ q, r = some (.int (nI (qChar L i).2)) ∧ w = wL m ad sv ch ea fa q pm lm cm p0 s0 iw F ∧ q = nI (qChar L i).1) nox := by
  subst hm
  refine tr_of hB (by decide +kernel) rfl ?_
  intro Γ X Y
  refine g_eq (ls' := [.val (.ref m), .val (.int i)]) rfl rfl ?_
  by_cases h : isT L.length i
  · obtain ⟨k, hk, rfl⟩ := isT_of (by omega) h
    obtain ⟨c, hc⟩ : ∃ c, L[k]? = some c := ⟨_, List.getElem?_eq_getElem hk⟩
    have hcb := hL c (List.mem_of_getElem? hc)
    have hq : qChar L (nI k) = (0, c) := by rw [qChar, if_pos h, show cN (nI k) = k from nI_clamp (by omega)]; simp only [hc]
    have hch : ((nI c).toUInt32 % 65536).toInt32 = nI c := by rw [pk_char, pk_tn (by omega), Nat.mod_eq_of_lt hcb]
    refine g_aload_n X dX3_charAt_0 rfl rfl ?_
    refine g_iconst (v := 0) X dX3_charAt_1 rfl ?_
    refine pf_20_8 X dX3_charAt_2 fl_X3_45 (by repeat (first | with_reducible exact Rp.here | with_reducible apply Rp.there)) rfl rfl ?_
    refine g_iload_n X dX3_charAt_5 rfl rfl ?_
    refine g_i2l X dX3_charAt_6 rfl ?_
    refine g_lconst (v := 0) X dX3_charAt_7 rfl ?_
    refine g_aload_n X dX3_charAt_8 rfl rfl ?_
    refine g_getf X dX3_charAt_9 fl_X3_200 (by repeat (first | with_reducible exact Pk.here | with_reducible apply Pk.there)) (by exact rfl) ?_
    refine g_iconst (v := 1) X dX3_charAt_12 rfl ?_
    refine g_isub X dX3_charAt_13 ?_
    refine g_i2l X dX3_charAt_14 rfl ?_
    refine g_callS X dX3_charAt_15 ms_X3_51 (c_X3_in hB) rfl (by repeat (first | with_reducible exact Pks.nil | (with_reducible refine Pks.pure (by assumption) ?_) | (with_reducible apply Pks.cons; focus ((repeat (first | with_reducible exact Pk.here | with_reducible apply Pk.there)); done)) | (refine Pks.cons Pk.here ?_))) rfl rfl (by decide) (by exact Nat.le_of_ble_eq_true rfl) (by first | decide | omega) (fun r w1 hq => ?_) (fun E q w1 hq => hq.elim)
    obtain ⟨rfl, rfl⟩ := hq
    dsimp only [wW, wL, wM, List.cons_append, List.nil_append, Option.toList_some, Option.toList_none]
    rw [show ((0 : Int64) ≤ (nI k).toInt64 ∧ (nI k).toInt64 ≤ (nI L.length - 1).toInt64) = isT L.length (nI k) from propext (isT_iff (by omega)), bP_t h]
    refine g_if_eq (tgt := 31) X dX3_charAt_18 (by decide) (fun c_18 => absurd c_18 (by decide)) (fun c_18 => ?_)
    refine g_aload_n X dX3_charAt_21 rfl rfl ?_
    refine g_getf X dX3_charAt_22 fl_X3_32 (by repeat (first | with_reducible exact Pk.here | with_reducible apply Pk.there)) (by exact rfl) ?_
    refine g_iload_n X dX3_charAt_25 rfl rfl ?_
    refine g_iald (k) X dX3_charAt_26 (by repeat (first | with_reducible exact Pk.here | with_reducible apply Pk.there)) (rfl) (by omega) (by exact hF k c hc) ?_
    refine g_i2c X dX3_charAt_27 rfl ?_
    rw [hch]
    refine g_goto (tgt := 37) X dX3_charAt_28 (by decide) ?_
    exact g_iret X Y dX3_charAt_37 ((pk_charN hcb).1) (⟨0, by rw [hq], rfl, by rw [hq]; rfl⟩) (Pks.tail (rest := _) (by repeat (first | with_reducible exact Pks.nil | (with_reducible refine Pks.pure (by assumption) ?_) | (with_reducible apply Pks.cons; focus ((repeat (first | with_reducible exact Pk.here | with_reducible apply Pk.there)); done)) | (refine Pks.cons Pk.here ?_))))
  · have hq : qChar L i = (1, 65535) := if_neg h
    refine g_aload_n X dX3_charAt_0 rfl rfl ?_
    refine g_iconst (v := 0) X dX3_charAt_1 rfl ?_
    refine pf_20_8 X dX3_charAt_2 fl_X3_45 (by repeat (first | with_reducible exact Rp.here | with_reducible apply Rp.there)) rfl rfl ?_
    refine g_iload_n X dX3_charAt_5 rfl rfl ?_
    refine g_i2l X dX3_charAt_6 rfl ?_
    refine g_lconst (v := 0) X dX3_charAt_7 rfl ?_
    refine g_aload_n X dX3_charAt_8 rfl rfl ?_
    refine g_getf X dX3_charAt_9 fl_X3_200 (by repeat (first | with_reducible exact Pk.here | with_reducible apply Pk.there)) (by exact rfl) ?_
    refine g_iconst (v := 1) X dX3_charAt_12 rfl ?_
    refine g_isub X dX3_charAt_13 ?_
    refine g_i2l X dX3_charAt_14 rfl ?_
    refine g_callS X dX3_charAt_15 ms_X3_51 (c_X3_in hB) rfl (by repeat (first | with_reducible exact Pks.nil | (with_reducible refine Pks.pure (by assumption) ?_) | (with_reducible apply Pks.cons; focus ((repeat (first | with_reducible exact Pk.here | with_reducible apply Pk.there)); done)) | (refine Pks.cons Pk.here ?_))) rfl rfl (by decide) (by exact Nat.le_of_ble_eq_true rfl) (by first | decide | omega) (fun r w1 hq => ?_) (fun E q w1 hq => hq.elim)
    obtain ⟨rfl, rfl⟩ := hq
    dsimp only [wW, wL, wM, List.cons_append, List.nil_append, Option.toList_some, Option.toList_none]
    rw [show ((0 : Int64) ≤ i.toInt64 ∧ i.toInt64 ≤ (nI L.length - 1).toInt64) = isT L.length i from propext (isT_iff (by omega)), bP_f h]
    refine g_if_eq (tgt := 31) X dX3_charAt_18 (by decide) (fun c_18 => ?_) (fun c_18 => absurd (rfl) c_18)
    refine g_aload_n X dX3_charAt_31 rfl rfl ?_
    refine g_iconst (v := 1) X dX3_charAt_32 rfl ?_
    refine g_callV X dX3_charAt_33 mv_X3_75 (c_X3_throwing hB) rfl cl_X3 (by repeat (first | with_reducible exact Rc.pt | with_reducible apply Rc.there)) (by repeat (first | with_reducible exact Pks.nil | (with_reducible refine Pks.pure (by assumption) ?_) | (with_reducible apply Pks.cons; focus ((repeat (first | with_reducible exact Pk.here | with_reducible apply Pk.there)); done)) | (refine Pks.cons Pk.here ?_))) rfl rfl (by decide) (by exact Nat.le_of_ble_eq_true rfl) (by first | decide | omega) (fun r w1 hq => ?_) (fun E q w1 hq => hq.elim)
    obtain ⟨rfl, rfl⟩ := hq
    dsimp only [wW, wL, wM, List.cons_append, List.nil_append, Option.toList_some, Option.toList_none]
    refine g_i2c X dX3_charAt_36 rfl ?_
    exact g_iret X Y dX3_charAt_37 (by decide) (⟨1, by rw [hq]; rfl, rfl, by rw [hq]; rfl⟩) (Pks.tail (rest := _) (by repeat (first | with_reducible exact Pks.nil | (with_reducible refine Pks.pure (by assumption) ?_) | (with_reducible apply Pks.cons; focus ((repeat (first | with_reducible exact Pk.here | with_reducible apply Pk.there)); done)) | (refine Pks.cons Pk.here ?_))))
end MODEL
