/-! THE MODEL: a program read -/
set_option maxRecDepth 100000
abbrev CM : Type := Nat × List Nat
def rdS (T : List Nat) (p : Nat) : Option CM × PS :=
  if likS T p (wdS T p) < lnL (wdS T p) then (none, (p + likS T p (wdS T p), true))
  else (some (wdS T p, (arS T (wdS T p) (p + likS T p (wdS T p), false)).1), (arS T (wdS T p) (p + likS T p (wdS T p), false)).2)
/-- how many numbers a command has -/
def arN (w : Nat) : Nat := [2, 3, 3, 1, 5, 2, 2, 0, 1].getD w 0
theorem arN_b : ∀ w, w < 9 → arN w ≤ 5 := by decide
theorem ar_len {T : List Nat} {s : PS} : ∀ {w : Nat}, w < 9 → (arS T w s).1.length = arN w
  | 0, _ => rfl
  | 1, _ => rfl
  | 2, _ => rfl
  | 3, _ => rfl
  | 4, _ => rfl
  | 5, _ => rfl
  | 6, _ => rfl
  | 7, _ => rfl
  | 8, _ => by
    show (if T[s.1]? = some 32 then _ else _ : List Nat × PS).1.length = 1
    split <;> rfl
  | w + 9, h => absurd h (by omega)
theorem ar_p {T : List Nat} {w : Nat} {s : PS} (hp : s.1 ≤ T.length) : (arS T w s).2.1 ≤ T.length ∧ s.1 ≤ (arS T w s).2.1 := by
  have n_ := fun (s : PS) (h : s.1 ≤ T.length) => nuS_p (T := T) h
  have d_ := fun (s : PS) (h : s.1 ≤ T.length) => dgS_p (T := T) h
  have e_ := fun (c : Nat) (s : PS) (h : s.1 ≤ T.length) => exS_p (T := T) (c := c) h
  have b_ := fun (c : Nat) (s : PS) (h : s.1 ≤ T.length) => nbS_p (T := T) (c := c) h
  unfold arS
  split
  · have h1 := n_ s hp; have h2 := b_ 44 _ h1.1; exact ⟨h2.1, Nat.le_trans h1.2 h2.2⟩
  · have h1 := d_ s hp; have h2 := b_ 32 _ h1.1; have h3 := b_ 64 _ h2.1; exact ⟨h3.1, Nat.le_trans h1.2 (Nat.le_trans h2.2 h3.2)⟩
  · have h1 := d_ s hp; have h2 := b_ 32 _ h1.1; have h3 := b_ 64 _ h2.1; exact ⟨h3.1, Nat.le_trans h1.2 (Nat.le_trans h2.2 h3.2)⟩
  · exact n_ s hp
  · have h1 := d_ s hp; have h2 := e_ 62 _ h1.1; have h3 := d_ _ h2.1; have h4 := b_ 32 _ h3.1; have h5 := b_ 64 _ h4.1; have h6 := b_ 43 _ h5.1
    exact ⟨h6.1, Nat.le_trans h1.2 (Nat.le_trans h2.2 (Nat.le_trans h3.2 (Nat.le_trans h4.2 (Nat.le_trans h5.2 h6.2))))⟩
  · have h1 := d_ s hp; have h2 := b_ 61 _ h1.1; exact ⟨h2.1, Nat.le_trans h1.2 h2.2⟩
  · have h1 := d_ s hp; have h2 := b_ 61 _ h1.1; exact ⟨h2.1, Nat.le_trans h1.2 h2.2⟩
  · split
    · exact b_ 32 s hp
    · exact ⟨hp, Nat.le_refl _⟩
  · exact ⟨hp, Nat.le_refl _⟩
theorem rd_p {T : List Nat} {p : Nat} (hp : p ≤ T.length) : (rdS T p).2.1 ≤ T.length ∧ p ≤ (rdS T p).2.1 ∧ ((rdS T p).2.2 = false → p + 3 ≤ (rdS T p).2.1) ∧ ((rdS T p).1 ≠ none → p + 3 ≤ (rdS T p).2.1) := by
  have hl := likS_b (w := wdS T p) hp
  have hw := (bg_ (wdS T p) (Nat.lt_succ_of_le wdU_b)).2.2
  unfold rdS
  by_cases h : likS T p (wdS T p) < lnL (wdS T p)
  · rw [if_pos h]
    exact ⟨hl.2, Nat.le_add_right _ _, (fun q => nomatch q), (fun q => absurd rfl q)⟩
  · rw [if_neg h]
    have h2 := ar_p (T := T) (w := wdS T p) (s := (p + likS T p (wdS T p), false)) hl.2
    have h3 : p + likS T p (wdS T p) ≤ (arS T (wdS T p) (p + likS T p (wdS T p), false)).2.1 := h2.2
    exact ⟨h2.1, by show p ≤ (arS T (wdS T p) (p + likS T p (wdS T p), false)).2.1; omega, fun _ => by show p + 3 ≤ (arS T (wdS T p) (p + likS T p (wdS T p), false)).2.1; omega, fun _ => by show p + 3 ≤ (arS T (wdS T p) (p + likS T p (wdS T p), false)).2.1; omega⟩
/-- the commands' array holds the commands -/
def EnK (K : Nat → Int32) (L : List CM) : Prop := ∀ k c, L[k]? = some c → K (6 * k) = nI c.1 ∧ EnW K (6 * k + 1) c.2 ∧ c.2.length = arN c.1 ∧ c.1 < 9
theorem EnK.add {K K' : Nat → Int32} {L : List CM} {c : CM} (h : EnK K L) (e : ∀ i, i < 6 * L.length → K' i = K i) (h1 : K' (6 * L.length) = nI c.1) (h2 : EnW K' (6 * L.length + 1) c.2) (h3 : c.2.length = arN c.1) (h4 : c.1 < 9) : EnK K' (L ++ [c]) := by
  intro k d hk
  have hk2 := (List.getElem?_eq_some_iff.mp hk).1
  have hl : (L ++ [c]).length = L.length + 1 := by simp
  by_cases he : k = L.length
  · subst he
    simp only [List.getElem?_concat_length, Option.some.injEq] at hk
    subst hk
    exact ⟨h1, h2, h3, h4⟩
  · rw [List.getElem?_append_left (by omega)] at hk
    obtain ⟨q1, q2, q3, q4⟩ := h k d hk
    refine ⟨(e _ (by omega)).trans q1, fun j x hx => ?_, q3, q4⟩
    have := (List.getElem?_eq_some_iff.mp hx).1
    have := arN_b d.1 q4
    exact (e _ (by omega)).trans (q2 j x hx)
section MODEL
variable {B : Bt} {m : Nat} {ad : Nat → Nat} {sv ch ea fa th pm lm cm p0 s0 iw : Int32} {Q K fL fB : Nat → Int32} {T : List Nat} {s : PS} {L : List CM}
abbrev wCm (m : Nat) (ad : Nat → Nat) (sv ch ea fa th pm lm cm : Int32) (n : Nat) (Q fL fB K : Nat → Int32) (s : PS) : List An := [pt m (mO ad sv ch ea fa th pm lm cm (nI s.1) (nI n) (bI s.2)), pt (ad 4) (oA .int 60 Q), pt (ad 6) (oA .char 47 fL), pt (ad 7) (oA .int 10 fB), pt (ad 8) (oA .int 366 K)]
theorem c_X3_readCommand (hB : Bs B) {p : Nat} {b : Bool} (hQ : EnL Q T) (hT : ∀ c, c ∈ T → c < 65536) (hL : EnL fL LT) (hG : EnL fB BGL) (hl : T.length ≤ 60) (hp : p ≤ T.length) (hK : EnK K L) (hn : L.length ≤ 60) (hc : cm = nI L.length) : Tr B yX3_readCommand (Cond.code yX3_readCommand cX3_readCommand 4 none) (rmd 6 0 0) [.ref m] (wCm m ad sv ch ea fa th pm lm cm T.length Q fL fB K (p, b)) (fun r v => ∃ cm' K', r = none ∧ v = wCm m ad sv ch ea fa th pm lm cm' T.length Q fL fB K' (rdS T p).2 ∧ cm' = nI (L ++ (rdS T p).1.toList).length ∧ EnK K' (L ++ (rdS T p).1.toList)) nox := by
  subst hc
  have hwb : wdS T p ≤ 8 := wdU_b
  have hlk := likS_b (w := wdS T p) hp
  obtain ⟨b1, b2, b3⟩ := bg_ (wdS T p) (by omega)
  have g1 := hG (wdS T p) _ (bg_at (by omega))
  have g2 := hG (wdS T p + 1) _ (bg_at (by omega))
  have hln : lnL (wdS T p) = bgL (wdS T p + 1) - bgL (wdS T p) := rfl
  refine tr_of hB (by decide +kernel) rfl ?_
  intro Γ X Y
  refine g_eq (ls' := [.val (.ref m), .unset, .unset, .unset]) rfl rfl ?_
  have J : ∀ j k, k + j = 8 → G B Γ 0 0 (wCm m ad sv ch ea fa th pm lm (nI L.length) T.length Q fL fB K (p, b)) 12 [.val (.ref m), .val (.int (nI (6 * L.length))), .val (.int (nI (wdU T p k))), .val (.int (nI (k + 1)))] [] := by
    intro j
    induction j with
    | zero =>
      intro k hk
      obtain rfl : k = 8 := by omega
      dsimp only [wCm]
      by_cases h : likS T p (wdS T p) < lnL (wdS T p)
      · have hr : rdS T p = (none, (p + likS T p (wdS T p), true)) := if_pos h
        refine g_iload_n X dX3_readCommand_12 rfl rfl ?_
        refine g_bipush (v := 9) X dX3_readCommand_13 rfl ?_
        refine g_icmp_ge (tgt := 43) X dX3_readCommand_15 (by decide) (fun c_15 => ?_) (fun c_15 => absurd (nI_le (a := 9) (by omega) (by omega)) c_15)
        refine g_aload_n X dX3_readCommand_43 rfl rfl ?_
        refine g_iload_n X dX3_readCommand_44 rfl rfl ?_
        refine g_callV X dX3_readCommand_45 mv_X3_251 (c_X3_likeness hB (s := (p, b)) (w := wdS T p) hQ hT hL hG hl hp (by omega)) rfl cl_X3 (by repeat (first | with_reducible exact Rc.pt | with_reducible apply Rc.there)) (by repeat (first | with_reducible exact Pks.nil | (with_reducible refine Pks.pure (by assumption) ?_) | (with_reducible apply Pks.cons; focus ((repeat (first | with_reducible exact Pk.here | with_reducible apply Pk.there)); done)) | (refine Pks.cons Pk.here ?_))) rfl rfl (by decide) (by exact Nat.le_of_ble_eq_true rfl) (by first | decide | omega) (fun r w1 hq => ?_) (fun E q w1 hq => hq.elim)
        obtain ⟨rfl, rfl⟩ := hq
        dsimp only [wQ, wK, wAr, wCm, List.cons_append, List.nil_append, Option.toList_some, Option.toList_none]
        refine is_4_3n X dX3_readCommand_48 rfl rfl ?_
        refine g_aload_n X dX3_readCommand_49 rfl rfl ?_
        refine g_dup X dX3_readCommand_50 rfl ?_
        refine g_getf X dX3_readCommand_51 fl_X3_219 (by repeat (first | with_reducible exact Pk.here | with_reducible apply Pk.there)) (by exact rfl) ?_
        refine g_iload_n X dX3_readCommand_54 rfl rfl ?_
        refine g_iadd X dX3_readCommand_55 ?_
        rw [nI_add]
        refine pf_20_17 X dX3_readCommand_56 fl_X3_219 (by repeat (first | with_reducible exact Rp.here | with_reducible apply Rp.there)) rfl rfl ?_
        refine g_aload_n X dX3_readCommand_59 rfl rfl ?_
        refine g_iload_n X dX3_readCommand_60 rfl rfl ?_
        refine g_aload_n X dX3_readCommand_61 rfl rfl ?_
        refine g_getf X dX3_readCommand_62 fl_X3_39 (by repeat (first | with_reducible exact Pk.here | with_reducible apply Pk.there)) (by exact rfl) ?_
        refine g_iload_n X dX3_readCommand_65 rfl rfl ?_
        refine g_iconst (v := 1) X dX3_readCommand_66 rfl ?_
        refine g_iadd X dX3_readCommand_67 ?_
        rw [nI_1]
        refine g_iald (wdS T p + 1) X dX3_readCommand_68 (by repeat (first | with_reducible exact Pk.here | with_reducible apply Pk.there)) (rfl) (by omega) (by exact g2) ?_
        refine g_aload_n X dX3_readCommand_69 rfl rfl ?_
        refine g_getf X dX3_readCommand_70 fl_X3_39 (by repeat (first | with_reducible exact Pk.here | with_reducible apply Pk.there)) (by exact rfl) ?_
        refine g_iload_n X dX3_readCommand_73 rfl rfl ?_
        refine g_iald (wdS T p) X dX3_readCommand_74 (by repeat (first | with_reducible exact Pk.here | with_reducible apply Pk.there)) (rfl) (by omega) (by exact g1) ?_
        refine g_isub X dX3_readCommand_75 ?_
        rw [pk_sub b1, ← hln]
        refine g_icmp_ge (tgt := 83) X dX3_readCommand_76 (by decide) (fun c_76 => absurd c_76 (nI_ge h (by omega))) (fun c_76 => ?_)
        refine g_iconst (v := 1) X dX3_readCommand_79 rfl ?_
        rw [show (1 : Int32) = bI true from rfl]
        refine g_goto (tgt := 84) X dX3_readCommand_80 (by decide) ?_
        refine pf_20_19 X dX3_readCommand_84 fl_X3_225 (by repeat (first | with_reducible exact Rp.here | with_reducible apply Rp.there)) rfl rfl ?_
        refine g_aload_n X dX3_readCommand_87 rfl rfl ?_
        refine g_getf X dX3_readCommand_88 fl_X3_225 (by repeat (first | with_reducible exact Pk.here | with_reducible apply Pk.there)) (by exact rfl) ?_
        refine g_if_ne (tgt := 119) X dX3_readCommand_91 (by decide) (fun c_91 => ?_) (fun c_91 => absurd c_91 (by decide))
        exact g_vret X Y dX3_readCommand_119 (⟨nI L.length, K, rfl, by rw [hr], by rw [hr]; simp, by rw [hr]; simpa using hK⟩) (Pks.tail (rest := _) (by repeat (first | with_reducible exact Pks.nil | (with_reducible refine Pks.pure (by assumption) ?_) | (with_reducible apply Pks.cons; focus ((repeat (first | with_reducible exact Pk.here | with_reducible apply Pk.there)); done)) | (refine Pks.cons Pk.here ?_))))
      · have hr : rdS T p = (some (wdS T p, (arS T (wdS T p) (p + likS T p (wdS T p), false)).1), (arS T (wdS T p) (p + likS T p (wdS T p), false)).2) := if_neg h
        refine g_iload_n X dX3_readCommand_12 rfl rfl ?_
        refine g_bipush (v := 9) X dX3_readCommand_13 rfl ?_
        refine g_icmp_ge (tgt := 43) X dX3_readCommand_15 (by decide) (fun c_15 => ?_) (fun c_15 => absurd (nI_le (a := 9) (by omega) (by omega)) c_15)
        refine g_aload_n X dX3_readCommand_43 rfl rfl ?_
        refine g_iload_n X dX3_readCommand_44 rfl rfl ?_
        refine g_callV X dX3_readCommand_45 mv_X3_251 (c_X3_likeness hB (s := (p, b)) (w := wdS T p) hQ hT hL hG hl hp (by omega)) rfl cl_X3 (by repeat (first | with_reducible exact Rc.pt | with_reducible apply Rc.there)) (by repeat (first | with_reducible exact Pks.nil | (with_reducible refine Pks.pure (by assumption) ?_) | (with_reducible apply Pks.cons; focus ((repeat (first | with_reducible exact Pk.here | with_reducible apply Pk.there)); done)) | (refine Pks.cons Pk.here ?_))) rfl rfl (by decide) (by exact Nat.le_of_ble_eq_true rfl) (by first | decide | omega) (fun r w1 hq => ?_) (fun E q w1 hq => hq.elim)
        obtain ⟨rfl, rfl⟩ := hq
        dsimp only [wQ, wK, wAr, wCm, List.cons_append, List.nil_append, Option.toList_some, Option.toList_none]
        refine is_4_3n X dX3_readCommand_48 rfl rfl ?_
        refine g_aload_n X dX3_readCommand_49 rfl rfl ?_
        refine g_dup X dX3_readCommand_50 rfl ?_
        refine g_getf X dX3_readCommand_51 fl_X3_219 (by repeat (first | with_reducible exact Pk.here | with_reducible apply Pk.there)) (by exact rfl) ?_
        refine g_iload_n X dX3_readCommand_54 rfl rfl ?_
        refine g_iadd X dX3_readCommand_55 ?_
        rw [nI_add]
        refine pf_20_17 X dX3_readCommand_56 fl_X3_219 (by repeat (first | with_reducible exact Rp.here | with_reducible apply Rp.there)) rfl rfl ?_
        refine g_aload_n X dX3_readCommand_59 rfl rfl ?_
        refine g_iload_n X dX3_readCommand_60 rfl rfl ?_
        refine g_aload_n X dX3_readCommand_61 rfl rfl ?_
        refine g_getf X dX3_readCommand_62 fl_X3_39 (by repeat (first | with_reducible exact Pk.here | with_reducible apply Pk.there)) (by exact rfl) ?_
        refine g_iload_n X dX3_readCommand_65 rfl rfl ?_
        refine g_iconst (v := 1) X dX3_readCommand_66 rfl ?_
        refine g_iadd X dX3_readCommand_67 ?_
        rw [nI_1]
        refine g_iald (wdS T p + 1) X dX3_readCommand_68 (by repeat (first | with_reducible exact Pk.here | with_reducible apply Pk.there)) (rfl) (by omega) (by exact g2) ?_
        refine g_aload_n X dX3_readCommand_69 rfl rfl ?_
        refine g_getf X dX3_readCommand_70 fl_X3_39 (by repeat (first | with_reducible exact Pk.here | with_reducible apply Pk.there)) (by exact rfl) ?_
        refine g_iload_n X dX3_readCommand_73 rfl rfl ?_
        refine g_iald (wdS T p) X dX3_readCommand_74 (by repeat (first | with_reducible exact Pk.here | with_reducible apply Pk.there)) (rfl) (by omega) (by exact g1) ?_
        refine g_isub X dX3_readCommand_75 ?_
        rw [pk_sub b1, ← hln]
        refine g_icmp_ge (tgt := 83) X dX3_readCommand_76 (by decide) (fun c_76 => ?_) (fun c_76 => absurd (nI_le (by omega) (by omega)) c_76)
        refine g_iconst (v := 0) X dX3_readCommand_83 rfl ?_
        rw [show (0 : Int32) = bI false from rfl]
        refine pf_20_19 X dX3_readCommand_84 fl_X3_225 (by repeat (first | with_reducible exact Rp.here | with_reducible apply Rp.there)) rfl rfl ?_
        refine g_aload_n X dX3_readCommand_87 rfl rfl ?_
        refine g_getf X dX3_readCommand_88 fl_X3_225 (by repeat (first | with_reducible exact Pk.here | with_reducible apply Pk.there)) (by exact rfl) ?_
        refine g_if_ne (tgt := 119) X dX3_readCommand_91 (by decide) (fun c_91 => absurd c_91 (fun q => q rfl)) (fun c_91 => ?_)
        refine g_aload_n X dX3_readCommand_94 rfl rfl ?_
        refine g_getf X dX3_readCommand_95 fl_X3_42 (by repeat (first | with_reducible exact Pk.here | with_reducible apply Pk.there)) (by exact rfl) ?_
        refine g_iload_n X dX3_readCommand_98 rfl rfl ?_
        refine g_iload_n X dX3_readCommand_99 rfl rfl ?_
        refine g_iast (6 * L.length) X dX3_readCommand_100 (by repeat (first | with_reducible exact Rp.here | with_reducible apply Rp.there)) (rfl) (by omega) ?_
        refine g_aload_n X dX3_readCommand_101 rfl rfl ?_
        refine g_dup X dX3_readCommand_102 rfl ?_
        refine g_getf X dX3_readCommand_103 fl_X3_248 (by repeat (first | with_reducible exact Pk.here | with_reducible apply Pk.there)) (by exact rfl) ?_
        refine g_iconst (v := 1) X dX3_readCommand_106 rfl ?_
        refine g_iadd X dX3_readCommand_107 ?_
        rw [nI_1]
        refine pf_20_16 X dX3_readCommand_108 fl_X3_248 (by repeat (first | with_reducible exact Rp.here | with_reducible apply Rp.there)) rfl rfl ?_
        refine g_aload_n X dX3_readCommand_111 rfl rfl ?_
        refine g_iload_n X dX3_readCommand_112 rfl rfl ?_
        refine g_iload_n X dX3_readCommand_113 rfl rfl ?_
        refine g_iconst (v := 1) X dX3_readCommand_114 rfl ?_
        refine g_iadd X dX3_readCommand_115 ?_
        rw [nI_1]
        refine g_callV X dX3_readCommand_116 mv_X3_254 (c_X3_readArguments hB (s := (p + likS T p (wdS T p), false)) (w := wdS T p) hQ hT hl hlk.2 (by omega) (by omega)) rfl cl_X3 (by repeat (first | with_reducible exact Rc.pt | with_reducible apply Rc.there)) (by repeat (first | with_reducible exact Pks.nil | (with_reducible refine Pks.pure (by assumption) ?_) | (with_reducible apply Pks.cons; focus ((repeat (first | with_reducible exact Pk.here | with_reducible apply Pk.there)); done)) | (refine Pks.cons Pk.here ?_))) rfl rfl (by decide) (by exact Nat.le_of_ble_eq_true rfl) (by first | decide | omega) (fun r w1 hq => ?_) (fun E q w1 hq => hq.elim)
        obtain ⟨K', rfl, rfl, hK1, hK2⟩ := hq
        dsimp only [wQ, wK, wAr, wCm, List.cons_append, List.nil_append, Option.toList_some, Option.toList_none]
        exact g_vret X Y dX3_readCommand_119 (⟨nI (L.length + 1), K', rfl, by rw [hr], by rw [hr]; simp, by rw [hr]; exact hK.add (fun i hi => (hK1 i (by omega)).trans (upd_n (by omega))) ((hK1 _ (by omega)).trans upd_s) hK2 (ar_len (by omega)) (by show wdS T p < 9; omega)⟩) (Pks.tail (rest := _) (by repeat (first | with_reducible exact Pks.nil | (with_reducible refine Pks.pure (by assumption) ?_) | (with_reducible apply Pks.cons; focus ((repeat (first | with_reducible exact Pk.here | with_reducible apply Pk.there)); done)) | (refine Pks.cons Pk.here ?_))))
    | succ j ih =>
      intro k hk
      have hwk := wdU_b (T := T) (p := p) (k := k)
      have h1 := likS_b (w := k + 1) hp
      have h2 := likS_b (w := wdU T p k) hp
      by_cases h : likS T p (wdU T p k) < likS T p (k + 1)
      · have hw : wdU T p (k + 1) = k + 1 := if_pos h
        refine g_iload_n X dX3_readCommand_12 rfl rfl ?_
        refine g_bipush (v := 9) X dX3_readCommand_13 rfl ?_
        refine g_icmp_ge (tgt := 43) X dX3_readCommand_15 (by decide) (fun c_15 => absurd c_15 (nI_ge (b := 9) (by omega) (by omega))) (fun c_15 => ?_)
        refine g_aload_n X dX3_readCommand_18 rfl rfl ?_
        refine g_iload_n X dX3_readCommand_19 rfl rfl ?_
        refine g_callV X dX3_readCommand_20 mv_X3_251 (c_X3_likeness hB (s := (p, b)) hQ hT hL hG hl hp (by omega)) rfl cl_X3 (by repeat (first | with_reducible exact Rc.pt | with_reducible apply Rc.there)) (by repeat (first | with_reducible exact Pks.nil | (with_reducible refine Pks.pure (by assumption) ?_) | (with_reducible apply Pks.cons; focus ((repeat (first | with_reducible exact Pk.here | with_reducible apply Pk.there)); done)) | (refine Pks.cons Pk.here ?_))) rfl rfl (by decide) (by exact Nat.le_of_ble_eq_true rfl) (by first | decide | omega) (fun r w1 hq => ?_) (fun E q w1 hq => hq.elim)
        obtain ⟨rfl, rfl⟩ := hq
        dsimp only [wQ, wK, wAr, wCm, List.cons_append, List.nil_append, Option.toList_some, Option.toList_none]
        refine g_aload_n X dX3_readCommand_23 rfl rfl ?_
        refine g_iload_n X dX3_readCommand_24 rfl rfl ?_
        refine g_callV X dX3_readCommand_25 mv_X3_251 (c_X3_likeness hB (s := (p, b)) hQ hT hL hG hl hp (by omega)) rfl cl_X3 (by repeat (first | with_reducible exact Rc.pt | with_reducible apply Rc.there)) (by repeat (first | with_reducible exact Pks.nil | (with_reducible refine Pks.pure (by assumption) ?_) | (with_reducible apply Pks.cons; focus ((repeat (first | with_reducible exact Pk.here | with_reducible apply Pk.there)); done)) | (refine Pks.cons Pk.here ?_))) rfl rfl (by decide) (by exact Nat.le_of_ble_eq_true rfl) (by first | decide | omega) (fun r w1 hq => ?_) (fun E q w1 hq => hq.elim)
        obtain ⟨rfl, rfl⟩ := hq
        dsimp only [wQ, wK, wAr, wCm, List.cons_append, List.nil_append, Option.toList_some, Option.toList_none]
        refine g_icmp_le (tgt := 35) X dX3_readCommand_28 (by decide) (fun c_28 => absurd c_28 (nI_ge h (by omega))) (fun c_28 => ?_)
        refine g_iload_n X dX3_readCommand_31 rfl rfl ?_
        refine g_goto (tgt := 36) X dX3_readCommand_32 (by decide) ?_
        refine is_4_2n X dX3_readCommand_36 rfl rfl ?_
        refine ii_4_3 (v := nI (k + 1 + 1)) X dX3_readCommand_37 (nI_1 _) rfl ?_
        refine g_goto (tgt := 12) X dX3_readCommand_40 (by decide) ?_
        have h9 := ih (k + 1) (by omega)
        rw [hw] at h9
        exact g_bud (kc' := 0) (ks' := 0) (Nat.zero_le _) (Nat.zero_le _) (g_ent (Pks.tail (rest := _) (by repeat (first | with_reducible exact Pks.nil | (with_reducible refine Pks.pure (by assumption) ?_) | (with_reducible apply Pks.cons; focus ((repeat (first | with_reducible exact Pk.here | with_reducible apply Pk.there)); done)) | (refine Pks.cons Pk.here ?_)))) (h9))
      · have hw : wdU T p (k + 1) = wdU T p k := if_neg h
        refine g_iload_n X dX3_readCommand_12 rfl rfl ?_
        refine g_bipush (v := 9) X dX3_readCommand_13 rfl ?_
        refine g_icmp_ge (tgt := 43) X dX3_readCommand_15 (by decide) (fun c_15 => absurd c_15 (nI_ge (b := 9) (by omega) (by omega))) (fun c_15 => ?_)
        refine g_aload_n X dX3_readCommand_18 rfl rfl ?_
        refine g_iload_n X dX3_readCommand_19 rfl rfl ?_
        refine g_callV X dX3_readCommand_20 mv_X3_251 (c_X3_likeness hB (s := (p, b)) hQ hT hL hG hl hp (by omega)) rfl cl_X3 (by repeat (first | with_reducible exact Rc.pt | with_reducible apply Rc.there)) (by repeat (first | with_reducible exact Pks.nil | (with_reducible refine Pks.pure (by assumption) ?_) | (with_reducible apply Pks.cons; focus ((repeat (first | with_reducible exact Pk.here | with_reducible apply Pk.there)); done)) | (refine Pks.cons Pk.here ?_))) rfl rfl (by decide) (by exact Nat.le_of_ble_eq_true rfl) (by first | decide | omega) (fun r w1 hq => ?_) (fun E q w1 hq => hq.elim)
        obtain ⟨rfl, rfl⟩ := hq
        dsimp only [wQ, wK, wAr, wCm, List.cons_append, List.nil_append, Option.toList_some, Option.toList_none]
        refine g_aload_n X dX3_readCommand_23 rfl rfl ?_
        refine g_iload_n X dX3_readCommand_24 rfl rfl ?_
        refine g_callV X dX3_readCommand_25 mv_X3_251 (c_X3_likeness hB (s := (p, b)) hQ hT hL hG hl hp (by omega)) rfl cl_X3 (by repeat (first | with_reducible exact Rc.pt | with_reducible apply Rc.there)) (by repeat (first | with_reducible exact Pks.nil | (with_reducible refine Pks.pure (by assumption) ?_) | (with_reducible apply Pks.cons; focus ((repeat (first | with_reducible exact Pk.here | with_reducible apply Pk.there)); done)) | (refine Pks.cons Pk.here ?_))) rfl rfl (by decide) (by exact Nat.le_of_ble_eq_true rfl) (by first | decide | omega) (fun r w1 hq => ?_) (fun E q w1 hq => hq.elim)
        obtain ⟨rfl, rfl⟩ := hq
        dsimp only [wQ, wK, wAr, wCm, List.cons_append, List.nil_append, Option.toList_some, Option.toList_none]
        refine g_icmp_le (tgt := 35) X dX3_readCommand_28 (by decide) (fun c_28 => ?_) (fun c_28 => absurd (nI_le (by omega) (by omega)) c_28)
        refine g_iload_n X dX3_readCommand_35 rfl rfl ?_
        refine is_4_2n X dX3_readCommand_36 rfl rfl ?_
        refine ii_4_3 (v := nI (k + 1 + 1)) X dX3_readCommand_37 (nI_1 _) rfl ?_
        refine g_goto (tgt := 12) X dX3_readCommand_40 (by decide) ?_
        have h9 := ih (k + 1) (by omega)
        rw [hw] at h9
        exact g_bud (kc' := 0) (ks' := 0) (Nat.zero_le _) (Nat.zero_le _) (g_ent (Pks.tail (rest := _) (by repeat (first | with_reducible exact Pks.nil | (with_reducible refine Pks.pure (by assumption) ?_) | (with_reducible apply Pks.cons; focus ((repeat (first | with_reducible exact Pk.here | with_reducible apply Pk.there)); done)) | (refine Pks.cons Pk.here ?_)))) (h9))
  refine g_bipush (v := 6) X dX3_readCommand_0 rfl ?_
  refine g_aload_n X dX3_readCommand_2 rfl rfl ?_
  refine g_getf X dX3_readCommand_3 fl_X3_248 (by repeat (first | with_reducible exact Pk.here | with_reducible apply Pk.there)) (by exact rfl) ?_
  refine g_imul X dX3_readCommand_6 ?_
  rw [show (6 : Int32) = nI 6 by decide, pk_mul]
  refine is_4_1n X dX3_readCommand_7 rfl rfl ?_
  refine g_iconst (v := 0) X dX3_readCommand_8 rfl ?_
  refine is_4_2n X dX3_readCommand_9 rfl rfl ?_
  refine g_iconst (v := 1) X dX3_readCommand_10 rfl ?_
  refine is_4_3n X dX3_readCommand_11 rfl rfl ?_
  exact J 8 0 rfl
end MODEL
