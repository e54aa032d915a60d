/-! THE MODEL: commands read -/
set_option maxRecDepth 100000
/-- the commands' words, where each begins -/
def LT : List Nat := [116, 114, 97, 100, 101, 114, 32, 98, 117, 121, 32, 115, 101, 108, 108, 32, 99, 97, 110, 99, 101, 108, 32, 97, 103, 114, 101, 101, 32, 111, 112, 101, 110, 32, 115, 101, 97, 108, 32, 99, 108, 111, 115, 101, 100, 97, 121]
def BGL : List Nat := [0, 7, 11, 16, 23, 29, 34, 39, 44, 47]
abbrev bgL (w : Nat) : Nat := BGL.getD w 0
def lnL (w : Nat) : Nat := bgL (w + 1) - bgL w
theorem bg_ : ∀ w, w < 9 → bgL w ≤ bgL (w + 1) ∧ bgL (w + 1) ≤ 47 ∧ 3 ≤ lnL w := by decide
theorem bg_at {w : Nat} (h : w < 10) : BGL[w]? = some (bgL w) := by
  have : w < BGL.length := h
  rw [bgL, List.getD_eq_getElem?_getD, List.getElem?_eq_getElem this]; rfl
theorem lt_at {w : Nat} (h : w < 47) : LT[w]? = some (LT.getD w 0) := by
  have : w < LT.length := h
  rw [List.getD_eq_getElem?_getD, List.getElem?_eq_getElem this]; rfl
theorem lt_b : ∀ w, w < 47 → LT.getD w 0 < 128 := by decide
def lkU (T : List Nat) (p b : Nat) : Nat → Nat → Nat
  | 0, n => n
  | f + 1, n => if T[p + n]? = some (LT.getD (b + n) 0) then lkU T p b f (n + 1) else n
/-- how many characters of a word are there -/
def likS (T : List Nat) (p w : Nat) : Nat := lkU T p (bgL w) (lnL w) 0
theorem lkU_b {T : List Nat} {p b : Nat} : ∀ {f n : Nat}, p + n ≤ T.length → lkU T p b f n ≤ f + n ∧ p + lkU T p b f n ≤ T.length
  | 0, n, h => ⟨by show n ≤ _; omega, h⟩
  | f + 1, n, h => by
    unfold lkU
    by_cases hc : T[p + n]? = some (LT.getD (b + n) 0)
    · rw [if_pos hc]
      have := (List.getElem?_eq_some_iff.mp hc).1
      obtain ⟨h1, h2⟩ := lkU_b (T := T) (p := p) (b := b) (f := f) (n := n + 1) (by omega)
      exact ⟨by omega, h2⟩
    · rw [if_neg hc]; exact ⟨by omega, h⟩
theorem likS_b {T : List Nat} {p w : Nat} (h : p ≤ T.length) : likS T p w ≤ lnL w ∧ p + likS T p w ≤ T.length := lkU_b (n := 0) h
def wdU (T : List Nat) (p : Nat) : Nat → Nat
  | 0 => 0
  | k + 1 => if likS T p (wdU T p k) < likS T p (k + 1) then k + 1 else wdU T p k
theorem wdU_b {T : List Nat} {p : Nat} : ∀ {k : Nat}, wdU T p k ≤ k
  | 0 => Nat.le_refl _
  | k + 1 => by
    unfold wdU
    have := wdU_b (T := T) (p := p) (k := k)
    split <;> omega
/-- the word that a command is read as -/
abbrev wdS (T : List Nat) (p : Nat) : Nat := wdU T p 8
def arS (T : List Nat) (w : Nat) (s : PS) : List Nat × PS := match w with
  | 0 => ([] ++ [(nuS T s).1] ++ [(nbS T 44 (nuS T s).2).1], (nbS T 44 (nuS T s).2).2)
  | 1 => ([] ++ [(dgS T s).1] ++ [(nbS T 32 (dgS T s).2).1] ++ [(nbS T 64 (nbS T 32 (dgS T s).2).2).1], (nbS T 64 (nbS T 32 (dgS T s).2).2).2)
  | 2 => ([] ++ [(dgS T s).1] ++ [(nbS T 32 (dgS T s).2).1] ++ [(nbS T 64 (nbS T 32 (dgS T s).2).2).1], (nbS T 64 (nbS T 32 (dgS T s).2).2).2)
  | 3 => ([] ++ [(nuS T s).1], (nuS T s).2)
  | 4 => ([] ++ [(dgS T s).1] ++ [(dgS T (exS T 62 (dgS T s).2)).1] ++ [(nbS T 32 (dgS T (exS T 62 (dgS T s).2)).2).1] ++ [(nbS T 64 (nbS T 32 (dgS T (exS T 62 (dgS T s).2)).2).2).1] ++ [(nbS T 43 (nbS T 64 (nbS T 32 (dgS T (exS T 62 (dgS T s).2)).2).2).2).1], (nbS T 43 (nbS T 64 (nbS T 32 (dgS T (exS T 62 (dgS T s).2)).2).2).2).2)
  | 5 => ([] ++ [(dgS T s).1] ++ [(nbS T 61 (dgS T s).2).1], (nbS T 61 (dgS T s).2).2)
  | 6 => ([] ++ [(dgS T s).1] ++ [(nbS T 61 (dgS T s).2).1], (nbS T 61 (dgS T s).2).2)
  | 8 => if T[s.1]? = some 32 then ([] ++ [(nbS T 32 s).1], (nbS T 32 s).2) else ([] ++ [1], s)
  | _ => ([], s)
/-- numbers from a place of an array on -/
def EnW (K : Nat → Int32) (a : Nat) (l : List Nat) : Prop := ∀ j c, l[j]? = some c → K (a + j) = nI c
theorem EnW.nil {K : Nat → Int32} {a : Nat} : EnW K a [] := fun j c h => by simp at h
theorem EnW.add {K : Nat → Int32} {a c : Nat} {l : List Nat} (h : EnW K a l) : EnW (upd K (a + l.length) (nI c)) a (l ++ [c]) := by
  intro j d hj
  have hj2 := (List.getElem?_eq_some_iff.mp hj).1
  have hl : (l ++ [c]).length = l.length + 1 := by simp
  by_cases he : j = l.length
  · subst he
    simp only [List.getElem?_concat_length, Option.some.injEq] at hj
    subst hj
    exact upd_s
  · rw [List.getElem?_append_left (by omega)] at hj
    rw [upd_n (by omega)]
    exact h j d hj
section MODEL
variable {B : Bt} {m : Nat} {ad : Nat → Nat} {sv ch ea fa th pm lm cm p0 s0 iw : Int32} {Q K fL fB : Nat → Int32} {T : List Nat} {s : PS}
abbrev wK (m : Nat) (ad : Nat → Nat) (sv ch ea fa th pm lm cm : Int32) (n : Nat) (Q fL fB : Nat → Int32) (s : PS) : List An := [pt m (mO ad sv ch ea fa th pm lm cm (nI s.1) (nI n) (bI s.2)), pt (ad 4) (oA .int 60 Q), pt (ad 6) (oA .char 47 fL), pt (ad 7) (oA .int 10 fB)]
abbrev wAr (m : Nat) (ad : Nat → Nat) (sv ch ea fa th pm lm cm : Int32) (n : Nat) (Q K : Nat → Int32) (s : PS) : List An := [pt m (mO ad sv ch ea fa th pm lm cm (nI s.1) (nI n) (bI s.2)), pt (ad 4) (oA .int 60 Q), pt (ad 8) (oA .int 366 K)]
theorem c_X3_likeness (hB : Bs B) {w : Nat} (hQ : EnL Q T) (hT : ∀ c, c ∈ T → c < 65536) (hL : EnL fL LT) (hG : EnL fB BGL) (hl : T.length ≤ 60) (hp : s.1 ≤ T.length) (hw : w < 9) : Tr B yX3_likeness (Cond.code yX3_likeness cX3_likeness 4 (some .int)) (rmd 1 0 0) [.ref m, .int (nI w)] (wK m ad sv ch ea fa th pm lm cm T.length Q fL fB s) (fun r v => r = some (.int (nI (likS T s.1 w))) ∧ v = wK m ad sv ch ea fa th pm lm cm T.length Q fL fB s) nox := by
  obtain ⟨b1, b2, b3⟩ := bg_ w hw
  have hln : lnL w = bgL (w + 1) - bgL w := rfl
  have g1 := hG w _ (bg_at (by omega))
  have g2 := hG (w + 1) _ (bg_at (by omega))
  refine tr_of hB (by decide +kernel) rfl ?_
  intro Γ X Y
  refine g_eq (ls' := [.val (.ref m), .val (.int (nI w)), .unset, .unset]) rfl rfl ?_
  have J : ∀ f n, n + f = lnL w → s.1 + n ≤ T.length → lkU T s.1 (bgL w) f n = likS T s.1 w → G B Γ 0 0 (wK m ad sv ch ea fa th pm lm cm T.length Q fL fB s) 18 [.val (.ref m), .val (.int (nI w)), .val (.int (nI n)), .val (.int (nI (lnL w)))] [] := by
    intro f
    induction f with
    | zero =>
      intro n hn hpn he
      have he2 : n = likS T s.1 w := he
      refine g_iload_n X dX3_likeness_18 rfl rfl ?_
      refine g_iload_n X dX3_likeness_19 rfl rfl ?_
      refine g_icmp_ge (tgt := 69) X dX3_likeness_20 (by decide) (fun c_20 => ?_) (fun c_20 => absurd (nI_le (by omega) (by omega)) c_20)
      refine g_iload_n X dX3_likeness_69 rfl rfl ?_
      exact g_iret X Y dX3_likeness_70 (rfl) (⟨by rw [he2], rfl⟩) (Pks.tail (rest := _) (by repeat (first | with_reducible exact Pks.nil | (with_reducible refine Pks.pure (by assumption) ?_) | (with_reducible apply Pks.cons; focus ((repeat (first | with_reducible exact Pk.here | with_reducible apply Pk.there)); done)) | (refine Pks.cons Pk.here ?_))))
    | succ f ih =>
      intro n hn hpn he
      by_cases h1 : s.1 + n < T.length
      · obtain ⟨c, hc⟩ : ∃ c, T[s.1 + n]? = some c := ⟨_, List.getElem?_eq_getElem h1⟩
        have hcb := hT c (List.mem_of_getElem? hc)
        have hlb := lt_b (bgL w + n) (by omega)
        by_cases h2 : c = LT.getD (bgL w + n) 0
        · have he2 : lkU T s.1 (bgL w) f (n + 1) = likS T s.1 w := (if_pos (by rw [hc, h2])).symm.trans he
          refine g_iload_n X dX3_likeness_18 rfl rfl ?_
          refine g_iload_n X dX3_likeness_19 rfl rfl ?_
          refine g_icmp_ge (tgt := 69) X dX3_likeness_20 (by decide) (fun c_20 => absurd c_20 (nI_ge (by omega) (by omega))) (fun c_20 => ?_)
          refine g_aload_n X dX3_likeness_23 rfl rfl ?_
          refine g_getf X dX3_likeness_24 fl_X3_219 (by repeat (first | with_reducible exact Pk.here | with_reducible apply Pk.there)) (by exact rfl) ?_
          refine g_iload_n X dX3_likeness_27 rfl rfl ?_
          refine g_iadd X dX3_likeness_28 ?_
          rw [nI_add]
          refine g_aload_n X dX3_likeness_29 rfl rfl ?_
          refine g_getf X dX3_likeness_30 fl_X3_222 (by repeat (first | with_reducible exact Pk.here | with_reducible apply Pk.there)) (by exact rfl) ?_
          refine g_icmp_ge (tgt := 69) X dX3_likeness_33 (by decide) (fun c_33 => absurd c_33 (nI_ge h1 (by omega))) (fun c_33 => ?_)
          refine g_aload_n X dX3_likeness_36 rfl rfl ?_
          refine g_getf X dX3_likeness_37 fl_X3_29 (by repeat (first | with_reducible exact Pk.here | with_reducible apply Pk.there)) (by exact rfl) ?_
          refine g_aload_n X dX3_likeness_40 rfl rfl ?_
          refine g_getf X dX3_likeness_41 fl_X3_219 (by repeat (first | with_reducible exact Pk.here | with_reducible apply Pk.there)) (by exact rfl) ?_
          refine g_iload_n X dX3_likeness_44 rfl rfl ?_
          refine g_iadd X dX3_likeness_45 ?_
          rw [nI_add]
          refine g_iald (s.1 + n) X dX3_likeness_46 (by repeat (first | with_reducible exact Pk.here | with_reducible apply Pk.there)) (rfl) (by omega) (by exact hQ _ c hc) ?_
          refine g_aload_n X dX3_likeness_47 rfl rfl ?_
          refine g_getf X dX3_likeness_48 fl_X3_35 (by repeat (first | with_reducible exact Pk.here | with_reducible apply Pk.there)) (by exact rfl) ?_
          refine g_aload_n X dX3_likeness_51 rfl rfl ?_
          refine g_getf X dX3_likeness_52 fl_X3_39 (by repeat (first | with_reducible exact Pk.here | with_reducible apply Pk.there)) (by exact rfl) ?_
          refine g_iload_n X dX3_likeness_55 rfl rfl ?_
          refine g_iald (w) X dX3_likeness_56 (by repeat (first | with_reducible exact Pk.here | with_reducible apply Pk.there)) (rfl) (by omega) (by exact g1) ?_
          refine g_iload_n X dX3_likeness_57 rfl rfl ?_
          refine g_iadd X dX3_likeness_58 ?_
          rw [nI_add]
          refine g_cald (bgL w + n) X dX3_likeness_59 (by repeat (first | with_reducible exact Pk.here | with_reducible apply Pk.there)) (rfl) (by omega) (by exact hL _ _ (lt_at (by omega))) ?_
          refine g_icmp_ne (tgt := 69) X dX3_likeness_60 (by decide) (fun c_60 => absurd c_60 (fun q => q (by rw [h2]))) (fun c_60 => ?_)
          refine ii_4_2 (v := nI (n + 1)) X dX3_likeness_63 (nI_1 n) rfl ?_
          refine g_goto (tgt := 18) X dX3_likeness_66 (by decide) ?_
          exact ih (n + 1) (by omega) (by omega) he2
        · have he2 : n = likS T s.1 w := (if_neg (by rw [hc]; exact fun q => h2 (Option.some.inj q))).symm.trans he
          refine g_iload_n X dX3_likeness_18 rfl rfl ?_
          refine g_iload_n X dX3_likeness_19 rfl rfl ?_
          refine g_icmp_ge (tgt := 69) X dX3_likeness_20 (by decide) (fun c_20 => absurd c_20 (nI_ge (by omega) (by omega))) (fun c_20 => ?_)
          refine g_aload_n X dX3_likeness_23 rfl rfl ?_
          refine g_getf X dX3_likeness_24 fl_X3_219 (by repeat (first | with_reducible exact Pk.here | with_reducible apply Pk.there)) (by exact rfl) ?_
          refine g_iload_n X dX3_likeness_27 rfl rfl ?_
          refine g_iadd X dX3_likeness_28 ?_
          rw [nI_add]
          refine g_aload_n X dX3_likeness_29 rfl rfl ?_
          refine g_getf X dX3_likeness_30 fl_X3_222 (by repeat (first | with_reducible exact Pk.here | with_reducible apply Pk.there)) (by exact rfl) ?_
          refine g_icmp_ge (tgt := 69) X dX3_likeness_33 (by decide) (fun c_33 => absurd c_33 (nI_ge h1 (by omega))) (fun c_33 => ?_)
          refine g_aload_n X dX3_likeness_36 rfl rfl ?_
          refine g_getf X dX3_likeness_37 fl_X3_29 (by repeat (first | with_reducible exact Pk.here | with_reducible apply Pk.there)) (by exact rfl) ?_
          refine g_aload_n X dX3_likeness_40 rfl rfl ?_
          refine g_getf X dX3_likeness_41 fl_X3_219 (by repeat (first | with_reducible exact Pk.here | with_reducible apply Pk.there)) (by exact rfl) ?_
          refine g_iload_n X dX3_likeness_44 rfl rfl ?_
          refine g_iadd X dX3_likeness_45 ?_
          rw [nI_add]
          refine g_iald (s.1 + n) X dX3_likeness_46 (by repeat (first | with_reducible exact Pk.here | with_reducible apply Pk.there)) (rfl) (by omega) (by exact hQ _ c hc) ?_
          refine g_aload_n X dX3_likeness_47 rfl rfl ?_
          refine g_getf X dX3_likeness_48 fl_X3_35 (by repeat (first | with_reducible exact Pk.here | with_reducible apply Pk.there)) (by exact rfl) ?_
          refine g_aload_n X dX3_likeness_51 rfl rfl ?_
          refine g_getf X dX3_likeness_52 fl_X3_39 (by repeat (first | with_reducible exact Pk.here | with_reducible apply Pk.there)) (by exact rfl) ?_
          refine g_iload_n X dX3_likeness_55 rfl rfl ?_
          refine g_iald (w) X dX3_likeness_56 (by repeat (first | with_reducible exact Pk.here | with_reducible apply Pk.there)) (rfl) (by omega) (by exact g1) ?_
          refine g_iload_n X dX3_likeness_57 rfl rfl ?_
          refine g_iadd X dX3_likeness_58 ?_
          rw [nI_add]
          refine g_cald (bgL w + n) X dX3_likeness_59 (by repeat (first | with_reducible exact Pk.here | with_reducible apply Pk.there)) (rfl) (by omega) (by exact hL _ _ (lt_at (by omega))) ?_
          refine g_icmp_ne (tgt := 69) X dX3_likeness_60 (by decide) (fun c_60 => ?_) (fun c_60 => absurd c_60 (fun q => h2 (nI_inj (by omega) (by omega) q)))
          refine g_iload_n X dX3_likeness_69 rfl rfl ?_
          exact g_iret X Y dX3_likeness_70 (rfl) (⟨by rw [he2], rfl⟩) (Pks.tail (rest := _) (by repeat (first | with_reducible exact Pks.nil | (with_reducible refine Pks.pure (by assumption) ?_) | (with_reducible apply Pks.cons; focus ((repeat (first | with_reducible exact Pk.here | with_reducible apply Pk.there)); done)) | (refine Pks.cons Pk.here ?_))))
      · have he2 : n = likS T s.1 w := (if_neg (by rw [List.getElem?_eq_none (by omega)]; exact fun q => nomatch q)).symm.trans he
        refine g_iload_n X dX3_likeness_18 rfl rfl ?_
        refine g_iload_n X dX3_likeness_19 rfl rfl ?_
        refine g_icmp_ge (tgt := 69) X dX3_likeness_20 (by decide) (fun c_20 => absurd c_20 (nI_ge (by omega) (by omega))) (fun c_20 => ?_)
        refine g_aload_n X dX3_likeness_23 rfl rfl ?_
        refine g_getf X dX3_likeness_24 fl_X3_219 (by repeat (first | with_reducible exact Pk.here | with_reducible apply Pk.there)) (by exact rfl) ?_
        refine g_iload_n X dX3_likeness_27 rfl rfl ?_
        refine g_iadd X dX3_likeness_28 ?_
        rw [nI_add]
        refine g_aload_n X dX3_likeness_29 rfl rfl ?_
        refine g_getf X dX3_likeness_30 fl_X3_222 (by repeat (first | with_reducible exact Pk.here | with_reducible apply Pk.there)) (by exact rfl) ?_
        refine g_icmp_ge (tgt := 69) X dX3_likeness_33 (by decide) (fun c_33 => ?_) (fun c_33 => absurd (nI_le (by omega) (by omega)) c_33)
        refine g_iload_n X dX3_likeness_69 rfl rfl ?_
        exact g_iret X Y dX3_likeness_70 (rfl) (⟨by rw [he2], rfl⟩) (Pks.tail (rest := _) (by repeat (first | with_reducible exact Pks.nil | (with_reducible refine Pks.pure (by assumption) ?_) | (with_reducible apply Pks.cons; focus ((repeat (first | with_reducible exact Pk.here | with_reducible apply Pk.there)); done)) | (refine Pks.cons Pk.here ?_))))
  refine g_iconst (v := 0) X dX3_likeness_0 rfl ?_
  refine is_4_2n X dX3_likeness_1 rfl rfl ?_
  refine g_aload_n X dX3_likeness_2 rfl rfl ?_
  refine g_getf X dX3_likeness_3 fl_X3_39 (by repeat (first | with_reducible exact Pk.here | with_reducible apply Pk.there)) (by exact rfl) ?_
  refine g_iload_n X dX3_likeness_6 rfl rfl ?_
  refine g_iconst (v := 1) X dX3_likeness_7 rfl ?_
  refine g_iadd X dX3_likeness_8 ?_
  rw [nI_1]
  refine g_iald (w + 1) X dX3_likeness_9 (by repeat (first | with_reducible exact Pk.here | with_reducible apply Pk.there)) (rfl) (by omega) (by exact g2) ?_
  refine g_aload_n X dX3_likeness_10 rfl rfl ?_
  refine g_getf X dX3_likeness_11 fl_X3_39 (by repeat (first | with_reducible exact Pk.here | with_reducible apply Pk.there)) (by exact rfl) ?_
  refine g_iload_n X dX3_likeness_14 rfl rfl ?_
  refine g_iald (w) X dX3_likeness_15 (by repeat (first | with_reducible exact Pk.here | with_reducible apply Pk.there)) (rfl) (by omega) (by exact g1) ?_
  refine g_isub X dX3_likeness_16 ?_
  rw [pk_sub b1, ← hln]
  refine is_4_3n X dX3_likeness_17 rfl rfl ?_
  exact J (lnL w) 0 (by omega) hp rfl
theorem c_X3_readArguments (hB : Bs B) {w t : Nat} (hQ : EnL Q T) (hT : ∀ c, c ∈ T → c < 65536) (hl : T.length ≤ 60) (hp : s.1 ≤ T.length) (hw : w < 9) (ht : t + 5 ≤ 366) : Tr B yX3_readArguments (Cond.code yX3_readArguments cX3_readArguments 3 none) (rmd 5 0 0) [.ref m, .int (nI w), .int (nI t)] (wAr m ad sv ch ea fa th pm lm cm T.length Q K s) (fun r v => ∃ K', r = none ∧ v = wAr m ad sv ch ea fa th pm lm cm T.length Q K' (arS T w s).2 ∧ (∀ i, i < t → K' i = K i) ∧ EnW K' t (arS T w s).1) nox := by
  refine tr_of hB (by decide +kernel) rfl ?_
  intro Γ X Y
  refine g_eq (ls' := [.val (.ref m), .val (.int (nI w)), .val (.int (nI t))]) rfl rfl ?_
  have t0 : w = 0 ∨ w = 1 ∨ w = 2 ∨ w = 3 ∨ w = 4 ∨ w = 5 ∨ w = 6 ∨ w = 7 ∨ w = 8 := by omega
  rcases t0 with rfl | rfl | rfl | rfl | rfl | rfl | rfl | rfl | rfl
  · refine g_iload_n X dX3_readArguments_0 rfl rfl ?_
    refine g_tableIn (off := 51) (tgt := 52) X dX3_readArguments_1 (by decide) (by decide) (by decide) (by decide) ?_
    refine g_aload_n X dX3_readArguments_52 rfl rfl ?_
    refine g_getf X dX3_readArguments_53 fl_X3_42 (by repeat (first | with_reducible exact Pk.here | with_reducible apply Pk.there)) (by exact rfl) ?_
    refine g_iload_n X dX3_readArguments_56 rfl rfl ?_
    refine g_aload_n X dX3_readArguments_57 rfl rfl ?_
    refine g_callV X dX3_readArguments_58 mv_X3_242 (c_X3_number hB hQ hT hl hp) rfl cl_X3 (by repeat (first | with_reducible exact Rc.pt | with_reducible apply Rc.there)) (by repeat (first | with_reducible exact Pks.nil | (with_reducible refine Pks.pure (by assumption) ?_) | (with_reducible apply Pks.cons; focus ((repeat (first | with_reducible exact Pk.here | with_reducible apply Pk.there)); done)) | (refine Pks.cons Pk.here ?_))) rfl rfl (by decide) (by exact Nat.le_of_ble_eq_true rfl) (by first | decide | omega) (fun r w1 hq => ?_) (fun E q w1 hq => hq.elim)
    obtain ⟨rfl, rfl⟩ := hq
    dsimp only [wQ, wK, wAr, List.cons_append, List.nil_append, Option.toList_some, Option.toList_none]
    refine g_iast (t) X dX3_readArguments_61 (by repeat (first | with_reducible exact Rp.here | with_reducible apply Rp.there)) (rfl) (by omega) ?_
    refine g_aload_n X dX3_readArguments_62 rfl rfl ?_
    refine g_getf X dX3_readArguments_63 fl_X3_42 (by repeat (first | with_reducible exact Pk.here | with_reducible apply Pk.there)) (by exact rfl) ?_
    refine g_iload_n X dX3_readArguments_66 rfl rfl ?_
    refine g_iconst (v := 1) X dX3_readArguments_67 rfl ?_
    refine g_iadd X dX3_readArguments_68 ?_
    refine g_aload_n X dX3_readArguments_69 rfl rfl ?_
    refine g_bipush (v := 44) X dX3_readArguments_70 rfl ?_
    refine g_callV X dX3_readArguments_72 mv_X3_245 (c_X3_numberBehind hB (c := 44) hQ hT hl (nuS_p hp).1 (by decide)) rfl cl_X3 (by repeat (first | with_reducible exact Rc.pt | with_reducible apply Rc.there)) (by repeat (first | with_reducible exact Pks.nil | (with_reducible refine Pks.pure (by assumption) ?_) | (with_reducible apply Pks.cons; focus ((repeat (first | with_reducible exact Pk.here | with_reducible apply Pk.there)); done)) | (refine Pks.cons Pk.here ?_))) rfl rfl (by decide) (by exact Nat.le_of_ble_eq_true rfl) (by first | decide | omega) (fun r w1 hq => ?_) (fun E q w1 hq => hq.elim)
    obtain ⟨rfl, rfl⟩ := hq
    dsimp only [wQ, wK, wAr, List.cons_append, List.nil_append, Option.toList_some, Option.toList_none]
    refine g_iast (t + 1) X dX3_readArguments_75 (by repeat (first | with_reducible exact Rp.here | with_reducible apply Rp.there)) (nI_1 t) (by omega) ?_
    refine g_goto (tgt := 261) X dX3_readArguments_76 (by decide) ?_
    have ha : arS T 0 s = ([] ++ [(nuS T s).1] ++ [(nbS T 44 (nuS T s).2).1], (nbS T 44 (nuS T s).2).2) := rfl
    exact g_vret X Y dX3_readArguments_261 (⟨upd (upd K t (nI (nuS T s).1)) (t + 1) (nI (nbS T 44 (nuS T s).2).1), rfl, by rw [ha], fun i hi => by rw [upd_n (by omega), upd_n (by omega)], by rw [ha]; exact (EnW.nil.add).add⟩) (Pks.tail (rest := _) (by repeat (first | with_reducible exact Pks.nil | (with_reducible refine Pks.pure (by assumption) ?_) | (with_reducible apply Pks.cons; focus ((repeat (first | with_reducible exact Pk.here | with_reducible apply Pk.there)); done)) | (refine Pks.cons Pk.here ?_))))
  · refine g_iload_n X dX3_readArguments_0 rfl rfl ?_
    refine g_tableIn (off := 78) (tgt := 79) X dX3_readArguments_1 (by decide) (by decide) (by decide) (by decide) ?_
    refine g_aload_n X dX3_readArguments_79 rfl rfl ?_
    refine g_getf X dX3_readArguments_80 fl_X3_42 (by repeat (first | with_reducible exact Pk.here | with_reducible apply Pk.there)) (by exact rfl) ?_
    refine g_iload_n X dX3_readArguments_83 rfl rfl ?_
    refine g_aload_n X dX3_readArguments_84 rfl rfl ?_
    refine g_callV X dX3_readArguments_85 mv_X3_236 (c_X3_digit hB hQ hT hl hp) rfl cl_X3 (by repeat (first | with_reducible exact Rc.pt | with_reducible apply Rc.there)) (by repeat (first | with_reducible exact Pks.nil | (with_reducible refine Pks.pure (by assumption) ?_) | (with_reducible apply Pks.cons; focus ((repeat (first | with_reducible exact Pk.here | with_reducible apply Pk.there)); done)) | (refine Pks.cons Pk.here ?_))) rfl rfl (by decide) (by exact Nat.le_of_ble_eq_true rfl) (by first | decide | omega) (fun r w1 hq => ?_) (fun E q w1 hq => hq.elim)
    obtain ⟨rfl, rfl⟩ := hq
    dsimp only [wQ, wK, wAr, List.cons_append, List.nil_append, Option.toList_some, Option.toList_none]
    refine g_iast (t) X dX3_readArguments_88 (by repeat (first | with_reducible exact Rp.here | with_reducible apply Rp.there)) (rfl) (by omega) ?_
    refine g_aload_n X dX3_readArguments_89 rfl rfl ?_
    refine g_getf X dX3_readArguments_90 fl_X3_42 (by repeat (first | with_reducible exact Pk.here | with_reducible apply Pk.there)) (by exact rfl) ?_
    refine g_iload_n X dX3_readArguments_93 rfl rfl ?_
    refine g_iconst (v := 1) X dX3_readArguments_94 rfl ?_
    refine g_iadd X dX3_readArguments_95 ?_
    refine g_aload_n X dX3_readArguments_96 rfl rfl ?_
    refine g_bipush (v := 32) X dX3_readArguments_97 rfl ?_
    refine g_callV X dX3_readArguments_99 mv_X3_245 (c_X3_numberBehind hB (c := 32) hQ hT hl (dgS_p hp).1 (by decide)) rfl cl_X3 (by repeat (first | with_reducible exact Rc.pt | with_reducible apply Rc.there)) (by repeat (first | with_reducible exact Pks.nil | (with_reducible refine Pks.pure (by assumption) ?_) | (with_reducible apply Pks.cons; focus ((repeat (first | with_reducible exact Pk.here | with_reducible apply Pk.there)); done)) | (refine Pks.cons Pk.here ?_))) rfl rfl (by decide) (by exact Nat.le_of_ble_eq_true rfl) (by first | decide | omega) (fun r w1 hq => ?_) (fun E q w1 hq => hq.elim)
    obtain ⟨rfl, rfl⟩ := hq
    dsimp only [wQ, wK, wAr, List.cons_append, List.nil_append, Option.toList_some, Option.toList_none]
    refine g_iast (t + 1) X dX3_readArguments_102 (by repeat (first | with_reducible exact Rp.here | with_reducible apply Rp.there)) (nI_1 t) (by omega) ?_
    refine g_aload_n X dX3_readArguments_103 rfl rfl ?_
    refine g_getf X dX3_readArguments_104 fl_X3_42 (by repeat (first | with_reducible exact Pk.here | with_reducible apply Pk.there)) (by exact rfl) ?_
    refine g_iload_n X dX3_readArguments_107 rfl rfl ?_
    refine g_iconst (v := 2) X dX3_readArguments_108 rfl ?_
    refine g_iadd X dX3_readArguments_109 ?_
    refine g_aload_n X dX3_readArguments_110 rfl rfl ?_
    refine g_bipush (v := 64) X dX3_readArguments_111 rfl ?_
    refine g_callV X dX3_readArguments_113 mv_X3_245 (c_X3_numberBehind hB (c := 64) hQ hT hl (nbS_p (dgS_p hp).1).1 (by decide)) rfl cl_X3 (by repeat (first | with_reducible exact Rc.pt | with_reducible apply Rc.there)) (by repeat (first | with_reducible exact Pks.nil | (with_reducible refine Pks.pure (by assumption) ?_) | (with_reducible apply Pks.cons; focus ((repeat (first | with_reducible exact Pk.here | with_reducible apply Pk.there)); done)) | (refine Pks.cons Pk.here ?_))) rfl rfl (by decide) (by exact Nat.le_of_ble_eq_true rfl) (by first | decide | omega) (fun r w1 hq => ?_) (fun E q w1 hq => hq.elim)
    obtain ⟨rfl, rfl⟩ := hq
    dsimp only [wQ, wK, wAr, List.cons_append, List.nil_append, Option.toList_some, Option.toList_none]
    refine g_iast (t + 2) X dX3_readArguments_116 (by repeat (first | with_reducible exact Rp.here | with_reducible apply Rp.there)) (nIp2 t) (by omega) ?_
    refine g_goto (tgt := 261) X dX3_readArguments_117 (by decide) ?_
    have ha : arS T 1 s = ([] ++ [(dgS T s).1] ++ [(nbS T 32 (dgS T s).2).1] ++ [(nbS T 64 (nbS T 32 (dgS T s).2).2).1], (nbS T 64 (nbS T 32 (dgS T s).2).2).2) := rfl
    exact g_vret X Y dX3_readArguments_261 (⟨upd (upd (upd K t (nI (dgS T s).1)) (t + 1) (nI (nbS T 32 (dgS T s).2).1)) (t + 2) (nI (nbS T 64 (nbS T 32 (dgS T s).2).2).1), rfl, by rw [ha], fun i hi => by rw [upd_n (by omega), upd_n (by omega), upd_n (by omega)], by rw [ha]; exact ((EnW.nil.add).add).add⟩) (Pks.tail (rest := _) (by repeat (first | with_reducible exact Pks.nil | (with_reducible refine Pks.pure (by assumption) ?_) | (with_reducible apply Pks.cons; focus ((repeat (first | with_reducible exact Pk.here | with_reducible apply Pk.there)); done)) | (refine Pks.cons Pk.here ?_))))
  · refine g_iload_n X dX3_readArguments_0 rfl rfl ?_
    refine g_tableIn (off := 78) (tgt := 79) X dX3_readArguments_1 (by decide) (by decide) (by decide) (by decide) ?_
    refine g_aload_n X dX3_readArguments_79 rfl rfl ?_
    refine g_getf X dX3_readArguments_80 fl_X3_42 (by repeat (first | with_reducible exact Pk.here | with_reducible apply Pk.there)) (by exact rfl) ?_
    refine g_iload_n X dX3_readArguments_83 rfl rfl ?_
    refine g_aload_n X dX3_readArguments_84 rfl rfl ?_
    refine g_callV X dX3_readArguments_85 mv_X3_236 (c_X3_digit hB hQ hT hl hp) rfl cl_X3 (by repeat (first | with_reducible exact Rc.pt | with_reducible apply Rc.there)) (by repeat (first | with_reducible exact Pks.nil | (with_reducible refine Pks.pure (by assumption) ?_) | (with_reducible apply Pks.cons; focus ((repeat (first | with_reducible exact Pk.here | with_reducible apply Pk.there)); done)) | (refine Pks.cons Pk.here ?_))) rfl rfl (by decide) (by exact Nat.le_of_ble_eq_true rfl) (by first | decide | omega) (fun r w1 hq => ?_) (fun E q w1 hq => hq.elim)
    obtain ⟨rfl, rfl⟩ := hq
    dsimp only [wQ, wK, wAr, List.cons_append, List.nil_append, Option.toList_some, Option.toList_none]
    refine g_iast (t) X dX3_readArguments_88 (by repeat (first | with_reducible exact Rp.here | with_reducible apply Rp.there)) (rfl) (by omega) ?_
    refine g_aload_n X dX3_readArguments_89 rfl rfl ?_
    refine g_getf X dX3_readArguments_90 fl_X3_42 (by repeat (first | with_reducible exact Pk.here | with_reducible apply Pk.there)) (by exact rfl) ?_
    refine g_iload_n X dX3_readArguments_93 rfl rfl ?_
    refine g_iconst (v := 1) X dX3_readArguments_94 rfl ?_
    refine g_iadd X dX3_readArguments_95 ?_
    refine g_aload_n X dX3_readArguments_96 rfl rfl ?_
    refine g_bipush (v := 32) X dX3_readArguments_97 rfl ?_
    refine g_callV X dX3_readArguments_99 mv_X3_245 (c_X3_numberBehind hB (c := 32) hQ hT hl (dgS_p hp).1 (by decide)) rfl cl_X3 (by repeat (first | with_reducible exact Rc.pt | with_reducible apply Rc.there)) (by repeat (first | with_reducible exact Pks.nil | (with_reducible refine Pks.pure (by assumption) ?_) | (with_reducible apply Pks.cons; focus ((repeat (first | with_reducible exact Pk.here | with_reducible apply Pk.there)); done)) | (refine Pks.cons Pk.here ?_))) rfl rfl (by decide) (by exact Nat.le_of_ble_eq_true rfl) (by first | decide | omega) (fun r w1 hq => ?_) (fun E q w1 hq => hq.elim)
    obtain ⟨rfl, rfl⟩ := hq
    dsimp only [wQ, wK, wAr, List.cons_append, List.nil_append, Option.toList_some, Option.toList_none]
    refine g_iast (t + 1) X dX3_readArguments_102 (by repeat (first | with_reducible exact Rp.here | with_reducible apply Rp.there)) (nI_1 t) (by omega) ?_
    refine g_aload_n X dX3_readArguments_103 rfl rfl ?_
    refine g_getf X dX3_readArguments_104 fl_X3_42 (by repeat (first | with_reducible exact Pk.here | with_reducible apply Pk.there)) (by exact rfl) ?_
    refine g_iload_n X dX3_readArguments_107 rfl rfl ?_
    refine g_iconst (v := 2) X dX3_readArguments_108 rfl ?_
    refine g_iadd X dX3_readArguments_109 ?_
    refine g_aload_n X dX3_readArguments_110 rfl rfl ?_
    refine g_bipush (v := 64) X dX3_readArguments_111 rfl ?_
    refine g_callV X dX3_readArguments_113 mv_X3_245 (c_X3_numberBehind hB (c := 64) hQ hT hl (nbS_p (dgS_p hp).1).1 (by decide)) rfl cl_X3 (by repeat (first | with_reducible exact Rc.pt | with_reducible apply Rc.there)) (by repeat (first | with_reducible exact Pks.nil | (with_reducible refine Pks.pure (by assumption) ?_) | (with_reducible apply Pks.cons; focus ((repeat (first | with_reducible exact Pk.here | with_reducible apply Pk.there)); done)) | (refine Pks.cons Pk.here ?_))) rfl rfl (by decide) (by exact Nat.le_of_ble_eq_true rfl) (by first | decide | omega) (fun r w1 hq => ?_) (fun E q w1 hq => hq.elim)
    obtain ⟨rfl, rfl⟩ := hq
    dsimp only [wQ, wK, wAr, List.cons_append, List.nil_append, Option.toList_some, Option.toList_none]
    refine g_iast (t + 2) X dX3_readArguments_116 (by repeat (first | with_reducible exact Rp.here | with_reducible apply Rp.there)) (nIp2 t) (by omega) ?_
    refine g_goto (tgt := 261) X dX3_readArguments_117 (by decide) ?_
    have ha : arS T 2 s = ([] ++ [(dgS T s).1] ++ [(nbS T 32 (dgS T s).2).1] ++ [(nbS T 64 (nbS T 32 (dgS T s).2).2).1], (nbS T 64 (nbS T 32 (dgS T s).2).2).2) := rfl
    exact g_vret X Y dX3_readArguments_261 (⟨upd (upd (upd K t (nI (dgS T s).1)) (t + 1) (nI (nbS T 32 (dgS T s).2).1)) (t + 2) (nI (nbS T 64 (nbS T 32 (dgS T s).2).2).1), rfl, by rw [ha], fun i hi => by rw [upd_n (by omega), upd_n (by omega), upd_n (by omega)], by rw [ha]; exact ((EnW.nil.add).add).add⟩) (Pks.tail (rest := _) (by repeat (first | with_reducible exact Pks.nil | (with_reducible refine Pks.pure (by assumption) ?_) | (with_reducible apply Pks.cons; focus ((repeat (first | with_reducible exact Pk.here | with_reducible apply Pk.there)); done)) | (refine Pks.cons Pk.here ?_))))
  · refine g_iload_n X dX3_readArguments_0 rfl rfl ?_
    refine g_tableIn (off := 119) (tgt := 120) X dX3_readArguments_1 (by decide) (by decide) (by decide) (by decide) ?_
    refine g_aload_n X dX3_readArguments_120 rfl rfl ?_
    refine g_getf X dX3_readArguments_121 fl_X3_42 (by repeat (first | with_reducible exact Pk.here | with_reducible apply Pk.there)) (by exact rfl) ?_
    refine g_iload_n X dX3_readArguments_124 rfl rfl ?_
    refine g_aload_n X dX3_readArguments_125 rfl rfl ?_
    refine g_callV X dX3_readArguments_126 mv_X3_242 (c_X3_number hB hQ hT hl hp) rfl cl_X3 (by repeat (first | with_reducible exact Rc.pt | with_reducible apply Rc.there)) (by repeat (first | with_reducible exact Pks.nil | (with_reducible refine Pks.pure (by assumption) ?_) | (with_reducible apply Pks.cons; focus ((repeat (first | with_reducible exact Pk.here | with_reducible apply Pk.there)); done)) | (refine Pks.cons Pk.here ?_))) rfl rfl (by decide) (by exact Nat.le_of_ble_eq_true rfl) (by first | decide | omega) (fun r w1 hq => ?_) (fun E q w1 hq => hq.elim)
    obtain ⟨rfl, rfl⟩ := hq
    dsimp only [wQ, wK, wAr, List.cons_append, List.nil_append, Option.toList_some, Option.toList_none]
    refine g_iast (t) X dX3_readArguments_129 (by repeat (first | with_reducible exact Rp.here | with_reducible apply Rp.there)) (rfl) (by omega) ?_
    refine g_goto (tgt := 261) X dX3_readArguments_130 (by decide) ?_
    have ha : arS T 3 s = ([] ++ [(nuS T s).1], (nuS T s).2) := rfl
    exact g_vret X Y dX3_readArguments_261 (⟨upd K t (nI (nuS T s).1), rfl, by rw [ha], fun i hi => by rw [upd_n (by omega)], by rw [ha]; exact EnW.nil.add⟩) (Pks.tail (rest := _) (by repeat (first | with_reducible exact Pks.nil | (with_reducible refine Pks.pure (by assumption) ?_) | (with_reducible apply Pks.cons; focus ((repeat (first | with_reducible exact Pk.here | with_reducible apply Pk.there)); done)) | (refine Pks.cons Pk.here ?_))))
  · refine g_iload_n X dX3_readArguments_0 rfl rfl ?_
    refine g_tableIn (off := 132) (tgt := 133) X dX3_readArguments_1 (by decide) (by decide) (by decide) (by decide) ?_
    have p1 := (dgS_p hp).1
    have p2 := (exS_p (c := 62) p1).1
    have p3 := (dgS_p p2).1
    have p4 := (nbS_p (c := 32) p3).1
    have p5 := (nbS_p (c := 64) p4).1
    refine g_aload_n X dX3_readArguments_133 rfl rfl ?_
    refine g_getf X dX3_readArguments_134 fl_X3_42 (by repeat (first | with_reducible exact Pk.here | with_reducible apply Pk.there)) (by exact rfl) ?_
    refine g_iload_n X dX3_readArguments_137 rfl rfl ?_
    refine g_aload_n X dX3_readArguments_138 rfl rfl ?_
    refine g_callV X dX3_readArguments_139 mv_X3_236 (c_X3_digit hB hQ hT hl hp) rfl cl_X3 (by repeat (first | with_reducible exact Rc.pt | with_reducible apply Rc.there)) (by repeat (first | with_reducible exact Pks.nil | (with_reducible refine Pks.pure (by assumption) ?_) | (with_reducible apply Pks.cons; focus ((repeat (first | with_reducible exact Pk.here | with_reducible apply Pk.there)); done)) | (refine Pks.cons Pk.here ?_))) rfl rfl (by decide) (by exact Nat.le_of_ble_eq_true rfl) (by first | decide | omega) (fun r w1 hq => ?_) (fun E q w1 hq => hq.elim)
    obtain ⟨rfl, rfl⟩ := hq
    dsimp only [wQ, wK, wAr, List.cons_append, List.nil_append, Option.toList_some, Option.toList_none]
    refine g_iast (t) X dX3_readArguments_142 (by repeat (first | with_reducible exact Rp.here | with_reducible apply Rp.there)) (rfl) (by omega) ?_
    refine g_aload_n X dX3_readArguments_143 rfl rfl ?_
    refine g_bipush (v := 62) X dX3_readArguments_144 rfl ?_
    refine g_callV X dX3_readArguments_146 mv_X3_239 (c_X3_expects hB (c := 62) hQ hT hl p1 (by decide)) rfl cl_X3 (by repeat (first | with_reducible exact Rc.pt | with_reducible apply Rc.there)) (by repeat (first | with_reducible exact Pks.nil | (with_reducible refine Pks.pure (by assumption) ?_) | (with_reducible apply Pks.cons; focus ((repeat (first | with_reducible exact Pk.here | with_reducible apply Pk.there)); done)) | (refine Pks.cons Pk.here ?_))) rfl rfl (by decide) (by exact Nat.le_of_ble_eq_true rfl) (by first | decide | omega) (fun r w1 hq => ?_) (fun E q w1 hq => hq.elim)
    obtain ⟨rfl, rfl⟩ := hq
    dsimp only [wQ, wK, wAr, List.cons_append, List.nil_append, Option.toList_some, Option.toList_none]
    refine g_aload_n X dX3_readArguments_149 rfl rfl ?_
    refine g_getf X dX3_readArguments_150 fl_X3_42 (by repeat (first | with_reducible exact Pk.here | with_reducible apply Pk.there)) (by exact rfl) ?_
    refine g_iload_n X dX3_readArguments_153 rfl rfl ?_
    refine g_iconst (v := 1) X dX3_readArguments_154 rfl ?_
    refine g_iadd X dX3_readArguments_155 ?_
    refine g_aload_n X dX3_readArguments_156 rfl rfl ?_
    refine g_callV X dX3_readArguments_157 mv_X3_236 (c_X3_digit hB hQ hT hl p2) rfl cl_X3 (by repeat (first | with_reducible exact Rc.pt | with_reducible apply Rc.there)) (by repeat (first | with_reducible exact Pks.nil | (with_reducible refine Pks.pure (by assumption) ?_) | (with_reducible apply Pks.cons; focus ((repeat (first | with_reducible exact Pk.here | with_reducible apply Pk.there)); done)) | (refine Pks.cons Pk.here ?_))) rfl rfl (by decide) (by exact Nat.le_of_ble_eq_true rfl) (by first | decide | omega) (fun r w1 hq => ?_) (fun E q w1 hq => hq.elim)
    obtain ⟨rfl, rfl⟩ := hq
    dsimp only [wQ, wK, wAr, List.cons_append, List.nil_append, Option.toList_some, Option.toList_none]
    refine g_iast (t + 1) X dX3_readArguments_160 (by repeat (first | with_reducible exact Rp.here | with_reducible apply Rp.there)) (nI_1 t) (by omega) ?_
    refine g_aload_n X dX3_readArguments_161 rfl rfl ?_
    refine g_getf X dX3_readArguments_162 fl_X3_42 (by repeat (first | with_reducible exact Pk.here | with_reducible apply Pk.there)) (by exact rfl) ?_
    refine g_iload_n X dX3_readArguments_165 rfl rfl ?_
    refine g_iconst (v := 2) X dX3_readArguments_166 rfl ?_
    refine g_iadd X dX3_readArguments_167 ?_
    refine g_aload_n X dX3_readArguments_168 rfl rfl ?_
    refine g_bipush (v := 32) X dX3_readArguments_169 rfl ?_
    refine g_callV X dX3_readArguments_171 mv_X3_245 (c_X3_numberBehind hB (c := 32) hQ hT hl p3 (by decide)) rfl cl_X3 (by repeat (first | with_reducible exact Rc.pt | with_reducible apply Rc.there)) (by repeat (first | with_reducible exact Pks.nil | (with_reducible refine Pks.pure (by assumption) ?_) | (with_reducible apply Pks.cons; focus ((repeat (first | with_reducible exact Pk.here | with_reducible apply Pk.there)); done)) | (refine Pks.cons Pk.here ?_))) rfl rfl (by decide) (by exact Nat.le_of_ble_eq_true rfl) (by first | decide | omega) (fun r w1 hq => ?_) (fun E q w1 hq => hq.elim)
    obtain ⟨rfl, rfl⟩ := hq
    dsimp only [wQ, wK, wAr, List.cons_append, List.nil_append, Option.toList_some, Option.toList_none]
    refine g_iast (t + 2) X dX3_readArguments_174 (by repeat (first | with_reducible exact Rp.here | with_reducible apply Rp.there)) (nIp2 t) (by omega) ?_
    refine g_aload_n X dX3_readArguments_175 rfl rfl ?_
    refine g_getf X dX3_readArguments_176 fl_X3_42 (by repeat (first | with_reducible exact Pk.here | with_reducible apply Pk.there)) (by exact rfl) ?_
    refine g_iload_n X dX3_readArguments_179 rfl rfl ?_
    refine g_iconst (v := 3) X dX3_readArguments_180 rfl ?_
    refine g_iadd X dX3_readArguments_181 ?_
    refine g_aload_n X dX3_readArguments_182 rfl rfl ?_
    refine g_bipush (v := 64) X dX3_readArguments_183 rfl ?_
    refine g_callV X dX3_readArguments_185 mv_X3_245 (c_X3_numberBehind hB (c := 64) hQ hT hl p4 (by decide)) rfl cl_X3 (by repeat (first | with_reducible exact Rc.pt | with_reducible apply Rc.there)) (by repeat (first | with_reducible exact Pks.nil | (with_reducible refine Pks.pure (by assumption) ?_) | (with_reducible apply Pks.cons; focus ((repeat (first | with_reducible exact Pk.here | with_reducible apply Pk.there)); done)) | (refine Pks.cons Pk.here ?_))) rfl rfl (by decide) (by exact Nat.le_of_ble_eq_true rfl) (by first | decide | omega) (fun r w1 hq => ?_) (fun E q w1 hq => hq.elim)
    obtain ⟨rfl, rfl⟩ := hq
    dsimp only [wQ, wK, wAr, List.cons_append, List.nil_append, Option.toList_some, Option.toList_none]
    refine g_iast (t + 3) X dX3_readArguments_188 (by repeat (first | with_reducible exact Rp.here | with_reducible apply Rp.there)) (nIp3 t) (by omega) ?_
    refine g_aload_n X dX3_readArguments_189 rfl rfl ?_
    refine g_getf X dX3_readArguments_190 fl_X3_42 (by repeat (first | with_reducible exact Pk.here | with_reducible apply Pk.there)) (by exact rfl) ?_
    refine g_iload_n X dX3_readArguments_193 rfl rfl ?_
    refine g_iconst (v := 4) X dX3_readArguments_194 rfl ?_
    refine g_iadd X dX3_readArguments_195 ?_
    refine g_aload_n X dX3_readArguments_196 rfl rfl ?_
    refine g_bipush (v := 43) X dX3_readArguments_197 rfl ?_
    refine g_callV X dX3_readArguments_199 mv_X3_245 (c_X3_numberBehind hB (c := 43) hQ hT hl p5 (by decide)) rfl cl_X3 (by repeat (first | with_reducible exact Rc.pt | with_reducible apply Rc.there)) (by repeat (first | with_reducible exact Pks.nil | (with_reducible refine Pks.pure (by assumption) ?_) | (with_reducible apply Pks.cons; focus ((repeat (first | with_reducible exact Pk.here | with_reducible apply Pk.there)); done)) | (refine Pks.cons Pk.here ?_))) rfl rfl (by decide) (by exact Nat.le_of_ble_eq_true rfl) (by first | decide | omega) (fun r w1 hq => ?_) (fun E q w1 hq => hq.elim)
    obtain ⟨rfl, rfl⟩ := hq
    dsimp only [wQ, wK, wAr, List.cons_append, List.nil_append, Option.toList_some, Option.toList_none]
    refine g_iast (t + 4) X dX3_readArguments_202 (by repeat (first | with_reducible exact Rp.here | with_reducible apply Rp.there)) (nIp4 t) (by omega) ?_
    refine g_goto (tgt := 261) X dX3_readArguments_203 (by decide) ?_
    have ha : arS T 4 s = ([] ++ [(dgS T s).1] ++ [(dgS T (exS T 62 (dgS T s).2)).1] ++ [(nbS T 32 (dgS T (exS T 62 (dgS T s).2)).2).1] ++ [(nbS T 64 (nbS T 32 (dgS T (exS T 62 (dgS T s).2)).2).2).1] ++ [(nbS T 43 (nbS T 64 (nbS T 32 (dgS T (exS T 62 (dgS T s).2)).2).2).2).1], (nbS T 43 (nbS T 64 (nbS T 32 (dgS T (exS T 62 (dgS T s).2)).2).2).2).2) := rfl
    exact g_vret X Y dX3_readArguments_261 (⟨upd (upd (upd (upd (upd K t (nI (dgS T s).1)) (t + 1) (nI (dgS T (exS T 62 (dgS T s).2)).1)) (t + 2) (nI (nbS T 32 (dgS T (exS T 62 (dgS T s).2)).2).1)) (t + 3) (nI (nbS T 64 (nbS T 32 (dgS T (exS T 62 (dgS T s).2)).2).2).1)) (t + 4) (nI (nbS T 43 (nbS T 64 (nbS T 32 (dgS T (exS T 62 (dgS T s).2)).2).2).2).1), rfl, by rw [ha], fun i hi => by rw [upd_n (by omega), upd_n (by omega), upd_n (by omega), upd_n (by omega), upd_n (by omega)], by rw [ha]; exact ((((EnW.nil.add).add).add).add).add⟩) (Pks.tail (rest := _) (by repeat (first | with_reducible exact Pks.nil | (with_reducible refine Pks.pure (by assumption) ?_) | (with_reducible apply Pks.cons; focus ((repeat (first | with_reducible exact Pk.here | with_reducible apply Pk.there)); done)) | (refine Pks.cons Pk.here ?_))))
  · refine g_iload_n X dX3_readArguments_0 rfl rfl ?_
    refine g_tableIn (off := 205) (tgt := 206) X dX3_readArguments_1 (by decide) (by decide) (by decide) (by decide) ?_
    refine g_aload_n X dX3_readArguments_206 rfl rfl ?_
    refine g_getf X dX3_readArguments_207 fl_X3_42 (by repeat (first | with_reducible exact Pk.here | with_reducible apply Pk.there)) (by exact rfl) ?_
    refine g_iload_n X dX3_readArguments_210 rfl rfl ?_
    refine g_aload_n X dX3_readArguments_211 rfl rfl ?_
    refine g_callV X dX3_readArguments_212 mv_X3_236 (c_X3_digit hB hQ hT hl hp) rfl cl_X3 (by repeat (first | with_reducible exact Rc.pt | with_reducible apply Rc.there)) (by repeat (first | with_reducible exact Pks.nil | (with_reducible refine Pks.pure (by assumption) ?_) | (with_reducible apply Pks.cons; focus ((repeat (first | with_reducible exact Pk.here | with_reducible apply Pk.there)); done)) | (refine Pks.cons Pk.here ?_))) rfl rfl (by decide) (by exact Nat.le_of_ble_eq_true rfl) (by first | decide | omega) (fun r w1 hq => ?_) (fun E q w1 hq => hq.elim)
    obtain ⟨rfl, rfl⟩ := hq
    dsimp only [wQ, wK, wAr, List.cons_append, List.nil_append, Option.toList_some, Option.toList_none]
    refine g_iast (t) X dX3_readArguments_215 (by repeat (first | with_reducible exact Rp.here | with_reducible apply Rp.there)) (rfl) (by omega) ?_
    refine g_aload_n X dX3_readArguments_216 rfl rfl ?_
    refine g_getf X dX3_readArguments_217 fl_X3_42 (by repeat (first | with_reducible exact Pk.here | with_reducible apply Pk.there)) (by exact rfl) ?_
    refine g_iload_n X dX3_readArguments_220 rfl rfl ?_
    refine g_iconst (v := 1) X dX3_readArguments_221 rfl ?_
    refine g_iadd X dX3_readArguments_222 ?_
    refine g_aload_n X dX3_readArguments_223 rfl rfl ?_
    refine g_bipush (v := 61) X dX3_readArguments_224 rfl ?_
    refine g_callV X dX3_readArguments_226 mv_X3_245 (c_X3_numberBehind hB (c := 61) hQ hT hl (dgS_p hp).1 (by decide)) rfl cl_X3 (by repeat (first | with_reducible exact Rc.pt | with_reducible apply Rc.there)) (by repeat (first | with_reducible exact Pks.nil | (with_reducible refine Pks.pure (by assumption) ?_) | (with_reducible apply Pks.cons; focus ((repeat (first | with_reducible exact Pk.here | with_reducible apply Pk.there)); done)) | (refine Pks.cons Pk.here ?_))) rfl rfl (by decide) (by exact Nat.le_of_ble_eq_true rfl) (by first | decide | omega) (fun r w1 hq => ?_) (fun E q w1 hq => hq.elim)
    obtain ⟨rfl, rfl⟩ := hq
    dsimp only [wQ, wK, wAr, List.cons_append, List.nil_append, Option.toList_some, Option.toList_none]
    refine g_iast (t + 1) X dX3_readArguments_229 (by repeat (first | with_reducible exact Rp.here | with_reducible apply Rp.there)) (nI_1 t) (by omega) ?_
    refine g_goto (tgt := 261) X dX3_readArguments_230 (by decide) ?_
    have ha : arS T 5 s = ([] ++ [(dgS T s).1] ++ [(nbS T 61 (dgS T s).2).1], (nbS T 61 (dgS T s).2).2) := rfl
    exact g_vret X Y dX3_readArguments_261 (⟨upd (upd K t (nI (dgS T s).1)) (t + 1) (nI (nbS T 61 (dgS T s).2).1), rfl, by rw [ha], fun i hi => by rw [upd_n (by omega), upd_n (by omega)], by rw [ha]; exact (EnW.nil.add).add⟩) (Pks.tail (rest := _) (by repeat (first | with_reducible exact Pks.nil | (with_reducible refine Pks.pure (by assumption) ?_) | (with_reducible apply Pks.cons; focus ((repeat (first | with_reducible exact Pk.here | with_reducible apply Pk.there)); done)) | (refine Pks.cons Pk.here ?_))))
  · refine g_iload_n X dX3_readArguments_0 rfl rfl ?_
    refine g_tableIn (off := 205) (tgt := 206) X dX3_readArguments_1 (by decide) (by decide) (by decide) (by decide) ?_
    refine g_aload_n X dX3_readArguments_206 rfl rfl ?_
    refine g_getf X dX3_readArguments_207 fl_X3_42 (by repeat (first | with_reducible exact Pk.here | with_reducible apply Pk.there)) (by exact rfl) ?_
    refine g_iload_n X dX3_readArguments_210 rfl rfl ?_
    refine g_aload_n X dX3_readArguments_211 rfl rfl ?_
    refine g_callV X dX3_readArguments_212 mv_X3_236 (c_X3_digit hB hQ hT hl hp) rfl cl_X3 (by repeat (first | with_reducible exact Rc.pt | with_reducible apply Rc.there)) (by repeat (first | with_reducible exact Pks.nil | (with_reducible refine Pks.pure (by assumption) ?_) | (with_reducible apply Pks.cons; focus ((repeat (first | with_reducible exact Pk.here | with_reducible apply Pk.there)); done)) | (refine Pks.cons Pk.here ?_))) rfl rfl (by decide) (by exact Nat.le_of_ble_eq_true rfl) (by first | decide | omega) (fun r w1 hq => ?_) (fun E q w1 hq => hq.elim)
    obtain ⟨rfl, rfl⟩ := hq
    dsimp only [wQ, wK, wAr, List.cons_append, List.nil_append, Option.toList_some, Option.toList_none]
    refine g_iast (t) X dX3_readArguments_215 (by repeat (first | with_reducible exact Rp.here | with_reducible apply Rp.there)) (rfl) (by omega) ?_
    refine g_aload_n X dX3_readArguments_216 rfl rfl ?_
    refine g_getf X dX3_readArguments_217 fl_X3_42 (by repeat (first | with_reducible exact Pk.here | with_reducible apply Pk.there)) (by exact rfl) ?_
    refine g_iload_n X dX3_readArguments_220 rfl rfl ?_
    refine g_iconst (v := 1) X dX3_readArguments_221 rfl ?_
    refine g_iadd X dX3_readArguments_222 ?_
    refine g_aload_n X dX3_readArguments_223 rfl rfl ?_
    refine g_bipush (v := 61) X dX3_readArguments_224 rfl ?_
    refine g_callV X dX3_readArguments_226 mv_X3_245 (c_X3_numberBehind hB (c := 61) hQ hT hl (dgS_p hp).1 (by decide)) rfl cl_X3 (by repeat (first | with_reducible exact Rc.pt | with_reducible apply Rc.there)) (by repeat (first | with_reducible exact Pks.nil | (with_reducible refine Pks.pure (by assumption) ?_) | (with_reducible apply Pks.cons; focus ((repeat (first | with_reducible exact Pk.here | with_reducible apply Pk.there)); done)) | (refine Pks.cons Pk.here ?_))) rfl rfl (by decide) (by exact Nat.le_of_ble_eq_true rfl) (by first | decide | omega) (fun r w1 hq => ?_) (fun E q w1 hq => hq.elim)
    obtain ⟨rfl, rfl⟩ := hq
    dsimp only [wQ, wK, wAr, List.cons_append, List.nil_append, Option.toList_some, Option.toList_none]
    refine g_iast (t + 1) X dX3_readArguments_229 (by repeat (first | with_reducible exact Rp.here | with_reducible apply Rp.there)) (nI_1 t) (by omega) ?_
    refine g_goto (tgt := 261) X dX3_readArguments_230 (by decide) ?_
    have ha : arS T 6 s = ([] ++ [(dgS T s).1] ++ [(nbS T 61 (dgS T s).2).1], (nbS T 61 (dgS T s).2).2) := rfl
    exact g_vret X Y dX3_readArguments_261 (⟨upd (upd K t (nI (dgS T s).1)) (t + 1) (nI (nbS T 61 (dgS T s).2).1), rfl, by rw [ha], fun i hi => by rw [upd_n (by omega), upd_n (by omega)], by rw [ha]; exact (EnW.nil.add).add⟩) (Pks.tail (rest := _) (by repeat (first | with_reducible exact Pks.nil | (with_reducible refine Pks.pure (by assumption) ?_) | (with_reducible apply Pks.cons; focus ((repeat (first | with_reducible exact Pk.here | with_reducible apply Pk.there)); done)) | (refine Pks.cons Pk.here ?_))))
  · refine g_iload_n X dX3_readArguments_0 rfl rfl ?_
    refine g_tableIn (off := 260) (tgt := 261) X dX3_readArguments_1 (by decide) (by decide) (by decide) (by decide) ?_
    have ha : arS T 7 s = ([], s) := rfl
    exact g_vret X Y dX3_readArguments_261 (⟨K, rfl, by rw [ha], fun i hi => rfl, EnW.nil⟩) (Pks.tail (rest := _) (by repeat (first | with_reducible exact Pks.nil | (with_reducible refine Pks.pure (by assumption) ?_) | (with_reducible apply Pks.cons; focus ((repeat (first | with_reducible exact Pk.here | with_reducible apply Pk.there)); done)) | (refine Pks.cons Pk.here ?_))))
  · refine g_iload_n X dX3_readArguments_0 rfl rfl ?_
    refine g_tableIn (off := 232) (tgt := 233) X dX3_readArguments_1 (by decide) (by decide) (by decide) (by decide) ?_
    by_cases h : T[s.1]? = some 32
    · have ha : arS T 8 s = ([] ++ [(nbS T 32 s).1], (nbS T 32 s).2) := if_pos h
      refine g_aload_n X dX3_readArguments_233 rfl rfl ?_
      refine g_getf X dX3_readArguments_234 fl_X3_42 (by repeat (first | with_reducible exact Pk.here | with_reducible apply Pk.there)) (by exact rfl) ?_
      refine g_iload_n X dX3_readArguments_237 rfl rfl ?_
      refine g_aload_n X dX3_readArguments_238 rfl rfl ?_
      refine g_callV X dX3_readArguments_239 mv_X3_229 (c_X3_here hB hQ hl hp) rfl cl_X3 (by repeat (first | with_reducible exact Rc.pt | with_reducible apply Rc.there)) (by repeat (first | with_reducible exact Pks.nil | (with_reducible refine Pks.pure (by assumption) ?_) | (with_reducible apply Pks.cons; focus ((repeat (first | with_reducible exact Pk.here | with_reducible apply Pk.there)); done)) | (refine Pks.cons Pk.here ?_))) rfl rfl (by decide) (by exact Nat.le_of_ble_eq_true rfl) (by first | decide | omega) (fun r w1 hq => ?_) (fun E q w1 hq => hq.elim)
      obtain ⟨rfl, rfl⟩ := hq
      dsimp only [wQ, wK, wAr, List.cons_append, List.nil_append, Option.toList_some, Option.toList_none]
      refine g_bipush (v := 32) X dX3_readArguments_242 rfl ?_
      refine g_icmp_ne (tgt := 256) X dX3_readArguments_244 (by decide) (fun c_244 => absurd c_244 (fun q => q ((heI_eq (c := 32) hT (by decide)).mpr h))) (fun c_244 => ?_)
      refine g_aload_n X dX3_readArguments_247 rfl rfl ?_
      refine g_bipush (v := 32) X dX3_readArguments_248 rfl ?_
      refine g_callV X dX3_readArguments_250 mv_X3_245 (c_X3_numberBehind hB (c := 32) hQ hT hl hp (by decide)) rfl cl_X3 (by repeat (first | with_reducible exact Rc.pt | with_reducible apply Rc.there)) (by repeat (first | with_reducible exact Pks.nil | (with_reducible refine Pks.pure (by assumption) ?_) | (with_reducible apply Pks.cons; focus ((repeat (first | with_reducible exact Pk.here | with_reducible apply Pk.there)); done)) | (refine Pks.cons Pk.here ?_))) rfl rfl (by decide) (by exact Nat.le_of_ble_eq_true rfl) (by first | decide | omega) (fun r w1 hq => ?_) (fun E q w1 hq => hq.elim)
      obtain ⟨rfl, rfl⟩ := hq
      dsimp only [wQ, wK, wAr, List.cons_append, List.nil_append, Option.toList_some, Option.toList_none]
      refine g_goto (tgt := 257) X dX3_readArguments_253 (by decide) ?_
      refine g_iast (t) X dX3_readArguments_257 (by repeat (first | with_reducible exact Rp.here | with_reducible apply Rp.there)) (rfl) (by omega) ?_
      refine g_goto (tgt := 261) X dX3_readArguments_258 (by decide) ?_
      exact g_vret X Y dX3_readArguments_261 (⟨upd K t (nI (nbS T 32 s).1), rfl, by rw [ha], fun i hi => by rw [upd_n (by omega)], by rw [ha]; exact EnW.nil.add⟩) (Pks.tail (rest := _) (by repeat (first | with_reducible exact Pks.nil | (with_reducible refine Pks.pure (by assumption) ?_) | (with_reducible apply Pks.cons; focus ((repeat (first | with_reducible exact Pk.here | with_reducible apply Pk.there)); done)) | (refine Pks.cons Pk.here ?_))))
    · have ha : arS T 8 s = ([] ++ [1], s) := if_neg h
      refine g_aload_n X dX3_readArguments_233 rfl rfl ?_
      refine g_getf X dX3_readArguments_234 fl_X3_42 (by repeat (first | with_reducible exact Pk.here | with_reducible apply Pk.there)) (by exact rfl) ?_
      refine g_iload_n X dX3_readArguments_237 rfl rfl ?_
      refine g_aload_n X dX3_readArguments_238 rfl rfl ?_
      refine g_callV X dX3_readArguments_239 mv_X3_229 (c_X3_here hB hQ hl hp) rfl cl_X3 (by repeat (first | with_reducible exact Rc.pt | with_reducible apply Rc.there)) (by repeat (first | with_reducible exact Pks.nil | (with_reducible refine Pks.pure (by assumption) ?_) | (with_reducible apply Pks.cons; focus ((repeat (first | with_reducible exact Pk.here | with_reducible apply Pk.there)); done)) | (refine Pks.cons Pk.here ?_))) rfl rfl (by decide) (by exact Nat.le_of_ble_eq_true rfl) (by first | decide | omega) (fun r w1 hq => ?_) (fun E q w1 hq => hq.elim)
      obtain ⟨rfl, rfl⟩ := hq
      dsimp only [wQ, wK, wAr, List.cons_append, List.nil_append, Option.toList_some, Option.toList_none]
      refine g_bipush (v := 32) X dX3_readArguments_242 rfl ?_
      refine g_icmp_ne (tgt := 256) X dX3_readArguments_244 (by decide) (fun c_244 => ?_) (fun c_244 => absurd c_244 ((fun q => h ((heI_eq (c := 32) hT (by decide)).mp q))))
      refine g_iconst (v := 1) X dX3_readArguments_256 rfl ?_
      refine g_iast (t) X dX3_readArguments_257 (by repeat (first | with_reducible exact Rp.here | with_reducible apply Rp.there)) (rfl) (by omega) ?_
      refine g_goto (tgt := 261) X dX3_readArguments_258 (by decide) ?_
      exact g_vret X Y dX3_readArguments_261 (⟨upd K t 1, rfl, by rw [ha], fun i hi => by rw [upd_n (by omega)], by rw [ha]; exact (EnW.nil.add (c := 1))⟩) (Pks.tail (rest := _) (by repeat (first | with_reducible exact Pks.nil | (with_reducible refine Pks.pure (by assumption) ?_) | (with_reducible apply Pks.cons; focus ((repeat (first | with_reducible exact Pk.here | with_reducible apply Pk.there)); done)) | (refine Pks.cons Pk.here ?_))))
end MODEL
