/-! THE MODEL: programs read -/
set_option maxRecDepth 100000
abbrev PS : Type := Nat × Bool
/-- a character expected -/
def exS (T : List Nat) (c : Nat) (s : PS) : PS := if s.2 = false ∧ T[s.1]? = some c then (s.1 + 1, false) else (s.1, true)
def isDg (T : List Nat) (p : Nat) : Bool := match T[p]? with
  | none => false
  | some c => decide (48 ≤ c ∧ c ≤ 57)
def dgS (T : List Nat) (s : PS) : Nat × PS := if s.2 = false ∧ isDg T s.1 = true then (T.getD s.1 0 - 48, (s.1 + 1, false)) else (0, (s.1, true))
def nuU (T : List Nat) : Nat → Nat × PS → Nat × PS
  | 0, a => a
  | f + 1, a => if a.2.2 = false ∧ isDg T a.2.1 = true then nuU T f (10 * a.1 + (dgS T a.2).1, (dgS T a.2).2) else a
def nuS (T : List Nat) (s : PS) : Nat × PS := nuU T 2 (dgS T s)
abbrev nbS (T : List Nat) (c : Nat) (s : PS) : Nat × PS := nuS T (exS T c s)
/-- what is at a place, as an int -/
def heI (T : List Nat) (p : Nat) : Int32 := oI_ T[p]?
theorem heI_eq {T : List Nat} {p c : Nat} (hT : ∀ c, c ∈ T → c < 65536) (hc : c < 65536) : heI T p = nI c ↔ T[p]? = some c := by
  unfold heI
  exact eq_comm.trans (oI_at (fun j h => by have := hT j (List.mem_of_getElem? h); omega) (by omega))
theorem heI_dg {T : List Nat} {p : Nat} (hT : ∀ c, c ∈ T → c < 65536) : inR (heI T p) 48 57 ↔ isDg T p = true := by
  unfold heI isDg
  cases h : T[p]? with
  | none => exact ⟨fun q => absurd q (by decide), fun q => nomatch q⟩
  | some c =>
    have := hT c (List.mem_of_getElem? h)
    show (nI 48 ≤ nI c ∧ nI c ≤ nI 57) ↔ decide (48 ≤ c ∧ c ≤ 57) = true
    rw [nI_leI (by decide) (by omega), nI_leI (by omega) (by decide), decide_eq_true_iff]
theorem dgS_b {T : List Nat} {s : PS} : (dgS T s).1 ≤ 9 := by
  unfold dgS
  by_cases h : s.2 = false ∧ isDg T s.1 = true
  · rw [if_pos h]
    have h2 := h.2
    unfold isDg at h2
    cases hc : T[s.1]? with
    | none => rw [hc] at h2; exact nomatch h2
    | some c =>
      rw [hc] at h2
      have := of_decide_eq_true h2
      show T.getD s.1 0 - 48 ≤ 9
      rw [List.getD_eq_getElem?_getD, hc]
      show c - 48 ≤ 9
      omega
  · rw [if_neg h]; exact Nat.zero_le _
theorem dgS_p {T : List Nat} {s : PS} (h : s.1 ≤ T.length) : (dgS T s).2.1 ≤ T.length ∧ s.1 ≤ (dgS T s).2.1 := by
  unfold dgS
  by_cases hd : s.2 = false ∧ isDg T s.1 = true
  · rw [if_pos hd]
    have h2 := hd.2
    unfold isDg at h2
    cases hc : T[s.1]? with
    | none => rw [hc] at h2; exact nomatch h2
    | some c =>
      have := (List.getElem?_eq_some_iff.mp hc).1
      exact ⟨this, Nat.le_succ _⟩
  · rw [if_neg hd]; exact ⟨h, Nat.le_refl _⟩
theorem exS_p {T : List Nat} {c : Nat} {s : PS} (h : s.1 ≤ T.length) : (exS T c s).1 ≤ T.length ∧ s.1 ≤ (exS T c s).1 := by
  unfold exS
  by_cases hd : s.2 = false ∧ T[s.1]? = some c
  · rw [if_pos hd]
    exact ⟨(List.getElem?_eq_some_iff.mp hd.2).1, Nat.le_succ _⟩
  · rw [if_neg hd]; exact ⟨h, Nat.le_refl _⟩
theorem nuU_p {T : List Nat} : ∀ {f : Nat} {a : Nat × PS}, a.2.1 ≤ T.length → (nuU T f a).2.1 ≤ T.length ∧ a.2.1 ≤ (nuU T f a).2.1
  | 0, a, h => ⟨h, Nat.le_refl _⟩
  | f + 1, a, h => by
    unfold nuU
    by_cases hd : a.2.2 = false ∧ isDg T a.2.1 = true
    · rw [if_pos hd]
      obtain ⟨h1, h2⟩ := dgS_p (T := T) (s := a.2) h
      obtain ⟨h3, h4⟩ := nuU_p (T := T) (f := f) (a := (10 * a.1 + (dgS T a.2).1, (dgS T a.2).2)) h1
      exact ⟨h3, Nat.le_trans h2 h4⟩
    · rw [if_neg hd]; exact ⟨h, Nat.le_refl _⟩
theorem nuS_p {T : List Nat} {s : PS} (h : s.1 ≤ T.length) : (nuS T s).2.1 ≤ T.length ∧ s.1 ≤ (nuS T s).2.1 := by
  obtain ⟨h1, h2⟩ := dgS_p (T := T) (s := s) h
  obtain ⟨h3, h4⟩ := nuU_p (T := T) (f := 2) (a := dgS T s) h1
  exact ⟨h3, Nat.le_trans h2 h4⟩
theorem nbS_p {T : List Nat} {c : Nat} {s : PS} (h : s.1 ≤ T.length) : (nbS T c s).2.1 ≤ T.length ∧ s.1 ≤ (nbS T c s).2.1 := by
  obtain ⟨h1, h2⟩ := exS_p (T := T) (c := c) (s := s) h
  obtain ⟨h3, h4⟩ := nuS_p (T := T) (s := exS T c s) h1
  exact ⟨h3, Nat.le_trans h2 h4⟩
section MODEL
variable {B : Bt} {m : Nat} {ad : Nat → Nat} {sv ch ea fa th pm lm cm p0 s0 iw : Int32} {Q K : Nat → Int32} {T : List Nat} {s : PS}
abbrev wQ (m : Nat) (ad : Nat → Nat) (sv ch ea fa th pm lm cm : Int32) (n : Nat) (Q : Nat → Int32) (s : PS) : List An := [pt m (mO ad sv ch ea fa th pm lm cm (nI s.1) (nI n) (bI s.2)), pt (ad 4) (oA .int 60 Q)]
theorem c_X3_type0 (hB : Bs B) {c : Int32} : Tr B yX3_type (Cond.code yX3_type cX3_type 2 (some .int)) (rmd 2 0 0) [.ref m, .int c] [pt m (mO ad sv ch ea fa th 60 lm cm p0 s0 iw), pt (ad 4) (oA .int 60 Q)] (fun r w => r = some (.int (-1)) ∧ w = [pt m (mO ad sv ch ea fa 1 60 lm cm p0 s0 iw), pt (ad 4) (oA .int 60 Q)]) nox := by
  refine tr_of hB (by decide +kernel) rfl ?_
  intro Γ X Y
  refine g_eq (ls' := [.val (.ref m), .val (.int c)]) rfl rfl ?_
  refine g_aload_n X dX3_type_0 rfl rfl ?_
  refine g_iconst (v := 0) X dX3_type_1 rfl ?_
  refine pf_20_8 X dX3_type_2 fl_X3_45 (by repeat (first | with_reducible exact Rp.here | with_reducible apply Rp.there)) rfl rfl ?_
  refine g_aload_n X dX3_type_5 rfl rfl ?_
  refine g_getf X dX3_type_6 fl_X3_216 (by repeat (first | with_reducible exact Pk.here | with_reducible apply Pk.there)) (by exact rfl) ?_
  refine g_bipush (v := 60) X dX3_type_9 rfl ?_
  refine g_icmp_ne (tgt := 20) X dX3_type_11 (by decide) (fun c_11 => absurd c_11 (fun q => q rfl)) (fun c_11 => ?_)
  refine g_aload_n X dX3_type_14 rfl rfl ?_
  refine g_iconst (v := 1) X dX3_type_15 rfl ?_
  refine g_callV X dX3_type_16 mv_X3_75 (c_X3_throwing hB) rfl cl_X3 (by repeat (first | with_reducible exact Rc.pt | with_reducible apply Rc.there)) (by repeat (first | with_reducible exact Pks.nil | (with_reducible refine Pks.pure (by assumption) ?_) | (with_reducible apply Pks.cons; focus ((repeat (first | with_reducible exact Pk.here | with_reducible apply Pk.there)); done)) | (refine Pks.cons Pk.here ?_))) rfl rfl (by decide) (by exact Nat.le_of_ble_eq_true rfl) (by first | decide | omega) (fun r w1 hq => ?_) (fun E q w1 hq => hq.elim)
  obtain ⟨rfl, rfl⟩ := hq
  dsimp only [wQ, List.cons_append, List.nil_append, Option.toList_some, Option.toList_none]
  exact g_iret X Y dX3_type_19 (rfl) (⟨rfl, rfl⟩) (Pks.tail (rest := _) (by repeat (first | with_reducible exact Pks.nil | (with_reducible refine Pks.pure (by assumption) ?_) | (with_reducible apply Pks.cons; focus ((repeat (first | with_reducible exact Pk.here | with_reducible apply Pk.there)); done)) | (refine Pks.cons Pk.here ?_))))
theorem c_X3_type (hB : Bs B) {c : Nat} (hQ : EnL Q T) (hl : T.length < 60) (hm : pm = nI T.length) : Tr B yX3_type (Cond.code yX3_type cX3_type 2 (some .int)) (rmd 2 0 0) [.ref m, .int (nI c)] [pt m (mO ad sv ch ea fa th pm lm cm p0 s0 iw), pt (ad 4) (oA .int 60 Q)] (fun r w => ∃ Q', r = some (.int (nI (T.length + 1))) ∧ w = [pt m (mO ad sv ch ea fa 0 (nI (T.length + 1)) lm cm p0 s0 iw), pt (ad 4) (oA .int 60 Q')] ∧ EnL Q' (T ++ [c])) nox := by
  subst hm
  refine tr_of hB (by decide +kernel) rfl ?_
  intro Γ X Y
  refine g_eq (ls' := [.val (.ref m), .val (.int (nI c))]) rfl rfl ?_
  refine g_aload_n X dX3_type_0 rfl rfl ?_
  refine g_iconst (v := 0) X dX3_type_1 rfl ?_
  refine pf_20_8 X dX3_type_2 fl_X3_45 (by repeat (first | with_reducible exact Rp.here | with_reducible apply Rp.there)) rfl rfl ?_
  refine g_aload_n X dX3_type_5 rfl rfl ?_
  refine g_getf X dX3_type_6 fl_X3_216 (by repeat (first | with_reducible exact Pk.here | with_reducible apply Pk.there)) (by exact rfl) ?_
  refine g_bipush (v := 60) X dX3_type_9 rfl ?_
  refine g_icmp_ne (tgt := 20) X dX3_type_11 (by decide) (fun c_11 => ?_) (fun c_11 => absurd c_11 (fun q => absurd (nI_inj (b := 60) (by omega) (by decide) q) (by omega)))
  refine g_aload_n X dX3_type_20 rfl rfl ?_
  refine g_getf X dX3_type_21 fl_X3_29 (by repeat (first | with_reducible exact Pk.here | with_reducible apply Pk.there)) (by exact rfl) ?_
  refine g_aload_n X dX3_type_24 rfl rfl ?_
  refine g_getf X dX3_type_25 fl_X3_216 (by repeat (first | with_reducible exact Pk.here | with_reducible apply Pk.there)) (by exact rfl) ?_
  refine g_iload_n X dX3_type_28 rfl rfl ?_
  refine g_iast (T.length) X dX3_type_29 (by repeat (first | with_reducible exact Rp.here | with_reducible apply Rp.there)) (rfl) (by omega) ?_
  refine g_aload_n X dX3_type_30 rfl rfl ?_
  refine g_dup X dX3_type_31 rfl ?_
  refine g_getf X dX3_type_32 fl_X3_216 (by repeat (first | with_reducible exact Pk.here | with_reducible apply Pk.there)) (by exact rfl) ?_
  refine g_iconst (v := 1) X dX3_type_35 rfl ?_
  refine g_iadd X dX3_type_36 ?_
  rw [nI_1]
  refine pf_20_10 X dX3_type_37 fl_X3_216 (by repeat (first | with_reducible exact Rp.here | with_reducible apply Rp.there)) rfl rfl ?_
  refine g_aload_n X dX3_type_40 rfl rfl ?_
  refine g_getf X dX3_type_41 fl_X3_216 (by repeat (first | with_reducible exact Pk.here | with_reducible apply Pk.there)) (by exact rfl) ?_
  exact g_iret X Y dX3_type_44 (rfl) (⟨_, rfl, rfl, hQ.add⟩) (Pks.tail (rest := _) (by repeat (first | with_reducible exact Pks.nil | (with_reducible refine Pks.pure (by assumption) ?_) | (with_reducible apply Pks.cons; focus ((repeat (first | with_reducible exact Pk.here | with_reducible apply Pk.there)); done)) | (refine Pks.cons Pk.here ?_))))
theorem c_X3_here (hB : Bs B) (hQ : EnL Q T) (hl : T.length ≤ 60) (hp : s.1 ≤ T.length) : Tr B yX3_here (Cond.code yX3_here cX3_here 1 (some .int)) (rmd 1 0 0) [.ref m] (wQ m ad sv ch ea fa th pm lm cm T.length Q s) (fun r w => r = some (.int (heI T s.1)) ∧ w = wQ m ad sv ch ea fa th pm lm cm T.length Q s) nox := by
  refine tr_of hB (by decide +kernel) rfl ?_
  intro Γ X Y
  refine g_eq (ls' := [.val (.ref m)]) rfl rfl ?_
  by_cases h : s.1 < T.length
  · obtain ⟨c, hc⟩ : ∃ c, T[s.1]? = some c := ⟨_, List.getElem?_eq_getElem h⟩
    have he : heI T s.1 = nI c := by rw [heI, hc]; rfl
    refine g_aload_n X dX3_here_0 rfl rfl ?_
    refine g_getf X dX3_here_1 fl_X3_219 (by repeat (first | with_reducible exact Pk.here | with_reducible apply Pk.there)) (by exact rfl) ?_
    refine g_aload_n X dX3_here_4 rfl rfl ?_
    refine g_getf X dX3_here_5 fl_X3_222 (by repeat (first | with_reducible exact Pk.here | with_reducible apply Pk.there)) (by exact rfl) ?_
    refine g_icmp_ge (tgt := 23) X dX3_here_8 (by decide) (fun c_8 => absurd c_8 (nI_ge h (by omega))) (fun c_8 => ?_)
    refine g_aload_n X dX3_here_11 rfl rfl ?_
    refine g_getf X dX3_here_12 fl_X3_29 (by repeat (first | with_reducible exact Pk.here | with_reducible apply Pk.there)) (by exact rfl) ?_
    refine g_aload_n X dX3_here_15 rfl rfl ?_
    refine g_getf X dX3_here_16 fl_X3_219 (by repeat (first | with_reducible exact Pk.here | with_reducible apply Pk.there)) (by exact rfl) ?_
    refine g_iald (s.1) X dX3_here_19 (by repeat (first | with_reducible exact Pk.here | with_reducible apply Pk.there)) (rfl) (by omega) (by exact hQ s.1 c hc) ?_
    refine g_goto (tgt := 24) X dX3_here_20 (by decide) ?_
    exact g_iret X Y dX3_here_24 (rfl) (⟨by rw [he], rfl⟩) (Pks.tail (rest := _) (by repeat (first | with_reducible exact Pks.nil | (with_reducible refine Pks.pure (by assumption) ?_) | (with_reducible apply Pks.cons; focus ((repeat (first | with_reducible exact Pk.here | with_reducible apply Pk.there)); done)) | (refine Pks.cons Pk.here ?_))))
  · have hc : T[s.1]? = none := List.getElem?_eq_none (by omega)
    have he : heI T s.1 = -1 := by rw [heI, hc]; rfl
    refine g_aload_n X dX3_here_0 rfl rfl ?_
    refine g_getf X dX3_here_1 fl_X3_219 (by repeat (first | with_reducible exact Pk.here | with_reducible apply Pk.there)) (by exact rfl) ?_
    refine g_aload_n X dX3_here_4 rfl rfl ?_
    refine g_getf X dX3_here_5 fl_X3_222 (by repeat (first | with_reducible exact Pk.here | with_reducible apply Pk.there)) (by exact rfl) ?_
    refine g_icmp_ge (tgt := 23) X dX3_here_8 (by decide) (fun c_8 => ?_) (fun c_8 => absurd (nI_le (by omega) (by omega)) c_8)
    refine g_iconst (v := (-1)) X dX3_here_23 rfl ?_
    exact g_iret X Y dX3_here_24 (rfl) (⟨by rw [he], rfl⟩) (Pks.tail (rest := _) (by repeat (first | with_reducible exact Pks.nil | (with_reducible refine Pks.pure (by assumption) ?_) | (with_reducible apply Pks.cons; focus ((repeat (first | with_reducible exact Pk.here | with_reducible apply Pk.there)); done)) | (refine Pks.cons Pk.here ?_))))
theorem c_X3_expects (hB : Bs B) {c : Nat} (hQ : EnL Q T) (hT : ∀ c, c ∈ T → c < 65536) (hl : T.length ≤ 60) (hp : s.1 ≤ T.length) (hc : c < 65536) : Tr B yX3_expects (Cond.code yX3_expects cX3_expects 2 none) (rmd 2 0 0) [.ref m, .int (nI c)] (wQ m ad sv ch ea fa th pm lm cm T.length Q s) (fun r w => r = none ∧ w = wQ m ad sv ch ea fa th pm lm cm T.length Q (exS T c s)) nox := by
  obtain ⟨p, b⟩ := s
  refine tr_of hB (by decide +kernel) rfl ?_
  intro Γ X Y
  refine g_eq (ls' := [.val (.ref m), .val (.int (nI c))]) rfl rfl ?_
  have W : (exS T c (p, b) = (p, true)) → G B Γ 0 0 [pt m (mO ad sv ch ea fa th pm lm cm (nI p) (nI T.length) (bI b)), pt (ad 4) (oA .int 60 Q)] 16 [.val (.ref m), .val (.int (nI c))] [.ref m] := by
    intro he
    refine g_iconst (v := 1) X dX3_expects_16 rfl ?_
    refine g_goto (tgt := 21) X dX3_expects_17 (by decide) ?_
    rw [show (1 : Int32) = bI true from rfl]
    refine pf_20_19 X dX3_expects_21 fl_X3_225 (by repeat (first | with_reducible exact Rp.here | with_reducible apply Rp.there)) rfl rfl ?_
    refine g_aload_n X dX3_expects_24 rfl rfl ?_
    refine g_dup X dX3_expects_25 rfl ?_
    refine g_getf X dX3_expects_26 fl_X3_219 (by repeat (first | with_reducible exact Pk.here | with_reducible apply Pk.there)) (by exact rfl) ?_
    refine g_aload_n X dX3_expects_29 rfl rfl ?_
    refine g_getf X dX3_expects_30 fl_X3_225 (by repeat (first | with_reducible exact Pk.here | with_reducible apply Pk.there)) (by exact rfl) ?_
    refine g_if_eq (tgt := 40) X dX3_expects_33 (by decide) (fun c_33 => absurd c_33 (by decide)) (fun c_33 => ?_)
    refine g_iconst (v := 0) X dX3_expects_36 rfl ?_
    refine g_goto (tgt := 41) X dX3_expects_37 (by decide) ?_
    refine g_iadd X dX3_expects_41 ?_
    rw [Int32.add_zero]
    refine pf_20_17 X dX3_expects_42 fl_X3_219 (by repeat (first | with_reducible exact Rp.here | with_reducible apply Rp.there)) rfl rfl ?_
    exact g_vret X Y dX3_expects_45 (⟨rfl, by rw [he]⟩) (Pks.tail (rest := _) (by repeat (first | with_reducible exact Pks.nil | (with_reducible refine Pks.pure (by assumption) ?_) | (with_reducible apply Pks.cons; focus ((repeat (first | with_reducible exact Pk.here | with_reducible apply Pk.there)); done)) | (refine Pks.cons Pk.here ?_))))
  cases b with
  | true =>
    dsimp only [wQ]
    refine g_aload_n X dX3_expects_0 rfl rfl ?_
    refine g_aload_n X dX3_expects_1 rfl rfl ?_
    refine g_getf X dX3_expects_2 fl_X3_225 (by repeat (first | with_reducible exact Pk.here | with_reducible apply Pk.there)) (by exact rfl) ?_
    refine g_if_ne (tgt := 16) X dX3_expects_5 (by decide) (fun c_5 => ?_) (fun c_5 => absurd c_5 (by decide))
    exact W (if_neg fun q => nomatch q.1)
  | false =>
    dsimp only [wQ]
    by_cases h : T[p]? = some c
    · have he : exS T c (p, false) = (p + 1, false) := if_pos ⟨rfl, h⟩
      refine g_aload_n X dX3_expects_0 rfl rfl ?_
      refine g_aload_n X dX3_expects_1 rfl rfl ?_
      refine g_getf X dX3_expects_2 fl_X3_225 (by repeat (first | with_reducible exact Pk.here | with_reducible apply Pk.there)) (by exact rfl) ?_
      refine g_if_ne (tgt := 16) X dX3_expects_5 (by decide) (fun c_5 => absurd c_5 (fun q => q rfl)) (fun c_5 => ?_)
      refine g_aload_n X dX3_expects_8 rfl rfl ?_
      refine g_callV X dX3_expects_9 mv_X3_229 (c_X3_here hB (s := (p, false)) hQ hl hp) rfl cl_X3 (by repeat (first | with_reducible exact Rc.pt | with_reducible apply Rc.there)) (by repeat (first | with_reducible exact Pks.nil | (with_reducible refine Pks.pure (by assumption) ?_) | (with_reducible apply Pks.cons; focus ((repeat (first | with_reducible exact Pk.here | with_reducible apply Pk.there)); done)) | (refine Pks.cons Pk.here ?_))) rfl rfl (by decide) (by exact Nat.le_of_ble_eq_true rfl) (by first | decide | omega) (fun r w1 hq => ?_) (fun E q w1 hq => hq.elim)
      obtain ⟨rfl, rfl⟩ := hq
      dsimp only [wQ, List.cons_append, List.nil_append, Option.toList_some, Option.toList_none]
      refine g_iload_n X dX3_expects_12 rfl rfl ?_
      refine g_icmp_eq (tgt := 20) X dX3_expects_13 (by decide) (fun c_13 => ?_) (fun c_13 => absurd ((heI_eq hT hc).mpr h) c_13)
      refine g_iconst (v := 0) X dX3_expects_20 rfl ?_
      rw [show (0 : Int32) = bI false from rfl]
      refine pf_20_19 X dX3_expects_21 fl_X3_225 (by repeat (first | with_reducible exact Rp.here | with_reducible apply Rp.there)) rfl rfl ?_
      refine g_aload_n X dX3_expects_24 rfl rfl ?_
      refine g_dup X dX3_expects_25 rfl ?_
      refine g_getf X dX3_expects_26 fl_X3_219 (by repeat (first | with_reducible exact Pk.here | with_reducible apply Pk.there)) (by exact rfl) ?_
      refine g_aload_n X dX3_expects_29 rfl rfl ?_
      refine g_getf X dX3_expects_30 fl_X3_225 (by repeat (first | with_reducible exact Pk.here | with_reducible apply Pk.there)) (by exact rfl) ?_
      refine g_if_eq (tgt := 40) X dX3_expects_33 (by decide) (fun c_33 => ?_) (fun c_33 => absurd (rfl) c_33)
      refine g_iconst (v := 1) X dX3_expects_40 rfl ?_
      refine g_iadd X dX3_expects_41 ?_
      rw [nI_1]
      refine pf_20_17 X dX3_expects_42 fl_X3_219 (by repeat (first | with_reducible exact Rp.here | with_reducible apply Rp.there)) rfl rfl ?_
      exact g_vret X Y dX3_expects_45 (⟨rfl, by rw [he]⟩) (Pks.tail (rest := _) (by repeat (first | with_reducible exact Pks.nil | (with_reducible refine Pks.pure (by assumption) ?_) | (with_reducible apply Pks.cons; focus ((repeat (first | with_reducible exact Pk.here | with_reducible apply Pk.there)); done)) | (refine Pks.cons Pk.here ?_))))
    · refine g_aload_n X dX3_expects_0 rfl rfl ?_
      refine g_aload_n X dX3_expects_1 rfl rfl ?_
      refine g_getf X dX3_expects_2 fl_X3_225 (by repeat (first | with_reducible exact Pk.here | with_reducible apply Pk.there)) (by exact rfl) ?_
      refine g_if_ne (tgt := 16) X dX3_expects_5 (by decide) (fun c_5 => absurd c_5 (fun q => q rfl)) (fun c_5 => ?_)
      refine g_aload_n X dX3_expects_8 rfl rfl ?_
      refine g_callV X dX3_expects_9 mv_X3_229 (c_X3_here hB (s := (p, false)) hQ hl hp) rfl cl_X3 (by repeat (first | with_reducible exact Rc.pt | with_reducible apply Rc.there)) (by repeat (first | with_reducible exact Pks.nil | (with_reducible refine Pks.pure (by assumption) ?_) | (with_reducible apply Pks.cons; focus ((repeat (first | with_reducible exact Pk.here | with_reducible apply Pk.there)); done)) | (refine Pks.cons Pk.here ?_))) rfl rfl (by decide) (by exact Nat.le_of_ble_eq_true rfl) (by first | decide | omega) (fun r w1 hq => ?_) (fun E q w1 hq => hq.elim)
      obtain ⟨rfl, rfl⟩ := hq
      dsimp only [wQ, List.cons_append, List.nil_append, Option.toList_some, Option.toList_none]
      refine g_iload_n X dX3_expects_12 rfl rfl ?_
      refine g_icmp_eq (tgt := 20) X dX3_expects_13 (by decide) (fun c_13 => absurd c_13 ((fun q => h ((heI_eq hT hc).mp q)))) (fun c_13 => ?_)
      exact W (if_neg fun q => h q.2)
theorem c_X3_digit (hB : Bs B) (hQ : EnL Q T) (hT : ∀ c, c ∈ T → c < 65536) (hl : T.length ≤ 60) (hp : s.1 ≤ T.length) : Tr B yX3_digit (Cond.code yX3_digit cX3_digit 2 (some .int)) (rmd 2 0 0) [.ref m] (wQ m ad sv ch ea fa th pm lm cm T.length Q s) (fun r w => r = some (.int (nI (dgS T s).1)) ∧ w = wQ m ad sv ch ea fa th pm lm cm T.length Q (dgS T s).2) nox := by
  obtain ⟨p, b⟩ := s
  refine tr_of hB (by decide +kernel) rfl ?_
  intro Γ X Y
  refine g_eq (ls' := [.val (.ref m), .unset]) rfl rfl ?_
  have W : (dgS T (p, b) = (0, (p, true))) → G B Γ 0 0 [pt m (mO ad sv ch ea fa th pm lm cm (nI p) (nI T.length) (bI b)), pt (ad 4) (oA .int 60 Q)] 25 [.val (.ref m), .unset] [.ref m] := by
    intro he
    refine g_iconst (v := 1) X dX3_digit_25 rfl ?_
    refine g_goto (tgt := 30) X dX3_digit_26 (by decide) ?_
    rw [show (1 : Int32) = bI true from rfl]
    refine pf_20_19 X dX3_digit_30 fl_X3_225 (by repeat (first | with_reducible exact Rp.here | with_reducible apply Rp.there)) rfl rfl ?_
    refine g_aload_n X dX3_digit_33 rfl rfl ?_
    refine g_getf X dX3_digit_34 fl_X3_225 (by repeat (first | with_reducible exact Pk.here | with_reducible apply Pk.there)) (by exact rfl) ?_
    refine g_if_eq (tgt := 44) X dX3_digit_37 (by decide) (fun c_37 => absurd c_37 (by decide)) (fun c_37 => ?_)
    refine g_iconst (v := 0) X dX3_digit_40 rfl ?_
    refine g_goto (tgt := 51) X dX3_digit_41 (by decide) ?_
    refine is_2_1n X dX3_digit_51 rfl rfl ?_
    refine g_aload_n X dX3_digit_52 rfl rfl ?_
    refine g_dup X dX3_digit_53 rfl ?_
    refine g_getf X dX3_digit_54 fl_X3_219 (by repeat (first | with_reducible exact Pk.here | with_reducible apply Pk.there)) (by exact rfl) ?_
    refine g_aload_n X dX3_digit_57 rfl rfl ?_
    refine g_getf X dX3_digit_58 fl_X3_225 (by repeat (first | with_reducible exact Pk.here | with_reducible apply Pk.there)) (by exact rfl) ?_
    refine g_if_eq (tgt := 68) X dX3_digit_61 (by decide) (fun c_61 => absurd c_61 (by decide)) (fun c_61 => ?_)
    refine g_iconst (v := 0) X dX3_digit_64 rfl ?_
    refine g_goto (tgt := 69) X dX3_digit_65 (by decide) ?_
    refine g_iadd X dX3_digit_69 ?_
    rw [Int32.add_zero]
    refine pf_20_17 X dX3_digit_70 fl_X3_219 (by repeat (first | with_reducible exact Rp.here | with_reducible apply Rp.there)) rfl rfl ?_
    refine g_iload_n X dX3_digit_73 rfl rfl ?_
    exact g_iret X Y dX3_digit_74 (rfl) (⟨by rw [he]; rfl, by rw [he]⟩) (Pks.tail (rest := _) (by repeat (first | with_reducible exact Pks.nil | (with_reducible refine Pks.pure (by assumption) ?_) | (with_reducible apply Pks.cons; focus ((repeat (first | with_reducible exact Pk.here | with_reducible apply Pk.there)); done)) | (refine Pks.cons Pk.here ?_))))
  cases b with
  | true =>
    dsimp only [wQ]
    refine g_aload_n X dX3_digit_0 rfl rfl ?_
    refine g_aload_n X dX3_digit_1 rfl rfl ?_
    refine g_getf X dX3_digit_2 fl_X3_225 (by repeat (first | with_reducible exact Pk.here | with_reducible apply Pk.there)) (by exact rfl) ?_
    refine g_if_ne (tgt := 25) X dX3_digit_5 (by decide) (fun c_5 => ?_) (fun c_5 => absurd c_5 (by decide))
    exact W (if_neg fun q => nomatch q.1)
  | false =>
    dsimp only [wQ]
    by_cases h : isDg T p = true
    · have he : dgS T (p, false) = (T.getD p 0 - 48, (p + 1, false)) := if_pos ⟨rfl, h⟩
      have h2 := h
      unfold isDg at h2
      cases hc : T[p]? with
      | none => rw [hc] at h2; exact nomatch h2
      | some c =>
        rw [hc] at h2
        have h3 := of_decide_eq_true h2
        have hg : T.getD p 0 = c := by rw [List.getD_eq_getElem?_getD, hc]; rfl
        have hh : heI T p = nI c := by rw [heI, hc]; rfl
        rw [hg] at he
        refine g_aload_n X dX3_digit_0 rfl rfl ?_
        refine g_aload_n X dX3_digit_1 rfl rfl ?_
        refine g_getf X dX3_digit_2 fl_X3_225 (by repeat (first | with_reducible exact Pk.here | with_reducible apply Pk.there)) (by exact rfl) ?_
        refine g_if_ne (tgt := 25) X dX3_digit_5 (by decide) (fun c_5 => absurd c_5 (fun q => q rfl)) (fun c_5 => ?_)
        refine g_aload_n X dX3_digit_8 rfl rfl ?_
        refine g_callV X dX3_digit_9 mv_X3_229 (c_X3_here hB (s := (p, false)) hQ hl hp) rfl cl_X3 (by repeat (first | with_reducible exact Rc.pt | with_reducible apply Rc.there)) (by repeat (first | with_reducible exact Pks.nil | (with_reducible refine Pks.pure (by assumption) ?_) | (with_reducible apply Pks.cons; focus ((repeat (first | with_reducible exact Pk.here | with_reducible apply Pk.there)); done)) | (refine Pks.cons Pk.here ?_))) rfl rfl (by decide) (by exact Nat.le_of_ble_eq_true rfl) (by first | decide | omega) (fun r w1 hq => ?_) (fun E q w1 hq => hq.elim)
        obtain ⟨rfl, rfl⟩ := hq
        dsimp only [wQ, List.cons_append, List.nil_append, Option.toList_some, Option.toList_none]
        refine g_i2l X dX3_digit_12 rfl ?_
        refine g_ldc2 X dX3_digit_13 q3167 ?_
        refine g_ldc2 X dX3_digit_16 q3168 ?_
        refine g_callS X dX3_digit_19 ms_X3_51 (c_X3_in hB) rfl (by repeat (first | with_reducible exact Pks.nil | (with_reducible refine Pks.pure (by assumption) ?_) | (with_reducible apply Pks.cons; focus ((repeat (first | with_reducible exact Pk.here | with_reducible apply Pk.there)); done)) | (refine Pks.cons Pk.here ?_))) rfl rfl (by decide) (by exact Nat.le_of_ble_eq_true rfl) (by first | decide | omega) (fun r w1 hq => ?_) (fun E q w1 hq => hq.elim)
        obtain ⟨rfl, rfl⟩ := hq
        dsimp only [wQ, List.cons_append, List.nil_append, Option.toList_some, Option.toList_none]
        rw [inL (j := 48) (k := 57) (by decide) (by decide), bP_t ((heI_dg hT).mpr h)]
        refine g_if_ne (tgt := 29) X dX3_digit_22 (by decide) (fun c_22 => ?_) (fun c_22 => absurd c_22 (by decide))
        refine g_iconst (v := 0) X dX3_digit_29 rfl ?_
        rw [show (0 : Int32) = bI false from rfl]
        refine pf_20_19 X dX3_digit_30 fl_X3_225 (by repeat (first | with_reducible exact Rp.here | with_reducible apply Rp.there)) rfl rfl ?_
        refine g_aload_n X dX3_digit_33 rfl rfl ?_
        refine g_getf X dX3_digit_34 fl_X3_225 (by repeat (first | with_reducible exact Pk.here | with_reducible apply Pk.there)) (by exact rfl) ?_
        refine g_if_eq (tgt := 44) X dX3_digit_37 (by decide) (fun c_37 => ?_) (fun c_37 => absurd (rfl) c_37)
        refine g_aload_n X dX3_digit_44 rfl rfl ?_
        refine g_callV X dX3_digit_45 mv_X3_229 (c_X3_here hB (s := (p, false)) hQ hl hp) rfl cl_X3 (by repeat (first | with_reducible exact Rc.pt | with_reducible apply Rc.there)) (by repeat (first | with_reducible exact Pks.nil | (with_reducible refine Pks.pure (by assumption) ?_) | (with_reducible apply Pks.cons; focus ((repeat (first | with_reducible exact Pk.here | with_reducible apply Pk.there)); done)) | (refine Pks.cons Pk.here ?_))) rfl rfl (by decide) (by exact Nat.le_of_ble_eq_true rfl) (by first | decide | omega) (fun r w1 hq => ?_) (fun E q w1 hq => hq.elim)
        obtain ⟨rfl, rfl⟩ := hq
        dsimp only [wQ, List.cons_append, List.nil_append, Option.toList_some, Option.toList_none]
        refine g_bipush (v := 48) X dX3_digit_48 rfl ?_
        refine g_isub X dX3_digit_50 ?_
        rw [hh, show (48 : Int32) = nI 48 by decide, pk_sub h3.1]
        refine is_2_1n X dX3_digit_51 rfl rfl ?_
        refine g_aload_n X dX3_digit_52 rfl rfl ?_
        refine g_dup X dX3_digit_53 rfl ?_
        refine g_getf X dX3_digit_54 fl_X3_219 (by repeat (first | with_reducible exact Pk.here | with_reducible apply Pk.there)) (by exact rfl) ?_
        refine g_aload_n X dX3_digit_57 rfl rfl ?_
        refine g_getf X dX3_digit_58 fl_X3_225 (by repeat (first | with_reducible exact Pk.here | with_reducible apply Pk.there)) (by exact rfl) ?_
        refine g_if_eq (tgt := 68) X dX3_digit_61 (by decide) (fun c_61 => ?_) (fun c_61 => absurd (rfl) c_61)
        refine g_iconst (v := 1) X dX3_digit_68 rfl ?_
        refine g_iadd X dX3_digit_69 ?_
        rw [nI_1]
        refine pf_20_17 X dX3_digit_70 fl_X3_219 (by repeat (first | with_reducible exact Rp.here | with_reducible apply Rp.there)) rfl rfl ?_
        refine g_iload_n X dX3_digit_73 rfl rfl ?_
        exact g_iret X Y dX3_digit_74 (rfl) (⟨by rw [he], by rw [he]⟩) (Pks.tail (rest := _) (by repeat (first | with_reducible exact Pks.nil | (with_reducible refine Pks.pure (by assumption) ?_) | (with_reducible apply Pks.cons; focus ((repeat (first | with_reducible exact Pk.here | with_reducible apply Pk.there)); done)) | (refine Pks.cons Pk.here ?_))))
    · refine g_aload_n X dX3_digit_0 rfl rfl ?_
      refine g_aload_n X dX3_digit_1 rfl rfl ?_
      refine g_getf X dX3_digit_2 fl_X3_225 (by repeat (first | with_reducible exact Pk.here | with_reducible apply Pk.there)) (by exact rfl) ?_
      refine g_if_ne (tgt := 25) X dX3_digit_5 (by decide) (fun c_5 => absurd c_5 (fun q => q rfl)) (fun c_5 => ?_)
      refine g_aload_n X dX3_digit_8 rfl rfl ?_
      refine g_callV X dX3_digit_9 mv_X3_229 (c_X3_here hB (s := (p, false)) hQ hl hp) rfl cl_X3 (by repeat (first | with_reducible exact Rc.pt | with_reducible apply Rc.there)) (by repeat (first | with_reducible exact Pks.nil | (with_reducible refine Pks.pure (by assumption) ?_) | (with_reducible apply Pks.cons; focus ((repeat (first | with_reducible exact Pk.here | with_reducible apply Pk.there)); done)) | (refine Pks.cons Pk.here ?_))) rfl rfl (by decide) (by exact Nat.le_of_ble_eq_true rfl) (by first | decide | omega) (fun r w1 hq => ?_) (fun E q w1 hq => hq.elim)
      obtain ⟨rfl, rfl⟩ := hq
      dsimp only [wQ, List.cons_append, List.nil_append, Option.toList_some, Option.toList_none]
      refine g_i2l X dX3_digit_12 rfl ?_
      refine g_ldc2 X dX3_digit_13 q3167 ?_
      refine g_ldc2 X dX3_digit_16 q3168 ?_
      refine g_callS X dX3_digit_19 ms_X3_51 (c_X3_in hB) rfl (by repeat (first | with_reducible exact Pks.nil | (with_reducible refine Pks.pure (by assumption) ?_) | (with_reducible apply Pks.cons; focus ((repeat (first | with_reducible exact Pk.here | with_reducible apply Pk.there)); done)) | (refine Pks.cons Pk.here ?_))) rfl rfl (by decide) (by exact Nat.le_of_ble_eq_true rfl) (by first | decide | omega) (fun r w1 hq => ?_) (fun E q w1 hq => hq.elim)
      obtain ⟨rfl, rfl⟩ := hq
      dsimp only [wQ, List.cons_append, List.nil_append, Option.toList_some, Option.toList_none]
      rw [inL (j := 48) (k := 57) (by decide) (by decide), bP_f (fun q => h ((heI_dg hT).mp q))]
      refine g_if_ne (tgt := 29) X dX3_digit_22 (by decide) (fun c_22 => absurd c_22 (by decide)) (fun c_22 => ?_)
      exact W (if_neg fun q => h q.2)
theorem c_X3_number (hB : Bs B) (hQ : EnL Q T) (hT : ∀ c, c ∈ T → c < 65536) (hl : T.length ≤ 60) (hp : s.1 ≤ T.length) : Tr B yX3_number (Cond.code yX3_number cX3_number 3 (some .int)) (rmd 3 0 0) [.ref m] (wQ m ad sv ch ea fa th pm lm cm T.length Q s) (fun r w => r = some (.int (nI (nuS T s).1)) ∧ w = wQ m ad sv ch ea fa th pm lm cm T.length Q (nuS T s).2) nox := by
  refine tr_of hB (by decide +kernel) rfl ?_
  intro Γ X Y
  refine g_eq (ls' := [.val (.ref m), .unset, .unset]) rfl rfl ?_
  have L : ∀ f k (a : Nat × PS), k + f = 2 → a.2.1 ≤ T.length → nuU T f a = nuS T s → G B Γ 0 0 (wQ m ad sv ch ea fa th pm lm cm T.length Q a.2) 7 [.val (.ref m), .val (.int (nI a.1)), .val (.int (nI k))] [] := by
    intro f
    induction f with
    | zero =>
      intro k a hk ha he
      obtain rfl : k = 2 := by omega
      have he2 : a = nuS T s := he
      subst he2
      refine g_iload_n X dX3_number_7 rfl rfl ?_
      refine g_iconst (v := 2) X dX3_number_8 rfl ?_
      refine g_icmp_ge (tgt := 52) X dX3_number_9 (by decide) (fun c_9 => ?_) (fun c_9 => absurd (nI_le (a := 2) (by omega) (by omega)) c_9)
      refine g_iload_n X dX3_number_52 rfl rfl ?_
      exact g_iret X Y dX3_number_53 (rfl) (⟨rfl, rfl⟩) (Pks.tail (rest := _) (by repeat (first | with_reducible exact Pks.nil | (with_reducible refine Pks.pure (by assumption) ?_) | (with_reducible apply Pks.cons; focus ((repeat (first | with_reducible exact Pk.here | with_reducible apply Pk.there)); done)) | (refine Pks.cons Pk.here ?_))))
    | succ f ih =>
      intro k a hk ha he
      by_cases h1 : a.2.2 = false
      · by_cases h2 : isDg T a.2.1 = true
        · have he2 : nuU T f (10 * a.1 + (dgS T a.2).1, (dgS T a.2).2) = nuS T s := (if_pos (c := a.2.2 = false ∧ isDg T a.2.1 = true) ⟨h1, h2⟩).symm.trans he
          refine g_iload_n X dX3_number_7 rfl rfl ?_
          refine g_iconst (v := 2) X dX3_number_8 rfl ?_
          refine g_icmp_ge (tgt := 52) X dX3_number_9 (by decide) (fun c_9 => absurd c_9 (nI_ge (b := 2) (by omega) (by omega))) (fun c_9 => ?_)
          refine g_aload_n X dX3_number_12 rfl rfl ?_
          refine g_getf X dX3_number_13 fl_X3_225 (by repeat (first | with_reducible exact Pk.here | with_reducible apply Pk.there)) (by exact rfl) ?_
          refine g_if_ne (tgt := 52) X dX3_number_16 (by decide) (fun c_16 => absurd c_16 (fun q => q (bI_0.mpr h1))) (fun c_16 => ?_)
          refine g_aload_n X dX3_number_19 rfl rfl ?_
          refine g_callV X dX3_number_20 mv_X3_229 (c_X3_here hB hQ hl ha) rfl cl_X3 (by repeat (first | with_reducible exact Rc.pt | with_reducible apply Rc.there)) (by repeat (first | with_reducible exact Pks.nil | (with_reducible refine Pks.pure (by assumption) ?_) | (with_reducible apply Pks.cons; focus ((repeat (first | with_reducible exact Pk.here | with_reducible apply Pk.there)); done)) | (refine Pks.cons Pk.here ?_))) rfl rfl (by decide) (by exact Nat.le_of_ble_eq_true rfl) (by first | decide | omega) (fun r w1 hq => ?_) (fun E q w1 hq => hq.elim)
          obtain ⟨rfl, rfl⟩ := hq
          dsimp only [wQ, List.cons_append, List.nil_append, Option.toList_some, Option.toList_none]
          refine g_i2l X dX3_number_23 rfl ?_
          refine g_ldc2 X dX3_number_24 q3167 ?_
          refine g_ldc2 X dX3_number_27 q3168 ?_
          refine g_callS X dX3_number_30 ms_X3_51 (c_X3_in hB) rfl (by repeat (first | with_reducible exact Pks.nil | (with_reducible refine Pks.pure (by assumption) ?_) | (with_reducible apply Pks.cons; focus ((repeat (first | with_reducible exact Pk.here | with_reducible apply Pk.there)); done)) | (refine Pks.cons Pk.here ?_))) rfl rfl (by decide) (by exact Nat.le_of_ble_eq_true rfl) (by first | decide | omega) (fun r w1 hq => ?_) (fun E q w1 hq => hq.elim)
          obtain ⟨rfl, rfl⟩ := hq
          dsimp only [wQ, List.cons_append, List.nil_append, Option.toList_some, Option.toList_none]
          rw [inL (j := 48) (k := 57) (by decide) (by decide), bP_t ((heI_dg hT).mpr h2)]
          refine g_if_eq (tgt := 52) X dX3_number_33 (by decide) (fun c_33 => absurd c_33 (by decide)) (fun c_33 => ?_)
          refine g_bipush (v := 10) X dX3_number_36 rfl ?_
          refine g_iload_n X dX3_number_38 rfl rfl ?_
          refine g_imul X dX3_number_39 ?_
          refine g_aload_n X dX3_number_40 rfl rfl ?_
          refine g_callV X dX3_number_41 mv_X3_236 (c_X3_digit hB hQ hT hl ha) rfl cl_X3 (by repeat (first | with_reducible exact Rc.pt | with_reducible apply Rc.there)) (by repeat (first | with_reducible exact Pks.nil | (with_reducible refine Pks.pure (by assumption) ?_) | (with_reducible apply Pks.cons; focus ((repeat (first | with_reducible exact Pk.here | with_reducible apply Pk.there)); done)) | (refine Pks.cons Pk.here ?_))) rfl rfl (by decide) (by exact Nat.le_of_ble_eq_true rfl) (by first | decide | omega) (fun r w1 hq => ?_) (fun E q w1 hq => hq.elim)
          obtain ⟨rfl, rfl⟩ := hq
          dsimp only [wQ, List.cons_append, List.nil_append, Option.toList_some, Option.toList_none]
          refine g_iadd X dX3_number_44 ?_
          rw [show (10 : Int32) = nI 10 by decide, pk_mul, nI_add]
          refine is_3_1n X dX3_number_45 rfl rfl ?_
          refine ii_3_2 (v := nI (k + 1)) X dX3_number_46 (nI_1 k) rfl ?_
          refine g_goto (tgt := 7) X dX3_number_49 (by decide) ?_
          exact ih (k + 1) (10 * a.1 + (dgS T a.2).1, (dgS T a.2).2) (by omega) (dgS_p ha).1 he2
        · have he2 : a = nuS T s := (if_neg (c := a.2.2 = false ∧ isDg T a.2.1 = true) (fun q => h2 q.2)).symm.trans he
          subst he2
          refine g_iload_n X dX3_number_7 rfl rfl ?_
          refine g_iconst (v := 2) X dX3_number_8 rfl ?_
          refine g_icmp_ge (tgt := 52) X dX3_number_9 (by decide) (fun c_9 => absurd c_9 (nI_ge (b := 2) (by omega) (by omega))) (fun c_9 => ?_)
          refine g_aload_n X dX3_number_12 rfl rfl ?_
          refine g_getf X dX3_number_13 fl_X3_225 (by repeat (first | with_reducible exact Pk.here | with_reducible apply Pk.there)) (by exact rfl) ?_
          refine g_if_ne (tgt := 52) X dX3_number_16 (by decide) (fun c_16 => absurd c_16 (fun q => q (bI_0.mpr h1))) (fun c_16 => ?_)
          refine g_aload_n X dX3_number_19 rfl rfl ?_
          refine g_callV X dX3_number_20 mv_X3_229 (c_X3_here hB hQ hl ha) rfl cl_X3 (by repeat (first | with_reducible exact Rc.pt | with_reducible apply Rc.there)) (by repeat (first | with_reducible exact Pks.nil | (with_reducible refine Pks.pure (by assumption) ?_) | (with_reducible apply Pks.cons; focus ((repeat (first | with_reducible exact Pk.here | with_reducible apply Pk.there)); done)) | (refine Pks.cons Pk.here ?_))) rfl rfl (by decide) (by exact Nat.le_of_ble_eq_true rfl) (by first | decide | omega) (fun r w1 hq => ?_) (fun E q w1 hq => hq.elim)
          obtain ⟨rfl, rfl⟩ := hq
          dsimp only [wQ, List.cons_append, List.nil_append, Option.toList_some, Option.toList_none]
          refine g_i2l X dX3_number_23 rfl ?_
          refine g_ldc2 X dX3_number_24 q3167 ?_
          refine g_ldc2 X dX3_number_27 q3168 ?_
          refine g_callS X dX3_number_30 ms_X3_51 (c_X3_in hB) rfl (by repeat (first | with_reducible exact Pks.nil | (with_reducible refine Pks.pure (by assumption) ?_) | (with_reducible apply Pks.cons; focus ((repeat (first | with_reducible exact Pk.here | with_reducible apply Pk.there)); done)) | (refine Pks.cons Pk.here ?_))) rfl rfl (by decide) (by exact Nat.le_of_ble_eq_true rfl) (by first | decide | omega) (fun r w1 hq => ?_) (fun E q w1 hq => hq.elim)
          obtain ⟨rfl, rfl⟩ := hq
          dsimp only [wQ, List.cons_append, List.nil_append, Option.toList_some, Option.toList_none]
          rw [inL (j := 48) (k := 57) (by decide) (by decide), bP_f (fun q => h2 ((heI_dg hT).mp q))]
          refine g_if_eq (tgt := 52) X dX3_number_33 (by decide) (fun c_33 => ?_) (fun c_33 => absurd (rfl) c_33)
          refine g_iload_n X dX3_number_52 rfl rfl ?_
          exact g_iret X Y dX3_number_53 (rfl) (⟨rfl, rfl⟩) (Pks.tail (rest := _) (by repeat (first | with_reducible exact Pks.nil | (with_reducible refine Pks.pure (by assumption) ?_) | (with_reducible apply Pks.cons; focus ((repeat (first | with_reducible exact Pk.here | with_reducible apply Pk.there)); done)) | (refine Pks.cons Pk.here ?_))))
      · have he2 : a = nuS T s := (if_neg (c := a.2.2 = false ∧ isDg T a.2.1 = true) (fun q => h1 q.1)).symm.trans he
        subst he2
        refine g_iload_n X dX3_number_7 rfl rfl ?_
        refine g_iconst (v := 2) X dX3_number_8 rfl ?_
        refine g_icmp_ge (tgt := 52) X dX3_number_9 (by decide) (fun c_9 => absurd c_9 (nI_ge (b := 2) (by omega) (by omega))) (fun c_9 => ?_)
        refine g_aload_n X dX3_number_12 rfl rfl ?_
        refine g_getf X dX3_number_13 fl_X3_225 (by repeat (first | with_reducible exact Pk.here | with_reducible apply Pk.there)) (by exact rfl) ?_
        refine g_if_ne (tgt := 52) X dX3_number_16 (by decide) (fun c_16 => ?_) (fun c_16 => absurd c_16 (fun q => h1 (bI_0.mp q)))
        refine g_iload_n X dX3_number_52 rfl rfl ?_
        exact g_iret X Y dX3_number_53 (rfl) (⟨rfl, rfl⟩) (Pks.tail (rest := _) (by repeat (first | with_reducible exact Pks.nil | (with_reducible refine Pks.pure (by assumption) ?_) | (with_reducible apply Pks.cons; focus ((repeat (first | with_reducible exact Pk.here | with_reducible apply Pk.there)); done)) | (refine Pks.cons Pk.here ?_))))
  refine g_aload_n X dX3_number_0 rfl rfl ?_
  refine g_callV X dX3_number_1 mv_X3_236 (c_X3_digit hB hQ hT hl hp) rfl cl_X3 (by repeat (first | with_reducible exact Rc.pt | with_reducible apply Rc.there)) (by repeat (first | with_reducible exact Pks.nil | (with_reducible refine Pks.pure (by assumption) ?_) | (with_reducible apply Pks.cons; focus ((repeat (first | with_reducible exact Pk.here | with_reducible apply Pk.there)); done)) | (refine Pks.cons Pk.here ?_))) rfl rfl (by decide) (by exact Nat.le_of_ble_eq_true rfl) (by first | decide | omega) (fun r w1 hq => ?_) (fun E q w1 hq => hq.elim)
  obtain ⟨rfl, rfl⟩ := hq
  dsimp only [wQ, List.cons_append, List.nil_append, Option.toList_some, Option.toList_none]
  refine is_3_1n X dX3_number_4 rfl rfl ?_
  refine g_iconst (v := 0) X dX3_number_5 rfl ?_
  refine is_3_2n X dX3_number_6 rfl rfl ?_
  exact L 2 0 (dgS T s) rfl (dgS_p hp).1 rfl
theorem c_X3_numberBehind (hB : Bs B) {c : Nat} (hQ : EnL Q T) (hT : ∀ c, c ∈ T → c < 65536) (hl : T.length ≤ 60) (hp : s.1 ≤ T.length) (hc : c < 65536) : Tr B yX3_numberBehind (Cond.code yX3_numberBehind cX3_numberBehind 2 (some .int)) (rmd 4 0 0) [.ref m, .int (nI c)] (wQ m ad sv ch ea fa th pm lm cm T.length Q s) (fun r w => r = some (.int (nI (nbS T c s).1)) ∧ w = wQ m ad sv ch ea fa th pm lm cm T.length Q (nbS T c s).2) nox := by
  refine tr_of hB (by decide +kernel) rfl ?_
  intro Γ X Y
  refine g_eq (ls' := [.val (.ref m), .val (.int (nI c))]) rfl rfl ?_
  refine g_aload_n X dX3_numberBehind_0 rfl rfl ?_
  refine g_iload_n X dX3_numberBehind_1 rfl rfl ?_
  refine g_callV X dX3_numberBehind_2 mv_X3_239 (c_X3_expects hB hQ hT hl hp hc) rfl cl_X3 (by repeat (first | with_reducible exact Rc.pt | with_reducible apply Rc.there)) (by repeat (first | with_reducible exact Pks.nil | (with_reducible refine Pks.pure (by assumption) ?_) | (with_reducible apply Pks.cons; focus ((repeat (first | with_reducible exact Pk.here | with_reducible apply Pk.there)); done)) | (refine Pks.cons Pk.here ?_))) rfl rfl (by decide) (by exact Nat.le_of_ble_eq_true rfl) (by first | decide | omega) (fun r w1 hq => ?_) (fun E q w1 hq => hq.elim)
  obtain ⟨rfl, rfl⟩ := hq
  dsimp only [wQ, List.cons_append, List.nil_append, Option.toList_some, Option.toList_none]
  refine g_aload_n X dX3_numberBehind_5 rfl rfl ?_
  refine g_callV X dX3_numberBehind_6 mv_X3_242 (c_X3_number hB hQ hT hl (exS_p hp).1) rfl cl_X3 (by repeat (first | with_reducible exact Rc.pt | with_reducible apply Rc.there)) (by repeat (first | with_reducible exact Pks.nil | (with_reducible refine Pks.pure (by assumption) ?_) | (with_reducible apply Pks.cons; focus ((repeat (first | with_reducible exact Pk.here | with_reducible apply Pk.there)); done)) | (refine Pks.cons Pk.here ?_))) rfl rfl (by decide) (by exact Nat.le_of_ble_eq_true rfl) (by first | decide | omega) (fun r w1 hq => ?_) (fun E q w1 hq => hq.elim)
  obtain ⟨rfl, rfl⟩ := hq
  dsimp only [wQ, List.cons_append, List.nil_append, Option.toList_some, Option.toList_none]
  exact g_iret X Y dX3_numberBehind_9 (rfl) (⟨rfl, rfl⟩) (Pks.tail (rest := _) (by repeat (first | with_reducible exact Pks.nil | (with_reducible refine Pks.pure (by assumption) ?_) | (with_reducible apply Pks.cons; focus ((repeat (first | with_reducible exact Pk.here | with_reducible apply Pk.there)); done)) | (refine Pks.cons Pk.here ?_))))
end MODEL
