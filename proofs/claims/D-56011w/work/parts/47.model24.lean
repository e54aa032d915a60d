/-! THE MODEL: programs run -/
set_option maxRecDepth 100000
def prU (T : List Nat) : Nat → List CM → Nat → List CM × PS
  | 0, L, p => (L, (p, true))
  | f + 1, L, p => if (rdS T p).2.2 = false ∧ (rdS T p).2.1 < T.length then
      (if (exS T 59 (rdS T p).2).2 = true then (L ++ (rdS T p).1.toList, exS T 59 (rdS T p).2) else prU T f (L ++ (rdS T p).1.toList) (exS T 59 (rdS T p).2).1)
    else (L ++ (rdS T p).1.toList, (rdS T p).2)
/-- a program read: its commands, where it ended, whether wrong -/
def prS (T : List Nat) : List CM × PS := prU T (T.length + 1) [] 0
def exU (L : List CM) : Nat → Nat → SS → Option Nat × SS
  | 0, _, S => (none, S)
  | f + 1, k, S => match L[k]? with
    | none => (none, S)
    | some c => if (doS c S).1 = 0 then exU L f (k + 1) (doS c S).2.2 else (some k, S)
/-- the commands done on a state: the first that fails, the state behind -/
abbrev exS_ (L : List CM) (S : SS) : Option Nat × SS := exU L L.length 0 S
/-- the state behind the first k commands -/
def stU (L : List CM) (S : SS) : Nat → Option SS
  | 0 => some S
  | k + 1 => match stU L S k with
    | none => none
    | some S' => match L[k]? with
      | none => none
      | some c => if (doS c S').1 = 0 then some (doS c S').2.2 else none
def rnS (T : List Nat) (S : SS) : Rs := if (prS T).2.2 = true then erS 1 S else match (exS_ (prS T).1 S).1 with
  | some _ => erS 2 S
  | none => (0, nI (prS T).1.length, (exS_ (prS T).1 S).2)
def rnE (T : List Nat) (x : Int32) : Int32 := if (prS T).2.2 = true then nI (prS T).2.1 else x
def rnF (T : List Nat) (S : SS) (x : Int32) : Int32 := if (prS T).2.2 = true then x else match (exS_ (prS T).1 S).1 with
  | some k => nI k
  | none => x
section MODEL
variable {B : Bt} {m : Nat} {ad : Nat → Nat} {sv ch ea fa th pm lm cm p0 s0 iw : Int32} {M A P Q K fL fB : Nat → Int32} {T : List Nat} {S : SS} {L : List SS}
abbrev wX (m : Nat) (ad : Nat → Nat) (sv ch ea fa th pm lm cm p0 s0 iw : Int32) (M A P Q fL fB K : Nat → Int32) : List An := [pt m (mO ad sv ch ea fa th pm lm cm p0 s0 iw), pt (ad 0) (oA .int 155 M), pt (ad 1) (oA .int 155 A), pt (ad 3) (oA .int 1240 P), pt (ad 4) (oA .int 60 Q), pt (ad 6) (oA .char 47 fL), pt (ad 7) (oA .int 10 fB), pt (ad 8) (oA .int 366 K)]
abbrev PrM (m : Nat) (ad : Nat → Nat) (sv ea fa lm : Int32) (Q fL fB : Nat → Int32) (S : SS) (L : List SS) (R : Rs) : Option Value → List An → Prop := fun r w => ∃ ch' q cm' p0' s0' iw' M' A' P' K', r = some (.int R.2.1) ∧ w = wX m ad sv ch' ea fa q 0 lm cm' p0' s0' iw' M' A' P' Q fL fB K' ∧ q = nI R.1 ∧ Enc M' R.2.2 ∧ ch' = nI (mutP R L S).length ∧ EnP P' (mutP R L S)
theorem c_X3_run (hB : Bs B) (hE : Enc M S) (hL : EnP P L) (hc : ch = nI L.length) (hQ : EnL Q T) (hT : ∀ c, c ∈ T → c < 65536) (hfL : EnL fL LT) (hfB : EnL fB BGL) (hl : T.length ≤ 60) (hm : pm = nI T.length) (hok : ∀ k S', stU (prS T).1 S k = some S' → okM S') : Tr B yX3_run (Cond.code yX3_run cX3_run 4 (some .int)) (rmd 8 0 0) [.ref m] (wX m ad sv ch ea fa th pm lm cm p0 s0 iw M A P Q fL fB K) (PrM m ad sv (rnE T ea) (rnF T S fa) lm Q fL fB S L (rnS T S)) nox := by
  subst hm
  refine tr_of hB (by decide +kernel) rfl ?_
  intro Γ X Y
  refine g_eq (ls' := [.val (.ref m), .unset, .unset, .unset]) rfl rfl ?_
  have J : ∀ (Lc : List CM) (cm1 : Int32) (K1 : Nat → Int32) (s : PS), EnK K1 Lc → cm1 = nI Lc.length → Lc.length ≤ 60 → s.1 ≤ T.length → prS T = (Lc, s) → G B Γ 0 0 (wX m ad sv ch ea fa 0 0 lm cm1 (nI s.1) (nI T.length) (bI s.2) M (cpu A M 0 155) P Q fL fB K1) 92 [.val (.ref m), .val (.int 0), .unset, .unset] [] := by
    intro Lc cm1 K1 s hK hcm hn hs hpr
    subst hcm
    cases hw : s.2 with
    | true =>
      have hR : rnS T S = erS 1 S := if_pos (by rw [hpr]; exact hw)
      have hRE : rnE T ea = nI s.1 := by rw [rnE, if_pos (by rw [hpr]; exact hw), hpr]
      have hRF : rnF T S fa = fa := by rw [rnF, if_pos (by rw [hpr]; exact hw)]
      rw [hR, hRE, hRF] at Y
      refine g_aload_n X dX3_run_92 rfl rfl ?_
      refine g_getf X dX3_run_93 fl_X3_225 (by repeat (first | with_reducible exact Pk.here | with_reducible apply Pk.there)) (by exact rfl) ?_
      refine g_if_eq (tgt := 113) X dX3_run_96 (by decide) (fun c_96 => absurd c_96 (by decide)) (fun c_96 => ?_)
      refine g_aload_n X dX3_run_99 rfl rfl ?_
      refine g_aload_n X dX3_run_100 rfl rfl ?_
      refine g_getf X dX3_run_101 fl_X3_219 (by repeat (first | with_reducible exact Pk.here | with_reducible apply Pk.there)) (by exact rfl) ?_
      refine pf_20_6 X dX3_run_104 fl_X3_22 (by repeat (first | with_reducible exact Rp.here | with_reducible apply Rp.there)) rfl rfl ?_
      refine g_aload_n X dX3_run_107 rfl rfl ?_
      refine g_iconst (v := 1) X dX3_run_108 rfl ?_
      refine g_callV X dX3_run_109 mv_X3_75 (c_X3_throwing hB) rfl cl_X3 (by repeat (first | with_reducible exact Rc.pt | with_reducible apply Rc.there)) (by repeat (first | with_reducible exact Pks.nil | (with_reducible refine Pks.pure (by assumption) ?_) | (with_reducible apply Pks.cons; focus ((repeat (first | with_reducible exact Pk.here | with_reducible apply Pk.there)); done)) | (refine Pks.cons Pk.here ?_))) rfl rfl (by decide) (by exact Nat.le_of_ble_eq_true rfl) (by first | decide | omega) (fun r w1 hq => ?_) (fun E q w1 hq => hq.elim)
      obtain ⟨rfl, rfl⟩ := hq
      dsimp only [wM, wD, wCm, wX, wQ, w4, PoM, List.cons_append, List.nil_append, Option.toList_some, Option.toList_none]
      exact g_iret X Y dX3_run_112 (rfl) (⟨ch, 1, _, _, _, _, _, _, _, _, rfl, rfl, rfl, hE, hc, hL⟩) (Pks.tail (rest := _) (by repeat (first | with_reducible exact Pks.nil | (with_reducible refine Pks.pure (by assumption) ?_) | (with_reducible apply Pks.cons; focus ((repeat (first | with_reducible exact Pk.here | with_reducible apply Pk.there)); done)) | (refine Pks.cons Pk.here ?_))))
    | false =>
      have hRE : rnE T ea = ea := by rw [rnE, if_neg (by rw [hpr, hw]; decide)]
      rw [hRE] at Y
      have X1 : ∀ f k S' M', k + f = Lc.length → Enc M' S' → stU Lc S k = some S' → exU Lc f k S' = exS_ Lc S → G B Γ 0 0 (wX m ad sv ch ea fa 0 0 lm (nI Lc.length) (nI s.1) (nI T.length) (bI false) M' (cpu A M 0 155) P Q fL fB K1) 115 [.val (.ref m), .val (.int 0), .val (.int (nI k)), .unset] [] := by
        intro f
        induction f with
        | zero =>
          intro k S' M' hk hE' hst hex
          obtain rfl : k = Lc.length := by omega
          have hx1 : exS_ Lc S = (none, S') := hex.symm
          have hR : rnS T S = (0, nI Lc.length, S') := by rw [rnS, if_neg (by rw [hpr, hw]; decide), hpr]; simp only [hx1]
          have hRF : rnF T S fa = fa := by rw [rnF, if_neg (by rw [hpr, hw]; decide), hpr]; simp only [hx1]
          rw [hR, hRF] at Y
          refine g_iload_n X dX3_run_115 rfl rfl ?_
          refine g_aload_n X dX3_run_116 rfl rfl ?_
          refine g_getf X dX3_run_117 fl_X3_248 (by repeat (first | with_reducible exact Pk.here | with_reducible apply Pk.there)) (by exact rfl) ?_
          refine g_icmp_ge (tgt := 182) X dX3_run_120 (by decide) (fun c_120 => ?_) (fun c_120 => absurd (nI_le (by omega) (by omega)) c_120)
          refine g_aload_n X dX3_run_182 rfl rfl ?_
          refine g_aload_n X dX3_run_183 rfl rfl ?_
          refine g_getf X dX3_run_184 fl_X3_248 (by repeat (first | with_reducible exact Pk.here | with_reducible apply Pk.there)) (by exact rfl) ?_
          refine g_callV X dX3_run_187 mv_X3_88 (c_X3_changed hB (R := (0, nI Lc.length, S')) (So := S) (th := 0) hE.aside hL hc rfl (by show 0 < 2 ^ 31; decide)) rfl cl_X3 (by repeat (first | with_reducible exact Rc.pt | with_reducible apply Rc.there)) (by repeat (first | with_reducible exact Pks.nil | (with_reducible refine Pks.pure (by assumption) ?_) | (with_reducible apply Pks.cons; focus ((repeat (first | with_reducible exact Pk.here | with_reducible apply Pk.there)); done)) | (refine Pks.cons Pk.here ?_))) rfl rfl (by decide) (by exact Nat.le_of_ble_eq_true rfl) (by first | decide | omega) (fun r w1 hq => ?_) (fun E q w1 hq => hq.elim)
          obtain ⟨ch', P', rfl, rfl, hc', hP'⟩ := hq
          dsimp only [wM, wD, wCm, wX, wQ, w4, PoM, List.cons_append, List.nil_append, Option.toList_some, Option.toList_none]
          exact g_iret X Y dX3_run_190 (rfl) (⟨ch', 0, _, _, _, _, M', _, P', _, rfl, rfl, rfl, hE', hc', hP'⟩) (Pks.tail (rest := _) (by repeat (first | with_reducible exact Pks.nil | (with_reducible refine Pks.pure (by assumption) ?_) | (with_reducible apply Pks.cons; focus ((repeat (first | with_reducible exact Pk.here | with_reducible apply Pk.there)); done)) | (refine Pks.cons Pk.here ?_))))
        | succ f ih =>
          intro k S' M' hk hE' hst hex
          obtain ⟨c, hcc⟩ : ∃ c, Lc[k]? = some c := ⟨_, List.getElem?_eq_getElem (show k < Lc.length by omega)⟩
          have hS := hok k S' (by rw [hpr]; exact hst)
          by_cases h0 : (doS c S').1 = 0
          · have hex2 : exU Lc f (k + 1) (doS c S').2.2 = exS_ Lc S := by rw [← hex]; simp only [exU, hcc, if_pos h0]
            have hst2 : stU Lc S (k + 1) = some (doS c S').2.2 := by simp only [stU, hst, hcc, if_pos h0]
            refine g_iload_n X dX3_run_115 rfl rfl ?_
            refine g_aload_n X dX3_run_116 rfl rfl ?_
            refine g_getf X dX3_run_117 fl_X3_248 (by repeat (first | with_reducible exact Pk.here | with_reducible apply Pk.there)) (by exact rfl) ?_
            refine g_icmp_ge (tgt := 182) X dX3_run_120 (by decide) (fun c_120 => absurd c_120 (nI_ge (by omega) (by omega))) (fun c_120 => ?_)
            refine g_aload_n X dX3_run_123 rfl rfl ?_
            refine g_bipush (v := 6) X dX3_run_124 rfl ?_
            refine g_iload_n X dX3_run_126 rfl rfl ?_
            refine g_imul X dX3_run_127 ?_
            rw [show (6 : Int32) = nI 6 by decide, pk_mul]
            refine g_callV X dX3_run_128 mv_X3_261 (c_X3_does hB hE' hS hK hcc (by omega)) rfl cl_X3 (by repeat (first | with_reducible exact Rc.pt | with_reducible apply Rc.there)) (by repeat (first | with_reducible exact Pks.nil | (with_reducible refine Pks.pure (by assumption) ?_) | (with_reducible apply Pks.cons; focus ((repeat (first | with_reducible exact Pk.here | with_reducible apply Pk.there)); done)) | (refine Pks.cons Pk.here ?_))) rfl rfl (by decide) (by exact Nat.le_of_ble_eq_true rfl) (by first | decide | omega) (fun r w1 hq => ?_) (fun E q w1 hq => hq.elim)
            obtain ⟨M2, q, rfl, rfl, hq, hE2⟩ := hq
            dsimp only [wM, wD, wCm, wX, wQ, w4, PoM, List.cons_append, List.nil_append, Option.toList_some, Option.toList_none]
            refine g_aload_n X dX3_run_131 rfl rfl ?_
            refine g_getf X dX3_run_132 fl_X3_45 (by repeat (first | with_reducible exact Pk.here | with_reducible apply Pk.there)) (by exact rfl) ?_
            refine g_if_le (tgt := 176) X dX3_run_135 (by decide) (fun c_135 => ?_) (fun c_135 => absurd ((by rw [hq, h0]; decide : q ≤ 0)) c_135)
            refine ii_4_2 (v := nI (k + 1)) X dX3_run_176 (nI_1 k) rfl ?_
            refine g_goto (tgt := 115) X dX3_run_179 (by decide) ?_
            obtain rfl : q = 0 := by rw [hq, h0]; rfl
            exact g_bud (kc' := 0) (ks' := 0) (Nat.zero_le _) (Nat.zero_le _) (g_ent (Pks.tail (rest := _) (by repeat (first | with_reducible exact Pks.nil | (with_reducible refine Pks.pure (by assumption) ?_) | (with_reducible apply Pks.cons; focus ((repeat (first | with_reducible exact Pk.here | with_reducible apply Pk.there)); done)) | (refine Pks.cons Pk.here ?_)))) (ih (k + 1) _ M2 (by omega) hE2 hst2 hex2))
          · have hx1 : exS_ Lc S = (some k, S') := by rw [← hex]; simp only [exU, hcc, if_neg h0]
            have hR : rnS T S = erS 2 S := by rw [rnS, if_neg (by rw [hpr, hw]; decide), hpr]; simp only [hx1]
            have hRF : rnF T S fa = nI k := by rw [rnF, if_neg (by rw [hpr, hw]; decide), hpr]; simp only [hx1]
            rw [hR, hRF] at Y
            have hq5 := do_c (c := c) (S := S')
            have Z : ∀ (q : Int32) (M2 : Nat → Int32) (j i : Nat), i + j = 155 → G B Γ 0 0 (wX m ad sv ch ea fa q 0 lm (nI Lc.length) (nI s.1) (nI T.length) (bI false) (cpu M2 (cpu A M 0 155) 0 i) (cpu A M 0 155) P Q fL fB K1) 140 [.val (.ref m), .val (.int 0), .val (.int (nI k)), .val (.int (nI i))] [] := by
              intro q M2 j
              induction j with
              | zero =>
                intro i hi
                obtain rfl : i = 155 := by omega
                have e9 := hE.aside (A := A)
                refine g_iload_n X dX3_run_140 rfl rfl ?_
                refine g_sipush (v := 155) X dX3_run_141 rfl ?_
                refine g_icmp_ge (tgt := 165) X dX3_run_144 (by decide) (fun c_144 => ?_) (fun c_144 => absurd (nI_le (a := 155) (by omega) (by omega)) c_144)
                refine g_aload_n X dX3_run_165 rfl rfl ?_
                refine g_iload_n X dX3_run_166 rfl rfl ?_
                refine pf_20_7 X dX3_run_167 fl_X3_26 (by repeat (first | with_reducible exact Rp.here | with_reducible apply Rp.there)) rfl rfl ?_
                refine g_aload_n X dX3_run_170 rfl rfl ?_
                refine g_iconst (v := 2) X dX3_run_171 rfl ?_
                refine g_callV X dX3_run_172 mv_X3_75 (c_X3_throwing hB) rfl cl_X3 (by repeat (first | with_reducible exact Rc.pt | with_reducible apply Rc.there)) (by repeat (first | with_reducible exact Pks.nil | (with_reducible refine Pks.pure (by assumption) ?_) | (with_reducible apply Pks.cons; focus ((repeat (first | with_reducible exact Pk.here | with_reducible apply Pk.there)); done)) | (refine Pks.cons Pk.here ?_))) rfl rfl (by decide) (by exact Nat.le_of_ble_eq_true rfl) (by first | decide | omega) (fun r w1 hq => ?_) (fun E q w1 hq => hq.elim)
                obtain ⟨rfl, rfl⟩ := hq
                dsimp only [wM, wD, wCm, wX, wQ, w4, PoM, List.cons_append, List.nil_append, Option.toList_some, Option.toList_none]
                exact g_iret X Y dX3_run_175 (rfl) (⟨ch, 2, _, _, _, _, _, _, _, _, rfl, rfl, rfl, e9.aside (A := M2), hc, hL⟩) (Pks.tail (rest := _) (by repeat (first | with_reducible exact Pks.nil | (with_reducible refine Pks.pure (by assumption) ?_) | (with_reducible apply Pks.cons; focus ((repeat (first | with_reducible exact Pk.here | with_reducible apply Pk.there)); done)) | (refine Pks.cons Pk.here ?_))))
              | succ j ih3 =>
                intro i hi
                refine g_iload_n X dX3_run_140 rfl rfl ?_
                refine g_sipush (v := 155) X dX3_run_141 rfl ?_
                refine g_icmp_ge (tgt := 165) X dX3_run_144 (by decide) (fun c_144 => absurd c_144 (nI_ge (b := 155) (by omega) (by omega))) (fun c_144 => ?_)
                refine g_aload_n X dX3_run_147 rfl rfl ?_
                refine g_getf X dX3_run_148 fl_X3_9 (by repeat (first | with_reducible exact Pk.here | with_reducible apply Pk.there)) (by exact rfl) ?_
                refine g_iload_n X dX3_run_151 rfl rfl ?_
                refine g_aload_n X dX3_run_152 rfl rfl ?_
                refine g_getf X dX3_run_153 fl_X3_13 (by repeat (first | with_reducible exact Pk.here | with_reducible apply Pk.there)) (by exact rfl) ?_
                refine g_iload_n X dX3_run_156 rfl rfl ?_
                refine g_iald (i) X dX3_run_157 (by repeat (first | with_reducible exact Pk.here | with_reducible apply Pk.there)) (rfl) (by omega) (by exact rfl) ?_
                refine g_iast (i) X dX3_run_158 (by repeat (first | with_reducible exact Rp.here | with_reducible apply Rp.there)) (rfl) (by omega) ?_
                refine ii_4_3 (v := nI (i + 1)) X dX3_run_159 (nI_1 i) rfl ?_
                refine g_goto (tgt := 140) X dX3_run_162 (by decide) ?_
                rw [cpu_st (Nat.zero_le _) rfl]
                exact ih3 (i + 1) (by omega)
            refine g_iload_n X dX3_run_115 rfl rfl ?_
            refine g_aload_n X dX3_run_116 rfl rfl ?_
            refine g_getf X dX3_run_117 fl_X3_248 (by repeat (first | with_reducible exact Pk.here | with_reducible apply Pk.there)) (by exact rfl) ?_
            refine g_icmp_ge (tgt := 182) X dX3_run_120 (by decide) (fun c_120 => absurd c_120 (nI_ge (by omega) (by omega))) (fun c_120 => ?_)
            refine g_aload_n X dX3_run_123 rfl rfl ?_
            refine g_bipush (v := 6) X dX3_run_124 rfl ?_
            refine g_iload_n X dX3_run_126 rfl rfl ?_
            refine g_imul X dX3_run_127 ?_
            rw [show (6 : Int32) = nI 6 by decide, pk_mul]
            refine g_callV X dX3_run_128 mv_X3_261 (c_X3_does hB hE' hS hK hcc (by omega)) rfl cl_X3 (by repeat (first | with_reducible exact Rc.pt | with_reducible apply Rc.there)) (by repeat (first | with_reducible exact Pks.nil | (with_reducible refine Pks.pure (by assumption) ?_) | (with_reducible apply Pks.cons; focus ((repeat (first | with_reducible exact Pk.here | with_reducible apply Pk.there)); done)) | (refine Pks.cons Pk.here ?_))) rfl rfl (by decide) (by exact Nat.le_of_ble_eq_true rfl) (by first | decide | omega) (fun r w1 hq => ?_) (fun E q w1 hq => hq.elim)
            obtain ⟨M2, q, rfl, rfl, hq, hE2⟩ := hq
            dsimp only [wM, wD, wCm, wX, wQ, w4, PoM, List.cons_append, List.nil_append, Option.toList_some, Option.toList_none]
            refine g_aload_n X dX3_run_131 rfl rfl ?_
            refine g_getf X dX3_run_132 fl_X3_45 (by repeat (first | with_reducible exact Pk.here | with_reducible apply Pk.there)) (by exact rfl) ?_
            refine g_if_le (tgt := 176) X dX3_run_135 (by decide) (fun c_135 => absurd c_135 ((by rw [hq]; exact nI_nle (by omega) (by omega)))) (fun c_135 => ?_)
            refine g_iconst (v := 0) X dX3_run_138 rfl ?_
            refine is_4_3n X dX3_run_139 rfl rfl ?_
            have h9 := Z q M2 155 0 rfl
            rw [cpu_0] at h9
            exact g_bud (kc' := 0) (ks' := 0) (Nat.zero_le _) (Nat.zero_le _) (g_ent (Pks.tail (rest := _) (by repeat (first | with_reducible exact Pks.nil | (with_reducible refine Pks.pure (by assumption) ?_) | (with_reducible apply Pks.cons; focus ((repeat (first | with_reducible exact Pk.here | with_reducible apply Pk.there)); done)) | (refine Pks.cons Pk.here ?_)))) (h9))
      refine g_aload_n X dX3_run_92 rfl rfl ?_
      refine g_getf X dX3_run_93 fl_X3_225 (by repeat (first | with_reducible exact Pk.here | with_reducible apply Pk.there)) (by exact rfl) ?_
      refine g_if_eq (tgt := 113) X dX3_run_96 (by decide) (fun c_96 => ?_) (fun c_96 => absurd (rfl) c_96)
      refine g_iconst (v := 0) X dX3_run_113 rfl ?_
      refine is_4_2n X dX3_run_114 rfl rfl ?_
      exact X1 Lc.length 0 S M (by omega) hE rfl rfl
  have L1 : ∀ (f : Nat) (Lc : List CM) (cm1 : Int32) (K1 : Nat → Int32) (p : Nat) (b : Bool), EnK K1 Lc → cm1 = nI Lc.length → 3 * Lc.length ≤ p → p ≤ T.length → T.length < p + f → prU T f Lc p = prS T → G B Γ 0 0 (wX m ad sv ch ea fa 0 0 lm cm1 (nI p) (nI T.length) (bI b) M (cpu A M 0 155) P Q fL fB K1) 34 [.val (.ref m), .val (.int 1), .unset, .unset] [] := by
    intro f
    induction f with
    | zero => intro Lc cm1 K1 p b _ _ _ h1 h2 _; omega
    | succ f ih =>
      intro Lc cm1 K1 p b hK hcm hn hp hf hpr
      obtain ⟨r1, r2, r3, r4⟩ := rd_p (T := T) (p := p) hp
      have hlen : (Lc ++ (rdS T p).1.toList).length ≤ Lc.length + 1 ∧ 3 * (Lc ++ (rdS T p).1.toList).length ≤ (rdS T p).2.1 := by
        rw [List.length_append]
        cases ho : (rdS T p).1 with
        | none => exact ⟨Nat.le_add_right _ _, by show 3 * (Lc.length + 0) ≤ _; omega⟩
        | some c => have := r4 (by rw [ho]; exact fun q => nomatch q); exact ⟨Nat.le_refl _, by show 3 * (Lc.length + 1) ≤ _; omega⟩
      by_cases hw : (rdS T p).2.2 = false
      · by_cases hlt : (rdS T p).2.1 < T.length
        · have hp2 := exS_p (T := T) (c := 59) (s := (rdS T p).2) r1
          cases he : (exS T 59 (rdS T p).2).2 with
          | true =>
            have hpr2 : prS T = (Lc ++ (rdS T p).1.toList, exS T 59 (rdS T p).2) := by rw [← hpr]; simp only [prU, if_pos (And.intro hw hlt), if_pos he]
            refine g_iload_n X dX3_run_34 rfl rfl ?_
            refine g_if_eq (tgt := 92) X dX3_run_35 (by decide) (fun c_35 => absurd c_35 (by decide)) (fun c_35 => ?_)
            refine g_aload_n X dX3_run_38 rfl rfl ?_
            refine g_callV X dX3_run_39 mv_X3_258 (c_X3_readCommand hB hQ hT hfL hfB hl hp hK (by omega) hcm) rfl cl_X3 (by repeat (first | with_reducible exact Rc.pt | with_reducible apply Rc.there)) (by repeat (first | with_reducible exact Pks.nil | (with_reducible refine Pks.pure (by assumption) ?_) | (with_reducible apply Pks.cons; focus ((repeat (first | with_reducible exact Pk.here | with_reducible apply Pk.there)); done)) | (refine Pks.cons Pk.here ?_))) rfl rfl (by decide) (by exact Nat.le_of_ble_eq_true rfl) (by first | decide | omega) (fun r w1 hq => ?_) (fun E q w1 hq => hq.elim)
            obtain ⟨cm2, K2, rfl, rfl, hcm2, hK2⟩ := hq
            dsimp only [wM, wD, wCm, wX, wQ, w4, PoM, List.cons_append, List.nil_append, Option.toList_some, Option.toList_none]
            refine g_aload_n X dX3_run_42 rfl rfl ?_
            refine g_getf X dX3_run_43 fl_X3_225 (by repeat (first | with_reducible exact Pk.here | with_reducible apply Pk.there)) (by exact rfl) ?_
            refine g_if_ne (tgt := 64) X dX3_run_46 (by decide) (fun c_46 => absurd c_46 (fun q => q (bI_0.mpr hw))) (fun c_46 => ?_)
            refine g_aload_n X dX3_run_49 rfl rfl ?_
            refine g_getf X dX3_run_50 fl_X3_219 (by repeat (first | with_reducible exact Pk.here | with_reducible apply Pk.there)) (by exact rfl) ?_
            refine g_aload_n X dX3_run_53 rfl rfl ?_
            refine g_getf X dX3_run_54 fl_X3_222 (by repeat (first | with_reducible exact Pk.here | with_reducible apply Pk.there)) (by exact rfl) ?_
            refine g_icmp_ge (tgt := 64) X dX3_run_57 (by decide) (fun c_57 => absurd c_57 (nI_ge hlt (by omega))) (fun c_57 => ?_)
            refine g_iconst (v := 1) X dX3_run_60 rfl ?_
            refine g_goto (tgt := 65) X dX3_run_61 (by decide) ?_
            refine is_4_1n X dX3_run_65 rfl rfl ?_
            refine g_iload_n X dX3_run_66 rfl rfl ?_
            refine g_if_eq (tgt := 34) X dX3_run_67 (by decide) (fun c_67 => absurd c_67 (by decide)) (fun c_67 => ?_)
            refine g_aload_n X dX3_run_70 rfl rfl ?_
            refine g_bipush (v := 59) X dX3_run_71 rfl ?_
            refine g_callV X dX3_run_73 mv_X3_239 (c_X3_expects hB (c := 59) hQ hT hl r1 (by decide)) rfl cl_X3 (by repeat (first | with_reducible exact Rc.pt | with_reducible apply Rc.there)) (by repeat (first | with_reducible exact Pks.nil | (with_reducible refine Pks.pure (by assumption) ?_) | (with_reducible apply Pks.cons; focus ((repeat (first | with_reducible exact Pk.here | with_reducible apply Pk.there)); done)) | (refine Pks.cons Pk.here ?_))) rfl rfl (by decide) (by exact Nat.le_of_ble_eq_true rfl) (by first | decide | omega) (fun r w1 hq => ?_) (fun E q w1 hq => hq.elim)
            obtain ⟨rfl, rfl⟩ := hq
            dsimp only [wM, wD, wCm, wX, wQ, w4, PoM, List.cons_append, List.nil_append, Option.toList_some, Option.toList_none]
            refine g_aload_n X dX3_run_76 rfl rfl ?_
            refine g_getf X dX3_run_77 fl_X3_225 (by repeat (first | with_reducible exact Pk.here | with_reducible apply Pk.there)) (by exact rfl) ?_
            refine g_if_ne (tgt := 87) X dX3_run_80 (by decide) (fun c_80 => ?_) (fun c_80 => absurd c_80 (fun q => absurd (bI_0.mp q) (by rw [he]; decide)))
            refine g_iconst (v := 0) X dX3_run_87 rfl ?_
            refine is_4_1n X dX3_run_88 rfl rfl ?_
            refine g_goto (tgt := 34) X dX3_run_89 (by decide) ?_
            refine g_iload_n X dX3_run_34 rfl rfl ?_
            refine g_if_eq (tgt := 92) X dX3_run_35 (by decide) (fun c_35 => ?_) (fun c_35 => absurd (rfl) c_35)
            exact g_bud (kc' := 0) (ks' := 0) (Nat.zero_le _) (Nat.zero_le _) (g_ent (Pks.tail (rest := _) (by repeat (first | with_reducible exact Pks.nil | (with_reducible refine Pks.pure (by assumption) ?_) | (with_reducible apply Pks.cons; focus ((repeat (first | with_reducible exact Pk.here | with_reducible apply Pk.there)); done)) | (refine Pks.cons Pk.here ?_)))) (J _ cm2 K2 _ hK2 hcm2 (by omega) hp2.1 hpr2))
          | false =>
            have he1 : (exS T 59 (rdS T p).2).1 = (rdS T p).2.1 + 1 := by
              unfold exS at he ⊢
              by_cases hx : (rdS T p).2.2 = false ∧ T[(rdS T p).2.1]? = some 59
              · rw [if_pos hx]
              · rw [if_neg hx] at he; exact nomatch he
            have hpr2 : prU T f (Lc ++ (rdS T p).1.toList) (exS T 59 (rdS T p).2).1 = prS T := by rw [← hpr]; simp only [prU, if_pos (And.intro hw hlt), if_neg (show ¬ (exS T 59 (rdS T p).2).2 = true by rw [he]; decide)]
            refine g_iload_n X dX3_run_34 rfl rfl ?_
            refine g_if_eq (tgt := 92) X dX3_run_35 (by decide) (fun c_35 => absurd c_35 (by decide)) (fun c_35 => ?_)
            refine g_aload_n X dX3_run_38 rfl rfl ?_
            refine g_callV X dX3_run_39 mv_X3_258 (c_X3_readCommand hB hQ hT hfL hfB hl hp hK (by omega) hcm) rfl cl_X3 (by repeat (first | with_reducible exact Rc.pt | with_reducible apply Rc.there)) (by repeat (first | with_reducible exact Pks.nil | (with_reducible refine Pks.pure (by assumption) ?_) | (with_reducible apply Pks.cons; focus ((repeat (first | with_reducible exact Pk.here | with_reducible apply Pk.there)); done)) | (refine Pks.cons Pk.here ?_))) rfl rfl (by decide) (by exact Nat.le_of_ble_eq_true rfl) (by first | decide | omega) (fun r w1 hq => ?_) (fun E q w1 hq => hq.elim)
            obtain ⟨cm2, K2, rfl, rfl, hcm2, hK2⟩ := hq
            dsimp only [wM, wD, wCm, wX, wQ, w4, PoM, List.cons_append, List.nil_append, Option.toList_some, Option.toList_none]
            refine g_aload_n X dX3_run_42 rfl rfl ?_
            refine g_getf X dX3_run_43 fl_X3_225 (by repeat (first | with_reducible exact Pk.here | with_reducible apply Pk.there)) (by exact rfl) ?_
            refine g_if_ne (tgt := 64) X dX3_run_46 (by decide) (fun c_46 => absurd c_46 (fun q => q (bI_0.mpr hw))) (fun c_46 => ?_)
            refine g_aload_n X dX3_run_49 rfl rfl ?_
            refine g_getf X dX3_run_50 fl_X3_219 (by repeat (first | with_reducible exact Pk.here | with_reducible apply Pk.there)) (by exact rfl) ?_
            refine g_aload_n X dX3_run_53 rfl rfl ?_
            refine g_getf X dX3_run_54 fl_X3_222 (by repeat (first | with_reducible exact Pk.here | with_reducible apply Pk.there)) (by exact rfl) ?_
            refine g_icmp_ge (tgt := 64) X dX3_run_57 (by decide) (fun c_57 => absurd c_57 (nI_ge hlt (by omega))) (fun c_57 => ?_)
            refine g_iconst (v := 1) X dX3_run_60 rfl ?_
            refine g_goto (tgt := 65) X dX3_run_61 (by decide) ?_
            refine is_4_1n X dX3_run_65 rfl rfl ?_
            refine g_iload_n X dX3_run_66 rfl rfl ?_
            refine g_if_eq (tgt := 34) X dX3_run_67 (by decide) (fun c_67 => absurd c_67 (by decide)) (fun c_67 => ?_)
            refine g_aload_n X dX3_run_70 rfl rfl ?_
            refine g_bipush (v := 59) X dX3_run_71 rfl ?_
            refine g_callV X dX3_run_73 mv_X3_239 (c_X3_expects hB (c := 59) hQ hT hl r1 (by decide)) rfl cl_X3 (by repeat (first | with_reducible exact Rc.pt | with_reducible apply Rc.there)) (by repeat (first | with_reducible exact Pks.nil | (with_reducible refine Pks.pure (by assumption) ?_) | (with_reducible apply Pks.cons; focus ((repeat (first | with_reducible exact Pk.here | with_reducible apply Pk.there)); done)) | (refine Pks.cons Pk.here ?_))) rfl rfl (by decide) (by exact Nat.le_of_ble_eq_true rfl) (by first | decide | omega) (fun r w1 hq => ?_) (fun E q w1 hq => hq.elim)
            obtain ⟨rfl, rfl⟩ := hq
            dsimp only [wM, wD, wCm, wX, wQ, w4, PoM, List.cons_append, List.nil_append, Option.toList_some, Option.toList_none]
            refine g_aload_n X dX3_run_76 rfl rfl ?_
            refine g_getf X dX3_run_77 fl_X3_225 (by repeat (first | with_reducible exact Pk.here | with_reducible apply Pk.there)) (by exact rfl) ?_
            refine g_if_ne (tgt := 87) X dX3_run_80 (by decide) (fun c_80 => absurd c_80 (fun q => q (bI_0.mpr he))) (fun c_80 => ?_)
            refine g_iconst (v := 1) X dX3_run_83 rfl ?_
            refine g_goto (tgt := 88) X dX3_run_84 (by decide) ?_
            refine is_4_1n X dX3_run_88 rfl rfl ?_
            refine g_goto (tgt := 34) X dX3_run_89 (by decide) ?_
            exact g_bud (kc' := 0) (ks' := 0) (Nat.zero_le _) (Nat.zero_le _) (g_ent (Pks.tail (rest := _) (by repeat (first | with_reducible exact Pks.nil | (with_reducible refine Pks.pure (by assumption) ?_) | (with_reducible apply Pks.cons; focus ((repeat (first | with_reducible exact Pk.here | with_reducible apply Pk.there)); done)) | (refine Pks.cons Pk.here ?_)))) (ih _ cm2 K2 _ _ hK2 hcm2 (by omega) hp2.1 (by omega) hpr2))
        · have hpr2 : prS T = (Lc ++ (rdS T p).1.toList, (rdS T p).2) := by rw [← hpr]; simp only [prU, if_neg (fun q : (rdS T p).2.2 = false ∧ (rdS T p).2.1 < T.length => hlt q.2)]
          refine g_iload_n X dX3_run_34 rfl rfl ?_
          refine g_if_eq (tgt := 92) X dX3_run_35 (by decide) (fun c_35 => absurd c_35 (by decide)) (fun c_35 => ?_)
          refine g_aload_n X dX3_run_38 rfl rfl ?_
          refine g_callV X dX3_run_39 mv_X3_258 (c_X3_readCommand hB hQ hT hfL hfB hl hp hK (by omega) hcm) rfl cl_X3 (by repeat (first | with_reducible exact Rc.pt | with_reducible apply Rc.there)) (by repeat (first | with_reducible exact Pks.nil | (with_reducible refine Pks.pure (by assumption) ?_) | (with_reducible apply Pks.cons; focus ((repeat (first | with_reducible exact Pk.here | with_reducible apply Pk.there)); done)) | (refine Pks.cons Pk.here ?_))) rfl rfl (by decide) (by exact Nat.le_of_ble_eq_true rfl) (by first | decide | omega) (fun r w1 hq => ?_) (fun E q w1 hq => hq.elim)
          obtain ⟨cm2, K2, rfl, rfl, hcm2, hK2⟩ := hq
          dsimp only [wM, wD, wCm, wX, wQ, w4, PoM, List.cons_append, List.nil_append, Option.toList_some, Option.toList_none]
          refine g_aload_n X dX3_run_42 rfl rfl ?_
          refine g_getf X dX3_run_43 fl_X3_225 (by repeat (first | with_reducible exact Pk.here | with_reducible apply Pk.there)) (by exact rfl) ?_
          refine g_if_ne (tgt := 64) X dX3_run_46 (by decide) (fun c_46 => absurd c_46 (fun q => q (bI_0.mpr hw))) (fun c_46 => ?_)
          refine g_aload_n X dX3_run_49 rfl rfl ?_
          refine g_getf X dX3_run_50 fl_X3_219 (by repeat (first | with_reducible exact Pk.here | with_reducible apply Pk.there)) (by exact rfl) ?_
          refine g_aload_n X dX3_run_53 rfl rfl ?_
          refine g_getf X dX3_run_54 fl_X3_222 (by repeat (first | with_reducible exact Pk.here | with_reducible apply Pk.there)) (by exact rfl) ?_
          refine g_icmp_ge (tgt := 64) X dX3_run_57 (by decide) (fun c_57 => ?_) (fun c_57 => absurd (nI_le (by omega) (by omega)) c_57)
          refine g_iconst (v := 0) X dX3_run_64 rfl ?_
          refine is_4_1n X dX3_run_65 rfl rfl ?_
          refine g_iload_n X dX3_run_66 rfl rfl ?_
          refine g_if_eq (tgt := 34) X dX3_run_67 (by decide) (fun c_67 => ?_) (fun c_67 => absurd (rfl) c_67)
          refine g_iload_n X dX3_run_34 rfl rfl ?_
          refine g_if_eq (tgt := 92) X dX3_run_35 (by decide) (fun c_35 => ?_) (fun c_35 => absurd (rfl) c_35)
          exact g_bud (kc' := 0) (ks' := 0) (Nat.zero_le _) (Nat.zero_le _) (g_ent (Pks.tail (rest := _) (by repeat (first | with_reducible exact Pks.nil | (with_reducible refine Pks.pure (by assumption) ?_) | (with_reducible apply Pks.cons; focus ((repeat (first | with_reducible exact Pk.here | with_reducible apply Pk.there)); done)) | (refine Pks.cons Pk.here ?_)))) (J _ cm2 K2 _ hK2 hcm2 (by omega) r1 hpr2))
      · have hpr2 : prS T = (Lc ++ (rdS T p).1.toList, (rdS T p).2) := by rw [← hpr]; simp only [prU, if_neg (fun q : (rdS T p).2.2 = false ∧ (rdS T p).2.1 < T.length => hw q.1)]
        refine g_iload_n X dX3_run_34 rfl rfl ?_
        refine g_if_eq (tgt := 92) X dX3_run_35 (by decide) (fun c_35 => absurd c_35 (by decide)) (fun c_35 => ?_)
        refine g_aload_n X dX3_run_38 rfl rfl ?_
        refine g_callV X dX3_run_39 mv_X3_258 (c_X3_readCommand hB hQ hT hfL hfB hl hp hK (by omega) hcm) rfl cl_X3 (by repeat (first | with_reducible exact Rc.pt | with_reducible apply Rc.there)) (by repeat (first | with_reducible exact Pks.nil | (with_reducible refine Pks.pure (by assumption) ?_) | (with_reducible apply Pks.cons; focus ((repeat (first | with_reducible exact Pk.here | with_reducible apply Pk.there)); done)) | (refine Pks.cons Pk.here ?_))) rfl rfl (by decide) (by exact Nat.le_of_ble_eq_true rfl) (by first | decide | omega) (fun r w1 hq => ?_) (fun E q w1 hq => hq.elim)
        obtain ⟨cm2, K2, rfl, rfl, hcm2, hK2⟩ := hq
        dsimp only [wM, wD, wCm, wX, wQ, w4, PoM, List.cons_append, List.nil_append, Option.toList_some, Option.toList_none]
        refine g_aload_n X dX3_run_42 rfl rfl ?_
        refine g_getf X dX3_run_43 fl_X3_225 (by repeat (first | with_reducible exact Pk.here | with_reducible apply Pk.there)) (by exact rfl) ?_
        refine g_if_ne (tgt := 64) X dX3_run_46 (by decide) (fun c_46 => ?_) (fun c_46 => absurd c_46 (fun q => hw (bI_0.mp q)))
        refine g_iconst (v := 0) X dX3_run_64 rfl ?_
        refine is_4_1n X dX3_run_65 rfl rfl ?_
        refine g_iload_n X dX3_run_66 rfl rfl ?_
        refine g_if_eq (tgt := 34) X dX3_run_67 (by decide) (fun c_67 => ?_) (fun c_67 => absurd (rfl) c_67)
        refine g_iload_n X dX3_run_34 rfl rfl ?_
        refine g_if_eq (tgt := 92) X dX3_run_35 (by decide) (fun c_35 => ?_) (fun c_35 => absurd (rfl) c_35)
        exact g_bud (kc' := 0) (ks' := 0) (Nat.zero_le _) (Nat.zero_le _) (g_ent (Pks.tail (rest := _) (by repeat (first | with_reducible exact Pks.nil | (with_reducible refine Pks.pure (by assumption) ?_) | (with_reducible apply Pks.cons; focus ((repeat (first | with_reducible exact Pk.here | with_reducible apply Pk.there)); done)) | (refine Pks.cons Pk.here ?_)))) (J _ cm2 K2 _ hK2 hcm2 (by omega) r1 hpr2))
  have hK0 : EnK K [] := fun k c h => by simp at h
  refine g_aload_n X dX3_run_0 rfl rfl ?_
  refine g_callV X dX3_run_1 mv_X3_81 (c_X3_starts hB) rfl cl_X3 (by repeat (first | with_reducible exact Rc.pt | with_reducible apply Rc.there)) (by repeat (first | with_reducible exact Pks.nil | (with_reducible refine Pks.pure (by assumption) ?_) | (with_reducible apply Pks.cons; focus ((repeat (first | with_reducible exact Pk.here | with_reducible apply Pk.there)); done)) | (refine Pks.cons Pk.here ?_))) rfl rfl (by decide) (by exact Nat.le_of_ble_eq_true rfl) (by first | decide | omega) (fun r w1 hq => ?_) (fun E q w1 hq => hq.elim)
  obtain ⟨rfl, rfl⟩ := hq
  dsimp only [wM, wD, wCm, wX, wQ, w4, PoM, List.cons_append, List.nil_append, Option.toList_some, Option.toList_none]
  refine g_aload_n X dX3_run_4 rfl rfl ?_
  refine g_aload_n X dX3_run_5 rfl rfl ?_
  refine g_getf X dX3_run_6 fl_X3_216 (by repeat (first | with_reducible exact Pk.here | with_reducible apply Pk.there)) (by exact rfl) ?_
  refine pf_20_18 X dX3_run_9 fl_X3_222 (by repeat (first | with_reducible exact Rp.here | with_reducible apply Rp.there)) rfl rfl ?_
  refine g_aload_n X dX3_run_12 rfl rfl ?_
  refine g_iconst (v := 0) X dX3_run_13 rfl ?_
  refine pf_20_10 X dX3_run_14 fl_X3_216 (by repeat (first | with_reducible exact Rp.here | with_reducible apply Rp.there)) rfl rfl ?_
  refine g_aload_n X dX3_run_17 rfl rfl ?_
  refine g_iconst (v := 0) X dX3_run_18 rfl ?_
  refine pf_20_17 X dX3_run_19 fl_X3_219 (by repeat (first | with_reducible exact Rp.here | with_reducible apply Rp.there)) rfl rfl ?_
  refine g_aload_n X dX3_run_22 rfl rfl ?_
  refine g_iconst (v := 0) X dX3_run_23 rfl ?_
  refine pf_20_16 X dX3_run_24 fl_X3_248 (by repeat (first | with_reducible exact Rp.here | with_reducible apply Rp.there)) rfl rfl ?_
  refine g_aload_n X dX3_run_27 rfl rfl ?_
  refine g_iconst (v := 0) X dX3_run_28 rfl ?_
  refine pf_20_19 X dX3_run_29 fl_X3_225 (by repeat (first | with_reducible exact Rp.here | with_reducible apply Rp.there)) rfl rfl ?_
  refine g_iconst (v := 1) X dX3_run_32 rfl ?_
  refine is_4_1n X dX3_run_33 rfl rfl ?_
  have h9 := L1 (T.length + 1) [] 0 K 0 false hK0 rfl (Nat.zero_le _) (Nat.zero_le _) (by omega) rfl
  rw [show nI 0 = (0 : Int32) from rfl, show bI false = (0 : Int32) from rfl] at h9
  exact g_bud (kc' := 0) (ks' := 0) (Nat.zero_le _) (Nat.zero_le _) (g_ent (Pks.tail (rest := _) (by repeat (first | with_reducible exact Pks.nil | (with_reducible refine Pks.pure (by assumption) ?_) | (with_reducible apply Pks.cons; focus ((repeat (first | with_reducible exact Pk.here | with_reducible apply Pk.there)); done)) | (refine Pks.cons Pk.here ?_)))) (h9))
end MODEL
